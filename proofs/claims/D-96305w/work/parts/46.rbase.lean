set_option maxRecDepth 100000
/-! walks that may throw, over a pool that is only read: the rows t_ with no pool of their own, the pool in nC -/
def rPc (G : kG) (X pl : va_W) (av : List Nat) (sz : Nat) (As : List Value) : Array Value → State → Prop := fun v U => tPc G X [] av sz As v U ∧ va_P G.1 vwCl pl U.heap ∧ (av ++ pl.map (·.1)).Nodup
theorem rPc_blind {G : kG} {X pl : va_W} {av : List Nat} {sz : Nat} {As : List Value} : FrameBlind (rPc G X pl av sz As) := fun a U g mk q => ⟨tPc_blind a U g mk q.1, q.2.1, q.2.2⟩
theorem P_nil {D : va_G} {cl : List vw_C} {H : Heap} : va_P D cl [] H := fun k q h => by cases h
/-- what 'need' answers -/
def nd (v w : Int32) : Option Int32 := if v = 0 then some w else none
theorem nd_n {v w : Int32} (h : nd v w = none) : ¬ v = 0 := by
  intro h1
  rw [nd, if_pos h1] at h
  cases h
theorem nd_x {v w u : Int32} (h : nd v w = some u) : v = 0 ∧ u = w := by
  by_cases h1 : v = 0
  · rw [nd, if_pos h1] at h
    cases h
    exact ⟨h1, rfl⟩
  · rw [nd, if_neg h1] at h
    cases h
section RB
variable {p : Program} {l : Launch} {e : Env} {R : Room} {s : State} {m : MethodId} {args : Array Value} {below : List Frame} {meth : Method} {c : Code} {H : Heap} {locs : List Loc} {cells slots : Nat} {Q : State → Prop} {pc : Nat} {ls : Array Slot} {rest : List Value} {cc : ByteArray} {own : String} {G : kG} {av : List Nat} {pl : va_W} {A : Nat → Prop}
theorem nC_nil (C : nC p s m args c cc own G av pl A) : nC p s m args c cc own G av [] A :=
  ⟨C.1, C.2.1, C.2.2.1, C.2.2.2.1, C.2.2.2.2.1, by simpa using nd_left C.2.2.2.2.2.1, P_nil, C.2.2.2.2.2.2.2.1, fun q h => by cases h⟩
theorem rr_preV {Xc Y : va_W} {avc : List Nat} {b : Nat} {As : List Value} {Cn : String} (C : nC p s m args c cc own G av pl A) (D : tD s av [] A) (hP : va_P G.1 vwCl Y H) (hS : va_S A s.heap H locs) (isC : List Nat) (hX : isC.filterMap (fun i => Y[i]?) = Xc) (hn : va_nd isC = true) (hV : isC.map (fun i => av[i]?) = avc.map some) (hr : ∃ cell : Cell, H[b]? = some cell ∧ cell.vm.isStatics = false ∧ s.vm.findClass Cn = some cell.cls) : PreV s H Cn b (rPc G Xc pl avc H.size (.ref b :: As)) As :=
  ⟨rPc_blind, hr, fun U hU hW => ⟨tt_pc (As := .ref b :: As) (nC_nil C) D hP P_nil hS isC hX hn hV U hU hW, by rw [hU]; exact pl_at C.2.2.2.2.2.2.2.2 C.2.2.2.2.2.2.1 hS, nd_part isC C.2.2.2.2.2.1 hn hV⟩⟩
theorem rr_preS {Xc Y : va_W} {avc : List Nat} {As : List Value} (C : nC p s m args c cc own G av pl A) (D : tD s av [] A) (hP : va_P G.1 vwCl Y H) (hS : va_S A s.heap H locs) (isC : List Nat) (hX : isC.filterMap (fun i => Y[i]?) = Xc) (hn : va_nd isC = true) (hV : isC.map (fun i => av[i]?) = avc.map some) : PreS s H (rPc G Xc pl avc H.size As) As :=
  ⟨rPc_blind, fun U hU hW => ⟨tt_pc (nC_nil C) D hP P_nil hS isC hX hn hV U hU hW, by rw [hU]; exact pl_at C.2.2.2.2.2.2.2.2 C.2.2.2.2.2.2.1 hS, nd_part isC C.2.2.2.2.2.1 hn hV⟩⟩
theorem rr_preV0 {Y : va_W} {b : Nat} {As : List Value} {Cn : String} (C : nC p s m args c cc own G av pl A) (D : tD s av [] A) (hP : va_P G.1 vwCl Y H) (hS : va_S A s.heap H locs) (hr : ∃ cell : Cell, H[b]? = some cell ∧ cell.vm.isStatics = false ∧ s.vm.findClass Cn = some cell.cls) : PreV s H Cn b (rPc G Y pl av H.size (.ref b :: As)) As :=
  ⟨rPc_blind, hr, fun U hU hW => ⟨tt_pc0 (As := .ref b :: As) (nC_nil C) D hP P_nil hS U hU hW, by rw [hU]; exact pl_at C.2.2.2.2.2.2.2.2 C.2.2.2.2.2.2.1 hS, C.2.2.2.2.2.1⟩⟩
theorem r_ofW {y : MethodName} {maxL sz mc ms : Nat} {rm : Room} {As : List Value} {X : va_W} {ret : Option FieldType} {Qc : Array Value → State → Outcome → State → Prop} {XC : String → Addr → State → State → Prop} (hy : plainName y.cls = true) (hyc : y.cls = own) (hlen : (lg_sl As).length ≤ maxL)
    (body : ∀ (p : Program) (e : Env) (s : State) (m : MethodId) (args : Array Value) (below : List Frame) (meth : Method) (c : Code) (ls : Array Slot), nC p s m args c cc own G av pl (tA sz av []) → nC p s m args c cc own G av [] (tA sz av []) → tD s av [] (tA sz av []) → c.maxLocals = maxL → (∀ x ∈ c.exceptionTable.toList, False) → va_P G.1 vwCl X s.heap → va_S (tA sz av []) s.heap s.heap [] → lv_has ls maxL (lv_args 0 As) → meth.sig.returnType = ret → meth.locks = false → s.heap.size = sz →
      W p l e rm s m args below meth c s.heap [] 0 0 (vx_MQ below Qc XC args s mc ms (tA sz av [])) (F0 m 0 ls [])) : vx_Met l y (ws_ y cc maxL ret) rm (rPc G X pl av sz As) Qc XC mc ms (tA sz av []) := by
  refine vx_ofW (cc := cc) (maxL := maxL) (ret := ret) hy rfl ?_
  intro p e s m args below meth c s₁ B hml ht hv
  obtain ⟨⟨rfl, hP, -, hK, -, hsz, hZ, hE⟩, hp, hnd⟩ := hv
  have hts := atoms_spec (ws := ws_ y cc maxL ret) B.pre
  have hts : ∀ w ∈ lw_all, w.before _ s = true := fun w h => hts w (List.mem_cons_of_mem _ h)
  have hown : s.vm.findClass own = some m.cls := by rw [← hyc]; exact findClass_of_methodNamed B.named
  have hl := lv_entry As (n := maxL) hlen
  rw [lg_entry_eq]
  have C : nC p s m As.toArray c cc own G av pl (tA sz av []) := ⟨B.exec, B.bytes, hown, hts, hK, hnd, hp, fun q h => Or.inl h, fun q h h2 => by
    rcases h2 with h2 | h2 | h2
    · exact nd_disj hnd h2 h
    · cases h2
    · have := P_lt hp h
      omega⟩
  exact body p e s m _ below meth c _ C (nC_nil C) ⟨by simpa using nd_left hnd, fun q h => (by cases h), fun q h => Or.inr (Or.inr (by omega)), hZ, hE⟩ hml ht hP va_S.rf hl B.returns B.notSynchronized hsz
theorem r_ofWH {y : MethodName} {maxL sz mc ms : Nat} {rm : Room} {As : List Value} {X : va_W} {ret : Option FieldType} {hh : List (Nat × Nat × Nat × Nat)} {Qc : Array Value → State → Outcome → State → Prop} {XC : String → Addr → State → State → Prop} (hy : plainName y.cls = true) (hyc : y.cls = own) (hlen : (lg_sl As).length ≤ maxL)
    (body : ∀ (p : Program) (e : Env) (s : State) (m : MethodId) (args : Array Value) (below : List Frame) (meth : Method) (c : Code) (ls : Array Slot), nC p s m args c cc own G av pl (tA sz av []) → nC p s m args c cc own G av [] (tA sz av []) → tD s av [] (tA sz av []) → c.maxLocals = maxL → c.exceptionTable.toList = tableOf hh → va_P G.1 vwCl X s.heap → va_S (tA sz av []) s.heap s.heap [] → lv_has ls maxL (lv_args 0 As) → meth.sig.returnType = ret → meth.locks = false → s.heap.size = sz →
      W p l e rm s m args below meth c s.heap [] 0 0 (vx_MQ below Qc XC args s mc ms (tA sz av [])) (F0 m 0 ls [])) : vx_Met l y (wsW_ y cc maxL ret hh) rm (rPc G X pl av sz As) Qc XC mc ms (tA sz av []) := by
  refine vx_ofWH (cc := cc) (maxL := maxL) (ret := ret) (hh := hh) hy rfl ?_
  intro p e s m args below meth c s₁ B hml hv
  obtain ⟨⟨rfl, hP, -, hK, -, hsz, hZ, hE⟩, hp, hnd⟩ := hv
  have hts0 := atoms_spec (ws := wsW_ y cc maxL ret hh) B.pre
  have hts : ∀ w ∈ lw_all, w.before _ s = true := fun w h => hts0 w (List.mem_cons_of_mem _ h)
  have htab := vx_table (x := y) B (hts0 _ List.mem_cons_self)
  have hown : s.vm.findClass own = some m.cls := by rw [← hyc]; exact findClass_of_methodNamed B.named
  have hl := lv_entry As (n := maxL) hlen
  rw [lg_entry_eq]
  have C : nC p s m As.toArray c cc own G av pl (tA sz av []) := ⟨B.exec, B.bytes, hown, hts, hK, hnd, hp, fun q h => Or.inl h, fun q h h2 => by
    rcases h2 with h2 | h2 | h2
    · exact nd_disj hnd h2 h
    · cases h2
    · have := P_lt hp h
      omega⟩
  exact body p e s m _ below meth c _ C (nC_nil C) ⟨by simpa using nd_left hnd, fun q h => (by cases h), fun q h => Or.inr (Or.inr (by omega)), hZ, hE⟩ hml htab hP va_S.rf hl B.returns B.notSynchronized hsz
/-- the reason in a refusal -/
theorem x_get {q idx : Nat} {w : Int32} (C : nC p s m args c cc own G av pl A) (hS : va_S A s.heap H locs) (hq : (q, .inr (18, xF w)) ∈ pl) (hl : Cond.fieldLink own idx "HamsterWeekends$Refused" "why" "I" ∈ lw_all) (hdg : decode cc pc = .ok (.getfield idx, 3)) (kk : W p l e R s m args below meth c H locs cells slots Q (F0 m (pc + 3) ls (.int w :: rest))) : W p l e R s m args below meth c H locs cells slots Q (F0 m pc ls (.ref q :: rest)) := by
  obtain ⟨i, hi⟩ := List.getElem?_of_mem hq
  exact va_get (D := G.1) (ci := 18) (C := RX6) (T := TX6) (N := 7) C.1 C.2.1 C.2.2.2.1 in_X6 C.2.2.1 C.2.2.2.2.1 (pl_at C.2.2.2.2.2.2.2.2 C.2.2.2.2.2.2.1 hS) i hi rfl 6 (by decide) (C.2.2.2.1 _ hl) (fun _ h => h) rfl hdg kk
end RB
