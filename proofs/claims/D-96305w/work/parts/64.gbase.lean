set_option maxRecDepth 100000
/-! walks by hand: a callee's cells come back, all others are as they were -/
/-- a method that also makes cells that stay: the world behind it for some new address -/
def uQ (G : kG) (Ψ : Nat → va_W) (A : Nat → Prop) (sz : Nat) (o : Option Value) : Array Value → State → Outcome → State → Prop := fun _ st oc t => oc = .returned o ∧ (∃ q, sz ≤ q ∧ va_P G.1 vwCl (Ψ q) t.heap) ∧ va_F A st t
def dPc (G : kG) (X pl E : va_W) (av : List Nat) (sz : Nat) (As : List Value) : Array Value → State → Prop := fun v U => tPc G X E av sz As v U ∧ va_P G.1 vwCl pl U.heap ∧ (av ++ (pl ++ E).map (·.1)).Nodup
theorem dPc_blind {G : kG} {X pl E : va_W} {av : List Nat} {sz : Nat} {As : List Value} : FrameBlind (dPc G X pl E av sz As) := fun a U g mk q => ⟨tPc_blind a U g mk q.1, q.2.1, q.2.2⟩
section GB
variable {p : Program} {l : Launch} {e : Env} {R : Room} {s : State} {m : MethodId} {args : Array Value} {below : List Frame} {meth : Method} {c : Code} {H : Heap} {locs : List Loc} {cells slots : Nat} {Q : State → Prop} {pc : Nat} {ls : Array Slot} {rest : List Value} {cc : ByteArray} {own : String} {G : kG} {av : List Nat} {pl E : va_W} {A : Nat → Prop}
theorem tD_nil (D : tD s av E A) : tD s av [] A := ⟨by simpa using nd_left D.1, fun q h => (by cases h), D.2.2.1, D.2.2.2.1, D.2.2.2.2⟩
theorem gn_after {mc ms : Nat} {Xc' : va_W} {avc : List Nat} {st : List Value} {o : Option Value} {a : Array Value} (hAv : ∀ q, q ∈ avc → A q) (hS : va_S A s.heap H locs) (hr : va_Run p l e R s m args below meth c H locs cells slots mc ms (F0 m pc ls st) rest (nQc G Xc' avc o a) (nA avc))
    (kk : ∀ (H1 : Heap) (locs1 : List Loc), va_P G.1 vwCl Xc' H1 → H.size ≤ H1.size → (∀ x, x < H.size → x ∉ avc → H1[x]? = H[x]?) → va_S A s.heap H1 locs1 → W p l e R s m args below meth c H1 locs1 (cells + mc) (slots + ms) Q (F0 m (pc + 3) ls (o.toList ++ rest))) : W p l e R s m args below meth c H locs cells slots Q (F0 m pc ls st) := by
  intro T hT X
  obtain ⟨v, st₀, t, T', L1, e0, X', hL, e1, e2, ⟨hv, hP1, hz, hk⟩, stp⟩ := hr T hT X
  cases hv
  rw [e0] at hz hk
  obtain ⟨t2, a1, b1⟩ := kk T'.heap (locs ++ L1) (by rw [e1]; exact hP1) (by rw [e1]; exact hz) (by rw [e1]; exact fun x h1 h2 => hk x h1 h2) (by rw [e1]; exact t_S hS hAv hz hk hL) T' rfl X'
  exact ⟨t2, stp t2 a1, b1⟩
theorem g_after {mc ms k : Nat} {Xc' : va_W} {avc : List Nat} {st : List Value} {o : Option Value} {a : Array Value} {φ : Prop} {Ex : String} {ow : Option Int32} (hA2 : ∀ q, s.heap.size ≤ q → A q) (hAv : ∀ q, q ∈ avc → A q) (hS : va_S A s.heap H locs)
    (hr : vx_Run p l e R s m args below meth c H locs cells slots mc ms (F0 m pc ls st) rest (tQc G Xc' [] (tA H.size avc []) φ o a) (tXC G Xc' [] (tA H.size avc []) k Ex ow H.size) (tA H.size avc [])) (how : ow = none)
    (kn : φ → ∀ (H1 : Heap) (locs1 : List Loc), va_P G.1 vwCl Xc' H1 → H.size ≤ H1.size → (∀ x, x < H.size → x ∉ avc → H1[x]? = H[x]?) → va_S A s.heap H1 locs1 → W p l e R s m args below meth c H1 locs1 (cells + mc) (slots + ms) Q (F0 m (pc + 3) ls (o.toList ++ rest))) : W p l e R s m args below meth c H locs cells slots Q (F0 m pc ls st) := by
  have hsub : ∀ q, tA H.size avc [] q → A q := by
    intro q hq
    rcases hq with h | h | h
    · exact hAv q h
    · cases h
    · exact hA2 q (Nat.le_trans hS.1 h)
  intro T hT X
  rcases hr T hT X with ⟨v, st₀, t, T', L1, e0, X', hL, e1, e2, ⟨hv, hφ, hP1, hp1, hz, hk⟩, stp⟩ | ⟨q, st₀, t, T', L1, E', ce, e0, X', hL, e1, e2, ⟨hE, hq, ⟨w, hw, hc⟩, hP1, hp1, hz, hk⟩, hce, hcv, hcl, stp⟩
  · cases hv
    rw [e0] at hz hk
    obtain ⟨t2, a1, b1⟩ := kn hφ T'.heap (locs ++ L1) (by rw [e1]; exact hP1) (by rw [e1]; exact hz) (by
      rw [e1]
      exact fun x h1 h2 => hk x h1 (fun h => by
        rcases h with h | h | h
        · exact h2 h
        · cases h
        · omega)) (by rw [e1]; exact t_S hS hsub hz hk hL) T' rfl X'
    exact ⟨t2, stp t2 a1, b1⟩
  · rw [how] at hw
    cases hw
/-- a callee that makes a cell that stays -/
theorem gu_after {mc ms : Nat} {Ψ : Nat → va_W} {avc : List Nat} {st : List Value} {o : Option Value} {a : Array Value} (hA2 : ∀ q, s.heap.size ≤ q → A q) (hAv : ∀ q, q ∈ avc → A q) (hS : va_S A s.heap H locs)
    (hr : vx_Run p l e R s m args below meth c H locs cells slots mc ms (F0 m pc ls st) rest (uQ G Ψ (tA H.size avc []) H.size o a) (fun _ _ _ _ => False) (tA H.size avc []))
    (kn : ∀ (q : Nat) (H1 : Heap) (locs1 : List Loc), H.size ≤ q → va_P G.1 vwCl (Ψ q) H1 → H.size ≤ H1.size → (∀ x, x < H.size → x ∉ avc → H1[x]? = H[x]?) → va_S A s.heap H1 locs1 → W p l e R s m args below meth c H1 locs1 (cells + mc) (slots + ms) Q (F0 m (pc + 3) ls (o.toList ++ rest))) : W p l e R s m args below meth c H locs cells slots Q (F0 m pc ls st) := by
  have hsub : ∀ q, tA H.size avc [] q → A q := by
    intro q hq
    rcases hq with h | h | h
    · exact hAv q h
    · cases h
    · exact hA2 q (Nat.le_trans hS.1 h)
  intro T hT X
  rcases hr T hT X with ⟨v, st₀, t, T', L1, e0, X', hL, e1, e2, ⟨hv, ⟨q, hq, hP1⟩, hz, hk⟩, stp⟩ | ⟨q, st₀, t, T', L1, E', ce, e0, X', hL, e1, e2, hf, hce, hcv, hcl, stp⟩
  · cases hv
    rw [e0] at hz hk
    obtain ⟨t2, a1, b1⟩ := kn q T'.heap (locs ++ L1) hq (by rw [e1]; exact hP1) (by rw [e1]; exact hz) (by
      rw [e1]
      exact fun x h1 h2 => hk x h1 (fun h => by
        rcases h with h | h | h
        · exact h2 h
        · cases h
        · omega)) (by rw [e1]; exact t_S hS hsub hz hk hL) T' rfl X'
    exact ⟨t2, stp t2 a1, b1⟩
  · exact hf.elim
theorem g_pc {Xc plc : va_W} {avc : List Nat} {As : List Value} (C : nC p s m args c cc own G av [] A) (D : tD s av E A) (hS : va_S A s.heap H locs) (hAv : ∀ q, q ∈ avc → A q) (hc : va_P G.1 vwCl Xc H) (hpc : va_P G.1 vwCl plc H) (hnd : (avc ++ plc.map (·.1)).Nodup) (U : State) (hU : U.heap = H) (hW : s.WarmedH U.vm) : rPc G Xc plc avc H.size As As.toArray U :=
  ⟨⟨rfl, by rw [hU]; exact hc, by rw [hU]; exact P_nil, va_K.moved hW.alike C.2.2.2.2.1, by simpa using nd_left hnd, by rw [hU], by
    rw [hU]
    refine ((D.2.2.2.1.moved hW.alike).kept (fun a h1 h2 => hS.2.1 a h1 h2)).narrow (fun q hq => ?_)
    rcases hq with h | h | h
    · exact hAv q h
    · cases h
    · exact D.2.2.1 q (Nat.le_trans hS.1 h), kE.moved hW D.2.2.2.2⟩, by rw [hU]; exact hpc, hnd⟩
theorem g_preV {Xc plc : va_W} {avc : List Nat} {b : Nat} {As : List Value} {Cn : String} (C : nC p s m args c cc own G av [] A) (D : tD s av E A) (hS : va_S A s.heap H locs) (hAv : ∀ q, q ∈ avc → A q) (hc : va_P G.1 vwCl Xc H) (hpc : va_P G.1 vwCl plc H) (hnd : (avc ++ plc.map (·.1)).Nodup) (hr : ∃ cell : Cell, H[b]? = some cell ∧ cell.vm.isStatics = false ∧ s.vm.findClass Cn = some cell.cls) : PreV s H Cn b (rPc G Xc plc avc H.size (.ref b :: As)) As :=
  ⟨rPc_blind, hr, fun U hU hW => g_pc (As := .ref b :: As) C D hS hAv hc hpc hnd U hU hW⟩
theorem g_preS {Xc plc : va_W} {avc : List Nat} {As : List Value} (C : nC p s m args c cc own G av [] A) (D : tD s av E A) (hS : va_S A s.heap H locs) (hAv : ∀ q, q ∈ avc → A q) (hc : va_P G.1 vwCl Xc H) (hpc : va_P G.1 vwCl plc H) (hnd : (avc ++ plc.map (·.1)).Nodup) : PreS s H (rPc G Xc plc avc H.size As) As :=
  ⟨rPc_blind, fun U hU hW => g_pc C D hS hAv hc hpc hnd U hU hW⟩
theorem gn_preV {Xc plc : va_W} {avc : List Nat} {b : Nat} {As : List Value} {Cn : String} (C : nC p s m args c cc own G av [] A) (hc : va_P G.1 vwCl Xc H) (hpc : va_P G.1 vwCl plc H) (hnd : (avc ++ plc.map (·.1)).Nodup) (hr : ∃ cell : Cell, H[b]? = some cell ∧ cell.vm.isStatics = false ∧ s.vm.findClass Cn = some cell.cls) : PreV s H Cn b (nPc G Xc plc avc (.ref b :: As)) As :=
  ⟨nPc_blind, hr, fun U hU hW => ⟨rfl, by rw [hU]; exact hc, by rw [hU]; exact hpc, va_K.moved hW.alike C.2.2.2.2.1, hnd⟩⟩
theorem gn_preS {Xc plc : va_W} {avc : List Nat} {As : List Value} (C : nC p s m args c cc own G av [] A) (hc : va_P G.1 vwCl Xc H) (hpc : va_P G.1 vwCl plc H) (hnd : (avc ++ plc.map (·.1)).Nodup) : PreS s H (nPc G Xc plc avc As) As :=
  ⟨nPc_blind, fun U hU hW => ⟨rfl, by rw [hU]; exact hc, by rw [hU]; exact hpc, va_K.moved hW.alike C.2.2.2.2.1, hnd⟩⟩
/-- bodies with a mutable pool E beside one that is only read -/
theorem d_ctx {sz : Nat} (hown : s.vm.findClass own = some m.cls) (hx : p.tables.exec = Jvm.exec) (hb : c.code = cc) (hts : ∀ w ∈ lw_all, w.before args s = true) (hK : mK G s) (hp : va_P G.1 vwCl pl s.heap) (hnd : (av ++ (pl ++ E).map (·.1)).Nodup) (hsz : s.heap.size = sz) : nC p s m args c cc own G av pl (tA sz av E) := by
  rw [List.map_append] at hnd
  have h1 : (av ++ pl.map (·.1)).Nodup := nd_left (by rw [← List.append_assoc] at hnd; exact hnd)
  refine ⟨hx, hb, hown, hts, hK, h1, hp, fun q h => Or.inl h, fun q h h2 => ?_⟩
  rcases h2 with h2 | h2 | h2
  · exact nd_disj h1 h2 h
  · have h3 := (List.nodup_append.mp hnd).2.1
    exact nd_disj h3 h h2
  · have := P_lt hp h
    omega
theorem d_ofW {y : MethodName} {maxL sz mc ms : Nat} {rm : Room} {As : List Value} {X : va_W} {ret : Option FieldType} {Qc : Array Value → State → Outcome → State → Prop} {XC : String → Addr → State → State → Prop} (hy : plainName y.cls = true) (hyc : y.cls = own) (hlen : (lg_sl As).length ≤ maxL)
    (body : ∀ (p : Program) (e : Env) (s : State) (m : MethodId) (args : Array Value) (below : List Frame) (meth : Method) (c : Code) (ls : Array Slot), nC p s m args c cc own G av pl (tA sz av E) → nC p s m args c cc own G av [] (tA sz av E) → tD s av E (tA sz av E) → (av ++ (pl ++ E).map (·.1)).Nodup → c.maxLocals = maxL → (∀ x ∈ c.exceptionTable.toList, False) → va_P G.1 vwCl X s.heap → va_P G.1 vwCl E s.heap → va_S (tA sz av E) s.heap s.heap [] → lv_has ls maxL (lv_args 0 As) → meth.sig.returnType = ret → meth.locks = false → s.heap.size = sz →
      W p l e rm s m args below meth c s.heap [] 0 0 (vx_MQ below Qc XC args s mc ms (tA sz av E)) (F0 m 0 ls [])) : vx_Met l y (ws_ y cc maxL ret) rm (dPc G X pl E av sz As) Qc XC mc ms (tA sz av E) := by
  refine vx_ofW (cc := cc) (maxL := maxL) (ret := ret) hy rfl ?_
  intro p e s m args below meth c s₁ B hml ht hv
  obtain ⟨⟨rfl, hP, hE, hK, hnd0, hsz, hZ, hkE⟩, hp, hnd⟩ := hv
  have hts := atoms_spec (ws := ws_ y cc maxL ret) B.pre
  have hts : ∀ w ∈ lw_all, w.before _ s = true := fun w h => hts w (List.mem_cons_of_mem _ h)
  have hown : s.vm.findClass own = some m.cls := by rw [← hyc]; exact findClass_of_methodNamed B.named
  have hl := lv_entry As (n := maxL) hlen
  rw [lg_entry_eq]
  have C := d_ctx (E := E) hown B.exec B.bytes hts hK hp hnd hsz
  exact body p e s m _ below meth c _ C (nC_nil C) ⟨hnd0, fun q h => Or.inr (Or.inl h), fun q h => Or.inr (Or.inr (by omega)), hZ, hkE⟩ hnd hml ht hP hE va_S.rf hl B.returns B.notSynchronized hsz
theorem d_ofWH {y : MethodName} {maxL sz mc ms : Nat} {rm : Room} {As : List Value} {X : va_W} {ret : Option FieldType} {hh : List (Nat × Nat × Nat × Nat)} {Qc : Array Value → State → Outcome → State → Prop} {XC : String → Addr → State → State → Prop} (hy : plainName y.cls = true) (hyc : y.cls = own) (hlen : (lg_sl As).length ≤ maxL)
    (body : ∀ (p : Program) (e : Env) (s : State) (m : MethodId) (args : Array Value) (below : List Frame) (meth : Method) (c : Code) (ls : Array Slot), nC p s m args c cc own G av pl (tA sz av E) → nC p s m args c cc own G av [] (tA sz av E) → tD s av E (tA sz av E) → (av ++ (pl ++ E).map (·.1)).Nodup → c.maxLocals = maxL → c.exceptionTable.toList = tableOf hh → va_P G.1 vwCl X s.heap → va_P G.1 vwCl E s.heap → va_S (tA sz av E) s.heap s.heap [] → lv_has ls maxL (lv_args 0 As) → meth.sig.returnType = ret → meth.locks = false → s.heap.size = sz →
      W p l e rm s m args below meth c s.heap [] 0 0 (vx_MQ below Qc XC args s mc ms (tA sz av E)) (F0 m 0 ls [])) : vx_Met l y (wsW_ y cc maxL ret hh) rm (dPc G X pl E av sz As) Qc XC mc ms (tA sz av E) := by
  refine vx_ofWH (cc := cc) (maxL := maxL) (ret := ret) (hh := hh) hy rfl ?_
  intro p e s m args below meth c s₁ B hml hv
  obtain ⟨⟨rfl, hP, hE, hK, hnd0, hsz, hZ, hkE⟩, hp, hnd⟩ := hv
  have hts0 := atoms_spec (ws := wsW_ y cc maxL ret hh) B.pre
  have hts : ∀ w ∈ lw_all, w.before _ s = true := fun w h => hts0 w (List.mem_cons_of_mem _ h)
  have htab := vx_table (x := y) B (hts0 _ List.mem_cons_self)
  have hown : s.vm.findClass own = some m.cls := by rw [← hyc]; exact findClass_of_methodNamed B.named
  have hl := lv_entry As (n := maxL) hlen
  rw [lg_entry_eq]
  have C := d_ctx (E := E) hown B.exec B.bytes hts hK hp hnd hsz
  exact body p e s m _ below meth c _ C (nC_nil C) ⟨hnd0, fun q h => Or.inr (Or.inl h), fun q h => Or.inr (Or.inr (by omega)), hZ, hkE⟩ hnd hml htab hP hE va_S.rf hl B.returns B.notSynchronized hsz
/-- the whole pool -/
theorem d_pp (C : nC p s m args c cc own G av pl A) (hS : va_S A s.heap H locs) (hp : va_P G.1 vwCl E H) : va_P G.1 vwCl (pl ++ E) H := (pl_at C.2.2.2.2.2.2.2.2 C.2.2.2.2.2.2.1 hS).app hp
theorem d_preV {Xc Y : va_W} {avc : List Nat} {b : Nat} {As : List Value} {Cn : String} (C : nC p s m args c cc own G av pl A) (C0 : nC p s m args c cc own G av [] A) (D : tD s av E A) (hN : (av ++ (pl ++ E).map (·.1)).Nodup) (hP : va_P G.1 vwCl Y H) (hp : va_P G.1 vwCl E H) (hS : va_S A s.heap H locs) (isC : List Nat) (hX : isC.filterMap (fun i => Y[i]?) = Xc) (hn : va_nd isC = true) (hV : isC.map (fun i => av[i]?) = avc.map some) (hr : ∃ cell : Cell, H[b]? = some cell ∧ cell.vm.isStatics = false ∧ s.vm.findClass Cn = some cell.cls) : PreV s H Cn b (rPc G Xc (pl ++ E) avc H.size (.ref b :: As)) As :=
  g_preV C0 D hS (fun q hq => C.2.2.2.2.2.2.2.1 q (sub_of hV hq)) (hP.sub isC hX) (d_pp C hS hp) (nd_part isC hN hn hV) hr
theorem d_preS {Xc Y : va_W} {avc : List Nat} {As : List Value} (C : nC p s m args c cc own G av pl A) (C0 : nC p s m args c cc own G av [] A) (D : tD s av E A) (hN : (av ++ (pl ++ E).map (·.1)).Nodup) (hP : va_P G.1 vwCl Y H) (hp : va_P G.1 vwCl E H) (hS : va_S A s.heap H locs) (isC : List Nat) (hX : isC.filterMap (fun i => Y[i]?) = Xc) (hn : va_nd isC = true) (hV : isC.map (fun i => av[i]?) = avc.map some) : PreS s H (rPc G Xc (pl ++ E) avc H.size As) As :=
  g_preS C0 D hS (fun q hq => C.2.2.2.2.2.2.2.1 q (sub_of hV hq)) (hP.sub isC hX) (d_pp C hS hp) (nd_part isC hN hn hV)
theorem d_preV0 {Y : va_W} {b : Nat} {As : List Value} {Cn : String} (C : nC p s m args c cc own G av pl A) (C0 : nC p s m args c cc own G av [] A) (D : tD s av E A) (hN : (av ++ (pl ++ E).map (·.1)).Nodup) (hP : va_P G.1 vwCl Y H) (hp : va_P G.1 vwCl E H) (hS : va_S A s.heap H locs) (hr : ∃ cell : Cell, H[b]? = some cell ∧ cell.vm.isStatics = false ∧ s.vm.findClass Cn = some cell.cls) : PreV s H Cn b (rPc G Y (pl ++ E) av H.size (.ref b :: As)) As :=
  g_preV C0 D hS C.2.2.2.2.2.2.2.1 hP (d_pp C hS hp) hN hr
theorem d_shrecv {a hd q b k n : Nat} {rc : Nat → Int64} {sk : Nat} {si sb : Int32} (C : nC p s m args c cc own G av pl A) (hS : va_S A s.heap H locs) (hp : va_P G.1 vwCl E H) (h : shAt G a hd q b k n rc sk si sb (pl ++ E)) : ∃ cell : Cell, H[a]? = some cell ∧ cell.vm.isStatics = false ∧ s.vm.findClass RX4 = some cell.cls := by
  obtain ⟨v, hv⟩ := shAt_obj h
  obtain ⟨i, hi⟩ := List.getElem?_of_mem hv
  exact va_recv (ci := 13) (q0 := i) (q := (RX4, TX4, 1)) C.2.2.2.2.1 (d_pp C hS hp) rfl hi
theorem d_after {mc ms k : Nat} {Xc' Y Y' : va_W} {avc : List Nat} {st : List Value} {o : Option Value} {a : Array Value} {φ : Prop} {Ex : String} {ow : Option Int32} (isC : List Nat) (C : nC p s m args c cc own G av [] A) (D : tD s av E A) (hP : va_P G.1 vwCl Y H) (hp : va_P G.1 vwCl E H) (hS : va_S A s.heap H locs)
    (hr : vx_Run p l e R s m args below meth c H locs cells slots mc ms (F0 m pc ls st) rest (tQc G Xc' [] (tA H.size avc []) φ o a) (tXC G Xc' [] (tA H.size avc []) k Ex ow H.size) (tA H.size avc []))
    (hY : Y.map (·.1) = av) (hV : isC.map (fun i => av[i]?) = avc.map some) (hl : Xc'.length = avc.length) (hM : mergeAt Y isC Xc' = Y')
    (kn : φ → ∀ (H1 : Heap) (locs1 : List Loc), va_P G.1 vwCl Y' H1 → va_P G.1 vwCl E H1 → va_S A s.heap H1 locs1 → W p l e R s m args below meth c H1 locs1 (cells + mc) (slots + ms) Q (F0 m (pc + 3) ls (o.toList ++ rest)))
    (kx : ∀ (w : Int32) (q : Nat) (H1 : Heap) (locs1 : List Loc), ow = some w → vx_W p l e R s m args below meth c H1 locs1 (cells + mc) (slots + ms) Q (F0 m pc ls rest) q) : W p l e R s m args below meth c H locs cells slots Q (F0 m pc ls st) := by
  have hsub : ∀ q, tA H.size avc [] q → A q := by
    intro q hq
    rcases hq with h | h | h
    · exact C.2.2.2.2.2.2.2.1 q (sub_of hV h)
    · cases h
    · exact D.2.2.1 q (Nat.le_trans hS.1 h)
  intro T hT X
  rcases hr T hT X with ⟨v, st₀, t, T', L1, e0, X', hL, e1, e2, ⟨hv, hφ, hP1, hp1, hz, hk⟩, stp⟩ | ⟨q, st₀, t, T', L1, E', ce, e0, X', hL, e1, e2, ⟨hE, hq, ⟨w, hw, hc⟩, hP1, hp1, hz, hk⟩, hce, hcv, hcl, stp⟩
  · cases hv
    rw [e0] at hz hk
    have h1 := t_mrg (pl := []) (t := t.heap) isC (by simpa using nd_left D.1) hP hP1 hk hY hV hl hM
    have h2 : va_P G.1 vwCl E t.heap := P_kept hp (fun a ha hlt => hk a hlt (fun h => by
      rcases h with h | h | h
      · exact nd_disj D.1 (sub_of hV h) ha
      · cases h
      · omega))
    obtain ⟨t2, a1, b1⟩ := kn hφ T'.heap (locs ++ L1) (by rw [e1]; exact h1) (by rw [e1]; exact h2) (by rw [e1]; exact t_S hS hsub hz hk hL) T' rfl X'
    exact ⟨t2, stp t2 a1, b1⟩
  · obtain ⟨t2, a1, b1⟩ := kx w q T'.heap (locs ++ L1) hw T' rfl X'
    exact ⟨t2, stp.trans a1, b1⟩
theorem d_afterS {mc ms k : Nat} {Y Y' : va_W} {st : List Value} {o : Option Value} {a : Array Value} {φ : Prop} {Ex : String} {ow : Option Int32} (C : nC p s m args c cc own G av [] A) (D : tD s av E A) (hP : va_P G.1 vwCl Y H) (hp : va_P G.1 vwCl E H) (hS : va_S A s.heap H locs)
    (hr : vx_Run p l e R s m args below meth c H locs cells slots mc ms (F0 m pc ls st) rest (tQc G Y' [] (tA H.size av []) φ o a) (tXC G Y' [] (tA H.size av []) k Ex ow H.size) (tA H.size av []))
    (hY : Y.map (·.1) = av)
    (kn : φ → ∀ (H1 : Heap) (locs1 : List Loc), va_P G.1 vwCl Y' H1 → va_P G.1 vwCl E H1 → va_S A s.heap H1 locs1 → W p l e R s m args below meth c H1 locs1 (cells + mc) (slots + ms) Q (F0 m (pc + 3) ls (o.toList ++ rest)))
    (kx : ∀ (w : Int32) (q : Nat) (H1 : Heap) (locs1 : List Loc), ow = some w → vx_W p l e R s m args below meth c H1 locs1 (cells + mc) (slots + ms) Q (F0 m pc ls rest) q) : W p l e R s m args below meth c H locs cells slots Q (F0 m pc ls st) := by
  have hsub : ∀ q, tA H.size av [] q → A q := by
    intro q hq
    rcases hq with h | h | h
    · exact C.2.2.2.2.2.2.2.1 q h
    · cases h
    · exact D.2.2.1 q (Nat.le_trans hS.1 h)
  intro T hT X
  rcases hr T hT X with ⟨v, st₀, t, T', L1, e0, X', hL, e1, e2, ⟨hv, hφ, hP1, hp1, hz, hk⟩, stp⟩ | ⟨q, st₀, t, T', L1, E', ce, e0, X', hL, e1, e2, ⟨hE, hq, ⟨w, hw, hc⟩, hP1, hp1, hz, hk⟩, hce, hcv, hcl, stp⟩
  · cases hv
    rw [e0] at hz hk
    have h2 : va_P G.1 vwCl E t.heap := P_kept hp (fun a ha hlt => hk a hlt (fun h => by
      rcases h with h | h | h
      · exact nd_disj D.1 h ha
      · cases h
      · omega))
    obtain ⟨t2, a1, b1⟩ := kn hφ T'.heap (locs ++ L1) (by rw [e1]; exact hP1) (by rw [e1]; exact h2) (by rw [e1]; exact t_S hS hsub hz hk hL) T' rfl X'
    exact ⟨t2, stp t2 a1, b1⟩
  · obtain ⟨t2, a1, b1⟩ := kx w q T'.heap (locs ++ L1) hw T' rfl X'
    exact ⟨t2, stp.trans a1, b1⟩
/-- a write into the mutable pool's one cell -/
theorem d_D1 {x : Nat × va_E} (D : tD s av [x] A) : va_D A [x] := va_D_of (by simp) (fun q hq => D.2.1 q hq)
end GB
