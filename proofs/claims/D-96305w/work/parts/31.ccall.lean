set_option maxRecDepth 100000
section NC1
variable {p : Program} {l : Launch} {e : Env} {R : Room} {s : State} {m : MethodId} {args : Array Value} {below : List Frame} {meth : Method} {c : Code} {H : Heap} {locs : List Loc} {cells slots : Nat} {Q : State → Prop} {pc : Nat} {ls : Array Slot} {rest : List Value} {cc : ByteArray} {own : String} {G : kG} {av : List Nat} {pl : va_W} {H0 : Heap} {A : Nat → Prop}
theorem n_preV {Xc Y : va_W} {avc : List Nat} {b : Nat} {As : List Value} {Cn : String} (C : nC p s m args c cc own G av pl A) (hP : va_P G.1 vwCl Y H) (hS : va_S A s.heap H locs) (isC : List Nat) (hX : isC.filterMap (fun i => Y[i]?) = Xc) (hn : va_nd isC = true) (hV : isC.map (fun i => av[i]?) = avc.map some) (hr : ∃ cell : Cell, H[b]? = some cell ∧ cell.vm.isStatics = false ∧ s.vm.findClass Cn = some cell.cls) : PreV s H Cn b (nPc G Xc pl avc (.ref b :: As)) As :=
  ⟨nPc_blind, hr, fun U hU hW => ⟨rfl, by rw [hU]; exact hP.sub isC hX, by rw [hU]; exact pl_at C.2.2.2.2.2.2.2.2 C.2.2.2.2.2.2.1 hS, va_K.moved hW.alike C.2.2.2.2.1, nd_part isC C.2.2.2.2.2.1 hn hV⟩⟩
theorem n_preS {Xc Y : va_W} {avc : List Nat} {As : List Value} (C : nC p s m args c cc own G av pl A) (hP : va_P G.1 vwCl Y H) (hS : va_S A s.heap H locs) (isC : List Nat) (hX : isC.filterMap (fun i => Y[i]?) = Xc) (hn : va_nd isC = true) (hV : isC.map (fun i => av[i]?) = avc.map some) : PreS s H (nPc G Xc pl avc As) As :=
  ⟨nPc_blind, fun U hU hW => ⟨rfl, by rw [hU]; exact hP.sub isC hX, by rw [hU]; exact pl_at C.2.2.2.2.2.2.2.2 C.2.2.2.2.2.2.1 hS, va_K.moved hW.alike C.2.2.2.2.1, nd_part isC C.2.2.2.2.2.1 hn hV⟩⟩
theorem n_preV0 {Y : va_W} {b : Nat} {As : List Value} {Cn : String} (C : nC p s m args c cc own G av pl A) (hP : va_P G.1 vwCl Y H) (hS : va_S A s.heap H locs) (hr : ∃ cell : Cell, H[b]? = some cell ∧ cell.vm.isStatics = false ∧ s.vm.findClass Cn = some cell.cls) : PreV s H Cn b (nPc G Y pl av (.ref b :: As)) As :=
  ⟨nPc_blind, hr, fun U hU hW => ⟨rfl, by rw [hU]; exact hP, by rw [hU]; exact pl_at C.2.2.2.2.2.2.2.2 C.2.2.2.2.2.2.1 hS, va_K.moved hW.alike C.2.2.2.2.1, C.2.2.2.2.2.1⟩⟩
theorem n_preS0 {Y : va_W} {As : List Value} (C : nC p s m args c cc own G av pl A) (hP : va_P G.1 vwCl Y H) (hS : va_S A s.heap H locs) : PreS s H (nPc G Y pl av As) As :=
  ⟨nPc_blind, fun U hU hW => ⟨rfl, by rw [hU]; exact hP, by rw [hU]; exact pl_at C.2.2.2.2.2.2.2.2 C.2.2.2.2.2.2.1 hS, va_K.moved hW.alike C.2.2.2.2.1, C.2.2.2.2.2.1⟩⟩
/-- behind a call that had all the caller's cells -/
theorem n_afterS {mc ms : Nat} {Y' : va_W} {st : List Value} {o : Option Value} {a : Array Value} (hAv : ∀ q, q ∈ av → A q) (hS : va_S A s.heap H locs) (hr : va_Run p l e R s m args below meth c H locs cells slots mc ms (F0 m pc ls st) rest (nQc G Y' av o a) (nA av))
    (kk : ∀ (H1 : Heap) (locs1 : List Loc), va_P G.1 vwCl Y' H1 → va_S A s.heap H1 locs1 → W p l e R s m args below meth c H1 locs1 (cells + mc) (slots + ms) Q (F0 m (pc + 3) ls (o.toList ++ rest))) : W p l e R s m args below meth c H locs cells slots Q (F0 m pc ls st) := by
  intro T hT X
  obtain ⟨v, st₀, t, T', L1, e0, X', hL, e1, e2, ⟨hv, hP1, hz, hk⟩, stp⟩ := hr T hT X
  cases hv
  rw [e0] at hz hk
  obtain ⟨t2, a1, b1⟩ := kk T'.heap (locs ++ L1) (by rw [e1]; exact hP1)
    ⟨Nat.le_trans hS.1 (by rw [e1]; exact hz), fun q h1 h2 => by rw [e1, hk q (Nat.lt_of_lt_of_le h1 hS.1) (fun h => h2 (hAv q h))]; exact hS.2.1 q h1 h2, fun q hq => by
      rcases List.mem_append.mp hq with h | h
      · exact hS.2.2 q h
      · exact hAv _ (hL q h)⟩ T' rfl X'
  exact ⟨t2, stp t2 a1, b1⟩
/-- a home of the pool: its cell -/
theorem n_recvH {k q : Nat} {fs : List Value} {r : vw_C} (C : nC p s m args c cc own G av pl A) (hS : va_S A s.heap H locs) (hq : (q, .inr (k, fs)) ∈ pl) (hk : vwCl[k]? = some r) : ∃ cell : Cell, H[q]? = some cell ∧ cell.vm.isStatics = false ∧ s.vm.findClass r.1 = some cell.cls := by
  obtain ⟨i, hi⟩ := List.getElem?_of_mem hq
  exact va_recv C.2.2.2.2.1 (pl_at C.2.2.2.2.2.2.2.2 C.2.2.2.2.2.2.1 hS) (ci := k) (q0 := i) hk hi
theorem lw_U {ow Cn owner : String} {idx : Nat} {x y : MethodName} {b : ByteArray} {L : Nat} {r : Option FieldType} (h1 : Cond.methodLink ow idx x ∈ lw_all) (h2 : Cond.sameMethod x.cls owner x.name x.desc ∈ lw_all) (h3 : Cond.selects Cn x y ∈ lw_all) (h4 : Cond.instanceMethod y ∈ lw_all) (h5 : Cond.initialized y.cls ∈ lw_all) (h6 : Cond.code y b L r ∈ lw_all) : GoodIn lw_all (va_wsU ow idx Cn owner x y (ws_ y b L r)) := by
  refine lw_app ?_ (lw_meth h6)
  intro w hw
  simp only [List.mem_cons, List.not_mem_nil, or_false] at hw
  rcases hw with e | e | e | e | e
  · rw [e]; exact h1
  · rw [e]; exact h2
  · rw [e]; exact h3
  · rw [e]; exact h4
  · rw [e]; exact h5
theorem lw_O {ow Cn owner : String} {idx : Nat} {x y : MethodName} {b : ByteArray} {L : Nat} {r : Option FieldType} (h1 : Cond.methodLink ow idx x ∈ lw_all) (h2 : Cond.sameMethod x.cls owner x.name x.desc ∈ lw_all) (h0 : Cond.instanceMethod ⟨owner, x.name, x.desc⟩ ∈ lw_all) (h3 : Cond.selects Cn x y ∈ lw_all) (h4 : Cond.instanceMethod y ∈ lw_all) (h5 : Cond.initialized y.cls ∈ lw_all) (h6 : Cond.code y b L r ∈ lw_all) : GoodIn lw_all (va_wsO ow idx Cn owner x y (ws_ y b L r)) := by
  refine lw_app ?_ (lw_meth h6)
  intro w hw
  simp only [List.mem_cons, List.not_mem_nil, or_false] at hw
  rcases hw with e | e | e | e | e | e
  · rw [e]; exact h1
  · rw [e]; exact h2
  · rw [e]; exact h0
  · rw [e]; exact h3
  · rw [e]; exact h4
  · rw [e]; exact h5
theorem lw_SU {ow : String} {idx : Nat} {y : MethodName} {b : ByteArray} {L : Nat} {r : Option FieldType} (h1 : Cond.methodLink ow idx y ∈ lw_all) (h2 : Cond.sameMethod y.cls y.cls y.name y.desc ∈ lw_all) (h3 : Cond.superclass ow y.cls ∈ lw_all) (h4 : Cond.instanceMethod y ∈ lw_all) (h5 : Cond.initialized y.cls ∈ lw_all) (h6 : Cond.code y b L r ∈ lw_all) : GoodIn lw_all (va_wsSU ow idx y (ws_ y b L r)) := by
  refine lw_app ?_ (lw_meth h6)
  intro w hw
  simp only [List.mem_cons, List.not_mem_nil, or_false] at hw
  rcases hw with e | e | e | e | e
  · rw [e]; exact h1
  · rw [e]; exact h2
  · rw [e]; exact h3
  · rw [e]; exact h4
  · rw [e]; exact h5
theorem n_ofW {y : MethodName} {maxL : Nat} {rm : Room} {As : List Value} {X X' : va_W} {ret : Option FieldType} {o : Option Value} (hy : plainName y.cls = true) (hyc : y.cls = own) (hlen : (lg_sl As).length ≤ maxL)
    (body : ∀ (p : Program) (e : Env) (s : State) (m : MethodId) (args : Array Value) (below : List Frame) (meth : Method) (c : Code) (ls : Array Slot), nC p s m args c cc own G av pl (nA av) → c.maxLocals = maxL → va_P G.1 vwCl X s.heap → va_S (nA av) s.heap s.heap [] → lv_has ls maxL (lv_args 0 As) → meth.sig.returnType = ret → meth.locks = false →
      W p l e rm s m args below meth c s.heap [] 0 0 (MQ below (nQc G X' av o) args s 0 0 (nA av)) (F0 m 0 ls [])) : Met l y (ws_ y cc maxL ret) rm (nPc G X pl av As) (nQc G X' av o) 0 0 (nA av) := by
  refine Met.ofW (cc := cc) (maxL := maxL) (ret := ret) hy rfl ?_
  intro p e s m args below meth c s₁ B hml hv
  obtain ⟨rfl, hP, hp, hK, hnd⟩ := hv
  have hts := atoms_spec (ws := ws_ y cc maxL ret) B.pre
  have hts : ∀ w ∈ lw_all, w.before _ s = true := fun w h => hts w (List.mem_cons_of_mem _ h)
  have hown : s.vm.findClass own = some m.cls := by rw [← hyc]; exact findClass_of_methodNamed B.named
  have hl := lv_entry As (n := maxL) hlen
  rw [lg_entry_eq]
  exact body p e s m _ below meth c _ ⟨B.exec, B.bytes, hown, hts, hK, hnd, hp, fun q h => h, fun q h h2 => (List.nodup_append.mp hnd).2.2 _ h2 _ h rfl⟩ hml hP va_S.rf hl B.returns B.notSynchronized
theorem n_iret {v : Int32} {X' : va_W} (C : nC p s m args c cc own G av pl (nA av)) (hr : meth.sig.returnType = some .int) (hlocks : meth.locks = false) (hdg : decode cc pc = .ok (.ireturn, 1)) (hP : va_P G.1 vwCl X' H) (hS : va_S (nA av) s.heap H locs) : W p l e R s m args below meth c H locs cells slots (MQ below (nQc G X' av (some (.int v))) args s cells slots (nA av)) (F0 m pc ls [.int v]) :=
  W.iret C.1 C.2.1 hr (fun t ht hW => ⟨rfl, by rw [ht]; exact hP, hS.F ht⟩) hS.2.2 hdg hlocks
theorem n_zret {v : Int32} {X' : va_W} (C : nC p s m args c cc own G av pl (nA av)) (hr : meth.sig.returnType = some .boolean) (hlocks : meth.locks = false) (hn : narrow .boolean (.int v) = .int v) (hdg : decode cc pc = .ok (.ireturn, 1)) (hP : va_P G.1 vwCl X' H) (hS : va_S (nA av) s.heap H locs) : W p l e R s m args below meth c H locs cells slots (MQ below (nQc G X' av (some (.int v))) args s cells slots (nA av)) (F0 m pc ls [.int v]) :=
  W.zret C.1 C.2.1 hr hn (fun t ht hW => ⟨rfl, by rw [ht]; exact hP, hS.F ht⟩) hS.2.2 hdg hlocks
theorem n_lret {v : Int64} {X' : va_W} (C : nC p s m args c cc own G av pl (nA av)) (hr : meth.sig.returnType = some .long) (hlocks : meth.locks = false) (hdg : decode cc pc = .ok (.lreturn, 1)) (hP : va_P G.1 vwCl X' H) (hS : va_S (nA av) s.heap H locs) : W p l e R s m args below meth c H locs cells slots (MQ below (nQc G X' av (some (.long v))) args s cells slots (nA av)) (F0 m pc ls [.long v]) :=
  W.lret C.1 C.2.1 hr (fun t ht hW => ⟨rfl, by rw [ht]; exact hP, hS.F ht⟩) hS.2.2 hdg hlocks
theorem n_vret {X' : va_W} (C : nC p s m args c cc own G av pl (nA av)) (hr : meth.sig.returnType = none) (hlocks : meth.locks = false) (hdg : decode cc pc = .ok (.return_, 1)) (hP : va_P G.1 vwCl X' H) (hS : va_S (nA av) s.heap H locs) : W p l e R s m args below meth c H locs cells slots (MQ below (nQc G X' av none) args s cells slots (nA av)) (F0 m pc ls []) :=
  W.vret C.1 C.2.1 hr (fun t ht hW => ⟨rfl, by rw [ht]; exact hP, hS.F ht⟩) hS.2.2 hdg hlocks
theorem n_aret {v : Value} {X' : va_W} {rt : FieldType} (C : nC p s m args c cc own G av pl (nA av)) (hr : meth.sig.returnType = some rt) (hrt : (∃ n, rt = .object n) ∨ ∃ t, rt = .array t) (hv : v = .null ∨ ∃ a, v = .ref a) (hlocks : meth.locks = false) (hdg : decode cc pc = .ok (.areturn, 1)) (hP : va_P G.1 vwCl X' H) (hS : va_S (nA av) s.heap H locs) : W p l e R s m args below meth c H locs cells slots (MQ below (nQc G X' av (some v)) args s cells slots (nA av)) (F0 m pc ls [v]) :=
  W.aret C.1 C.2.1 hr hrt hv (fun t ht hW => ⟨rfl, by rw [ht]; exact hP, hS.F ht⟩) hS.2.2 hdg hlocks
/-- a home's own fields -/
theorem h_get {C0 : String} {T : u_T} {k q idx j : Nat} {ref nm ds : String} {fs : List Value} {v : Value} (C : nC p s m args c cc own G av pl A) (hS : va_S A s.heap H locs) (hq : (q, .inr (k, fs)) ∈ pl) (hk : vwCl[k]? = some (C0, T, 2)) (hin : ∀ w ∈ u_ws C0 T 2, w ∈ lw_all) (hj : j < 2) (h1 : (T j).1 = "HamsterWeekends$Home") (h2 : (T j).2.1 = nm) (h3 : (T j).2.2.1 = ds) (hl : Cond.fieldLink own idx ref nm ds ∈ lw_all) (hs : ref = "HamsterWeekends$Home" ∨ Cond.sameField ref "HamsterWeekends$Home" nm ds ∈ lw_all) (hv : fs[j]? = some v) (hdg : decode cc pc = .ok (.getfield idx, 3)) (kk : W p l e R s m args below meth c H locs cells slots Q (F0 m (pc + 3) ls (v :: rest))) : W p l e R s m args below meth c H locs cells slots Q (F0 m pc ls (.ref q :: rest)) := by
  obtain ⟨i, hi⟩ := List.getElem?_of_mem hq
  refine va_get (D := G.1) (ci := k) (C := C0) (T := T) (N := 2) C.1 C.2.1 C.2.2.2.1 hin C.2.2.1 C.2.2.2.2.1 (pl_at C.2.2.2.2.2.2.2.2 C.2.2.2.2.2.2.1 hS) i hi hk j hj (ref := ref) (by rw [h2, h3]; exact C.2.2.2.1 _ hl) ?_ hv hdg kk
  rw [h1, h2, h3]
  rcases hs with rfl | hs
  · exact fun _ h => h
  · exact fun x h => u_same (C.2.2.2.1 _ hs) x h
end NC1
/-- which homes are there: kinds and numbers -/
abbrev gm (i many : Int32) : Prop := 0 ≤ i.toInt ∧ i.toInt < many.toInt
def homOK (hs : Nat → Option Nat) (many : Int32) (hk : Nat → Nat) (hb : Nat → Int32) (pl : va_W) : Prop := ∀ i : Int32, gm i many → ∃ q : Nat, hs i.toNatClampNeg = some q ∧ (q, .inr (hk i.toNatClampNeg, [.int i, .int (hb i.toNatClampNeg)])) ∈ pl ∧ hk i.toNatClampNeg < 7
