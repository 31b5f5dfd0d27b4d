set_option maxRecDepth 100000
/-- a row's array, by its sort: its elements as longs -/
def arE (aT : Nat → ClassId) (k n : Nat) (rc : Nat → Int64) : va_E := if k = 0 then .inl (aT 3, n, .inl (fun i => (rc i).toInt32)) else if k = 1 then .inl (aT 4, n, .inl (fun i => (rc i).toInt32)) else if k = 2 then .inl (aT 0, n, .inl (fun i => (rc i).toInt32)) else .inl (aT 1, n, .inr (.inl rc))
def rowIn (G : kG) (q k b n : Nat) (rc : Nat → Int64) (pl : va_W) : Prop := k < 4 ∧ n ≤ 160 ∧ (k < 3 → ∀ i, (rc i).toInt32.toInt64 = rc i) ∧ (q, .inr (7 + k, [.ref b])) ∈ pl ∧ (b, arE G.2 k n rc) ∈ pl
def kPc (G : kG) (pl : va_W) (As : List Value) : Array Value → State → Prop := fun v U => nPc G [] pl [] As v U ∧ kE U
theorem kPc_blind {G : kG} {pl : va_W} {As : List Value} : FrameBlind (kPc G pl As) := fun a U g mk q => ⟨nPc_blind a U g mk q.1, kE.moved (s := U) (U := U.calling g mk a) (State.WarmedH.refl U) q.2⟩
section RW
variable {p : Program} {l : Launch} {e : Env} {R : Room} {s : State} {m : MethodId} {args : Array Value} {below : List Frame} {meth : Method} {c : Code} {H : Heap} {locs : List Loc} {cells slots : Nat} {Q : State → Prop} {pc : Nat} {ls : Array Slot} {rest : List Value} {cc : ByteArray} {own : String} {G : kG} {av : List Nat} {pl : va_W} {A : Nat → Prop}
theorem p_get {Cn : String} {T : u_T} {N ci q idx j : Nat} {fs : List Value} {v : Value} (C : nC p s m args c cc own G av pl A) (hS : va_S A s.heap H locs) (hq : (q, .inr (ci, fs)) ∈ pl) (hc : vwCl[ci]? = some (Cn, T, N)) (hin : ∀ w ∈ u_ws Cn T N, w ∈ lw_all) (hj : j < N) (hl : Cond.fieldLink own idx (T j).1 (T j).2.1 (T j).2.2.1 ∈ lw_all) (hv : fs[j]? = some v) (hdg : decode cc pc = .ok (.getfield idx, 3)) (kk : W p l e R s m args below meth c H locs cells slots Q (F0 m (pc + 3) ls (v :: rest))) : W p l e R s m args below meth c H locs cells slots Q (F0 m pc ls (.ref q :: rest)) := by
  obtain ⟨i, hi⟩ := List.getElem?_of_mem hq
  exact va_get (D := G.1) (ci := ci) (C := Cn) (T := T) (N := N) C.1 C.2.1 C.2.2.2.1 hin C.2.2.1 C.2.2.2.2.1 (pl_at C.2.2.2.2.2.2.2.2 C.2.2.2.2.2.2.1 hS) i hi hc j hj (ref := (T j).1) (C.2.2.2.1 _ hl) (fun _ h => h) hv hdg kk
theorem k_ofW {y : MethodName} {maxL : Nat} {rm : Room} {As : List Value} {ret : Option FieldType} {o : Option Value} (hy : plainName y.cls = true) (hyc : y.cls = own) (hlen : (lg_sl As).length ≤ maxL)
    (body : ∀ (p : Program) (e : Env) (s : State) (m : MethodId) (args : Array Value) (below : List Frame) (meth : Method) (c : Code) (ls : Array Slot), nC p s m args c cc own G [] pl (nA []) → kE s → c.maxLocals = maxL → va_P G.1 vwCl [] s.heap → va_S (nA []) s.heap s.heap [] → lv_has ls maxL (lv_args 0 As) → meth.sig.returnType = ret → meth.locks = false →
      W p l e rm s m args below meth c s.heap [] 0 0 (MQ below (nQc G [] [] o) args s 0 0 (nA [])) (F0 m 0 ls [])) : Met l y (ws_ y cc maxL ret) rm (kPc G pl As) (nQc G [] [] o) 0 0 (nA []) := by
  refine Met.ofW (cc := cc) (maxL := maxL) (ret := ret) hy rfl ?_
  intro p e s m args below meth c s₁ B hml hv
  obtain ⟨⟨rfl, hP, hp, hK, hnd⟩, hE⟩ := hv
  have hts := atoms_spec (ws := ws_ y cc maxL ret) B.pre
  have hts : ∀ w ∈ lw_all, w.before _ s = true := fun w h => hts w (List.mem_cons_of_mem _ h)
  have hown : s.vm.findClass own = some m.cls := by rw [← hyc]; exact findClass_of_methodNamed B.named
  have hl := lv_entry As (n := maxL) hlen
  rw [lg_entry_eq]
  exact body p e s m _ below meth c _ ⟨B.exec, B.bytes, hown, hts, hK, hnd, hp, fun q h => h, fun q h h2 => by cases h2⟩ hE hml hP va_S.rf hl B.returns B.notSynchronized
theorem k_preV {b : Nat} {As : List Value} {Cn : String} (C : nC p s m args c cc own G av pl A) (hE : kE s) (hS : va_S A s.heap H locs) (hr : ∃ cell : Cell, H[b]? = some cell ∧ cell.vm.isStatics = false ∧ s.vm.findClass Cn = some cell.cls) : PreV s H Cn b (kPc G pl (.ref b :: As)) As :=
  ⟨kPc_blind, hr, fun U hU hW => ⟨⟨rfl, (fun k q h => by cases h), by rw [hU]; exact pl_at C.2.2.2.2.2.2.2.2 C.2.2.2.2.2.2.1 hS, va_K.moved hW.alike C.2.2.2.2.1, by simpa using (List.nodup_append.mp C.2.2.2.2.2.1).2.1⟩, kE.moved hW hE⟩⟩

end RW
theorem metR_sort_0 (l : Launch) (G : kG) (pl : va_W) (q b n : Nat) (rc : Nat → Int64) (h : rowIn G q 0 b n rc pl) : Met l yX8_sort (ws_ yX8_sort cX8_sort 1 (some .int)) ({ frames := 0, cells := 0, slots := 0, locals := 0 } : Room) (kPc G pl [.ref q]) (nQc G [] [] (some (.int 0))) 0 0 (nA []) := by
  refine k_ofW (own := RX8) (by decide) rfl (Nat.le_of_ble_eq_true rfl) ?_
  intro p e s m args below meth c ls C hk hml hP hS hl hr hlocks
  have hl : lv_has ls 1 [(0, .ref q)] := hl
  refine lv_iconst (v := 0) C.1 C.2.1 dX8_sort_0 (by decide) ?_
  exact n_iret C hr hlocks dX8_sort_1 hP hS
theorem metR_len_0 (l : Launch) (G : kG) (pl : va_W) (q b n : Nat) (rc : Nat → Int64) (h : rowIn G q 0 b n rc pl) : Met l yX8_length (ws_ yX8_length cX8_length 1 (some .int)) ({ frames := 0, cells := 0, slots := 0, locals := 0 } : Room) (kPc G pl [.ref q]) (nQc G [] [] (some (.int (Int32.ofNat n)))) 0 0 (nA []) := by
  refine k_ofW (own := RX8) (by decide) rfl (Nat.le_of_ble_eq_true rfl) ?_
  intro p e s m args below meth c ls C hk hml hP hS hl hr hlocks
  have hl : lv_has ls 1 [(0, .ref q)] := hl
  refine lv_aload_n C.1 C.2.1 dX8_length_0 rfl (lv_at hl 0 rfl) ?_
  refine p_get (j := 0) C hS h.2.2.2.1 (show vwCl[7]? = some (RX8, TX8, 1) from rfl) in_X8 (by decide) q430 rfl dX8_length_1 ?_
  obtain ⟨j, hj⟩ := List.getElem?_of_mem h.2.2.2.2
  refine va_alen (v := Int32.ofNat n) C.1 C.2.1 C.2.2.2.2.1 (pl_at C.2.2.2.2.2.2.2.2 C.2.2.2.2.2.2.1 hS) j 3 hj rfl rfl dX8_length_4 ?_
  exact n_iret C hr hlocks dX8_length_5 hP hS
theorem metR_held_0 (l : Launch) (G : kG) (pl : va_W) (q b n : Nat) (rc : Nat → Int64) (h : rowIn G q 0 b n rc pl) : Met l yX8_held (ws_ yX8_held cX8_held 1 (some (.object "java/lang/Object"))) ({ frames := 0, cells := 0, slots := 0, locals := 0 } : Room) (kPc G pl [.ref q]) (nQc G [] [] (some (.ref b))) 0 0 (nA []) := by
  refine k_ofW (own := RX8) (by decide) rfl (Nat.le_of_ble_eq_true rfl) ?_
  intro p e s m args below meth c ls C hk hml hP hS hl hr hlocks
  have hl : lv_has ls 1 [(0, .ref q)] := hl
  refine lv_aload_n C.1 C.2.1 dX8_held_0 rfl (lv_at hl 0 rfl) ?_
  refine p_get (j := 0) C hS h.2.2.2.1 (show vwCl[7]? = some (RX8, TX8, 1) from rfl) in_X8 (by decide) q430 rfl dX8_held_1 ?_
  exact n_aret C hr (Or.inl ⟨_, rfl⟩) (Or.inr ⟨_, rfl⟩) hlocks dX8_held_4 hP hS
theorem metR_get_0 (l : Launch) (G : kG) (pl : va_W) (q b n : Nat) (rc : Nat → Int64) (i : Int32) (h : rowIn G q 0 b n rc pl) (hi : gi i n) : Met l yX8_get (ws_ yX8_get cX8_get 2 (some .long)) ({ frames := 0, cells := 0, slots := 0, locals := 0 } : Room) (kPc G pl [.ref q, .int i]) (nQc G [] [] (some (.long (rc i.toNatClampNeg)))) 0 0 (nA []) := by
  refine k_ofW (own := RX8) (by decide) rfl (Nat.le_of_ble_eq_true rfl) ?_
  intro p e s m args below meth c ls C hk hml hP hS hl hr hlocks
  have hl : lv_has ls 2 [(0, .ref q), (1, .int i)] := hl
  refine lv_aload_n C.1 C.2.1 dX8_get_0 rfl (lv_at hl 0 rfl) ?_
  refine p_get (j := 0) C hS h.2.2.2.1 (show vwCl[7]? = some (RX8, TX8, 1) from rfl) in_X8 (by decide) q430 rfl dX8_get_1 ?_
  refine lv_iload_n C.1 C.2.1 dX8_get_4 rfl (lv_at hl 1 rfl) ?_
  obtain ⟨j, hj⟩ := List.getElem?_of_mem h.2.2.2.2
  refine va_bald C.1 C.2.1 C.2.2.2.2.1 (pl_at C.2.2.2.2.2.2.2.2 C.2.2.2.2.2.2.1 hS) j 3 hj rfl (gi_in hi) dX8_get_5 ?_
  refine lv_i2l C.1 C.2.1 dX8_get_6 (h.2.2.1 (by decide) _) ?_
  exact n_lret C hr hlocks dX8_get_7 hP hS
theorem metR_sort_1 (l : Launch) (G : kG) (pl : va_W) (q b n : Nat) (rc : Nat → Int64) (h : rowIn G q 1 b n rc pl) : Met l yX9_sort (ws_ yX9_sort cX9_sort 1 (some .int)) ({ frames := 0, cells := 0, slots := 0, locals := 0 } : Room) (kPc G pl [.ref q]) (nQc G [] [] (some (.int 1))) 0 0 (nA []) := by
  refine k_ofW (own := RX9) (by decide) rfl (Nat.le_of_ble_eq_true rfl) ?_
  intro p e s m args below meth c ls C hk hml hP hS hl hr hlocks
  have hl : lv_has ls 1 [(0, .ref q)] := hl
  refine lv_iconst (v := 1) C.1 C.2.1 dX9_sort_0 (by decide) ?_
  exact n_iret C hr hlocks dX9_sort_1 hP hS
theorem metR_len_1 (l : Launch) (G : kG) (pl : va_W) (q b n : Nat) (rc : Nat → Int64) (h : rowIn G q 1 b n rc pl) : Met l yX9_length (ws_ yX9_length cX9_length 1 (some .int)) ({ frames := 0, cells := 0, slots := 0, locals := 0 } : Room) (kPc G pl [.ref q]) (nQc G [] [] (some (.int (Int32.ofNat n)))) 0 0 (nA []) := by
  refine k_ofW (own := RX9) (by decide) rfl (Nat.le_of_ble_eq_true rfl) ?_
  intro p e s m args below meth c ls C hk hml hP hS hl hr hlocks
  have hl : lv_has ls 1 [(0, .ref q)] := hl
  refine lv_aload_n C.1 C.2.1 dX9_length_0 rfl (lv_at hl 0 rfl) ?_
  refine p_get (j := 0) C hS h.2.2.2.1 (show vwCl[8]? = some (RX9, TX9, 1) from rfl) in_X9 (by decide) q440 rfl dX9_length_1 ?_
  obtain ⟨j, hj⟩ := List.getElem?_of_mem h.2.2.2.2
  refine va_alen (v := Int32.ofNat n) C.1 C.2.1 C.2.2.2.2.1 (pl_at C.2.2.2.2.2.2.2.2 C.2.2.2.2.2.2.1 hS) j 4 hj rfl rfl dX9_length_4 ?_
  exact n_iret C hr hlocks dX9_length_5 hP hS
theorem metR_held_1 (l : Launch) (G : kG) (pl : va_W) (q b n : Nat) (rc : Nat → Int64) (h : rowIn G q 1 b n rc pl) : Met l yX9_held (ws_ yX9_held cX9_held 1 (some (.object "java/lang/Object"))) ({ frames := 0, cells := 0, slots := 0, locals := 0 } : Room) (kPc G pl [.ref q]) (nQc G [] [] (some (.ref b))) 0 0 (nA []) := by
  refine k_ofW (own := RX9) (by decide) rfl (Nat.le_of_ble_eq_true rfl) ?_
  intro p e s m args below meth c ls C hk hml hP hS hl hr hlocks
  have hl : lv_has ls 1 [(0, .ref q)] := hl
  refine lv_aload_n C.1 C.2.1 dX9_held_0 rfl (lv_at hl 0 rfl) ?_
  refine p_get (j := 0) C hS h.2.2.2.1 (show vwCl[8]? = some (RX9, TX9, 1) from rfl) in_X9 (by decide) q440 rfl dX9_held_1 ?_
  exact n_aret C hr (Or.inl ⟨_, rfl⟩) (Or.inr ⟨_, rfl⟩) hlocks dX9_held_4 hP hS
theorem metR_get_1 (l : Launch) (G : kG) (pl : va_W) (q b n : Nat) (rc : Nat → Int64) (i : Int32) (h : rowIn G q 1 b n rc pl) (hi : gi i n) : Met l yX9_get (ws_ yX9_get cX9_get 2 (some .long)) ({ frames := 0, cells := 0, slots := 0, locals := 0 } : Room) (kPc G pl [.ref q, .int i]) (nQc G [] [] (some (.long (rc i.toNatClampNeg)))) 0 0 (nA []) := by
  refine k_ofW (own := RX9) (by decide) rfl (Nat.le_of_ble_eq_true rfl) ?_
  intro p e s m args below meth c ls C hk hml hP hS hl hr hlocks
  have hl : lv_has ls 2 [(0, .ref q), (1, .int i)] := hl
  refine lv_aload_n C.1 C.2.1 dX9_get_0 rfl (lv_at hl 0 rfl) ?_
  refine p_get (j := 0) C hS h.2.2.2.1 (show vwCl[8]? = some (RX9, TX9, 1) from rfl) in_X9 (by decide) q440 rfl dX9_get_1 ?_
  refine lv_iload_n C.1 C.2.1 dX9_get_4 rfl (lv_at hl 1 rfl) ?_
  obtain ⟨j, hj⟩ := List.getElem?_of_mem h.2.2.2.2
  refine va_sald C.1 C.2.1 C.2.2.2.2.1 (pl_at C.2.2.2.2.2.2.2.2 C.2.2.2.2.2.2.1 hS) j 4 hj rfl (gi_in hi) dX9_get_5 ?_
  refine lv_i2l C.1 C.2.1 dX9_get_6 (h.2.2.1 (by decide) _) ?_
  exact n_lret C hr hlocks dX9_get_7 hP hS
theorem metR_sort_2 (l : Launch) (G : kG) (pl : va_W) (q b n : Nat) (rc : Nat → Int64) (h : rowIn G q 2 b n rc pl) : Met l yX10_sort (ws_ yX10_sort cX10_sort 1 (some .int)) ({ frames := 0, cells := 0, slots := 0, locals := 0 } : Room) (kPc G pl [.ref q]) (nQc G [] [] (some (.int 2))) 0 0 (nA []) := by
  refine k_ofW (own := RX10) (by decide) rfl (Nat.le_of_ble_eq_true rfl) ?_
  intro p e s m args below meth c ls C hk hml hP hS hl hr hlocks
  have hl : lv_has ls 1 [(0, .ref q)] := hl
  refine lv_iconst (v := 2) C.1 C.2.1 dX10_sort_0 (by decide) ?_
  exact n_iret C hr hlocks dX10_sort_1 hP hS
theorem metR_len_2 (l : Launch) (G : kG) (pl : va_W) (q b n : Nat) (rc : Nat → Int64) (h : rowIn G q 2 b n rc pl) : Met l yX10_length (ws_ yX10_length cX10_length 1 (some .int)) ({ frames := 0, cells := 0, slots := 0, locals := 0 } : Room) (kPc G pl [.ref q]) (nQc G [] [] (some (.int (Int32.ofNat n)))) 0 0 (nA []) := by
  refine k_ofW (own := RX10) (by decide) rfl (Nat.le_of_ble_eq_true rfl) ?_
  intro p e s m args below meth c ls C hk hml hP hS hl hr hlocks
  have hl : lv_has ls 1 [(0, .ref q)] := hl
  refine lv_aload_n C.1 C.2.1 dX10_length_0 rfl (lv_at hl 0 rfl) ?_
  refine p_get (j := 0) C hS h.2.2.2.1 (show vwCl[9]? = some (RX10, TX10, 1) from rfl) in_X10 (by decide) q451 rfl dX10_length_1 ?_
  obtain ⟨j, hj⟩ := List.getElem?_of_mem h.2.2.2.2
  refine va_alen (v := Int32.ofNat n) C.1 C.2.1 C.2.2.2.2.1 (pl_at C.2.2.2.2.2.2.2.2 C.2.2.2.2.2.2.1 hS) j 0 hj rfl rfl dX10_length_4 ?_
  exact n_iret C hr hlocks dX10_length_5 hP hS
theorem metR_held_2 (l : Launch) (G : kG) (pl : va_W) (q b n : Nat) (rc : Nat → Int64) (h : rowIn G q 2 b n rc pl) : Met l yX10_held (ws_ yX10_held cX10_held 1 (some (.object "java/lang/Object"))) ({ frames := 0, cells := 0, slots := 0, locals := 0 } : Room) (kPc G pl [.ref q]) (nQc G [] [] (some (.ref b))) 0 0 (nA []) := by
  refine k_ofW (own := RX10) (by decide) rfl (Nat.le_of_ble_eq_true rfl) ?_
  intro p e s m args below meth c ls C hk hml hP hS hl hr hlocks
  have hl : lv_has ls 1 [(0, .ref q)] := hl
  refine lv_aload_n C.1 C.2.1 dX10_held_0 rfl (lv_at hl 0 rfl) ?_
  refine p_get (j := 0) C hS h.2.2.2.1 (show vwCl[9]? = some (RX10, TX10, 1) from rfl) in_X10 (by decide) q451 rfl dX10_held_1 ?_
  exact n_aret C hr (Or.inl ⟨_, rfl⟩) (Or.inr ⟨_, rfl⟩) hlocks dX10_held_4 hP hS
theorem metR_get_2 (l : Launch) (G : kG) (pl : va_W) (q b n : Nat) (rc : Nat → Int64) (i : Int32) (h : rowIn G q 2 b n rc pl) (hi : gi i n) : Met l yX10_get (ws_ yX10_get cX10_get 2 (some .long)) ({ frames := 0, cells := 0, slots := 0, locals := 0 } : Room) (kPc G pl [.ref q, .int i]) (nQc G [] [] (some (.long (rc i.toNatClampNeg)))) 0 0 (nA []) := by
  refine k_ofW (own := RX10) (by decide) rfl (Nat.le_of_ble_eq_true rfl) ?_
  intro p e s m args below meth c ls C hk hml hP hS hl hr hlocks
  have hl : lv_has ls 2 [(0, .ref q), (1, .int i)] := hl
  refine lv_aload_n C.1 C.2.1 dX10_get_0 rfl (lv_at hl 0 rfl) ?_
  refine p_get (j := 0) C hS h.2.2.2.1 (show vwCl[9]? = some (RX10, TX10, 1) from rfl) in_X10 (by decide) q451 rfl dX10_get_1 ?_
  refine lv_iload_n C.1 C.2.1 dX10_get_4 rfl (lv_at hl 1 rfl) ?_
  obtain ⟨j, hj⟩ := List.getElem?_of_mem h.2.2.2.2
  refine va_iald C.1 C.2.1 C.2.2.2.2.1 (pl_at C.2.2.2.2.2.2.2.2 C.2.2.2.2.2.2.1 hS) j 0 hj rfl (gi_in hi) dX10_get_5 ?_
  refine lv_i2l C.1 C.2.1 dX10_get_6 (h.2.2.1 (by decide) _) ?_
  exact n_lret C hr hlocks dX10_get_7 hP hS
theorem metR_sort_3 (l : Launch) (G : kG) (pl : va_W) (q b n : Nat) (rc : Nat → Int64) (h : rowIn G q 3 b n rc pl) : Met l yX11_sort (ws_ yX11_sort cX11_sort 1 (some .int)) ({ frames := 0, cells := 0, slots := 0, locals := 0 } : Room) (kPc G pl [.ref q]) (nQc G [] [] (some (.int 3))) 0 0 (nA []) := by
  refine k_ofW (own := RX11) (by decide) rfl (Nat.le_of_ble_eq_true rfl) ?_
  intro p e s m args below meth c ls C hk hml hP hS hl hr hlocks
  have hl : lv_has ls 1 [(0, .ref q)] := hl
  refine lv_iconst (v := 3) C.1 C.2.1 dX11_sort_0 (by decide) ?_
  exact n_iret C hr hlocks dX11_sort_1 hP hS
theorem metR_len_3 (l : Launch) (G : kG) (pl : va_W) (q b n : Nat) (rc : Nat → Int64) (h : rowIn G q 3 b n rc pl) : Met l yX11_length (ws_ yX11_length cX11_length 1 (some .int)) ({ frames := 0, cells := 0, slots := 0, locals := 0 } : Room) (kPc G pl [.ref q]) (nQc G [] [] (some (.int (Int32.ofNat n)))) 0 0 (nA []) := by
  refine k_ofW (own := RX11) (by decide) rfl (Nat.le_of_ble_eq_true rfl) ?_
  intro p e s m args below meth c ls C hk hml hP hS hl hr hlocks
  have hl : lv_has ls 1 [(0, .ref q)] := hl
  refine lv_aload_n C.1 C.2.1 dX11_length_0 rfl (lv_at hl 0 rfl) ?_
  refine p_get (j := 0) C hS h.2.2.2.1 (show vwCl[10]? = some (RX11, TX11, 1) from rfl) in_X11 (by decide) q461 rfl dX11_length_1 ?_
  obtain ⟨j, hj⟩ := List.getElem?_of_mem h.2.2.2.2
  refine va_alen (v := Int32.ofNat n) C.1 C.2.1 C.2.2.2.2.1 (pl_at C.2.2.2.2.2.2.2.2 C.2.2.2.2.2.2.1 hS) j 1 hj rfl rfl dX11_length_4 ?_
  exact n_iret C hr hlocks dX11_length_5 hP hS
theorem metR_held_3 (l : Launch) (G : kG) (pl : va_W) (q b n : Nat) (rc : Nat → Int64) (h : rowIn G q 3 b n rc pl) : Met l yX11_held (ws_ yX11_held cX11_held 1 (some (.object "java/lang/Object"))) ({ frames := 0, cells := 0, slots := 0, locals := 0 } : Room) (kPc G pl [.ref q]) (nQc G [] [] (some (.ref b))) 0 0 (nA []) := by
  refine k_ofW (own := RX11) (by decide) rfl (Nat.le_of_ble_eq_true rfl) ?_
  intro p e s m args below meth c ls C hk hml hP hS hl hr hlocks
  have hl : lv_has ls 1 [(0, .ref q)] := hl
  refine lv_aload_n C.1 C.2.1 dX11_held_0 rfl (lv_at hl 0 rfl) ?_
  refine p_get (j := 0) C hS h.2.2.2.1 (show vwCl[10]? = some (RX11, TX11, 1) from rfl) in_X11 (by decide) q461 rfl dX11_held_1 ?_
  exact n_aret C hr (Or.inl ⟨_, rfl⟩) (Or.inr ⟨_, rfl⟩) hlocks dX11_held_4 hP hS
theorem metR_get_3 (l : Launch) (G : kG) (pl : va_W) (q b n : Nat) (rc : Nat → Int64) (i : Int32) (h : rowIn G q 3 b n rc pl) (hi : gi i n) : Met l yX11_get (ws_ yX11_get cX11_get 2 (some .long)) ({ frames := 0, cells := 0, slots := 0, locals := 0 } : Room) (kPc G pl [.ref q, .int i]) (nQc G [] [] (some (.long (rc i.toNatClampNeg)))) 0 0 (nA []) := by
  refine k_ofW (own := RX11) (by decide) rfl (Nat.le_of_ble_eq_true rfl) ?_
  intro p e s m args below meth c ls C hk hml hP hS hl hr hlocks
  have hl : lv_has ls 2 [(0, .ref q), (1, .int i)] := hl
  refine lv_aload_n C.1 C.2.1 dX11_get_0 rfl (lv_at hl 0 rfl) ?_
  refine p_get (j := 0) C hS h.2.2.2.1 (show vwCl[10]? = some (RX11, TX11, 1) from rfl) in_X11 (by decide) q461 rfl dX11_get_1 ?_
  refine lv_iload_n C.1 C.2.1 dX11_get_4 rfl (lv_at hl 1 rfl) ?_
  obtain ⟨j, hj⟩ := List.getElem?_of_mem h.2.2.2.2
  refine va_lald C.1 C.2.1 C.2.2.2.2.1 (pl_at C.2.2.2.2.2.2.2.2 C.2.2.2.2.2.2.1 hS) j 1 hj rfl (gi_in hi) dX11_get_5 ?_
  exact n_lret C hr hlocks dX11_get_6 hP hS
section RW
variable {p : Program} {l : Launch} {e : Env} {R : Room} {s : State} {m : MethodId} {args : Array Value} {below : List Frame} {meth : Method} {c : Code} {H : Heap} {locs : List Loc} {cells slots : Nat} {Q : State → Prop} {pc : Nat} {ls : Array Slot} {rest : List Value} {cc : ByteArray} {own : String} {G : kG} {av : List Nat} {pl : va_W} {A : Nat → Prop}
theorem rw_len {nL q k b n idx : Nat} {rc : Nat → Int64} {Y : va_W} (C : nC p s m args c cc own G av pl A) (hE : kE s) (hml : c.maxLocals = nL) (hls : ls.size = nL) (hP : va_P G.1 vwCl Y H) (hY : Y.map (·.1) = av) (hS : va_S A s.heap H locs) (h : rowIn G q k b n rc pl) (hl : Cond.methodLink own idx ⟨"HamsterWeekends$Row", "length", "()I"⟩ ∈ lw_all) (hR : 1 ≤ R.frames ∧ 20 ≤ R.locals ∧ cells ≤ R.cells ∧ slots ≤ R.slots) (hst : (rest.map fun v => v.category).sum ≤ 8) (hdg : decode cc pc = .ok (.invokevirtual idx, 3))
    (kk : ∀ (H1 : Heap) (locs1 : List Loc), va_P G.1 vwCl Y H1 → va_S A s.heap H1 locs1 → W p l e R s m args below meth c H1 locs1 cells slots Q (F0 m (pc + 3) ls (.int (Int32.ofNat n) :: rest))) : W p l e R s m args below meth c H locs cells slots Q (F0 m pc ls (.ref q :: rest)) := by
  match k, h with
  | 0, h => exact n_after [] C.2.2.2.2.2.1 C.2.2.2.2.2.2.2.1 hP hS (va_runU (As := []) (rest := rest) ⟨C.1, C.2.1, hml, C.2.2.1, C.2.2.2.1⟩ (metR_len_0 l G pl q b n rc h) (va_cwA (C := RX8) (owner := "HamsterWeekends$Row") 0 C.2.2.2.1 (lw_U hl q838 q839 q840 q95 q841) rfl rfl rfl (hE.2.1 _ (List.mem_of_getElem? (i := 12) rfl)) (by decide +kernel) ⟨hR.1, hR.2.1⟩) (k_preV C hE hS (n_recvH C hS h.2.2.2.1 (show vwCl[7]? = some (RX8, TX8, 1) from rfl))) rfl rfl hls rfl (lv_room hst) hdg ⟨hR.2.2.1, hR.2.2.2⟩) hY rfl rfl rfl kk
  | 1, h => exact n_after [] C.2.2.2.2.2.1 C.2.2.2.2.2.2.2.1 hP hS (va_runU (As := []) (rest := rest) ⟨C.1, C.2.1, hml, C.2.2.1, C.2.2.2.1⟩ (metR_len_1 l G pl q b n rc h) (va_cwA (C := RX9) (owner := "HamsterWeekends$Row") 0 C.2.2.2.1 (lw_U hl q838 q848 q849 q96 q850) rfl rfl rfl (hE.2.1 _ (List.mem_of_getElem? (i := 12) rfl)) (by decide +kernel) ⟨hR.1, hR.2.1⟩) (k_preV C hE hS (n_recvH C hS h.2.2.2.1 (show vwCl[8]? = some (RX9, TX9, 1) from rfl))) rfl rfl hls rfl (lv_room hst) hdg ⟨hR.2.2.1, hR.2.2.2⟩) hY rfl rfl rfl kk
  | 2, h => exact n_after [] C.2.2.2.2.2.1 C.2.2.2.2.2.2.2.1 hP hS (va_runU (As := []) (rest := rest) ⟨C.1, C.2.1, hml, C.2.2.1, C.2.2.2.1⟩ (metR_len_2 l G pl q b n rc h) (va_cwA (C := RX10) (owner := "HamsterWeekends$Row") 0 C.2.2.2.1 (lw_U hl q838 q842 q843 q97 q844) rfl rfl rfl (hE.2.1 _ (List.mem_of_getElem? (i := 12) rfl)) (by decide +kernel) ⟨hR.1, hR.2.1⟩) (k_preV C hE hS (n_recvH C hS h.2.2.2.1 (show vwCl[9]? = some (RX10, TX10, 1) from rfl))) rfl rfl hls rfl (lv_room hst) hdg ⟨hR.2.2.1, hR.2.2.2⟩) hY rfl rfl rfl kk
  | 3, h => exact n_after [] C.2.2.2.2.2.1 C.2.2.2.2.2.2.2.1 hP hS (va_runU (As := []) (rest := rest) ⟨C.1, C.2.1, hml, C.2.2.1, C.2.2.2.1⟩ (metR_len_3 l G pl q b n rc h) (va_cwA (C := RX11) (owner := "HamsterWeekends$Row") 0 C.2.2.2.1 (lw_U hl q838 q845 q846 q98 q847) rfl rfl rfl (hE.2.1 _ (List.mem_of_getElem? (i := 12) rfl)) (by decide +kernel) ⟨hR.1, hR.2.1⟩) (k_preV C hE hS (n_recvH C hS h.2.2.2.1 (show vwCl[10]? = some (RX11, TX11, 1) from rfl))) rfl rfl hls rfl (lv_room hst) hdg ⟨hR.2.2.1, hR.2.2.2⟩) hY rfl rfl rfl kk
  | k + 4, h => exact absurd h.1 (by omega)
end RW
section RW
variable {p : Program} {l : Launch} {e : Env} {R : Room} {s : State} {m : MethodId} {args : Array Value} {below : List Frame} {meth : Method} {c : Code} {H : Heap} {locs : List Loc} {cells slots : Nat} {Q : State → Prop} {pc : Nat} {ls : Array Slot} {rest : List Value} {cc : ByteArray} {own : String} {G : kG} {av : List Nat} {pl : va_W} {A : Nat → Prop}
theorem rw_sort {nL q k b n idx : Nat} {rc : Nat → Int64} {Y : va_W} (C : nC p s m args c cc own G av pl A) (hE : kE s) (hml : c.maxLocals = nL) (hls : ls.size = nL) (hP : va_P G.1 vwCl Y H) (hY : Y.map (·.1) = av) (hS : va_S A s.heap H locs) (h : rowIn G q k b n rc pl) (hl : Cond.methodLink own idx ⟨"HamsterWeekends$Row", "sort", "()I"⟩ ∈ lw_all) (hR : 1 ≤ R.frames ∧ 20 ≤ R.locals ∧ cells ≤ R.cells ∧ slots ≤ R.slots) (hst : (rest.map fun v => v.category).sum ≤ 8) (hdg : decode cc pc = .ok (.invokevirtual idx, 3))
    (kk : ∀ (H1 : Heap) (locs1 : List Loc), va_P G.1 vwCl Y H1 → va_S A s.heap H1 locs1 → W p l e R s m args below meth c H1 locs1 cells slots Q (F0 m (pc + 3) ls (.int (Int32.ofNat k) :: rest))) : W p l e R s m args below meth c H locs cells slots Q (F0 m pc ls (.ref q :: rest)) := by
  match k, h with
  | 0, h => exact n_after [] C.2.2.2.2.2.1 C.2.2.2.2.2.2.2.1 hP hS (va_runU (As := []) (rest := rest) ⟨C.1, C.2.1, hml, C.2.2.1, C.2.2.2.1⟩ (metR_sort_0 l G pl q b n rc h) (va_cwA (C := RX8) (owner := "HamsterWeekends$Row") 0 C.2.2.2.1 (lw_U hl q523 q524 q525 q95 q526) rfl rfl rfl (hE.2.1 _ (List.mem_of_getElem? (i := 9) rfl)) (by decide +kernel) ⟨hR.1, hR.2.1⟩) (k_preV C hE hS (n_recvH C hS h.2.2.2.1 (show vwCl[7]? = some (RX8, TX8, 1) from rfl))) rfl rfl hls rfl (lv_room hst) hdg ⟨hR.2.2.1, hR.2.2.2⟩) hY rfl rfl rfl kk
  | 1, h => exact n_after [] C.2.2.2.2.2.1 C.2.2.2.2.2.2.2.1 hP hS (va_runU (As := []) (rest := rest) ⟨C.1, C.2.1, hml, C.2.2.1, C.2.2.2.1⟩ (metR_sort_1 l G pl q b n rc h) (va_cwA (C := RX9) (owner := "HamsterWeekends$Row") 0 C.2.2.2.1 (lw_U hl q523 q533 q534 q96 q535) rfl rfl rfl (hE.2.1 _ (List.mem_of_getElem? (i := 9) rfl)) (by decide +kernel) ⟨hR.1, hR.2.1⟩) (k_preV C hE hS (n_recvH C hS h.2.2.2.1 (show vwCl[8]? = some (RX9, TX9, 1) from rfl))) rfl rfl hls rfl (lv_room hst) hdg ⟨hR.2.2.1, hR.2.2.2⟩) hY rfl rfl rfl kk
  | 2, h => exact n_after [] C.2.2.2.2.2.1 C.2.2.2.2.2.2.2.1 hP hS (va_runU (As := []) (rest := rest) ⟨C.1, C.2.1, hml, C.2.2.1, C.2.2.2.1⟩ (metR_sort_2 l G pl q b n rc h) (va_cwA (C := RX10) (owner := "HamsterWeekends$Row") 0 C.2.2.2.1 (lw_U hl q523 q527 q528 q97 q529) rfl rfl rfl (hE.2.1 _ (List.mem_of_getElem? (i := 9) rfl)) (by decide +kernel) ⟨hR.1, hR.2.1⟩) (k_preV C hE hS (n_recvH C hS h.2.2.2.1 (show vwCl[9]? = some (RX10, TX10, 1) from rfl))) rfl rfl hls rfl (lv_room hst) hdg ⟨hR.2.2.1, hR.2.2.2⟩) hY rfl rfl rfl kk
  | 3, h => exact n_after [] C.2.2.2.2.2.1 C.2.2.2.2.2.2.2.1 hP hS (va_runU (As := []) (rest := rest) ⟨C.1, C.2.1, hml, C.2.2.1, C.2.2.2.1⟩ (metR_sort_3 l G pl q b n rc h) (va_cwA (C := RX11) (owner := "HamsterWeekends$Row") 0 C.2.2.2.1 (lw_U hl q523 q530 q531 q98 q532) rfl rfl rfl (hE.2.1 _ (List.mem_of_getElem? (i := 9) rfl)) (by decide +kernel) ⟨hR.1, hR.2.1⟩) (k_preV C hE hS (n_recvH C hS h.2.2.2.1 (show vwCl[10]? = some (RX11, TX11, 1) from rfl))) rfl rfl hls rfl (lv_room hst) hdg ⟨hR.2.2.1, hR.2.2.2⟩) hY rfl rfl rfl kk
  | k + 4, h => exact absurd h.1 (by omega)
end RW
section RW
variable {p : Program} {l : Launch} {e : Env} {R : Room} {s : State} {m : MethodId} {args : Array Value} {below : List Frame} {meth : Method} {c : Code} {H : Heap} {locs : List Loc} {cells slots : Nat} {Q : State → Prop} {pc : Nat} {ls : Array Slot} {rest : List Value} {cc : ByteArray} {own : String} {G : kG} {av : List Nat} {pl : va_W} {A : Nat → Prop}
theorem rw_held {nL q k b n idx : Nat} {rc : Nat → Int64} {Y : va_W} (C : nC p s m args c cc own G av pl A) (hE : kE s) (hml : c.maxLocals = nL) (hls : ls.size = nL) (hP : va_P G.1 vwCl Y H) (hY : Y.map (·.1) = av) (hS : va_S A s.heap H locs) (h : rowIn G q k b n rc pl) (hl : Cond.methodLink own idx ⟨"HamsterWeekends$Row", "held", "()Ljava/lang/Object;"⟩ ∈ lw_all) (hR : 1 ≤ R.frames ∧ 20 ≤ R.locals ∧ cells ≤ R.cells ∧ slots ≤ R.slots) (hst : (rest.map fun v => v.category).sum ≤ 8) (hdg : decode cc pc = .ok (.invokevirtual idx, 3))
    (kk : ∀ (H1 : Heap) (locs1 : List Loc), va_P G.1 vwCl Y H1 → va_S A s.heap H1 locs1 → W p l e R s m args below meth c H1 locs1 cells slots Q (F0 m (pc + 3) ls (.ref b :: rest))) : W p l e R s m args below meth c H locs cells slots Q (F0 m pc ls (.ref q :: rest)) := by
  match k, h with
  | 0, h => exact n_after [] C.2.2.2.2.2.1 C.2.2.2.2.2.2.2.1 hP hS (va_runU (As := []) (rest := rest) ⟨C.1, C.2.1, hml, C.2.2.1, C.2.2.2.1⟩ (metR_held_0 l G pl q b n rc h) (va_cwA (C := RX8) (owner := "HamsterWeekends$Row") 0 C.2.2.2.1 (lw_U hl q538 q539 q540 q95 q541) rfl rfl rfl (hE.2.1 _ (List.mem_of_getElem? (i := 10) rfl)) (by decide +kernel) ⟨hR.1, hR.2.1⟩) (k_preV C hE hS (n_recvH C hS h.2.2.2.1 (show vwCl[7]? = some (RX8, TX8, 1) from rfl))) rfl rfl hls rfl (lv_room hst) hdg ⟨hR.2.2.1, hR.2.2.2⟩) hY rfl rfl rfl kk
  | 1, h => exact n_after [] C.2.2.2.2.2.1 C.2.2.2.2.2.2.2.1 hP hS (va_runU (As := []) (rest := rest) ⟨C.1, C.2.1, hml, C.2.2.1, C.2.2.2.1⟩ (metR_held_1 l G pl q b n rc h) (va_cwA (C := RX9) (owner := "HamsterWeekends$Row") 0 C.2.2.2.1 (lw_U hl q538 q548 q549 q96 q550) rfl rfl rfl (hE.2.1 _ (List.mem_of_getElem? (i := 10) rfl)) (by decide +kernel) ⟨hR.1, hR.2.1⟩) (k_preV C hE hS (n_recvH C hS h.2.2.2.1 (show vwCl[8]? = some (RX9, TX9, 1) from rfl))) rfl rfl hls rfl (lv_room hst) hdg ⟨hR.2.2.1, hR.2.2.2⟩) hY rfl rfl rfl kk
  | 2, h => exact n_after [] C.2.2.2.2.2.1 C.2.2.2.2.2.2.2.1 hP hS (va_runU (As := []) (rest := rest) ⟨C.1, C.2.1, hml, C.2.2.1, C.2.2.2.1⟩ (metR_held_2 l G pl q b n rc h) (va_cwA (C := RX10) (owner := "HamsterWeekends$Row") 0 C.2.2.2.1 (lw_U hl q538 q542 q543 q97 q544) rfl rfl rfl (hE.2.1 _ (List.mem_of_getElem? (i := 10) rfl)) (by decide +kernel) ⟨hR.1, hR.2.1⟩) (k_preV C hE hS (n_recvH C hS h.2.2.2.1 (show vwCl[9]? = some (RX10, TX10, 1) from rfl))) rfl rfl hls rfl (lv_room hst) hdg ⟨hR.2.2.1, hR.2.2.2⟩) hY rfl rfl rfl kk
  | 3, h => exact n_after [] C.2.2.2.2.2.1 C.2.2.2.2.2.2.2.1 hP hS (va_runU (As := []) (rest := rest) ⟨C.1, C.2.1, hml, C.2.2.1, C.2.2.2.1⟩ (metR_held_3 l G pl q b n rc h) (va_cwA (C := RX11) (owner := "HamsterWeekends$Row") 0 C.2.2.2.1 (lw_U hl q538 q545 q546 q98 q547) rfl rfl rfl (hE.2.1 _ (List.mem_of_getElem? (i := 10) rfl)) (by decide +kernel) ⟨hR.1, hR.2.1⟩) (k_preV C hE hS (n_recvH C hS h.2.2.2.1 (show vwCl[10]? = some (RX11, TX11, 1) from rfl))) rfl rfl hls rfl (lv_room hst) hdg ⟨hR.2.2.1, hR.2.2.2⟩) hY rfl rfl rfl kk
  | k + 4, h => exact absurd h.1 (by omega)
end RW
section RW
variable {p : Program} {l : Launch} {e : Env} {R : Room} {s : State} {m : MethodId} {args : Array Value} {below : List Frame} {meth : Method} {c : Code} {H : Heap} {locs : List Loc} {cells slots : Nat} {Q : State → Prop} {pc : Nat} {ls : Array Slot} {rest : List Value} {cc : ByteArray} {own : String} {G : kG} {av : List Nat} {pl : va_W} {A : Nat → Prop}
theorem rw_get {nL q k b n idx : Nat} {rc : Nat → Int64} {Y : va_W} {i : Int32} (C : nC p s m args c cc own G av pl A) (hE : kE s) (hml : c.maxLocals = nL) (hls : ls.size = nL) (hP : va_P G.1 vwCl Y H) (hY : Y.map (·.1) = av) (hS : va_S A s.heap H locs) (h : rowIn G q k b n rc pl) (hi : gi i n) (hl : Cond.methodLink own idx ⟨"HamsterWeekends$Row", "get", "(I)J"⟩ ∈ lw_all) (hR : 1 ≤ R.frames ∧ 21 ≤ R.locals ∧ cells ≤ R.cells ∧ slots ≤ R.slots) (hst : (rest.map fun v => v.category).sum ≤ 8) (hdg : decode cc pc = .ok (.invokevirtual idx, 3))
    (kk : ∀ (H1 : Heap) (locs1 : List Loc), va_P G.1 vwCl Y H1 → va_S A s.heap H1 locs1 → W p l e R s m args below meth c H1 locs1 cells slots Q (F0 m (pc + 3) ls (.long (rc i.toNatClampNeg) :: rest))) : W p l e R s m args below meth c H locs cells slots Q (F0 m pc ls (.int i :: .ref q :: rest)) := by
  match k, h with
  | 0, h => exact n_after [] C.2.2.2.2.2.1 C.2.2.2.2.2.2.2.1 hP hS (va_runU (As := [.int i]) (rest := rest) ⟨C.1, C.2.1, hml, C.2.2.1, C.2.2.2.1⟩ (metR_get_0 l G pl q b n rc i h hi) (va_cwA (C := RX8) (owner := "HamsterWeekends$Row") 1 C.2.2.2.1 (lw_U hl q560 q561 q562 q95 q563) rfl rfl rfl (hE.2.1 _ (List.mem_of_getElem? (i := 11) rfl)) (by decide +kernel) ⟨hR.1, hR.2.1⟩) (k_preV C hE hS (n_recvH C hS h.2.2.2.1 (show vwCl[7]? = some (RX8, TX8, 1) from rfl))) rfl rfl hls rfl (lv_room hst) hdg ⟨hR.2.2.1, hR.2.2.2⟩) hY rfl rfl rfl kk
  | 1, h => exact n_after [] C.2.2.2.2.2.1 C.2.2.2.2.2.2.2.1 hP hS (va_runU (As := [.int i]) (rest := rest) ⟨C.1, C.2.1, hml, C.2.2.1, C.2.2.2.1⟩ (metR_get_1 l G pl q b n rc i h hi) (va_cwA (C := RX9) (owner := "HamsterWeekends$Row") 1 C.2.2.2.1 (lw_U hl q560 q570 q571 q96 q572) rfl rfl rfl (hE.2.1 _ (List.mem_of_getElem? (i := 11) rfl)) (by decide +kernel) ⟨hR.1, hR.2.1⟩) (k_preV C hE hS (n_recvH C hS h.2.2.2.1 (show vwCl[8]? = some (RX9, TX9, 1) from rfl))) rfl rfl hls rfl (lv_room hst) hdg ⟨hR.2.2.1, hR.2.2.2⟩) hY rfl rfl rfl kk
  | 2, h => exact n_after [] C.2.2.2.2.2.1 C.2.2.2.2.2.2.2.1 hP hS (va_runU (As := [.int i]) (rest := rest) ⟨C.1, C.2.1, hml, C.2.2.1, C.2.2.2.1⟩ (metR_get_2 l G pl q b n rc i h hi) (va_cwA (C := RX10) (owner := "HamsterWeekends$Row") 1 C.2.2.2.1 (lw_U hl q560 q564 q565 q97 q566) rfl rfl rfl (hE.2.1 _ (List.mem_of_getElem? (i := 11) rfl)) (by decide +kernel) ⟨hR.1, hR.2.1⟩) (k_preV C hE hS (n_recvH C hS h.2.2.2.1 (show vwCl[9]? = some (RX10, TX10, 1) from rfl))) rfl rfl hls rfl (lv_room hst) hdg ⟨hR.2.2.1, hR.2.2.2⟩) hY rfl rfl rfl kk
  | 3, h => exact n_after [] C.2.2.2.2.2.1 C.2.2.2.2.2.2.2.1 hP hS (va_runU (As := [.int i]) (rest := rest) ⟨C.1, C.2.1, hml, C.2.2.1, C.2.2.2.1⟩ (metR_get_3 l G pl q b n rc i h hi) (va_cwA (C := RX11) (owner := "HamsterWeekends$Row") 1 C.2.2.2.1 (lw_U hl q560 q567 q568 q98 q569) rfl rfl rfl (hE.2.1 _ (List.mem_of_getElem? (i := 11) rfl)) (by decide +kernel) ⟨hR.1, hR.2.1⟩) (k_preV C hE hS (n_recvH C hS h.2.2.2.1 (show vwCl[10]? = some (RX11, TX11, 1) from rfl))) rfl rfl hls rfl (lv_room hst) hdg ⟨hR.2.2.1, hR.2.2.2⟩) hY rfl rfl rfl kk
  | k + 4, h => exact absurd h.1 (by omega)
end RW
theorem metR_asInt (l : Launch) (G : kG) (pl : va_W) (q k b n : Nat) (rc : Nat → Int64) (i : Int32) (h : rowIn G q k b n rc pl) (hi : gi i n) : Met l yX7_asInt (ws_ yX7_asInt cX7_asInt 2 (some .int)) ({ frames := 1, cells := 0, slots := 0, locals := 21 } : Room) (kPc G pl [.ref q, .int i]) (nQc G [] [] (some (.int (rc i.toNatClampNeg).toInt32))) 0 0 (nA []) := by
  refine k_ofW (own := RX7) (by decide) rfl (Nat.le_of_ble_eq_true rfl) ?_
  intro p e s m args below meth c ls C hk hml hP hS hl hr hlocks
  have hl : lv_has ls 2 [(0, .ref q), (1, .int i)] := hl
  refine lv_aload_n C.1 C.2.1 dX7_asInt_0 rfl (lv_at hl 0 rfl) ?_
  refine lv_iload_n C.1 C.2.1 dX7_asInt_1 rfl (lv_at hl 1 rfl) ?_
  refine rw_get (rest := []) C hk hml hl.1 hP rfl hS h hi q859 ⟨Nat.le_refl _, Nat.le_refl _, Nat.le_refl _, Nat.le_refl _⟩ (by decide) dX7_asInt_2 (fun H locs hP hS => ?_)
  refine lv_l2i C.1 C.2.1 dX7_asInt_5 rfl ?_
  exact n_iret C hr hlocks dX7_asInt_6 hP hS
section RW
variable {p : Program} {l : Launch} {e : Env} {R : Room} {s : State} {m : MethodId} {args : Array Value} {below : List Frame} {meth : Method} {c : Code} {H : Heap} {locs : List Loc} {cells slots : Nat} {Q : State → Prop} {pc : Nat} {ls : Array Slot} {rest : List Value} {cc : ByteArray} {own : String} {G : kG} {av : List Nat} {pl : va_W} {A : Nat → Prop}
theorem rw_asInt {nL q k b n idx : Nat} {rc : Nat → Int64} {Y : va_W} {i : Int32} (C : nC p s m args c cc own G av pl A) (hE : kE s) (hml : c.maxLocals = nL) (hls : ls.size = nL) (hP : va_P G.1 vwCl Y H) (hY : Y.map (·.1) = av) (hS : va_S A s.heap H locs) (h : rowIn G q k b n rc pl) (hi : gi i n) (hl : Cond.methodLink own idx ⟨"HamsterWeekends$Row", "asInt", "(I)I"⟩ ∈ lw_all) (hR : 2 ≤ R.frames ∧ 42 ≤ R.locals ∧ cells ≤ R.cells ∧ slots ≤ R.slots) (hst : (rest.map fun v => v.category).sum ≤ 8) (hdg : decode cc pc = .ok (.invokevirtual idx, 3))
    (kk : ∀ (H1 : Heap) (locs1 : List Loc), va_P G.1 vwCl Y H1 → va_S A s.heap H1 locs1 → W p l e R s m args below meth c H1 locs1 cells slots Q (F0 m (pc + 3) ls (.int (rc i.toNatClampNeg).toInt32 :: rest))) : W p l e R s m args below meth c H locs cells slots Q (F0 m pc ls (.int i :: .ref q :: rest)) := by
  match k, h with
  | 0, h => exact n_after [] C.2.2.2.2.2.1 C.2.2.2.2.2.2.2.1 hP hS (va_runU (As := [.int i]) (rest := rest) ⟨C.1, C.2.1, hml, C.2.2.1, C.2.2.2.1⟩ (metR_asInt l G pl q 0 b n rc i h hi) (va_cwU (C := RX8) (owner := "HamsterWeekends$Row") 1 C.2.2.2.1 (lw_U hl q853 q854 q852 q94 q858) rfl rfl rfl rfl (by decide +kernel) ⟨hR.1, hR.2.1⟩) (k_preV C hE hS (n_recvH C hS h.2.2.2.1 (show vwCl[7]? = some (RX8, TX8, 1) from rfl))) rfl rfl hls rfl (lv_room hst) hdg ⟨hR.2.2.1, hR.2.2.2⟩) hY rfl rfl rfl kk
  | 1, h => exact n_after [] C.2.2.2.2.2.1 C.2.2.2.2.2.2.2.1 hP hS (va_runU (As := [.int i]) (rest := rest) ⟨C.1, C.2.1, hml, C.2.2.1, C.2.2.2.1⟩ (metR_asInt l G pl q 1 b n rc i h hi) (va_cwU (C := RX9) (owner := "HamsterWeekends$Row") 1 C.2.2.2.1 (lw_U hl q853 q857 q852 q94 q858) rfl rfl rfl rfl (by decide +kernel) ⟨hR.1, hR.2.1⟩) (k_preV C hE hS (n_recvH C hS h.2.2.2.1 (show vwCl[8]? = some (RX9, TX9, 1) from rfl))) rfl rfl hls rfl (lv_room hst) hdg ⟨hR.2.2.1, hR.2.2.2⟩) hY rfl rfl rfl kk
  | 2, h => exact n_after [] C.2.2.2.2.2.1 C.2.2.2.2.2.2.2.1 hP hS (va_runU (As := [.int i]) (rest := rest) ⟨C.1, C.2.1, hml, C.2.2.1, C.2.2.2.1⟩ (metR_asInt l G pl q 2 b n rc i h hi) (va_cwU (C := RX10) (owner := "HamsterWeekends$Row") 1 C.2.2.2.1 (lw_U hl q853 q855 q852 q94 q858) rfl rfl rfl rfl (by decide +kernel) ⟨hR.1, hR.2.1⟩) (k_preV C hE hS (n_recvH C hS h.2.2.2.1 (show vwCl[9]? = some (RX10, TX10, 1) from rfl))) rfl rfl hls rfl (lv_room hst) hdg ⟨hR.2.2.1, hR.2.2.2⟩) hY rfl rfl rfl kk
  | 3, h => exact n_after [] C.2.2.2.2.2.1 C.2.2.2.2.2.2.2.1 hP hS (va_runU (As := [.int i]) (rest := rest) ⟨C.1, C.2.1, hml, C.2.2.1, C.2.2.2.1⟩ (metR_asInt l G pl q 3 b n rc i h hi) (va_cwU (C := RX11) (owner := "HamsterWeekends$Row") 1 C.2.2.2.1 (lw_U hl q853 q856 q852 q94 q858) rfl rfl rfl rfl (by decide +kernel) ⟨hR.1, hR.2.1⟩) (k_preV C hE hS (n_recvH C hS h.2.2.2.1 (show vwCl[10]? = some (RX11, TX11, 1) from rfl))) rfl rfl hls rfl (lv_room hst) hdg ⟨hR.2.2.1, hR.2.2.2⟩) hY rfl rfl rfl kk
  | k + 4, h => exact absurd h.1 (by omega)
end RW
