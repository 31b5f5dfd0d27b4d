set_option maxRecDepth 100000
/-- a machine's own exception leaves the method, nothing changed -/
def yXC (A : Nat → Prop) (E0 : String) : String → Addr → State → State → Prop := fun E q st t => E = E0 ∧ va_F A st t
section YX
variable {p : Program} {l : Launch} {e : Env} {R : Room} {s : State} {m : MethodId} {args : Array Value} {below : List Frame} {meth : Method} {c : Code} {H : Heap} {locs : List Loc} {cells slots : Nat} {Q : State → Prop} {pc : Nat} {ls : Array Slot} {rest : List Value} {cc : ByteArray} {own : String} {G : kG} {av : List Nat} {pl : va_W} {A : Nat → Prop}
theorem y_out {ce : Cell} {q : Addr} {E : String} {Qc : Array Value → State → Outcome → State → Prop} (hout : ∀ x ∈ c.exceptionTable.toList, False) (hlocks : meth.locks = false) (hS : va_S A s.heap H locs) (g1 : H[q]? = some ce) (g2 : ce.vm = .none) (g3 : s.vm.findClass E = some ce.cls) :
    vx_W p l e R s m args below meth c H locs cells slots (vx_MQ below Qc (yXC A E) args s cells slots A) (F0 m pc ls rest) q :=
  vx_out (fun x hx => (hout x hx).elim) hlocks g1 g2 g3 (fun t ht hW => ⟨rfl, hS.F ht⟩) hS.2.2 (Nat.le_refl _) (Nat.le_refl _)
/-- behind a call that throws a machine's exception -/
theorem y_after {mc ms : Nat} {Y : va_W} {st : List Value} {E : String} (C : nC p s m args c cc own G av pl A) (D : tD s av [] A) (hP : va_P G.1 vwCl Y H) (hS : va_S A s.heap H locs)
    (hr : vx_Run p l e R s m args below meth c H locs cells slots mc ms (F0 m pc ls st) rest (fun _ _ _ => False) (yXC (tA H.size [] []) E) (tA H.size [] []))
    (kx : ∀ (H1 : Heap) (locs1 : List Loc) (q : Addr) (ce : Cell), va_P G.1 vwCl Y H1 → va_S A s.heap H1 locs1 → H1[q]? = some ce → ce.vm = .none → s.vm.findClass E = some ce.cls → vx_W p l e R s m args below meth c H1 locs1 (cells + mc) (slots + ms) Q (F0 m pc ls rest) q) : W p l e R s m args below meth c H locs cells slots Q (F0 m pc ls st) := by
  intro T hT X
  rcases hr T hT X with ⟨v, st₀, t, T', L1, e0, X', hL, e1, e2, hf, stp⟩ | ⟨q, st₀, t, T', L1, E', ce, e0, X', hL, e1, e2, ⟨hE, hz, hk⟩, hce, hcv, hcl, stp⟩
  · exact hf.elim
  · rw [e0] at hz hk
    subst hE
    have hk2 : ∀ q, q < H.size → t.heap[q]? = H[q]? := fun q hq => hk q hq (fun h => by
      rcases h with h | h | h
      · cases h
      · cases h
      · omega)
    obtain ⟨t2, a1, b1⟩ := kx T'.heap (locs ++ L1) q ce (by rw [e1]; exact P_kept hP (fun a _ hlt => hk2 a hlt)) (by
      rw [e1]
      exact t_S hS (fun q h => by
        rcases h with h | h | h
        · cases h
        · cases h
        · exact D.2.2.1 q (Nat.le_trans hS.1 h)) hz hk hL) (by rw [e1]; exact hce) hcv hcl T' rfl X'
    exact ⟨t2, stp.trans a1, b1⟩
end YX
theorem metR_getX_0 (l : Launch) (hfl : l.stackTraces = false) (G : kG) (pl : va_W) (sz : Nat) (q b n : Nat) (rc : Nat → Int64) (i : Int32) (h : rowIn G q 0 b n rc pl) (hi : ¬ gi i n) : vx_Met l yX8_get (ws_ yX8_get cX8_get 2 (some .long)) ({ frames := 8, cells := 3, slots := 222, locals := 10250 } : Room) (rPc G [] pl [] sz [.ref q, .int i]) (fun _ _ _ _ => False) (yXC (tA sz [] []) "java/lang/ArrayIndexOutOfBoundsException") 3 222 (tA sz [] []) := by
  refine r_ofW (own := RX8) (by decide) rfl (Nat.le_of_ble_eq_true rfl) ?_
  intro p e s m args below meth c ls C C0 D hml htab hP hS hl hr hlocks hsz
  have hl : lv_has ls 2 [(0, .ref q), (1, .int i)] := hl
  refine lv_aload_n C.1 C.2.1 dX8_get_0 rfl (lv_at hl 0 rfl) ?_
  refine p_get (j := 0) C hS h.2.2.2.1 (show vwCl[7]? = some (RX8, TX8, 1) from rfl) in_X8 (by decide) q430 rfl dX8_get_1 ?_
  refine lv_iload_n C.1 C.2.1 dX8_get_4 rfl (lv_at hl 1 rfl) ?_
  obtain ⟨j, hj⟩ := List.getElem?_of_mem h.2.2.2.2
  refine vx_baldZ C.1 C.2.1 C.2.2.2.2.1 (pl_at C.2.2.2.2.2.2.2.2 C.2.2.2.2.2.2.1 hS) j 3 hj rfl (fun h9 => hi (vp_in_iff.mp h9)) dX8_get_5 (fun tx htx => ?_)
  refine t_noteA (i := i) (n := n) hfl C0 D hP P_nil hS (by rw [hml]; exact hl.1) hlocks (by have := h.2.1; omega) htx ⟨Nat.le_of_ble_eq_true rfl, Nat.le_of_ble_eq_true rfl, Nat.le_of_ble_eq_true rfl, Nat.le_of_ble_eq_true rfl⟩ (fun H z ce hz hP _ hS g1 g2 g3 => ?_)
  exact y_out htab hlocks hS g1 g2 g3
theorem metR_putX_0 (l : Launch) (hfl : l.stackTraces = false) (G : kG) (pl : va_W) (sz : Nat) (q b n : Nat) (rc : Nat → Int64) (i : Int32) (v : Int64) (h : rowIn G q 0 b n rc pl) (hi : ¬ gi i n) : vx_Met l yX8_put (ws_ yX8_put cX8_put 4 none) ({ frames := 8, cells := 3, slots := 222, locals := 10250 } : Room) (rPc G [] pl [] sz [.ref q, .int i, .long v]) (fun _ _ _ _ => False) (yXC (tA sz [] []) "java/lang/ArrayIndexOutOfBoundsException") 3 222 (tA sz [] []) := by
  refine r_ofW (own := RX8) (by decide) rfl (Nat.le_of_ble_eq_true rfl) ?_
  intro p e s m args below meth c ls C C0 D hml htab hP hS hl hr hlocks hsz
  have hl : lv_has ls 4 [(0, .ref q), (1, .int i), (2, .long v)] := hl
  refine lv_aload_n C.1 C.2.1 dX8_put_0 rfl (lv_at hl 0 rfl) ?_
  refine p_get (j := 0) C hS h.2.2.2.1 (show vwCl[7]? = some (RX8, TX8, 1) from rfl) in_X8 (by decide) q430 rfl dX8_put_1 ?_
  refine lv_iload_n C.1 C.2.1 dX8_put_4 rfl (lv_at hl 1 rfl) ?_
  obtain ⟨j, hj⟩ := List.getElem?_of_mem h.2.2.2.2
  refine lv_lload_n C.1 C.2.1 dX8_put_5 rfl (lv_at hl 2 rfl) ?_
  refine lv_l2i C.1 C.2.1 dX8_put_6 rfl ?_
  refine lv_i2b C.1 C.2.1 dX8_put_7 rfl ?_
  refine vx_bastZ C.1 C.2.1 C.2.2.2.2.1 (pl_at C.2.2.2.2.2.2.2.2 C.2.2.2.2.2.2.1 hS) j 3 hj rfl (fun h9 => hi (vp_in_iff.mp h9)) dX8_put_8 (fun tx htx => ?_)
  refine t_noteA (i := i) (n := n) hfl C0 D hP P_nil hS (by rw [hml]; exact hl.1) hlocks (by have := h.2.1; omega) htx ⟨Nat.le_of_ble_eq_true rfl, Nat.le_of_ble_eq_true rfl, Nat.le_of_ble_eq_true rfl, Nat.le_of_ble_eq_true rfl⟩ (fun H z ce hz hP _ hS g1 g2 g3 => ?_)
  exact y_out htab hlocks hS g1 g2 g3
theorem metR_getX_1 (l : Launch) (hfl : l.stackTraces = false) (G : kG) (pl : va_W) (sz : Nat) (q b n : Nat) (rc : Nat → Int64) (i : Int32) (h : rowIn G q 1 b n rc pl) (hi : ¬ gi i n) : vx_Met l yX9_get (ws_ yX9_get cX9_get 2 (some .long)) ({ frames := 8, cells := 3, slots := 222, locals := 10250 } : Room) (rPc G [] pl [] sz [.ref q, .int i]) (fun _ _ _ _ => False) (yXC (tA sz [] []) "java/lang/ArrayIndexOutOfBoundsException") 3 222 (tA sz [] []) := by
  refine r_ofW (own := RX9) (by decide) rfl (Nat.le_of_ble_eq_true rfl) ?_
  intro p e s m args below meth c ls C C0 D hml htab hP hS hl hr hlocks hsz
  have hl : lv_has ls 2 [(0, .ref q), (1, .int i)] := hl
  refine lv_aload_n C.1 C.2.1 dX9_get_0 rfl (lv_at hl 0 rfl) ?_
  refine p_get (j := 0) C hS h.2.2.2.1 (show vwCl[8]? = some (RX9, TX9, 1) from rfl) in_X9 (by decide) q440 rfl dX9_get_1 ?_
  refine lv_iload_n C.1 C.2.1 dX9_get_4 rfl (lv_at hl 1 rfl) ?_
  obtain ⟨j, hj⟩ := List.getElem?_of_mem h.2.2.2.2
  refine vx_saldZ C.1 C.2.1 C.2.2.2.2.1 (pl_at C.2.2.2.2.2.2.2.2 C.2.2.2.2.2.2.1 hS) j 4 hj rfl (fun h9 => hi (vp_in_iff.mp h9)) dX9_get_5 (fun tx htx => ?_)
  refine t_noteA (i := i) (n := n) hfl C0 D hP P_nil hS (by rw [hml]; exact hl.1) hlocks (by have := h.2.1; omega) htx ⟨Nat.le_of_ble_eq_true rfl, Nat.le_of_ble_eq_true rfl, Nat.le_of_ble_eq_true rfl, Nat.le_of_ble_eq_true rfl⟩ (fun H z ce hz hP _ hS g1 g2 g3 => ?_)
  exact y_out htab hlocks hS g1 g2 g3
theorem metR_putX_1 (l : Launch) (hfl : l.stackTraces = false) (G : kG) (pl : va_W) (sz : Nat) (q b n : Nat) (rc : Nat → Int64) (i : Int32) (v : Int64) (h : rowIn G q 1 b n rc pl) (hi : ¬ gi i n) : vx_Met l yX9_put (ws_ yX9_put cX9_put 4 none) ({ frames := 8, cells := 3, slots := 222, locals := 10250 } : Room) (rPc G [] pl [] sz [.ref q, .int i, .long v]) (fun _ _ _ _ => False) (yXC (tA sz [] []) "java/lang/ArrayIndexOutOfBoundsException") 3 222 (tA sz [] []) := by
  refine r_ofW (own := RX9) (by decide) rfl (Nat.le_of_ble_eq_true rfl) ?_
  intro p e s m args below meth c ls C C0 D hml htab hP hS hl hr hlocks hsz
  have hl : lv_has ls 4 [(0, .ref q), (1, .int i), (2, .long v)] := hl
  refine lv_aload_n C.1 C.2.1 dX9_put_0 rfl (lv_at hl 0 rfl) ?_
  refine p_get (j := 0) C hS h.2.2.2.1 (show vwCl[8]? = some (RX9, TX9, 1) from rfl) in_X9 (by decide) q440 rfl dX9_put_1 ?_
  refine lv_iload_n C.1 C.2.1 dX9_put_4 rfl (lv_at hl 1 rfl) ?_
  obtain ⟨j, hj⟩ := List.getElem?_of_mem h.2.2.2.2
  refine lv_lload_n C.1 C.2.1 dX9_put_5 rfl (lv_at hl 2 rfl) ?_
  refine lv_l2i C.1 C.2.1 dX9_put_6 rfl ?_
  refine lv_i2s C.1 C.2.1 dX9_put_7 rfl ?_
  refine vx_sastZ C.1 C.2.1 C.2.2.2.2.1 (pl_at C.2.2.2.2.2.2.2.2 C.2.2.2.2.2.2.1 hS) j 4 hj rfl (fun h9 => hi (vp_in_iff.mp h9)) dX9_put_8 (fun tx htx => ?_)
  refine t_noteA (i := i) (n := n) hfl C0 D hP P_nil hS (by rw [hml]; exact hl.1) hlocks (by have := h.2.1; omega) htx ⟨Nat.le_of_ble_eq_true rfl, Nat.le_of_ble_eq_true rfl, Nat.le_of_ble_eq_true rfl, Nat.le_of_ble_eq_true rfl⟩ (fun H z ce hz hP _ hS g1 g2 g3 => ?_)
  exact y_out htab hlocks hS g1 g2 g3
theorem metR_getX_2 (l : Launch) (hfl : l.stackTraces = false) (G : kG) (pl : va_W) (sz : Nat) (q b n : Nat) (rc : Nat → Int64) (i : Int32) (h : rowIn G q 2 b n rc pl) (hi : ¬ gi i n) : vx_Met l yX10_get (ws_ yX10_get cX10_get 2 (some .long)) ({ frames := 8, cells := 3, slots := 222, locals := 10250 } : Room) (rPc G [] pl [] sz [.ref q, .int i]) (fun _ _ _ _ => False) (yXC (tA sz [] []) "java/lang/ArrayIndexOutOfBoundsException") 3 222 (tA sz [] []) := by
  refine r_ofW (own := RX10) (by decide) rfl (Nat.le_of_ble_eq_true rfl) ?_
  intro p e s m args below meth c ls C C0 D hml htab hP hS hl hr hlocks hsz
  have hl : lv_has ls 2 [(0, .ref q), (1, .int i)] := hl
  refine lv_aload_n C.1 C.2.1 dX10_get_0 rfl (lv_at hl 0 rfl) ?_
  refine p_get (j := 0) C hS h.2.2.2.1 (show vwCl[9]? = some (RX10, TX10, 1) from rfl) in_X10 (by decide) q451 rfl dX10_get_1 ?_
  refine lv_iload_n C.1 C.2.1 dX10_get_4 rfl (lv_at hl 1 rfl) ?_
  obtain ⟨j, hj⟩ := List.getElem?_of_mem h.2.2.2.2
  refine vx_ialdZ C.1 C.2.1 C.2.2.2.2.1 (pl_at C.2.2.2.2.2.2.2.2 C.2.2.2.2.2.2.1 hS) j 0 hj rfl (fun h9 => hi (vp_in_iff.mp h9)) dX10_get_5 (fun tx htx => ?_)
  refine t_noteA (i := i) (n := n) hfl C0 D hP P_nil hS (by rw [hml]; exact hl.1) hlocks (by have := h.2.1; omega) htx ⟨Nat.le_of_ble_eq_true rfl, Nat.le_of_ble_eq_true rfl, Nat.le_of_ble_eq_true rfl, Nat.le_of_ble_eq_true rfl⟩ (fun H z ce hz hP _ hS g1 g2 g3 => ?_)
  exact y_out htab hlocks hS g1 g2 g3
theorem metR_putX_2 (l : Launch) (hfl : l.stackTraces = false) (G : kG) (pl : va_W) (sz : Nat) (q b n : Nat) (rc : Nat → Int64) (i : Int32) (v : Int64) (h : rowIn G q 2 b n rc pl) (hi : ¬ gi i n) : vx_Met l yX10_put (ws_ yX10_put cX10_put 4 none) ({ frames := 8, cells := 3, slots := 222, locals := 10250 } : Room) (rPc G [] pl [] sz [.ref q, .int i, .long v]) (fun _ _ _ _ => False) (yXC (tA sz [] []) "java/lang/ArrayIndexOutOfBoundsException") 3 222 (tA sz [] []) := by
  refine r_ofW (own := RX10) (by decide) rfl (Nat.le_of_ble_eq_true rfl) ?_
  intro p e s m args below meth c ls C C0 D hml htab hP hS hl hr hlocks hsz
  have hl : lv_has ls 4 [(0, .ref q), (1, .int i), (2, .long v)] := hl
  refine lv_aload_n C.1 C.2.1 dX10_put_0 rfl (lv_at hl 0 rfl) ?_
  refine p_get (j := 0) C hS h.2.2.2.1 (show vwCl[9]? = some (RX10, TX10, 1) from rfl) in_X10 (by decide) q451 rfl dX10_put_1 ?_
  refine lv_iload_n C.1 C.2.1 dX10_put_4 rfl (lv_at hl 1 rfl) ?_
  obtain ⟨j, hj⟩ := List.getElem?_of_mem h.2.2.2.2
  refine lv_lload_n C.1 C.2.1 dX10_put_5 rfl (lv_at hl 2 rfl) ?_
  refine lv_l2i C.1 C.2.1 dX10_put_6 rfl ?_
  refine vx_iastZ C.1 C.2.1 C.2.2.2.2.1 (pl_at C.2.2.2.2.2.2.2.2 C.2.2.2.2.2.2.1 hS) j 0 hj rfl (fun h9 => hi (vp_in_iff.mp h9)) dX10_put_7 (fun tx htx => ?_)
  refine t_noteA (i := i) (n := n) hfl C0 D hP P_nil hS (by rw [hml]; exact hl.1) hlocks (by have := h.2.1; omega) htx ⟨Nat.le_of_ble_eq_true rfl, Nat.le_of_ble_eq_true rfl, Nat.le_of_ble_eq_true rfl, Nat.le_of_ble_eq_true rfl⟩ (fun H z ce hz hP _ hS g1 g2 g3 => ?_)
  exact y_out htab hlocks hS g1 g2 g3
theorem metR_getX_3 (l : Launch) (hfl : l.stackTraces = false) (G : kG) (pl : va_W) (sz : Nat) (q b n : Nat) (rc : Nat → Int64) (i : Int32) (h : rowIn G q 3 b n rc pl) (hi : ¬ gi i n) : vx_Met l yX11_get (ws_ yX11_get cX11_get 2 (some .long)) ({ frames := 8, cells := 3, slots := 222, locals := 10250 } : Room) (rPc G [] pl [] sz [.ref q, .int i]) (fun _ _ _ _ => False) (yXC (tA sz [] []) "java/lang/ArrayIndexOutOfBoundsException") 3 222 (tA sz [] []) := by
  refine r_ofW (own := RX11) (by decide) rfl (Nat.le_of_ble_eq_true rfl) ?_
  intro p e s m args below meth c ls C C0 D hml htab hP hS hl hr hlocks hsz
  have hl : lv_has ls 2 [(0, .ref q), (1, .int i)] := hl
  refine lv_aload_n C.1 C.2.1 dX11_get_0 rfl (lv_at hl 0 rfl) ?_
  refine p_get (j := 0) C hS h.2.2.2.1 (show vwCl[10]? = some (RX11, TX11, 1) from rfl) in_X11 (by decide) q461 rfl dX11_get_1 ?_
  refine lv_iload_n C.1 C.2.1 dX11_get_4 rfl (lv_at hl 1 rfl) ?_
  obtain ⟨j, hj⟩ := List.getElem?_of_mem h.2.2.2.2
  refine vx_laldZ C.1 C.2.1 C.2.2.2.2.1 (pl_at C.2.2.2.2.2.2.2.2 C.2.2.2.2.2.2.1 hS) j 1 hj rfl (fun h9 => hi (vp_in_iff.mp h9)) dX11_get_5 (fun tx htx => ?_)
  refine t_noteA (i := i) (n := n) hfl C0 D hP P_nil hS (by rw [hml]; exact hl.1) hlocks (by have := h.2.1; omega) htx ⟨Nat.le_of_ble_eq_true rfl, Nat.le_of_ble_eq_true rfl, Nat.le_of_ble_eq_true rfl, Nat.le_of_ble_eq_true rfl⟩ (fun H z ce hz hP _ hS g1 g2 g3 => ?_)
  exact y_out htab hlocks hS g1 g2 g3
theorem metR_putX_3 (l : Launch) (hfl : l.stackTraces = false) (G : kG) (pl : va_W) (sz : Nat) (q b n : Nat) (rc : Nat → Int64) (i : Int32) (v : Int64) (h : rowIn G q 3 b n rc pl) (hi : ¬ gi i n) : vx_Met l yX11_put (ws_ yX11_put cX11_put 4 none) ({ frames := 8, cells := 3, slots := 222, locals := 10250 } : Room) (rPc G [] pl [] sz [.ref q, .int i, .long v]) (fun _ _ _ _ => False) (yXC (tA sz [] []) "java/lang/ArrayIndexOutOfBoundsException") 3 222 (tA sz [] []) := by
  refine r_ofW (own := RX11) (by decide) rfl (Nat.le_of_ble_eq_true rfl) ?_
  intro p e s m args below meth c ls C C0 D hml htab hP hS hl hr hlocks hsz
  have hl : lv_has ls 4 [(0, .ref q), (1, .int i), (2, .long v)] := hl
  refine lv_aload_n C.1 C.2.1 dX11_put_0 rfl (lv_at hl 0 rfl) ?_
  refine p_get (j := 0) C hS h.2.2.2.1 (show vwCl[10]? = some (RX11, TX11, 1) from rfl) in_X11 (by decide) q461 rfl dX11_put_1 ?_
  refine lv_iload_n C.1 C.2.1 dX11_put_4 rfl (lv_at hl 1 rfl) ?_
  obtain ⟨j, hj⟩ := List.getElem?_of_mem h.2.2.2.2
  refine lv_lload_n C.1 C.2.1 dX11_put_5 rfl (lv_at hl 2 rfl) ?_
  refine vx_lastZ C.1 C.2.1 C.2.2.2.2.1 (pl_at C.2.2.2.2.2.2.2.2 C.2.2.2.2.2.2.1 hS) j 1 hj rfl (fun h9 => hi (vp_in_iff.mp h9)) dX11_put_6 (fun tx htx => ?_)
  refine t_noteA (i := i) (n := n) hfl C0 D hP P_nil hS (by rw [hml]; exact hl.1) hlocks (by have := h.2.1; omega) htx ⟨Nat.le_of_ble_eq_true rfl, Nat.le_of_ble_eq_true rfl, Nat.le_of_ble_eq_true rfl, Nat.le_of_ble_eq_true rfl⟩ (fun H z ce hz hP _ hS g1 g2 g3 => ?_)
  exact y_out htab hlocks hS g1 g2 g3
section YX
variable {p : Program} {l : Launch} {e : Env} {R : Room} {s : State} {m : MethodId} {args : Array Value} {below : List Frame} {meth : Method} {c : Code} {H : Heap} {locs : List Loc} {cells slots : Nat} {Q : State → Prop} {pc : Nat} {ls : Array Slot} {rest : List Value} {cc : ByteArray} {own : String} {G : kG} {av : List Nat} {pl : va_W} {A : Nat → Prop}
theorem rw_getX {nL q k b n idx : Nat} {rc : Nat → Int64} {Y : va_W} {i : Int32} (hfl : l.stackTraces = false) (C : nC p s m args c cc own G av pl A) (D : tD s av [] A) (hml : c.maxLocals = nL) (hls : ls.size = nL) (hP : va_P G.1 vwCl Y H) (hS : va_S A s.heap H locs) (h : rowIn G q k b n rc pl) (hi : ¬ gi i n) (hl : Cond.methodLink own idx ⟨"HamsterWeekends$Row", "get", "(I)J"⟩ ∈ lw_all) (hR : 9 ≤ R.frames ∧ 10280 ≤ R.locals ∧ cells + 3 ≤ R.cells ∧ slots + 222 ≤ R.slots) (hst : (rest.map fun v => v.category).sum ≤ 8) (hdg : decode cc pc = .ok (.invokevirtual idx, 3))
    (kx : ∀ (H1 : Heap) (locs1 : List Loc) (z : Addr) (ce : Cell), va_P G.1 vwCl Y H1 → va_S A s.heap H1 locs1 → H1[z]? = some ce → ce.vm = .none → s.vm.findClass "java/lang/ArrayIndexOutOfBoundsException" = some ce.cls → vx_W p l e R s m args below meth c H1 locs1 (cells + 3) (slots + 222) Q (F0 m pc ls rest) z) : W p l e R s m args below meth c H locs cells slots Q (F0 m pc ls (.int i :: .ref q :: rest)) := by
  have hR2 : 8 + (4 + 11) + 10250 ≤ R.locals := by have := hR.2.1; omega
  have hR3 : 8 + (2 + 11) + 10250 ≤ R.locals := by have := hR.2.1; omega
  match k, h with
  | 0, h => exact y_after C D hP hS (vx_runU (As := [.int i]) (rest := rest) ⟨C.1, C.2.1, hml, C.2.2.1, C.2.2.2.1⟩ (metR_getX_0 l hfl G pl H.size q b n rc i h hi) (va_cwA (C := RX8) (owner := "HamsterWeekends$Row") 1 C.2.2.2.1 (lw_U hl q560 q561 q562 q95 q563) rfl rfl rfl (D.2.2.2.2.2.1 _ (List.mem_of_getElem? (i := 11) rfl)) (by decide +kernel) ⟨hR.1, hR3⟩) (rr_preV C D hP hS [] rfl (by decide) rfl (n_recvH C hS h.2.2.2.1 (show vwCl[7]? = some (RX8, TX8, 1) from rfl))) rfl rfl hls rfl (lv_room hst) hdg ⟨hR.2.2.1, hR.2.2.2⟩) kx
  | 1, h => exact y_after C D hP hS (vx_runU (As := [.int i]) (rest := rest) ⟨C.1, C.2.1, hml, C.2.2.1, C.2.2.2.1⟩ (metR_getX_1 l hfl G pl H.size q b n rc i h hi) (va_cwA (C := RX9) (owner := "HamsterWeekends$Row") 1 C.2.2.2.1 (lw_U hl q560 q570 q571 q96 q572) rfl rfl rfl (D.2.2.2.2.2.1 _ (List.mem_of_getElem? (i := 11) rfl)) (by decide +kernel) ⟨hR.1, hR3⟩) (rr_preV C D hP hS [] rfl (by decide) rfl (n_recvH C hS h.2.2.2.1 (show vwCl[8]? = some (RX9, TX9, 1) from rfl))) rfl rfl hls rfl (lv_room hst) hdg ⟨hR.2.2.1, hR.2.2.2⟩) kx
  | 2, h => exact y_after C D hP hS (vx_runU (As := [.int i]) (rest := rest) ⟨C.1, C.2.1, hml, C.2.2.1, C.2.2.2.1⟩ (metR_getX_2 l hfl G pl H.size q b n rc i h hi) (va_cwA (C := RX10) (owner := "HamsterWeekends$Row") 1 C.2.2.2.1 (lw_U hl q560 q564 q565 q97 q566) rfl rfl rfl (D.2.2.2.2.2.1 _ (List.mem_of_getElem? (i := 11) rfl)) (by decide +kernel) ⟨hR.1, hR3⟩) (rr_preV C D hP hS [] rfl (by decide) rfl (n_recvH C hS h.2.2.2.1 (show vwCl[9]? = some (RX10, TX10, 1) from rfl))) rfl rfl hls rfl (lv_room hst) hdg ⟨hR.2.2.1, hR.2.2.2⟩) kx
  | 3, h => exact y_after C D hP hS (vx_runU (As := [.int i]) (rest := rest) ⟨C.1, C.2.1, hml, C.2.2.1, C.2.2.2.1⟩ (metR_getX_3 l hfl G pl H.size q b n rc i h hi) (va_cwA (C := RX11) (owner := "HamsterWeekends$Row") 1 C.2.2.2.1 (lw_U hl q560 q567 q568 q98 q569) rfl rfl rfl (D.2.2.2.2.2.1 _ (List.mem_of_getElem? (i := 11) rfl)) (by decide +kernel) ⟨hR.1, hR3⟩) (rr_preV C D hP hS [] rfl (by decide) rfl (n_recvH C hS h.2.2.2.1 (show vwCl[10]? = some (RX11, TX11, 1) from rfl))) rfl rfl hls rfl (lv_room hst) hdg ⟨hR.2.2.1, hR.2.2.2⟩) kx
  | k + 4, h => exact absurd h.1 (by omega)
end YX
section YX
variable {p : Program} {l : Launch} {e : Env} {R : Room} {s : State} {m : MethodId} {args : Array Value} {below : List Frame} {meth : Method} {c : Code} {H : Heap} {locs : List Loc} {cells slots : Nat} {Q : State → Prop} {pc : Nat} {ls : Array Slot} {rest : List Value} {cc : ByteArray} {own : String} {G : kG} {av : List Nat} {pl : va_W} {A : Nat → Prop}
theorem rw_putX {nL q k b n idx : Nat} {rc : Nat → Int64} {Y : va_W} {i : Int32} {v : Int64} (hfl : l.stackTraces = false) (C : nC p s m args c cc own G av pl A) (D : tD s av [] A) (hml : c.maxLocals = nL) (hls : ls.size = nL) (hP : va_P G.1 vwCl Y H) (hS : va_S A s.heap H locs) (h : rowIn G q k b n rc pl) (hi : ¬ gi i n) (hl : Cond.methodLink own idx ⟨"HamsterWeekends$Row", "put", "(IJ)V"⟩ ∈ lw_all) (hR : 9 ≤ R.frames ∧ 10280 ≤ R.locals ∧ cells + 3 ≤ R.cells ∧ slots + 222 ≤ R.slots) (hst : (rest.map fun v => v.category).sum ≤ 8) (hdg : decode cc pc = .ok (.invokevirtual idx, 3))
    (kx : ∀ (H1 : Heap) (locs1 : List Loc) (z : Addr) (ce : Cell), va_P G.1 vwCl Y H1 → va_S A s.heap H1 locs1 → H1[z]? = some ce → ce.vm = .none → s.vm.findClass "java/lang/ArrayIndexOutOfBoundsException" = some ce.cls → vx_W p l e R s m args below meth c H1 locs1 (cells + 3) (slots + 222) Q (F0 m pc ls rest) z) : W p l e R s m args below meth c H locs cells slots Q (F0 m pc ls (.long v :: .int i :: .ref q :: rest)) := by
  have hR2 : 8 + (4 + 11) + 10250 ≤ R.locals := by have := hR.2.1; omega
  have hR3 : 8 + (2 + 11) + 10250 ≤ R.locals := by have := hR.2.1; omega
  match k, h with
  | 0, h => exact y_after C D hP hS (vx_runU (As := [.int i, .long v]) (rest := rest) ⟨C.1, C.2.1, hml, C.2.2.1, C.2.2.2.1⟩ (metR_putX_0 l hfl G pl H.size q b n rc i v h hi) (va_cwA (C := RX8) (owner := "HamsterWeekends$Row") 2 C.2.2.2.1 (lw_U hl q498 q499 q500 q95 q501) rfl rfl rfl (D.2.2.2.2.2.1 _ (List.mem_of_getElem? (i := 8) rfl)) (by decide +kernel) ⟨hR.1, hR2⟩) (rr_preV C D hP hS [] rfl (by decide) rfl (n_recvH C hS h.2.2.2.1 (show vwCl[7]? = some (RX8, TX8, 1) from rfl))) rfl rfl hls rfl (lv_room hst) hdg ⟨hR.2.2.1, hR.2.2.2⟩) kx
  | 1, h => exact y_after C D hP hS (vx_runU (As := [.int i, .long v]) (rest := rest) ⟨C.1, C.2.1, hml, C.2.2.1, C.2.2.2.1⟩ (metR_putX_1 l hfl G pl H.size q b n rc i v h hi) (va_cwA (C := RX9) (owner := "HamsterWeekends$Row") 2 C.2.2.2.1 (lw_U hl q498 q508 q509 q96 q510) rfl rfl rfl (D.2.2.2.2.2.1 _ (List.mem_of_getElem? (i := 8) rfl)) (by decide +kernel) ⟨hR.1, hR2⟩) (rr_preV C D hP hS [] rfl (by decide) rfl (n_recvH C hS h.2.2.2.1 (show vwCl[8]? = some (RX9, TX9, 1) from rfl))) rfl rfl hls rfl (lv_room hst) hdg ⟨hR.2.2.1, hR.2.2.2⟩) kx
  | 2, h => exact y_after C D hP hS (vx_runU (As := [.int i, .long v]) (rest := rest) ⟨C.1, C.2.1, hml, C.2.2.1, C.2.2.2.1⟩ (metR_putX_2 l hfl G pl H.size q b n rc i v h hi) (va_cwA (C := RX10) (owner := "HamsterWeekends$Row") 2 C.2.2.2.1 (lw_U hl q498 q502 q503 q97 q504) rfl rfl rfl (D.2.2.2.2.2.1 _ (List.mem_of_getElem? (i := 8) rfl)) (by decide +kernel) ⟨hR.1, hR2⟩) (rr_preV C D hP hS [] rfl (by decide) rfl (n_recvH C hS h.2.2.2.1 (show vwCl[9]? = some (RX10, TX10, 1) from rfl))) rfl rfl hls rfl (lv_room hst) hdg ⟨hR.2.2.1, hR.2.2.2⟩) kx
  | 3, h => exact y_after C D hP hS (vx_runU (As := [.int i, .long v]) (rest := rest) ⟨C.1, C.2.1, hml, C.2.2.1, C.2.2.2.1⟩ (metR_putX_3 l hfl G pl H.size q b n rc i v h hi) (va_cwA (C := RX11) (owner := "HamsterWeekends$Row") 2 C.2.2.2.1 (lw_U hl q498 q505 q506 q98 q507) rfl rfl rfl (D.2.2.2.2.2.1 _ (List.mem_of_getElem? (i := 8) rfl)) (by decide +kernel) ⟨hR.1, hR2⟩) (rr_preV C D hP hS [] rfl (by decide) rfl (n_recvH C hS h.2.2.2.1 (show vwCl[10]? = some (RX11, TX11, 1) from rfl))) rfl rfl hls rfl (lv_room hst) hdg ⟨hR.2.2.1, hR.2.2.2⟩) kx
  | k + 4, h => exact absurd h.1 (by omega)
end YX
def hh2 (hd : Nat) : Int32 := if hd = 2 then 1 else 0
theorem metS_holdsHome (l : Launch) (G : kG) (pl : va_W) (a hd q b k n : Nat) (rc : Nat → Int64) (sk : Nat) (si sb : Int32) (hsh : shAt G a hd q b k n rc sk si sb pl) : Met l yX4_holdsHome (ws_ yX4_holdsHome cX4_holdsHome 1 (some .boolean)) ({ frames := 0, cells := 0, slots := 0, locals := 0 } : Room) (kPc G pl [.ref a]) (nQc G [] [] (some (.int (hh2 hd)))) 0 0 (nA []) := by
  refine k_ofW (own := RX4) (by decide) rfl (Nat.le_of_ble_eq_true rfl) ?_
  intro p e s m args below meth c ls C hk hml hP hS hl hr hlocks
  have hl : lv_has ls 1 [(0, .ref a)] := hl
  refine lv_aload_n C.1 C.2.1 dX4_holdsHome_0 rfl (lv_at hl 0 rfl) ?_
  rcases hsh with ⟨h0, hm⟩ | ⟨h0, hm, hrw⟩ | ⟨h0, hm, h7, hq⟩
  · refine p_get (j := 0) C hS hm (show vwCl[13]? = some (RX4, TX4, 1) from rfl) in_X4 (by decide) q233 rfl dX4_holdsHome_1 ?_
    refine lv_instN C.1 C.2.1 dX4_holdsHome_4 ?_
    subst h0
    exact n_zret C hr hlocks rfl dX4_holdsHome_7 hP hS
  · refine p_get (j := 0) C hS hm (show vwCl[13]? = some (RX4, TX4, 1) from rfl) in_X4 (by decide) q233 rfl dX4_holdsHome_1 ?_
    refine rw_instH C hk hS hrw q520 dX4_holdsHome_4 ?_
    subst h0
    exact n_zret C hr hlocks rfl dX4_holdsHome_7 hP hS
  · refine p_get (j := 0) C hS hm (show vwCl[13]? = some (RX4, TX4, 1) from rfl) in_X4 (by decide) q233 rfl dX4_holdsHome_1 ?_
    refine h_instH C hk hS h7 hq q520 dX4_holdsHome_4 ?_
    subst h0
    exact n_zret C hr hlocks rfl dX4_holdsHome_7 hP hS
