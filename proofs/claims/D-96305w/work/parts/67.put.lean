set_option maxRecDepth 100000
/-- what a row of a sort keeps of a long -/
def narr (k : Nat) (v : Int64) : Int64 := if k = 0 then v.toInt32.toInt8.toInt32.toInt64 else if k = 1 then v.toInt32.toInt16.toInt32.toInt64 else if k = 2 then v.toInt32.toInt64 else v
theorem narr_ok {k : Nat} (h : k < 3) (v : Int64) : (narr k v).toInt32.toInt64 = narr k v := by
  match k, h with
  | 0, _ => simp [narr]
  | 1, _ => simp [narr]
  | 2, _ => simp [narr]
  | k + 3, h => exact absurd h (by omega)
theorem arU_0 {aT : Nat → ClassId} {n i : Nat} {rc : Nat → Int64} {v : Int64} : (.inl (aT 3, n, .inl (upd (fun j => (rc j).toInt32) i (vp_nar .byte v.toInt32.toInt8.toInt32))) : va_E) = arE aT 0 n (vp_updL rc i (narr 0 v)) := by
  show _ = (.inl (aT 3, n, .inl (fun j => (vp_updL rc i (narr 0 v) j).toInt32)) : va_E)
  have h : upd (fun j => (rc j).toInt32) i (vp_nar .byte v.toInt32.toInt8.toInt32) = fun j => (vp_updL rc i (narr 0 v) j).toInt32 := by
    funext j
    rw [vp_nar_byte]
    by_cases hj : j = i
    · simp [upd, vp_updL, hj, narr]
    · simp [upd, vp_updL, hj]
  rw [h]
theorem arU_1 {aT : Nat → ClassId} {n i : Nat} {rc : Nat → Int64} {v : Int64} : (.inl (aT 4, n, .inl (upd (fun j => (rc j).toInt32) i (vp_nar .short v.toInt32.toInt16.toInt32))) : va_E) = arE aT 1 n (vp_updL rc i (narr 1 v)) := by
  show _ = (.inl (aT 4, n, .inl (fun j => (vp_updL rc i (narr 1 v) j).toInt32)) : va_E)
  have h : upd (fun j => (rc j).toInt32) i (vp_nar .short v.toInt32.toInt16.toInt32) = fun j => (vp_updL rc i (narr 1 v) j).toInt32 := by
    funext j
    rw [vp_nar_short]
    by_cases hj : j = i
    · simp [upd, vp_updL, hj, narr]
    · simp [upd, vp_updL, hj]
  rw [h]
theorem arU_2 {aT : Nat → ClassId} {n i : Nat} {rc : Nat → Int64} {v : Int64} : (.inl (aT 0, n, .inl (upd (fun j => (rc j).toInt32) i v.toInt32)) : va_E) = arE aT 2 n (vp_updL rc i (narr 2 v)) := by
  show _ = (.inl (aT 0, n, .inl (fun j => (vp_updL rc i (narr 2 v) j).toInt32)) : va_E)
  have h : upd (fun j => (rc j).toInt32) i v.toInt32 = fun j => (vp_updL rc i (narr 2 v) j).toInt32 := by
    funext j
    by_cases hj : j = i
    · simp [upd, vp_updL, hj, narr]
    · simp [upd, vp_updL, hj]
  rw [h]
theorem arU_3 {aT : Nat → ClassId} {n i : Nat} {rc : Nat → Int64} {v : Int64} : (.inl (aT 1, n, .inr (.inl (vp_updL rc i v))) : va_E) = arE aT 3 n (vp_updL rc i (narr 3 v)) := rfl
theorem metR_put_0 (l : Launch) (G : kG) (pl : va_W) (q b n : Nat) (rc : Nat → Int64) (i : Int32) (v : Int64) (h : (q, .inr (7, [.ref b])) ∈ pl) (hi : gi i n) : Met l yX8_put (ws_ yX8_put cX8_put 4 none) ({ frames := 0, cells := 0, slots := 0, locals := 0 } : Room) (nPc G [(b, arE G.2 0 n rc)] pl [b] [.ref q, .int i, .long v]) (nQc G [(b, arE G.2 0 n (vp_updL rc i.toNatClampNeg (narr 0 v)))] [b] none) 0 0 (nA [b]) := by
  refine n_ofW (own := RX8) (by decide) rfl (Nat.le_of_ble_eq_true rfl) ?_
  intro p e s m args below meth c ls C hml hP hS hl hr hlocks
  have hl : lv_has ls 4 [(0, .ref q), (1, .int i), (2, .long v)] := hl
  have hP : va_P G.1 vwCl [(b, .inl (G.2 3, n, .inl (fun i => (rc i).toInt32)))] s.heap := hP
  have hD : va_D (nA [b]) [(b, .inl (G.2 3, n, .inl (fun i => (rc i).toInt32)))] := va_D_of (by simp) (fun z hz => hz)
  refine lv_aload_n C.1 C.2.1 dX8_put_0 rfl (lv_at hl 0 rfl) ?_
  refine p_get (j := 0) C hS h (show vwCl[7]? = some (RX8, TX8, 1) from rfl) in_X8 (by decide) q430 rfl dX8_put_1 ?_
  refine lv_iload_n C.1 C.2.1 dX8_put_4 rfl (lv_at hl 1 rfl) ?_
  refine lv_lload_n C.1 C.2.1 dX8_put_5 rfl (lv_at hl 2 rfl) ?_
  refine lv_l2i C.1 C.2.1 dX8_put_6 rfl ?_
  refine lv_i2b C.1 C.2.1 dX8_put_7 rfl ?_
  refine va_bast C.1 C.2.1 C.2.2.2.2.1 hP hD hS 0 3 rfl rfl (gi_in hi) dX8_put_8 (fun H locs hP hD hS => ?_)
  refine n_vret C hr hlocks dX8_put_9 ?_ hS
  rw [← arU_0]
  exact hP
theorem metR_put_1 (l : Launch) (G : kG) (pl : va_W) (q b n : Nat) (rc : Nat → Int64) (i : Int32) (v : Int64) (h : (q, .inr (8, [.ref b])) ∈ pl) (hi : gi i n) : Met l yX9_put (ws_ yX9_put cX9_put 4 none) ({ frames := 0, cells := 0, slots := 0, locals := 0 } : Room) (nPc G [(b, arE G.2 1 n rc)] pl [b] [.ref q, .int i, .long v]) (nQc G [(b, arE G.2 1 n (vp_updL rc i.toNatClampNeg (narr 1 v)))] [b] none) 0 0 (nA [b]) := by
  refine n_ofW (own := RX9) (by decide) rfl (Nat.le_of_ble_eq_true rfl) ?_
  intro p e s m args below meth c ls C hml hP hS hl hr hlocks
  have hl : lv_has ls 4 [(0, .ref q), (1, .int i), (2, .long v)] := hl
  have hP : va_P G.1 vwCl [(b, .inl (G.2 4, n, .inl (fun i => (rc i).toInt32)))] s.heap := hP
  have hD : va_D (nA [b]) [(b, .inl (G.2 4, n, .inl (fun i => (rc i).toInt32)))] := va_D_of (by simp) (fun z hz => hz)
  refine lv_aload_n C.1 C.2.1 dX9_put_0 rfl (lv_at hl 0 rfl) ?_
  refine p_get (j := 0) C hS h (show vwCl[8]? = some (RX9, TX9, 1) from rfl) in_X9 (by decide) q440 rfl dX9_put_1 ?_
  refine lv_iload_n C.1 C.2.1 dX9_put_4 rfl (lv_at hl 1 rfl) ?_
  refine lv_lload_n C.1 C.2.1 dX9_put_5 rfl (lv_at hl 2 rfl) ?_
  refine lv_l2i C.1 C.2.1 dX9_put_6 rfl ?_
  refine lv_i2s C.1 C.2.1 dX9_put_7 rfl ?_
  refine va_sast C.1 C.2.1 C.2.2.2.2.1 hP hD hS 0 4 rfl rfl (gi_in hi) dX9_put_8 (fun H locs hP hD hS => ?_)
  refine n_vret C hr hlocks dX9_put_9 ?_ hS
  rw [← arU_1]
  exact hP
theorem metR_put_2 (l : Launch) (G : kG) (pl : va_W) (q b n : Nat) (rc : Nat → Int64) (i : Int32) (v : Int64) (h : (q, .inr (9, [.ref b])) ∈ pl) (hi : gi i n) : Met l yX10_put (ws_ yX10_put cX10_put 4 none) ({ frames := 0, cells := 0, slots := 0, locals := 0 } : Room) (nPc G [(b, arE G.2 2 n rc)] pl [b] [.ref q, .int i, .long v]) (nQc G [(b, arE G.2 2 n (vp_updL rc i.toNatClampNeg (narr 2 v)))] [b] none) 0 0 (nA [b]) := by
  refine n_ofW (own := RX10) (by decide) rfl (Nat.le_of_ble_eq_true rfl) ?_
  intro p e s m args below meth c ls C hml hP hS hl hr hlocks
  have hl : lv_has ls 4 [(0, .ref q), (1, .int i), (2, .long v)] := hl
  have hP : va_P G.1 vwCl [(b, .inl (G.2 0, n, .inl (fun i => (rc i).toInt32)))] s.heap := hP
  have hD : va_D (nA [b]) [(b, .inl (G.2 0, n, .inl (fun i => (rc i).toInt32)))] := va_D_of (by simp) (fun z hz => hz)
  refine lv_aload_n C.1 C.2.1 dX10_put_0 rfl (lv_at hl 0 rfl) ?_
  refine p_get (j := 0) C hS h (show vwCl[9]? = some (RX10, TX10, 1) from rfl) in_X10 (by decide) q451 rfl dX10_put_1 ?_
  refine lv_iload_n C.1 C.2.1 dX10_put_4 rfl (lv_at hl 1 rfl) ?_
  refine lv_lload_n C.1 C.2.1 dX10_put_5 rfl (lv_at hl 2 rfl) ?_
  refine lv_l2i C.1 C.2.1 dX10_put_6 rfl ?_
  refine va_iast C.1 C.2.1 C.2.2.2.2.1 hP hD hS 0 0 rfl rfl (gi_in hi) dX10_put_7 (fun H locs hP hD hS => ?_)
  refine n_vret C hr hlocks dX10_put_8 ?_ hS
  rw [← arU_2]
  exact hP
theorem metR_put_3 (l : Launch) (G : kG) (pl : va_W) (q b n : Nat) (rc : Nat → Int64) (i : Int32) (v : Int64) (h : (q, .inr (10, [.ref b])) ∈ pl) (hi : gi i n) : Met l yX11_put (ws_ yX11_put cX11_put 4 none) ({ frames := 0, cells := 0, slots := 0, locals := 0 } : Room) (nPc G [(b, arE G.2 3 n rc)] pl [b] [.ref q, .int i, .long v]) (nQc G [(b, arE G.2 3 n (vp_updL rc i.toNatClampNeg (narr 3 v)))] [b] none) 0 0 (nA [b]) := by
  refine n_ofW (own := RX11) (by decide) rfl (Nat.le_of_ble_eq_true rfl) ?_
  intro p e s m args below meth c ls C hml hP hS hl hr hlocks
  have hl : lv_has ls 4 [(0, .ref q), (1, .int i), (2, .long v)] := hl
  have hP : va_P G.1 vwCl [(b, .inl (G.2 1, n, .inr (.inl rc)))] s.heap := hP
  have hD : va_D (nA [b]) [(b, .inl (G.2 1, n, .inr (.inl rc)))] := va_D_of (by simp) (fun z hz => hz)
  refine lv_aload_n C.1 C.2.1 dX11_put_0 rfl (lv_at hl 0 rfl) ?_
  refine p_get (j := 0) C hS h (show vwCl[10]? = some (RX11, TX11, 1) from rfl) in_X11 (by decide) q461 rfl dX11_put_1 ?_
  refine lv_iload_n C.1 C.2.1 dX11_put_4 rfl (lv_at hl 1 rfl) ?_
  refine lv_lload_n C.1 C.2.1 dX11_put_5 rfl (lv_at hl 2 rfl) ?_
  refine va_last C.1 C.2.1 C.2.2.2.2.1 hP hD hS 0 1 rfl rfl (gi_in hi) dX11_put_6 (fun H locs hP hD hS => ?_)
  refine n_vret C hr hlocks dX11_put_7 ?_ hS
  rw [← arU_3]
  exact hP
section PT
variable {p : Program} {l : Launch} {e : Env} {R : Room} {s : State} {m : MethodId} {args : Array Value} {below : List Frame} {meth : Method} {c : Code} {H : Heap} {locs : List Loc} {cells slots : Nat} {Q : State → Prop} {pc : Nat} {ls : Array Slot} {rest : List Value} {cc : ByteArray} {own : String} {G : kG} {av : List Nat} {pl E : va_W} {A : Nat → Prop}
theorem rw_put {nL q k b n idx : Nat} {rc : Nat → Int64} {i : Int32} {v : Int64} (C : nC p s m args c cc own G av pl A) (C0 : nC p s m args c cc own G av [] A) (D : tD s av [(b, arE G.2 k n rc)] A) (hml : c.maxLocals = nL) (hls : ls.size = nL) (hp : va_P G.1 vwCl [(b, arE G.2 k n rc)] H) (hS : va_S A s.heap H locs) (hk4 : k < 4) (hq : (q, .inr (7 + k, [.ref b])) ∈ pl) (hi : gi i n) (hl : Cond.methodLink own idx ⟨"HamsterWeekends$Row", "put", "(IJ)V"⟩ ∈ lw_all) (hR : 1 ≤ R.frames ∧ 23 ≤ R.locals ∧ cells ≤ R.cells ∧ slots ≤ R.slots) (hst : (rest.map fun v => v.category).sum ≤ 8) (hdg : decode cc pc = .ok (.invokevirtual idx, 3))
    (kk : ∀ (H1 : Heap) (locs1 : List Loc), va_P G.1 vwCl [(b, arE G.2 k n (vp_updL rc i.toNatClampNeg (narr k v)))] H1 → H.size ≤ H1.size → (∀ x, x < H.size → x ∉ [b] → H1[x]? = H[x]?) → va_S A s.heap H1 locs1 → W p l e R s m args below meth c H1 locs1 cells slots Q (F0 m (pc + 3) ls rest)) : W p l e R s m args below meth c H locs cells slots Q (F0 m pc ls (.long v :: .int i :: .ref q :: rest)) := by
  have hpl := pl_at C.2.2.2.2.2.2.2.2 C.2.2.2.2.2.2.1 hS
  have hbA : ∀ z, z ∈ [b] → A z := fun z hz => D.2.1 z hz
  have hnd : ([b] ++ pl.map (·.1)).Nodup := by
    refine List.nodup_append.mpr ⟨by simp, (List.nodup_append.mp C.2.2.2.2.2.1).2.1, fun a ha z hz e => ?_⟩
    subst e
    exact C.2.2.2.2.2.2.2.2 _ hz (hbA _ ha)
  match k, hk4, hq, D, hp, kk with
  | 0, _, hq, D, hp, kk => exact gn_after (avc := [b]) hbA hS (va_runU (As := [.int i, .long v]) (rest := rest) ⟨C.1, C.2.1, hml, C.2.2.1, C.2.2.2.1⟩ (metR_put_0 l G pl q b n rc i v hq hi) (va_cwA (C := RX8) (owner := "HamsterWeekends$Row") 2 C.2.2.2.1 (lw_U hl q498 q499 q500 q95 q501) rfl rfl rfl (D.2.2.2.2.2.1 _ (List.mem_of_getElem? (i := 8) rfl)) (by decide +kernel) ⟨hR.1, hR.2.1⟩) (gn_preV C0 hp hpl hnd (n_recvH C hS hq (show vwCl[7]? = some (RX8, TX8, 1) from rfl))) rfl rfl hls rfl (lv_room hst) hdg ⟨hR.2.2.1, hR.2.2.2⟩) kk
  | 1, _, hq, D, hp, kk => exact gn_after (avc := [b]) hbA hS (va_runU (As := [.int i, .long v]) (rest := rest) ⟨C.1, C.2.1, hml, C.2.2.1, C.2.2.2.1⟩ (metR_put_1 l G pl q b n rc i v hq hi) (va_cwA (C := RX9) (owner := "HamsterWeekends$Row") 2 C.2.2.2.1 (lw_U hl q498 q508 q509 q96 q510) rfl rfl rfl (D.2.2.2.2.2.1 _ (List.mem_of_getElem? (i := 8) rfl)) (by decide +kernel) ⟨hR.1, hR.2.1⟩) (gn_preV C0 hp hpl hnd (n_recvH C hS hq (show vwCl[8]? = some (RX9, TX9, 1) from rfl))) rfl rfl hls rfl (lv_room hst) hdg ⟨hR.2.2.1, hR.2.2.2⟩) kk
  | 2, _, hq, D, hp, kk => exact gn_after (avc := [b]) hbA hS (va_runU (As := [.int i, .long v]) (rest := rest) ⟨C.1, C.2.1, hml, C.2.2.1, C.2.2.2.1⟩ (metR_put_2 l G pl q b n rc i v hq hi) (va_cwA (C := RX10) (owner := "HamsterWeekends$Row") 2 C.2.2.2.1 (lw_U hl q498 q502 q503 q97 q504) rfl rfl rfl (D.2.2.2.2.2.1 _ (List.mem_of_getElem? (i := 8) rfl)) (by decide +kernel) ⟨hR.1, hR.2.1⟩) (gn_preV C0 hp hpl hnd (n_recvH C hS hq (show vwCl[9]? = some (RX10, TX10, 1) from rfl))) rfl rfl hls rfl (lv_room hst) hdg ⟨hR.2.2.1, hR.2.2.2⟩) kk
  | 3, _, hq, D, hp, kk => exact gn_after (avc := [b]) hbA hS (va_runU (As := [.int i, .long v]) (rest := rest) ⟨C.1, C.2.1, hml, C.2.2.1, C.2.2.2.1⟩ (metR_put_3 l G pl q b n rc i v hq hi) (va_cwA (C := RX11) (owner := "HamsterWeekends$Row") 2 C.2.2.2.1 (lw_U hl q498 q505 q506 q98 q507) rfl rfl rfl (D.2.2.2.2.2.1 _ (List.mem_of_getElem? (i := 8) rfl)) (by decide +kernel) ⟨hR.1, hR.2.1⟩) (gn_preV C0 hp hpl hnd (n_recvH C hS hq (show vwCl[10]? = some (RX11, TX11, 1) from rfl))) rfl rfl hls rfl (lv_room hst) hdg ⟨hR.2.2.1, hR.2.2.2⟩) kk
  | k + 4, h, _, _, _, _ => exact absurd h (by omega)
end PT
