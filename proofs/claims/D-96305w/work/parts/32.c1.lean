set_option maxRecDepth 100000
def sC_HW_in (p0 : Int64) (p2 : Int64) (p4 : Int64) : Option (Int32) :=
  if (lg_cmp p0 p2) < 0 then
    some 0
  else
    if 0 < (lg_cmp p0 p4) then
      some 0
    else
      some 1
set_option maxHeartbeats 4000000 in
theorem metC_HW_in (l : Launch) (G : kG) (ad : Nat → Nat) (pl : va_W)  (p0 : Int64) (p2 : Int64) (p4 : Int64) (res : Int32) (hE : sC_HW_in p0 p2 p4 = some res) : Met l yX0_in (ws_ yX0_in cX0_in 6 (some .boolean)) ({ frames := 0, cells := 0, slots := 0, locals := 0 } : Room) (nPc G [] pl [] [.long p0, .long p2, .long p4]) (nQc G [] [] (some (.int res))) 0 0 (nA []) := by
  refine n_ofW (own := RX0) (by decide) rfl (Nat.le_of_ble_eq_true rfl) ?_
  intro p e s m args below meth c ls C hml hP hS hl hr hlocks
  have hl : lv_has ls 6 [(0, .long p0), (2, .long p2), (4, .long p4)] := hl
  obtain ⟨Q, hQ⟩ : ∃ Q, Q = MQ below (nQc G [] [] (some (.int res))) args s 0 0 (nA []) := ⟨_, rfl⟩
  rw [← hQ]
  have hret : ∀ (pc : Nat) (ls : Array Slot) (H : Heap) (locs : List Loc), narrow .boolean (.int res) = .int res → decode cX0_in pc = .ok (.ireturn, 1) → va_P G.1 vwCl [] H → va_S (nA []) s.heap H locs → W p l e ({ frames := 0, cells := 0, slots := 0, locals := 0 } : Room) s m args below meth c H locs 0 0 Q (F0 m pc ls [(.int res)]) := by
    intro pc ls H locs hn hd hP hS
    rw [hQ]
    exact n_zret C hr hlocks hn hd hP hS
  clear hQ
  obtain ⟨H, hH⟩ : ∃ H, H = s.heap := ⟨_, rfl⟩
  obtain ⟨locs, hlo⟩ : ∃ locs : List Loc, locs = [] := ⟨_, rfl⟩
  have hP : va_P G.1 vwCl [] H := by rw [hH]; exact hP
  have hS : va_S (nA []) s.heap H locs := by rw [hH, hlo]; exact hS
  suffices hZ : W p l e ({ frames := 0, cells := 0, slots := 0, locals := 0 } : Room) s m args below meth c H locs 0 0 Q (F0 m 0 ls []) by rw [hH, hlo] at hZ; exact hZ
  clear hH hlo
  unfold sC_HW_in at hE
  refine lv_lload_n C.1 C.2.1 dX0_in_0 rfl (lv_at hl 0 rfl) ?_
  refine lv_lload_n C.1 C.2.1 dX0_in_1 rfl (lv_at hl 1 rfl) ?_
  refine W.lcmp C.1 C.2.1 dX0_in_2 ?_
  refine lv_if_lt (tgt := 17) C.1 C.2.1 dX0_in_3 (by decide) (fun c1 => ?_) (fun c1 => ?_)
  · have hE := it_t c1 hE
    refine lv_iconst (v := 0) C.1 C.2.1 dX0_in_17 (by decide) ?_
    obtain rfl := Option.some.inj hE
    exact hret _ _ _ _ (nbz (Or.inl rfl)) dX0_in_18 hP hS
  · have hE := it_f c1 hE
    refine lv_lload_n C.1 C.2.1 dX0_in_6 rfl (lv_at hl 0 rfl) ?_
    refine lv_lload C.1 C.2.1 dX0_in_7 (lv_at hl 2 rfl) ?_
    refine W.lcmp C.1 C.2.1 dX0_in_9 ?_
    refine lv_if_gt (tgt := 17) C.1 C.2.1 dX0_in_10 (by decide) (fun c2 => ?_) (fun c2 => ?_)
    · have hE := it_t c2 hE
      refine lv_iconst (v := 0) C.1 C.2.1 dX0_in_17 (by decide) ?_
      obtain rfl := Option.some.inj hE
      exact hret _ _ _ _ (nbz (Or.inl rfl)) dX0_in_18 hP hS
    · have hE := it_f c2 hE
      refine lv_iconst (v := 1) C.1 C.2.1 dX0_in_13 (by decide) ?_
      refine lv_goto (tgt := 18) C.1 C.2.1 dX0_in_14 (by decide) ?_
      obtain rfl := Option.some.inj hE
      exact hret _ _ _ _ (nbz (Or.inr rfl)) dX0_in_18 hP hS
def sC_Trace_runs (v_ran : Int32) (v_bodies : Nat → Int32) (p1 : Int32) : Option (Int32 × (Nat → Int32)) :=
  @Option.bind ((Nat → Int32)) _ (
    if 20 ≤ v_ran then
      some v_bodies
    else
      if gi v_ran 20 then
      some (upd v_bodies (v_ran).toNatClampNeg p1)
      else none) fun u2 =>
  some ((v_ran + 1), u2)
set_option maxHeartbeats 4000000 in
theorem metC_Trace_runs (l : Launch) (G : kG) (ad : Nat → Nat) (pl : va_W) (v_ran : Int32) (v_bodies : Nat → Int32) (p1 : Int32) (res : Int32 × (Nat → Int32)) (hE : sC_Trace_runs v_ran v_bodies p1 = some res) : Met l yX1_runs (ws_ yX1_runs cX1_runs 2 none) ({ frames := 0, cells := 0, slots := 0, locals := 0 } : Room) (nPc G (tW G.2 ad v_ran v_bodies) pl (tWV ad) [.ref (ad 0), .int p1]) (nQc G (tW G.2 ad res.1 res.2) (tWV ad) none) 0 0 (nA (tWV ad)) := by
  refine n_ofW (own := RX1) (by decide) rfl (Nat.le_of_ble_eq_true rfl) ?_
  intro p e s m args below meth c ls C hml hP hS hl hr hlocks
  have hl : lv_has ls 2 [(0, .ref (ad 0)), (1, .int p1)] := hl
  obtain ⟨Q, hQ⟩ : ∃ Q, Q = MQ below (nQc G (tW G.2 ad res.1 res.2) (tWV ad) none) args s 0 0 (nA (tWV ad)) := ⟨_, rfl⟩
  rw [← hQ]
  have hret : ∀ (pc : Nat) (ls : Array Slot) (H : Heap) (locs : List Loc), decode cX1_runs pc = .ok (.return_, 1) → va_P G.1 vwCl (tW G.2 ad res.1 res.2) H → va_S (nA (tWV ad)) s.heap H locs → W p l e ({ frames := 0, cells := 0, slots := 0, locals := 0 } : Room) s m args below meth c H locs 0 0 Q (F0 m pc ls []) := by
    intro pc ls H locs hd hP hS
    rw [hQ]
    exact n_vret C hr hlocks hd hP hS
  clear hQ
  obtain ⟨H, hH⟩ : ∃ H, H = s.heap := ⟨_, rfl⟩
  obtain ⟨locs, hlo⟩ : ∃ locs : List Loc, locs = [] := ⟨_, rfl⟩
  have hP : va_P G.1 vwCl (tW G.2 ad v_ran v_bodies) H := by rw [hH]; exact hP
  have hS : va_S (nA (tWV ad)) s.heap H locs := by rw [hH, hlo]; exact hS
  suffices hZ : W p l e ({ frames := 0, cells := 0, slots := 0, locals := 0 } : Room) s m args below meth c H locs 0 0 Q (F0 m 0 ls []) by rw [hH, hlo] at hZ; exact hZ
  clear hH hlo
  unfold sC_Trace_runs at hE
  refine lv_aload_n C.1 C.2.1 dX1_runs_0 rfl (lv_at hl 0 rfl) ?_
  refine tWg_0_1 q133 C hP dX1_runs_1 ?_
  refine lv_bipush (v := 20) C.1 C.2.1 dX1_runs_4 (by decide) ?_
  obtain ⟨u2, hR, hE⟩ := it_b hE
  have hJ19u2 : ∀ (H : Heap) (locs : List Loc) (ls : Array Slot), va_P G.1 vwCl (tW G.2 ad v_ran u2) H → va_S (nA (tWV ad)) s.heap H locs → lv_has ls 2 [(0, .ref (ad 0))] → W p l e ({ frames := 0, cells := 0, slots := 0, locals := 0 } : Room) s m args below meth c H locs 0 0 Q (F0 m 19 ls []) := by
    intro H locs ls hP hS hl
    refine lv_aload_n C.1 C.2.1 dX1_runs_19 rfl (lv_at hl 0 rfl) ?_
    refine lv_dup C.1 C.2.1 dX1_runs_20 rfl ?_
    refine tWg_0_1 q133 C hP dX1_runs_21 ?_
    refine lv_iconst (v := 1) C.1 C.2.1 dX1_runs_24 (by decide) ?_
    refine lv_iadd C.1 C.2.1 dX1_runs_25 ?_
    refine tWp_0_1 q133 C hP hS dX1_runs_26 (fun H locs hP hS => ?_)
    obtain rfl := Option.some.inj hE
    exact hret _ _ _ _ dX1_runs_29 hP hS
  have hE := hR
  refine lv_icmp_ge (tgt := 19) C.1 C.2.1 dX1_runs_6 (by decide) (fun c1 => ?_) (fun c1 => ?_)
  · have hE := it_t c1 hE
    obtain rfl := Option.some.inj hE
    exact hJ19u2 H locs ls hP hS (lv_sub hl [0] rfl)
  · have hE := it_f c1 hE
    refine lv_aload_n C.1 C.2.1 dX1_runs_9 rfl (lv_at hl 0 rfl) ?_
    refine tWg_0_0 q131 C hP dX1_runs_10 ?_
    refine lv_aload_n C.1 C.2.1 dX1_runs_13 rfl (lv_at hl 0 rfl) ?_
    refine tWg_0_1 q133 C hP dX1_runs_14 ?_
    refine lv_iload_n C.1 C.2.1 dX1_runs_17 rfl (lv_at hl 1 rfl) ?_
    obtain ⟨g3, hE⟩ := it_g hE
    refine tWs_1 C hP hS (gi_in g3) dX1_runs_18 (fun H locs hP hS => ?_)
    obtain rfl := Option.some.inj hE
    exact hJ19u2 H locs ls hP hS (lv_sub hl [0] rfl)
def sC_Pet_gains (v_weight : Int32) (p1 : Int32) : Option (Int32) :=
  some (imax 0 (imin 400 (v_weight + p1)))
set_option maxHeartbeats 4000000 in
theorem metC_Pet_gains (l : Launch) (G : kG) (ad : Nat → Nat) (pl : va_W) (v_weight : Int32) (v_fright : Int32) (v_age : Int32) (v_asked : Nat → Int32) (p1 : Int32) (res : Int32) (hE : sC_Pet_gains v_weight p1 = some res) : Met l yX2_gains (ws_ yX2_gains cX2_gains 2 none) ({ frames := 1, cells := 0, slots := 0, locals := 21 } : Room) (nPc G (pW G.2 ad v_weight v_fright v_age v_asked) pl (pWV ad) [.ref (ad 0), .int p1]) (nQc G (pW G.2 ad res v_fright v_age v_asked) (pWV ad) none) 0 0 (nA (pWV ad)) := by
  refine n_ofW (own := RX2) (by decide) rfl (Nat.le_of_ble_eq_true rfl) ?_
  intro p e s m args below meth c ls C hml hP hS hl hr hlocks
  have hl : lv_has ls 2 [(0, .ref (ad 0)), (1, .int p1)] := hl
  obtain ⟨Q, hQ⟩ : ∃ Q, Q = MQ below (nQc G (pW G.2 ad res v_fright v_age v_asked) (pWV ad) none) args s 0 0 (nA (pWV ad)) := ⟨_, rfl⟩
  rw [← hQ]
  have hret : ∀ (pc : Nat) (ls : Array Slot) (H : Heap) (locs : List Loc), decode cX2_gains pc = .ok (.return_, 1) → va_P G.1 vwCl (pW G.2 ad res v_fright v_age v_asked) H → va_S (nA (pWV ad)) s.heap H locs → W p l e ({ frames := 1, cells := 0, slots := 0, locals := 21 } : Room) s m args below meth c H locs 0 0 Q (F0 m pc ls []) := by
    intro pc ls H locs hd hP hS
    rw [hQ]
    exact n_vret C hr hlocks hd hP hS
  clear hQ
  obtain ⟨H, hH⟩ : ∃ H, H = s.heap := ⟨_, rfl⟩
  obtain ⟨locs, hlo⟩ : ∃ locs : List Loc, locs = [] := ⟨_, rfl⟩
  have hP : va_P G.1 vwCl (pW G.2 ad v_weight v_fright v_age v_asked) H := by rw [hH]; exact hP
  have hS : va_S (nA (pWV ad)) s.heap H locs := by rw [hH, hlo]; exact hS
  suffices hZ : W p l e ({ frames := 1, cells := 0, slots := 0, locals := 21 } : Room) s m args below meth c H locs 0 0 Q (F0 m 0 ls []) by rw [hH, hlo] at hZ; exact hZ
  clear hH hlo
  unfold sC_Pet_gains at hE
  refine lv_aload_n C.1 C.2.1 dX2_gains_0 rfl (lv_at hl 0 rfl) ?_
  refine lv_iconst (v := 0) C.1 C.2.1 dX2_gains_1 (by decide) ?_
  refine lv_sipush (v := 400) C.1 C.2.1 dX2_gains_2 (by decide) ?_
  refine lv_aload_n C.1 C.2.1 dX2_gains_5 rfl (lv_at hl 0 rfl) ?_
  refine pWg_0_0 q147 C hP dX2_gains_6 ?_
  refine lv_iload_n C.1 C.2.1 dX2_gains_9 rfl (lv_at hl 1 rfl) ?_
  refine lv_iadd C.1 C.2.1 dX2_gains_10 ?_
  refine va_mmin C.1 C.2.1 (by rw [hml]; exact hl.1.symm) C.2.2.1 (C.2.2.2.1 _ q995) (C.2.2.2.1 _ q623) (C.2.2.2.1 _ q101) (C.2.2.2.1 _ q624) (Nat.le_of_ble_eq_true rfl) (Nat.le_of_ble_eq_true rfl) (Nat.zero_le _) (Nat.zero_le _) dX2_gains_11 ?_
  refine va_mmax C.1 C.2.1 (by rw [hml]; exact hl.1.symm) C.2.2.1 (C.2.2.2.1 _ q992) (C.2.2.2.1 _ q993) (C.2.2.2.1 _ q101) (C.2.2.2.1 _ q994) (Nat.le_of_ble_eq_true rfl) (Nat.le_of_ble_eq_true rfl) (Nat.zero_le _) (Nat.zero_le _) dX2_gains_14 ?_
  refine pWp_0_0 q147 C hP hS dX2_gains_17 (fun H locs hP hS => ?_)
  obtain rfl := Option.some.inj hE
  exact hret _ _ _ _ dX2_gains_20 hP hS
def sC_Pet_norm (v_age : Int32) (v_asked : Nat → Int32) (p1 : Int32) : Option (Int32) :=
  if ((v_age + p1) - 51) ≤ 0 then
    some (100 + (5 * (v_asked 0)))
  else
    some (imax 0 ((100 + (5 * (v_asked 0))) - (((v_age + p1) - 51) / 2)))
set_option maxHeartbeats 4000000 in
theorem metC_Pet_norm (l : Launch) (G : kG) (ad : Nat → Nat) (pl : va_W) (v_weight : Int32) (v_fright : Int32) (v_age : Int32) (v_asked : Nat → Int32) (p1 : Int32) (res : Int32) (hE : sC_Pet_norm v_age v_asked p1 = some res) : Met l yX2_norm (ws_ yX2_norm cX2_norm 4 (some .int)) ({ frames := 1, cells := 0, slots := 0, locals := 21 } : Room) (nPc G (pW G.2 ad v_weight v_fright v_age v_asked) pl (pWV ad) [.ref (ad 0), .int p1]) (nQc G (pW G.2 ad v_weight v_fright v_age v_asked) (pWV ad) (some (.int res))) 0 0 (nA (pWV ad)) := by
  refine n_ofW (own := RX2) (by decide) rfl (Nat.le_of_ble_eq_true rfl) ?_
  intro p e s m args below meth c ls C hml hP hS hl hr hlocks
  have hl : lv_has ls 4 [(0, .ref (ad 0)), (1, .int p1)] := hl
  obtain ⟨Q, hQ⟩ : ∃ Q, Q = MQ below (nQc G (pW G.2 ad v_weight v_fright v_age v_asked) (pWV ad) (some (.int res))) args s 0 0 (nA (pWV ad)) := ⟨_, rfl⟩
  rw [← hQ]
  have hret : ∀ (pc : Nat) (ls : Array Slot) (H : Heap) (locs : List Loc), decode cX2_norm pc = .ok (.ireturn, 1) → va_P G.1 vwCl (pW G.2 ad v_weight v_fright v_age v_asked) H → va_S (nA (pWV ad)) s.heap H locs → W p l e ({ frames := 1, cells := 0, slots := 0, locals := 21 } : Room) s m args below meth c H locs 0 0 Q (F0 m pc ls [(.int res)]) := by
    intro pc ls H locs hd hP hS
    rw [hQ]
    exact n_iret C hr hlocks hd hP hS
  clear hQ
  obtain ⟨H, hH⟩ : ∃ H, H = s.heap := ⟨_, rfl⟩
  obtain ⟨locs, hlo⟩ : ∃ locs : List Loc, locs = [] := ⟨_, rfl⟩
  have hP : va_P G.1 vwCl (pW G.2 ad v_weight v_fright v_age v_asked) H := by rw [hH]; exact hP
  have hS : va_S (nA (pWV ad)) s.heap H locs := by rw [hH, hlo]; exact hS
  suffices hZ : W p l e ({ frames := 1, cells := 0, slots := 0, locals := 21 } : Room) s m args below meth c H locs 0 0 Q (F0 m 0 ls []) by rw [hH, hlo] at hZ; exact hZ
  clear hH hlo
  unfold sC_Pet_norm at hE
  refine lv_bipush (v := 100) C.1 C.2.1 dX2_norm_0 (by decide) ?_
  refine lv_iconst (v := 5) C.1 C.2.1 dX2_norm_2 (by decide) ?_
  refine lv_aload_n C.1 C.2.1 dX2_norm_3 rfl (lv_at hl 0 rfl) ?_
  refine pWg_0_3 q158 C hP dX2_norm_4 ?_
  refine lv_iconst (v := 0) C.1 C.2.1 dX2_norm_7 (by decide) ?_
  refine pWl_1 (v := (v_asked 0)) C hP (gi_in (by decide)) rfl dX2_norm_8 ?_
  refine lv_imul C.1 C.2.1 dX2_norm_9 ?_
  refine lv_iadd C.1 C.2.1 dX2_norm_10 ?_
  refine lv_istore_n (lv' := [(2, .int (100 + (5 * (v_asked 0)))), (0, .ref (ad 0)), (1, .int p1)]) C.1 C.2.1 dX2_norm_11 rfl hl (by decide) rfl (fun ls hl => ?_)
  refine lv_aload_n C.1 C.2.1 dX2_norm_12 rfl (lv_at hl 1 rfl) ?_
  refine pWg_0_2 q155 C hP dX2_norm_13 ?_
  refine lv_iload_n C.1 C.2.1 dX2_norm_16 rfl (lv_at hl 2 rfl) ?_
  refine lv_iadd C.1 C.2.1 dX2_norm_17 ?_
  refine lv_bipush (v := 51) C.1 C.2.1 dX2_norm_18 (by decide) ?_
  refine lv_isub C.1 C.2.1 dX2_norm_20 ?_
  refine lv_istore_n (lv' := [(3, .int ((v_age + p1) - 51)), (2, .int (100 + (5 * (v_asked 0)))), (0, .ref (ad 0)), (1, .int p1)]) C.1 C.2.1 dX2_norm_21 rfl hl (by decide) rfl (fun ls hl => ?_)
  refine lv_iload_n C.1 C.2.1 dX2_norm_22 rfl (lv_at hl 0 rfl) ?_
  refine lv_if_le (tgt := 38) C.1 C.2.1 dX2_norm_23 (by decide) (fun c1 => ?_) (fun c1 => ?_)
  · have hE := it_t c1 hE
    refine lv_iload_n C.1 C.2.1 dX2_norm_38 rfl (lv_at hl 1 rfl) ?_
    obtain rfl := Option.some.inj hE
    exact hret _ _ _ _ dX2_norm_39 hP hS
  · have hE := it_f c1 hE
    refine lv_iconst (v := 0) C.1 C.2.1 dX2_norm_26 (by decide) ?_
    refine lv_iload_n C.1 C.2.1 dX2_norm_27 rfl (lv_at hl 1 rfl) ?_
    refine lv_iload_n C.1 C.2.1 dX2_norm_28 rfl (lv_at hl 0 rfl) ?_
    refine lv_iconst (v := 2) C.1 C.2.1 dX2_norm_29 (by decide) ?_
    refine lv_idiv C.1 C.2.1 dX2_norm_30 (by decide) ?_
    refine lv_isub C.1 C.2.1 dX2_norm_31 ?_
    refine va_mmax C.1 C.2.1 (by rw [hml]; exact hl.1.symm) C.2.2.1 (C.2.2.2.1 _ q992) (C.2.2.2.1 _ q993) (C.2.2.2.1 _ q101) (C.2.2.2.1 _ q994) (Nat.le_of_ble_eq_true rfl) (Nat.le_of_ble_eq_true rfl) (Nat.zero_le _) (Nat.zero_le _) dX2_norm_32 ?_
    refine lv_goto (tgt := 39) C.1 C.2.1 dX2_norm_35 (by decide) ?_
    obtain rfl := Option.some.inj hE
    exact hret _ _ _ _ dX2_norm_39 hP hS
def sC_Pet_dies (v_weight : Int32) (v_fright : Int32) (v_age : Int32) (v_asked : Nat → Int32) : Option (Int32) :=
  if (v_asked 2) ≤ v_weight then
    if v_fright ≤ 60 then
      if v_age ≤ (v_asked 1) then
        some (-1)
      else
        some 2
    else
      some 1
  else
    some 0
set_option maxHeartbeats 4000000 in
theorem metC_Pet_dies (l : Launch) (G : kG) (ad : Nat → Nat) (pl : va_W) (v_weight : Int32) (v_fright : Int32) (v_age : Int32) (v_asked : Nat → Int32)  (res : Int32) (hE : sC_Pet_dies v_weight v_fright v_age v_asked = some res) : Met l yX2_dies (ws_ yX2_dies cX2_dies 1 (some .int)) ({ frames := 0, cells := 0, slots := 0, locals := 0 } : Room) (nPc G (pW G.2 ad v_weight v_fright v_age v_asked) pl (pWV ad) [.ref (ad 0)]) (nQc G (pW G.2 ad v_weight v_fright v_age v_asked) (pWV ad) (some (.int res))) 0 0 (nA (pWV ad)) := by
  refine n_ofW (own := RX2) (by decide) rfl (Nat.le_of_ble_eq_true rfl) ?_
  intro p e s m args below meth c ls C hml hP hS hl hr hlocks
  have hl : lv_has ls 1 [(0, .ref (ad 0))] := hl
  obtain ⟨Q, hQ⟩ : ∃ Q, Q = MQ below (nQc G (pW G.2 ad v_weight v_fright v_age v_asked) (pWV ad) (some (.int res))) args s 0 0 (nA (pWV ad)) := ⟨_, rfl⟩
  rw [← hQ]
  have hret : ∀ (pc : Nat) (ls : Array Slot) (H : Heap) (locs : List Loc), decode cX2_dies pc = .ok (.ireturn, 1) → va_P G.1 vwCl (pW G.2 ad v_weight v_fright v_age v_asked) H → va_S (nA (pWV ad)) s.heap H locs → W p l e ({ frames := 0, cells := 0, slots := 0, locals := 0 } : Room) s m args below meth c H locs 0 0 Q (F0 m pc ls [(.int res)]) := by
    intro pc ls H locs hd hP hS
    rw [hQ]
    exact n_iret C hr hlocks hd hP hS
  clear hQ
  obtain ⟨H, hH⟩ : ∃ H, H = s.heap := ⟨_, rfl⟩
  obtain ⟨locs, hlo⟩ : ∃ locs : List Loc, locs = [] := ⟨_, rfl⟩
  have hP : va_P G.1 vwCl (pW G.2 ad v_weight v_fright v_age v_asked) H := by rw [hH]; exact hP
  have hS : va_S (nA (pWV ad)) s.heap H locs := by rw [hH, hlo]; exact hS
  suffices hZ : W p l e ({ frames := 0, cells := 0, slots := 0, locals := 0 } : Room) s m args below meth c H locs 0 0 Q (F0 m 0 ls []) by rw [hH, hlo] at hZ; exact hZ
  clear hH hlo
  unfold sC_Pet_dies at hE
  refine lv_aload_n C.1 C.2.1 dX2_dies_0 rfl (lv_at hl 0 rfl) ?_
  refine pWg_0_0 q147 C hP dX2_dies_1 ?_
  refine lv_aload_n C.1 C.2.1 dX2_dies_4 rfl (lv_at hl 0 rfl) ?_
  refine pWg_0_3 q158 C hP dX2_dies_5 ?_
  refine lv_iconst (v := 2) C.1 C.2.1 dX2_dies_8 (by decide) ?_
  refine pWl_1 (v := (v_asked 2)) C hP (gi_in (by decide)) rfl dX2_dies_9 ?_
  refine lv_icmp_ge (tgt := 17) C.1 C.2.1 dX2_dies_10 (by decide) (fun c1 => ?_) (fun c1 => ?_)
  · have hE := it_t c1 hE
    refine lv_aload_n C.1 C.2.1 dX2_dies_17 rfl (lv_at hl 0 rfl) ?_
    refine pWg_0_1 q150 C hP dX2_dies_18 ?_
    refine lv_bipush (v := 60) C.1 C.2.1 dX2_dies_21 (by decide) ?_
    refine lv_icmp_le (tgt := 30) C.1 C.2.1 dX2_dies_23 (by decide) (fun c2 => ?_) (fun c2 => ?_)
    · have hE := it_t c2 hE
      refine lv_aload_n C.1 C.2.1 dX2_dies_30 rfl (lv_at hl 0 rfl) ?_
      refine pWg_0_2 q155 C hP dX2_dies_31 ?_
      refine lv_aload_n C.1 C.2.1 dX2_dies_34 rfl (lv_at hl 0 rfl) ?_
      refine pWg_0_3 q158 C hP dX2_dies_35 ?_
      refine lv_iconst (v := 1) C.1 C.2.1 dX2_dies_38 (by decide) ?_
      refine pWl_1 (v := (v_asked 1)) C hP (gi_in (by decide)) rfl dX2_dies_39 ?_
      refine lv_icmp_le (tgt := 47) C.1 C.2.1 dX2_dies_40 (by decide) (fun c3 => ?_) (fun c3 => ?_)
      · have hE := it_t c3 hE
        refine lv_iconst (v := (-1)) C.1 C.2.1 dX2_dies_47 (by decide) ?_
        obtain rfl := Option.some.inj hE
        exact hret _ _ _ _ dX2_dies_48 hP hS
      · have hE := it_f c3 hE
        refine lv_iconst (v := 2) C.1 C.2.1 dX2_dies_43 (by decide) ?_
        refine lv_goto (tgt := 48) C.1 C.2.1 dX2_dies_44 (by decide) ?_
        obtain rfl := Option.some.inj hE
        exact hret _ _ _ _ dX2_dies_48 hP hS
    · have hE := it_f c2 hE
      refine lv_iconst (v := 1) C.1 C.2.1 dX2_dies_26 (by decide) ?_
      refine lv_goto (tgt := 48) C.1 C.2.1 dX2_dies_27 (by decide) ?_
      obtain rfl := Option.some.inj hE
      exact hret _ _ _ _ dX2_dies_48 hP hS
  · have hE := it_f c1 hE
    refine lv_iconst (v := 0) C.1 C.2.1 dX2_dies_13 (by decide) ?_
    refine lv_goto (tgt := 48) C.1 C.2.1 dX2_dies_14 (by decide) ?_
    obtain rfl := Option.some.inj hE
    exact hret _ _ _ _ dX2_dies_48 hP hS
def sC_Pet_replaced (v_weight : Int32) (v_fright : Int32) (v_age : Int32) : Option (Int32 × Int32 × Int32) :=
  some (80, 0, 0)
set_option maxHeartbeats 4000000 in
theorem metC_Pet_replaced (l : Launch) (G : kG) (ad : Nat → Nat) (pl : va_W) (v_weight : Int32) (v_fright : Int32) (v_age : Int32) (v_asked : Nat → Int32)  (res : Int32 × Int32 × Int32) (hE : sC_Pet_replaced v_weight v_fright v_age = some res) : Met l yX2_replaced (ws_ yX2_replaced cX2_replaced 1 none) ({ frames := 0, cells := 0, slots := 0, locals := 0 } : Room) (nPc G (pW G.2 ad v_weight v_fright v_age v_asked) pl (pWV ad) [.ref (ad 0)]) (nQc G (pW G.2 ad res.1 res.2.1 res.2.2 v_asked) (pWV ad) none) 0 0 (nA (pWV ad)) := by
  refine n_ofW (own := RX2) (by decide) rfl (Nat.le_of_ble_eq_true rfl) ?_
  intro p e s m args below meth c ls C hml hP hS hl hr hlocks
  have hl : lv_has ls 1 [(0, .ref (ad 0))] := hl
  obtain ⟨Q, hQ⟩ : ∃ Q, Q = MQ below (nQc G (pW G.2 ad res.1 res.2.1 res.2.2 v_asked) (pWV ad) none) args s 0 0 (nA (pWV ad)) := ⟨_, rfl⟩
  rw [← hQ]
  have hret : ∀ (pc : Nat) (ls : Array Slot) (H : Heap) (locs : List Loc), decode cX2_replaced pc = .ok (.return_, 1) → va_P G.1 vwCl (pW G.2 ad res.1 res.2.1 res.2.2 v_asked) H → va_S (nA (pWV ad)) s.heap H locs → W p l e ({ frames := 0, cells := 0, slots := 0, locals := 0 } : Room) s m args below meth c H locs 0 0 Q (F0 m pc ls []) := by
    intro pc ls H locs hd hP hS
    rw [hQ]
    exact n_vret C hr hlocks hd hP hS
  clear hQ
  obtain ⟨H, hH⟩ : ∃ H, H = s.heap := ⟨_, rfl⟩
  obtain ⟨locs, hlo⟩ : ∃ locs : List Loc, locs = [] := ⟨_, rfl⟩
  have hP : va_P G.1 vwCl (pW G.2 ad v_weight v_fright v_age v_asked) H := by rw [hH]; exact hP
  have hS : va_S (nA (pWV ad)) s.heap H locs := by rw [hH, hlo]; exact hS
  suffices hZ : W p l e ({ frames := 0, cells := 0, slots := 0, locals := 0 } : Room) s m args below meth c H locs 0 0 Q (F0 m 0 ls []) by rw [hH, hlo] at hZ; exact hZ
  clear hH hlo
  unfold sC_Pet_replaced at hE
  refine lv_aload_n C.1 C.2.1 dX2_replaced_0 rfl (lv_at hl 0 rfl) ?_
  refine lv_bipush (v := 80) C.1 C.2.1 dX2_replaced_1 (by decide) ?_
  refine pWp_0_0 q147 C hP hS dX2_replaced_3 (fun H locs hP hS => ?_)
  refine lv_aload_n C.1 C.2.1 dX2_replaced_6 rfl (lv_at hl 0 rfl) ?_
  refine lv_iconst (v := 0) C.1 C.2.1 dX2_replaced_7 (by decide) ?_
  refine pWp_0_1 q150 C hP hS dX2_replaced_8 (fun H locs hP hS => ?_)
  refine lv_aload_n C.1 C.2.1 dX2_replaced_11 rfl (lv_at hl 0 rfl) ?_
  refine lv_iconst (v := 0) C.1 C.2.1 dX2_replaced_12 (by decide) ?_
  refine pWp_0_2 q155 C hP hS dX2_replaced_13 (fun H locs hP hS => ?_)
  obtain rfl := Option.some.inj hE
  exact hret _ _ _ _ dX2_replaced_16 hP hS
def sC_Pet_take (v_weight : Int32) (v_fright : Int32) (v_age : Int32) (v_asked : Nat → Int32) (v_weight2 : Int32) (v_fright2 : Int32) (v_age2 : Int32) (v_asked2 : Nat → Int32) : Option (Int32 × Int32 × Int32 × (Nat → Int32)) :=
  some (v_weight2, v_fright2, v_age2, (va_cpy v_asked2 v_asked 0 0 3))
set_option maxHeartbeats 4000000 in
theorem metC_Pet_take (l : Launch) (G : kG) (ad : Nat → Nat) (pl : va_W) (v_weight : Int32) (v_fright : Int32) (v_age : Int32) (v_asked : Nat → Int32) (v_weight2 : Int32) (v_fright2 : Int32) (v_age2 : Int32) (v_asked2 : Nat → Int32)  (res : Int32 × Int32 × Int32 × (Nat → Int32)) (hE : sC_Pet_take v_weight v_fright v_age v_asked v_weight2 v_fright2 v_age2 v_asked2 = some res) : Met l yX2_take (ws_ yX2_take cX2_take 2 (some (.object "HamsterWeekends$Pet"))) ({ frames := 1, cells := 0, slots := 0, locals := 40 } : Room) (nPc G (ppW G.2 ad v_weight v_fright v_age v_asked v_weight2 v_fright2 v_age2 v_asked2) pl (ppWV ad) [.ref (ad 0), .ref (ad 2)]) (nQc G (ppW G.2 ad res.1 res.2.1 res.2.2.1 res.2.2.2 v_weight2 v_fright2 v_age2 v_asked2) (ppWV ad) (some (.ref (ad 0)))) 0 0 (nA (ppWV ad)) := by
  refine n_ofW (own := RX2) (by decide) rfl (Nat.le_of_ble_eq_true rfl) ?_
  intro p e s m args below meth c ls C hml hP hS hl hr hlocks
  have hl : lv_has ls 2 [(0, .ref (ad 0)), (1, .ref (ad 2))] := hl
  obtain ⟨Q, hQ⟩ : ∃ Q, Q = MQ below (nQc G (ppW G.2 ad res.1 res.2.1 res.2.2.1 res.2.2.2 v_weight2 v_fright2 v_age2 v_asked2) (ppWV ad) (some (.ref (ad 0)))) args s 0 0 (nA (ppWV ad)) := ⟨_, rfl⟩
  rw [← hQ]
  have hret : ∀ (pc : Nat) (ls : Array Slot) (H : Heap) (locs : List Loc), decode cX2_take pc = .ok (.areturn, 1) → va_P G.1 vwCl (ppW G.2 ad res.1 res.2.1 res.2.2.1 res.2.2.2 v_weight2 v_fright2 v_age2 v_asked2) H → va_S (nA (ppWV ad)) s.heap H locs → W p l e ({ frames := 1, cells := 0, slots := 0, locals := 40 } : Room) s m args below meth c H locs 0 0 Q (F0 m pc ls [(.ref (ad 0))]) := by
    intro pc ls H locs hd hP hS
    rw [hQ]
    exact n_aret C hr (Or.inl ⟨_, rfl⟩) (Or.inr ⟨_, rfl⟩) hlocks hd hP hS
  clear hQ
  obtain ⟨H, hH⟩ : ∃ H, H = s.heap := ⟨_, rfl⟩
  obtain ⟨locs, hlo⟩ : ∃ locs : List Loc, locs = [] := ⟨_, rfl⟩
  have hP : va_P G.1 vwCl (ppW G.2 ad v_weight v_fright v_age v_asked v_weight2 v_fright2 v_age2 v_asked2) H := by rw [hH]; exact hP
  have hS : va_S (nA (ppWV ad)) s.heap H locs := by rw [hH, hlo]; exact hS
  suffices hZ : W p l e ({ frames := 1, cells := 0, slots := 0, locals := 40 } : Room) s m args below meth c H locs 0 0 Q (F0 m 0 ls []) by rw [hH, hlo] at hZ; exact hZ
  clear hH hlo
  unfold sC_Pet_take at hE
  refine lv_aload_n C.1 C.2.1 dX2_take_0 rfl (lv_at hl 0 rfl) ?_
  refine lv_aload_n C.1 C.2.1 dX2_take_1 rfl (lv_at hl 1 rfl) ?_
  refine ppWg_2_0 q147 C hP dX2_take_2 ?_
  refine ppWp_0_0 q147 C hP hS dX2_take_5 (fun H locs hP hS => ?_)
  refine lv_aload_n C.1 C.2.1 dX2_take_8 rfl (lv_at hl 0 rfl) ?_
  refine lv_aload_n C.1 C.2.1 dX2_take_9 rfl (lv_at hl 1 rfl) ?_
  refine ppWg_2_1 q150 C hP dX2_take_10 ?_
  refine ppWp_0_1 q150 C hP hS dX2_take_13 (fun H locs hP hS => ?_)
  refine lv_aload_n C.1 C.2.1 dX2_take_16 rfl (lv_at hl 0 rfl) ?_
  refine lv_aload_n C.1 C.2.1 dX2_take_17 rfl (lv_at hl 1 rfl) ?_
  refine ppWg_2_2 q155 C hP dX2_take_18 ?_
  refine ppWp_0_2 q155 C hP hS dX2_take_21 (fun H locs hP hS => ?_)
  refine lv_aload_n C.1 C.2.1 dX2_take_24 rfl (lv_at hl 1 rfl) ?_
  refine ppWg_2_3 q158 C hP dX2_take_25 ?_
  refine lv_iconst (v := 0) C.1 C.2.1 dX2_take_28 (by decide) ?_
  refine lv_aload_n C.1 C.2.1 dX2_take_29 rfl (lv_at hl 0 rfl) ?_
  refine ppWg_0_3 q158 C hP dX2_take_30 ?_
  refine lv_iconst (v := 0) C.1 C.2.1 dX2_take_33 (by decide) ?_
  refine lv_iconst (v := 3) C.1 C.2.1 dX2_take_34 (by decide) ?_
  refine va_copyi C.1 C.2.1 (by rw [hml]; exact hl.1.symm) C.2.2.1 (C.2.2.2.1 _ q799) (C.2.2.2.1 _ q553) (C.2.2.2.1 _ q552) (C.2.2.2.1 _ q100) C.2.2.2.2.1 hP (nD_of (nd_left C.2.2.2.2.2.1) C.2.2.2.2.2.2.2.1 ppW_av) hS 3 1 0 0 rfl rfl rfl rfl rfl (by decide) (by decide) (by decide) (by decide) (by decide) (fun _ _ => rfl) (Nat.le_of_ble_eq_true rfl) (Nat.le_of_ble_eq_true rfl) dX2_take_35 (fun H locs hP _ hS => ?_)
  refine lv_aload_n C.1 C.2.1 dX2_take_38 rfl (lv_at hl 0 rfl) ?_
  obtain rfl := Option.some.inj hE
  exact hret _ _ _ _ dX2_take_39 hP hS
