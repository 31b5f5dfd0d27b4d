set_option maxRecDepth 100000
def sC_Pet_week_N (v_weight : Int32) (v_fright : Int32) (v_age : Int32) (v_asked : Nat → Int32) : Option (Int32 × Int32 × Int32) :=
  (sC_Pet_norm v_age v_asked 0).bind fun r1 =>
  some ((v_weight + (imax (-(v_asked 0)) (imin (v_asked 0) (r1 - v_weight)))), (v_fright / 2), (v_age + 1))
set_option maxHeartbeats 4000000 in
theorem metC_Pet_week_N (l : Launch) (G : kG) (ad : Nat → Nat) (pl : va_W) (v_weight : Int32) (v_fright : Int32) (v_age : Int32) (v_asked : Nat → Int32)  (res : Int32 × Int32 × Int32) (hE : sC_Pet_week_N v_weight v_fright v_age v_asked = some res) : Met l yX2_week (ws_ yX2_week cX2_week 3 none) ({ frames := 2, cells := 0, slots := 0, locals := 44 } : Room) (nPc G (pW G.2 ad v_weight v_fright v_age v_asked) pl (pWV ad) [.ref (ad 0), .null]) (nQc G (pW G.2 ad res.1 res.2.1 res.2.2 v_asked) (pWV ad) none) 0 0 (nA (pWV ad)) := by
  refine n_ofW (own := RX2) (by decide) rfl (Nat.le_of_ble_eq_true rfl) ?_
  intro p e s m args below meth c ls C hml hP hS hl hr hlocks
  have hl : lv_has ls 3 [(0, .ref (ad 0)), (1, .null)] := hl
  obtain ⟨Q, hQ⟩ : ∃ Q, Q = MQ below (nQc G (pW G.2 ad res.1 res.2.1 res.2.2 v_asked) (pWV ad) none) args s 0 0 (nA (pWV ad)) := ⟨_, rfl⟩
  rw [← hQ]
  have hret : ∀ (pc : Nat) (ls : Array Slot) (H : Heap) (locs : List Loc), decode cX2_week pc = .ok (.return_, 1) → va_P G.1 vwCl (pW G.2 ad res.1 res.2.1 res.2.2 v_asked) H → va_S (nA (pWV ad)) s.heap H locs → W p l e ({ frames := 2, cells := 0, slots := 0, locals := 44 } : Room) s m args below meth c H locs 0 0 Q (F0 m pc ls []) := by
    intro pc ls H locs hd hP hS
    rw [hQ]
    exact n_vret C hr hlocks hd hP hS
  clear hQ
  obtain ⟨H, hH⟩ : ∃ H, H = s.heap := ⟨_, rfl⟩
  obtain ⟨locs, hlo⟩ : ∃ locs : List Loc, locs = [] := ⟨_, rfl⟩
  have hP : va_P G.1 vwCl (pW G.2 ad v_weight v_fright v_age v_asked) H := by rw [hH]; exact hP
  have hS : va_S (nA (pWV ad)) s.heap H locs := by rw [hH, hlo]; exact hS
  suffices hZ : W p l e ({ frames := 2, cells := 0, slots := 0, locals := 44 } : Room) s m args below meth c H locs 0 0 Q (F0 m 0 ls []) by rw [hH, hlo] at hZ; exact hZ
  clear hH hlo
  unfold sC_Pet_week_N at hE
  refine lv_aload_n C.1 C.2.1 dX2_week_0 rfl (lv_at hl 0 rfl) ?_
  refine lv_iconst (v := 0) C.1 C.2.1 dX2_week_1 (by decide) ?_
  obtain ⟨r1, hr1, hE⟩ := it_b hE
  refine n_afterS C.2.2.2.2.2.2.2.1 hS (va_runV (As := [.int 0]) (rest := []) ⟨C.1, C.2.1, hml, C.2.2.1, C.2.2.2.1⟩ (metC_Pet_norm l G ad pl _ _ _ _ 0  r1 hr1) (cwV (C := RX2) 1 C.2.2.2.1 (lw_V q988 q989 q990 q82 q991) rfl rfl rfl (by decide +kernel) ⟨Nat.le_of_ble_eq_true rfl, Nat.le_of_ble_eq_true rfl⟩) (n_preV0 C hP hS (va_recv C.2.2.2.2.1 hP (ci := 11) (q0 := 0) rfl rfl)) rfl rfl hl.1 rfl (lv_room (Nat.le_of_ble_eq_true rfl)) dX2_week_2 ⟨Nat.le_refl _, Nat.le_refl _⟩) (fun H locs hP hS => ?_)
  refine lv_aload_n C.1 C.2.1 dX2_week_5 rfl (lv_at hl 0 rfl) ?_
  refine pWg_0_0 q147 C hP dX2_week_6 ?_
  refine lv_isub C.1 C.2.1 dX2_week_9 ?_
  refine lv_istore_n (lv' := [(2, .int (r1 - v_weight)), (0, .ref (ad 0)), (1, .null)]) C.1 C.2.1 dX2_week_10 rfl hl (by decide) rfl (fun ls hl => ?_)
  refine lv_aload_n C.1 C.2.1 dX2_week_11 rfl (lv_at hl 1 rfl) ?_
  refine lv_dup C.1 C.2.1 dX2_week_12 rfl ?_
  refine pWg_0_0 q147 C hP dX2_week_13 ?_
  refine lv_aload_n C.1 C.2.1 dX2_week_16 rfl (lv_at hl 1 rfl) ?_
  refine pWg_0_3 q158 C hP dX2_week_17 ?_
  refine lv_iconst (v := 0) C.1 C.2.1 dX2_week_20 (by decide) ?_
  refine pWl_1 (v := (v_asked 0)) C hP (gi_in (by decide)) rfl dX2_week_21 ?_
  refine lv_ineg C.1 C.2.1 dX2_week_22 ?_
  refine lv_aload_n C.1 C.2.1 dX2_week_23 rfl (lv_at hl 1 rfl) ?_
  refine pWg_0_3 q158 C hP dX2_week_24 ?_
  refine lv_iconst (v := 0) C.1 C.2.1 dX2_week_27 (by decide) ?_
  refine pWl_1 (v := (v_asked 0)) C hP (gi_in (by decide)) rfl dX2_week_28 ?_
  refine lv_iload_n C.1 C.2.1 dX2_week_29 rfl (lv_at hl 0 rfl) ?_
  refine va_mmin C.1 C.2.1 (by rw [hml]; exact hl.1.symm) C.2.2.1 (C.2.2.2.1 _ q995) (C.2.2.2.1 _ q623) (C.2.2.2.1 _ q101) (C.2.2.2.1 _ q624) (Nat.le_of_ble_eq_true rfl) (Nat.le_of_ble_eq_true rfl) (Nat.zero_le _) (Nat.zero_le _) dX2_week_30 ?_
  refine va_mmax C.1 C.2.1 (by rw [hml]; exact hl.1.symm) C.2.2.1 (C.2.2.2.1 _ q992) (C.2.2.2.1 _ q993) (C.2.2.2.1 _ q101) (C.2.2.2.1 _ q994) (Nat.le_of_ble_eq_true rfl) (Nat.le_of_ble_eq_true rfl) (Nat.zero_le _) (Nat.zero_le _) dX2_week_33 ?_
  refine lv_iadd C.1 C.2.1 dX2_week_36 ?_
  refine pWp_0_0 q147 C hP hS dX2_week_37 (fun H locs hP hS => ?_)
  refine lv_aload_n C.1 C.2.1 dX2_week_40 rfl (lv_at hl 1 rfl) ?_
  refine lv_dup C.1 C.2.1 dX2_week_41 rfl ?_
  refine pWg_0_1 q150 C hP dX2_week_42 ?_
  refine lv_iconst (v := 2) C.1 C.2.1 dX2_week_45 (by decide) ?_
  refine lv_idiv C.1 C.2.1 dX2_week_46 (by decide) ?_
  refine pWp_0_1 q150 C hP hS dX2_week_47 (fun H locs hP hS => ?_)
  refine lv_aload_n C.1 C.2.1 dX2_week_50 rfl (lv_at hl 1 rfl) ?_
  refine lv_dup C.1 C.2.1 dX2_week_51 rfl ?_
  refine pWg_0_2 q155 C hP dX2_week_52 ?_
  refine lv_iconst (v := 1) C.1 C.2.1 dX2_week_55 (by decide) ?_
  refine lv_iadd C.1 C.2.1 dX2_week_56 ?_
  refine pWp_0_2 q155 C hP hS dX2_week_57 (fun H locs hP hS => ?_)
  refine lv_aload_nN C.1 C.2.1 dX2_week_60 rfl (lv_at hl 2 rfl) ?_
  refine lv_ifnullN (tgt := 69) C.1 C.2.1 dX2_week_61 (by decide) ?_
  obtain rfl := Option.some.inj hE
  exact hret _ _ _ _ dX2_week_69 hP hS
def sC_Pet_week_H (v_weight : Int32) (v_fright : Int32) (v_age : Int32) (v_asked : Nat → Int32) (k : Nat) (ix : Int32) (hby : Int32) : Option (Int32 × Int32 × Int32) :=
  (sC_Pet_norm v_age v_asked 0).bind fun r1 =>
  if k = 0 then
    (sC_Home_weekend_0 (v_weight + (imax (-(v_asked 0)) (imin (v_asked 0) (r1 - v_weight)))) ix hby).bind fun r4 =>
    some (r4, (v_fright / 2), (v_age + 1))
  else
  if k = 1 then
    (sC_Good_weekend_1 (v_weight + (imax (-(v_asked 0)) (imin (v_asked 0) (r1 - v_weight)))) ix hby).bind fun r7 =>
    some (r7, (v_fright / 2), (v_age + 1))
  else
  if k = 2 then
    (sC_Cat_weekend_2 (v_weight + (imax (-(v_asked 0)) (imin (v_asked 0) (r1 - v_weight)))) (v_fright / 2) ix hby).bind fun r10 =>
    some (r10.1, r10.2, (v_age + 1))
  else
  if k = 3 then
    (sC_Good_weekend_3 (v_weight + (imax (-(v_asked 0)) (imin (v_asked 0) (r1 - v_weight)))) ix hby).bind fun r13 =>
    some (r13, (v_fright / 2), (v_age + 1))
  else
  if k = 4 then
    (sC_Far_weekend_4 (v_weight + (imax (-(v_asked 0)) (imin (v_asked 0) (r1 - v_weight)))) (v_fright / 2) ix hby).bind fun r16 =>
    some (r16, (v_fright / 2), (v_age + 1))
  else
  if k = 5 then
    (sC_Cat_weekend_5 (v_weight + (imax (-(v_asked 0)) (imin (v_asked 0) (r1 - v_weight)))) (v_fright / 2) ix hby).bind fun r19 =>
    some (r19.1, r19.2, (v_age + 1))
  else
  if k = 6 then
    (sC_Far_weekend_6 (v_weight + (imax (-(v_asked 0)) (imin (v_asked 0) (r1 - v_weight)))) (v_fright / 2) ix hby).bind fun r22 =>
    some (r22, (v_fright / 2), (v_age + 1))
  else
  none
set_option maxHeartbeats 4000000 in
theorem metC_Pet_week_H (l : Launch) (G : kG) (ad : Nat → Nat) (pl : va_W) (v_weight : Int32) (v_fright : Int32) (v_age : Int32) (v_asked : Nat → Int32) (q : Nat) (k : Nat) (ix : Int32) (hby : Int32) (hk7 : k < 7) (hq : (q, .inr (k, [.int ix, .int hby])) ∈ pl) (res : Int32 × Int32 × Int32) (hE : sC_Pet_week_H v_weight v_fright v_age v_asked k ix hby = some res) : Met l yX2_week (ws_ yX2_week cX2_week 3 none) ({ frames := 4, cells := 0, slots := 0, locals := 84 } : Room) (nPc G (pW G.2 ad v_weight v_fright v_age v_asked) pl (pWV ad) [.ref (ad 0), .ref q]) (nQc G (pW G.2 ad res.1 res.2.1 res.2.2 v_asked) (pWV ad) none) 0 0 (nA (pWV ad)) := by
  refine n_ofW (own := RX2) (by decide) rfl (Nat.le_of_ble_eq_true rfl) ?_
  intro p e s m args below meth c ls C hml hP hS hl hr hlocks
  have hl : lv_has ls 3 [(0, .ref (ad 0)), (1, .ref q)] := hl
  obtain ⟨Q, hQ⟩ : ∃ Q, Q = MQ below (nQc G (pW G.2 ad res.1 res.2.1 res.2.2 v_asked) (pWV ad) none) args s 0 0 (nA (pWV ad)) := ⟨_, rfl⟩
  rw [← hQ]
  have hret : ∀ (pc : Nat) (ls : Array Slot) (H : Heap) (locs : List Loc), decode cX2_week pc = .ok (.return_, 1) → va_P G.1 vwCl (pW G.2 ad res.1 res.2.1 res.2.2 v_asked) H → va_S (nA (pWV ad)) s.heap H locs → W p l e ({ frames := 4, cells := 0, slots := 0, locals := 84 } : Room) s m args below meth c H locs 0 0 Q (F0 m pc ls []) := by
    intro pc ls H locs hd hP hS
    rw [hQ]
    exact n_vret C hr hlocks hd hP hS
  clear hQ
  obtain ⟨H, hH⟩ : ∃ H, H = s.heap := ⟨_, rfl⟩
  obtain ⟨locs, hlo⟩ : ∃ locs : List Loc, locs = [] := ⟨_, rfl⟩
  have hP : va_P G.1 vwCl (pW G.2 ad v_weight v_fright v_age v_asked) H := by rw [hH]; exact hP
  have hS : va_S (nA (pWV ad)) s.heap H locs := by rw [hH, hlo]; exact hS
  suffices hZ : W p l e ({ frames := 4, cells := 0, slots := 0, locals := 84 } : Room) s m args below meth c H locs 0 0 Q (F0 m 0 ls []) by rw [hH, hlo] at hZ; exact hZ
  clear hH hlo
  unfold sC_Pet_week_H at hE
  refine lv_aload_n C.1 C.2.1 dX2_week_0 rfl (lv_at hl 0 rfl) ?_
  refine lv_iconst (v := 0) C.1 C.2.1 dX2_week_1 (by decide) ?_
  obtain ⟨r1, hr1, hE⟩ := it_b hE
  refine n_afterS C.2.2.2.2.2.2.2.1 hS (va_runV (As := [.int 0]) (rest := []) ⟨C.1, C.2.1, hml, C.2.2.1, C.2.2.2.1⟩ (metC_Pet_norm l G ad pl _ _ _ _ 0  r1 hr1) (cwV (C := RX2) 1 C.2.2.2.1 (lw_V q988 q989 q990 q82 q991) rfl rfl rfl (by decide +kernel) ⟨Nat.le_of_ble_eq_true rfl, Nat.le_of_ble_eq_true rfl⟩) (n_preV0 C hP hS (va_recv C.2.2.2.2.1 hP (ci := 11) (q0 := 0) rfl rfl)) rfl rfl hl.1 rfl (lv_room (Nat.le_of_ble_eq_true rfl)) dX2_week_2 ⟨Nat.le_refl _, Nat.le_refl _⟩) (fun H locs hP hS => ?_)
  refine lv_aload_n C.1 C.2.1 dX2_week_5 rfl (lv_at hl 0 rfl) ?_
  refine pWg_0_0 q147 C hP dX2_week_6 ?_
  refine lv_isub C.1 C.2.1 dX2_week_9 ?_
  refine lv_istore_n (lv' := [(2, .int (r1 - v_weight)), (0, .ref (ad 0)), (1, .ref q)]) C.1 C.2.1 dX2_week_10 rfl hl (by decide) rfl (fun ls hl => ?_)
  refine lv_aload_n C.1 C.2.1 dX2_week_11 rfl (lv_at hl 1 rfl) ?_
  refine lv_dup C.1 C.2.1 dX2_week_12 rfl ?_
  refine pWg_0_0 q147 C hP dX2_week_13 ?_
  refine lv_aload_n C.1 C.2.1 dX2_week_16 rfl (lv_at hl 1 rfl) ?_
  refine pWg_0_3 q158 C hP dX2_week_17 ?_
  refine lv_iconst (v := 0) C.1 C.2.1 dX2_week_20 (by decide) ?_
  refine pWl_1 (v := (v_asked 0)) C hP (gi_in (by decide)) rfl dX2_week_21 ?_
  refine lv_ineg C.1 C.2.1 dX2_week_22 ?_
  refine lv_aload_n C.1 C.2.1 dX2_week_23 rfl (lv_at hl 1 rfl) ?_
  refine pWg_0_3 q158 C hP dX2_week_24 ?_
  refine lv_iconst (v := 0) C.1 C.2.1 dX2_week_27 (by decide) ?_
  refine pWl_1 (v := (v_asked 0)) C hP (gi_in (by decide)) rfl dX2_week_28 ?_
  refine lv_iload_n C.1 C.2.1 dX2_week_29 rfl (lv_at hl 0 rfl) ?_
  refine va_mmin C.1 C.2.1 (by rw [hml]; exact hl.1.symm) C.2.2.1 (C.2.2.2.1 _ q995) (C.2.2.2.1 _ q623) (C.2.2.2.1 _ q101) (C.2.2.2.1 _ q624) (Nat.le_of_ble_eq_true rfl) (Nat.le_of_ble_eq_true rfl) (Nat.zero_le _) (Nat.zero_le _) dX2_week_30 ?_
  refine va_mmax C.1 C.2.1 (by rw [hml]; exact hl.1.symm) C.2.2.1 (C.2.2.2.1 _ q992) (C.2.2.2.1 _ q993) (C.2.2.2.1 _ q101) (C.2.2.2.1 _ q994) (Nat.le_of_ble_eq_true rfl) (Nat.le_of_ble_eq_true rfl) (Nat.zero_le _) (Nat.zero_le _) dX2_week_33 ?_
  refine lv_iadd C.1 C.2.1 dX2_week_36 ?_
  refine pWp_0_0 q147 C hP hS dX2_week_37 (fun H locs hP hS => ?_)
  refine lv_aload_n C.1 C.2.1 dX2_week_40 rfl (lv_at hl 1 rfl) ?_
  refine lv_dup C.1 C.2.1 dX2_week_41 rfl ?_
  refine pWg_0_1 q150 C hP dX2_week_42 ?_
  refine lv_iconst (v := 2) C.1 C.2.1 dX2_week_45 (by decide) ?_
  refine lv_idiv C.1 C.2.1 dX2_week_46 (by decide) ?_
  refine pWp_0_1 q150 C hP hS dX2_week_47 (fun H locs hP hS => ?_)
  refine lv_aload_n C.1 C.2.1 dX2_week_50 rfl (lv_at hl 1 rfl) ?_
  refine lv_dup C.1 C.2.1 dX2_week_51 rfl ?_
  refine pWg_0_2 q155 C hP dX2_week_52 ?_
  refine lv_iconst (v := 1) C.1 C.2.1 dX2_week_55 (by decide) ?_
  refine lv_iadd C.1 C.2.1 dX2_week_56 ?_
  refine pWp_0_2 q155 C hP hS dX2_week_57 (fun H locs hP hS => ?_)
  refine lv_aload_n C.1 C.2.1 dX2_week_60 rfl (lv_at hl 2 rfl) ?_
  refine lv_ifnull C.1 C.2.1 dX2_week_61 ?_
  refine lv_aload_n C.1 C.2.1 dX2_week_64 rfl (lv_at hl 2 rfl) ?_
  refine lv_aload_n C.1 C.2.1 dX2_week_65 rfl (lv_at hl 1 rfl) ?_
  by_cases c2 : k = 0
  · have hE := it_t c2 hE
    have hq3 := hq
    rw [c2] at hq3
    obtain ⟨r4, hr4, hE⟩ := it_b hE
    refine n_afterS C.2.2.2.2.2.2.2.1 hS (va_runV (As := [.ref (ad 0)]) (rest := []) ⟨C.1, C.2.1, hml, C.2.2.1, C.2.2.2.1⟩ (metC_Home_weekend_0 l G ad pl _ _ _ _ q ix hby hq3 r4 hr4) (cwV (C := RX12) 1 C.2.2.2.1 (lw_V q996 q997 q998 q102 q1021) rfl rfl rfl (by decide +kernel) ⟨Nat.le_of_ble_eq_true rfl, Nat.le_of_ble_eq_true rfl⟩) (n_preV0 C hP hS (n_recvH C hS hq3 rfl)) rfl rfl hl.1 rfl (lv_room (Nat.le_of_ble_eq_true rfl)) dX2_week_66 ⟨Nat.le_refl _, Nat.le_refl _⟩) (fun H locs hP hS => ?_)
    obtain rfl := Option.some.inj hE
    exact hret _ _ _ _ dX2_week_69 hP hS
  have hE := it_f c2 hE
  by_cases c5 : k = 1
  · have hE := it_t c5 hE
    have hq6 := hq
    rw [c5] at hq6
    obtain ⟨r7, hr7, hE⟩ := it_b hE
    refine n_afterS C.2.2.2.2.2.2.2.1 hS (va_runU (As := [.ref (ad 0)]) (rest := []) ⟨C.1, C.2.1, hml, C.2.2.1, C.2.2.2.1⟩ (metC_Good_weekend_1 l G ad pl _ _ _ _ q ix hby hq6 r7 hr7) (va_cwO (C := RX13) (owner := "HamsterWeekends$Home") 1 C.2.2.2.1 (lw_O q996 q999 q997 q1015 q1016 q103 q1017) rfl rfl rfl q1021 (by decide +kernel) ⟨Nat.le_of_ble_eq_true rfl, Nat.le_of_ble_eq_true rfl⟩) (n_preV0 C hP hS (n_recvH C hS hq6 rfl)) rfl rfl hl.1 rfl (lv_room (Nat.le_of_ble_eq_true rfl)) dX2_week_66 ⟨Nat.le_refl _, Nat.le_refl _⟩) (fun H locs hP hS => ?_)
    obtain rfl := Option.some.inj hE
    exact hret _ _ _ _ dX2_week_69 hP hS
  have hE := it_f c5 hE
  by_cases c8 : k = 2
  · have hE := it_t c8 hE
    have hq9 := hq
    rw [c8] at hq9
    obtain ⟨r10, hr10, hE⟩ := it_b hE
    refine n_afterS C.2.2.2.2.2.2.2.1 hS (va_runU (As := [.ref (ad 0)]) (rest := []) ⟨C.1, C.2.1, hml, C.2.2.1, C.2.2.2.1⟩ (metC_Cat_weekend_2 l G ad pl _ _ _ _ q ix hby hq9 r10 hr10) (va_cwO (C := RX14) (owner := "HamsterWeekends$Home") 1 C.2.2.2.1 (lw_O q996 q999 q997 q1008 q1009 q104 q1010) rfl rfl rfl q1021 (by decide +kernel) ⟨Nat.le_of_ble_eq_true rfl, Nat.le_of_ble_eq_true rfl⟩) (n_preV0 C hP hS (n_recvH C hS hq9 rfl)) rfl rfl hl.1 rfl (lv_room (Nat.le_of_ble_eq_true rfl)) dX2_week_66 ⟨Nat.le_refl _, Nat.le_refl _⟩) (fun H locs hP hS => ?_)
    obtain rfl := Option.some.inj hE
    exact hret _ _ _ _ dX2_week_69 hP hS
  have hE := it_f c8 hE
  by_cases c11 : k = 3
  · have hE := it_t c11 hE
    have hq12 := hq
    rw [c11] at hq12
    obtain ⟨r13, hr13, hE⟩ := it_b hE
    refine n_afterS C.2.2.2.2.2.2.2.1 hS (va_runU (As := [.ref (ad 0)]) (rest := []) ⟨C.1, C.2.1, hml, C.2.2.1, C.2.2.2.1⟩ (metC_Good_weekend_3 l G ad pl _ _ _ _ q ix hby hq12 r13 hr13) (va_cwO (C := RX15) (owner := "HamsterWeekends$Home") 1 C.2.2.2.1 (lw_O q996 q999 q997 q1020 q1016 q103 q1017) rfl rfl rfl q1021 (by decide +kernel) ⟨Nat.le_of_ble_eq_true rfl, Nat.le_of_ble_eq_true rfl⟩) (n_preV0 C hP hS (n_recvH C hS hq12 rfl)) rfl rfl hl.1 rfl (lv_room (Nat.le_of_ble_eq_true rfl)) dX2_week_66 ⟨Nat.le_refl _, Nat.le_refl _⟩) (fun H locs hP hS => ?_)
    obtain rfl := Option.some.inj hE
    exact hret _ _ _ _ dX2_week_69 hP hS
  have hE := it_f c11 hE
  by_cases c14 : k = 4
  · have hE := it_t c14 hE
    have hq15 := hq
    rw [c14] at hq15
    obtain ⟨r16, hr16, hE⟩ := it_b hE
    refine n_afterS C.2.2.2.2.2.2.2.1 hS (va_runU (As := [.ref (ad 0)]) (rest := []) ⟨C.1, C.2.1, hml, C.2.2.1, C.2.2.2.1⟩ (metC_Far_weekend_4 l G ad pl _ _ _ _ q ix hby hq15 r16 hr16) (va_cwO (C := RX16) (owner := "HamsterWeekends$Home") 1 C.2.2.2.1 (lw_O q996 q999 q997 q1014 q1001 q106 q1002) rfl rfl rfl q1021 (by decide +kernel) ⟨Nat.le_of_ble_eq_true rfl, Nat.le_of_ble_eq_true rfl⟩) (n_preV0 C hP hS (n_recvH C hS hq15 rfl)) rfl rfl hl.1 rfl (lv_room (Nat.le_of_ble_eq_true rfl)) dX2_week_66 ⟨Nat.le_refl _, Nat.le_refl _⟩) (fun H locs hP hS => ?_)
    obtain rfl := Option.some.inj hE
    exact hret _ _ _ _ dX2_week_69 hP hS
  have hE := it_f c14 hE
  by_cases c17 : k = 5
  · have hE := it_t c17 hE
    have hq18 := hq
    rw [c17] at hq18
    obtain ⟨r19, hr19, hE⟩ := it_b hE
    refine n_afterS C.2.2.2.2.2.2.2.1 hS (va_runU (As := [.ref (ad 0)]) (rest := []) ⟨C.1, C.2.1, hml, C.2.2.1, C.2.2.2.1⟩ (metC_Cat_weekend_5 l G ad pl _ _ _ _ q ix hby hq18 r19 hr19) (va_cwO (C := RX17) (owner := "HamsterWeekends$Home") 1 C.2.2.2.1 (lw_O q996 q999 q997 q1013 q1009 q104 q1010) rfl rfl rfl q1021 (by decide +kernel) ⟨Nat.le_of_ble_eq_true rfl, Nat.le_of_ble_eq_true rfl⟩) (n_preV0 C hP hS (n_recvH C hS hq18 rfl)) rfl rfl hl.1 rfl (lv_room (Nat.le_of_ble_eq_true rfl)) dX2_week_66 ⟨Nat.le_refl _, Nat.le_refl _⟩) (fun H locs hP hS => ?_)
    obtain rfl := Option.some.inj hE
    exact hret _ _ _ _ dX2_week_69 hP hS
  have hE := it_f c17 hE
  by_cases c20 : k = 6
  · have hE := it_t c20 hE
    have hq21 := hq
    rw [c20] at hq21
    obtain ⟨r22, hr22, hE⟩ := it_b hE
    refine n_afterS C.2.2.2.2.2.2.2.1 hS (va_runU (As := [.ref (ad 0)]) (rest := []) ⟨C.1, C.2.1, hml, C.2.2.1, C.2.2.2.1⟩ (metC_Far_weekend_6 l G ad pl _ _ _ _ q ix hby hq21 r22 hr22) (va_cwO (C := RX18) (owner := "HamsterWeekends$Home") 1 C.2.2.2.1 (lw_O q996 q999 q997 q1000 q1001 q106 q1002) rfl rfl rfl q1021 (by decide +kernel) ⟨Nat.le_of_ble_eq_true rfl, Nat.le_of_ble_eq_true rfl⟩) (n_preV0 C hP hS (n_recvH C hS hq21 rfl)) rfl rfl hl.1 rfl (lv_room (Nat.le_of_ble_eq_true rfl)) dX2_week_66 ⟨Nat.le_refl _, Nat.le_refl _⟩) (fun H locs hP hS => ?_)
    obtain rfl := Option.some.inj hE
    exact hret _ _ _ _ dX2_week_69 hP hS
  have hE := it_f c20 hE
  exact it_n hE
def sC_Room_isHome (v_many : Int32) (p1 : Int32) : Option (Int32) :=
  (sC_HW_in ((p1 : Int32).toInt64) 0 (((v_many - 1) : Int32).toInt64)).bind fun r1 =>
  if r1 = 0 ∨ r1 = 1 then
  some r1
  else none
set_option maxHeartbeats 4000000 in
theorem metC_Room_isHome (l : Launch) (G : kG) (ad : Nat → Nat) (pl : va_W) (v_many : Int32) (v_pets : Int32) (v_last : Int32) (v_seed : Int32) (v_weight : Int32) (v_fright : Int32) (v_age : Int32) (v_asked : Nat → Int32) (v_homes : Nat → Option Nat) (v_marks : Nat → Int32) (v_had : Nat → Int32) (v_allergic : Nat → Int32) (v_deaths : Nat → Int32) (p1 : Int32) (res : Int32) (hE : sC_Room_isHome v_many p1 = some res) : Met l yX3_isHome (ws_ yX3_isHome cX3_isHome 2 (some .boolean)) ({ frames := 1, cells := 0, slots := 0, locals := 25 } : Room) (nPc G (rW G.2 ad v_many v_pets v_last v_seed v_weight v_fright v_age v_asked v_homes v_marks v_had v_allergic v_deaths) pl (rWV ad) [.ref (ad 0), .int p1]) (nQc G (rW G.2 ad v_many v_pets v_last v_seed v_weight v_fright v_age v_asked v_homes v_marks v_had v_allergic v_deaths) (rWV ad) (some (.int res))) 0 0 (nA (rWV ad)) := by
  refine n_ofW (own := RX3) (by decide) rfl (Nat.le_of_ble_eq_true rfl) ?_
  intro p e s m args below meth c ls C hml hP hS hl hr hlocks
  have hl : lv_has ls 2 [(0, .ref (ad 0)), (1, .int p1)] := hl
  obtain ⟨Q, hQ⟩ : ∃ Q, Q = MQ below (nQc G (rW G.2 ad v_many v_pets v_last v_seed v_weight v_fright v_age v_asked v_homes v_marks v_had v_allergic v_deaths) (rWV ad) (some (.int res))) args s 0 0 (nA (rWV ad)) := ⟨_, rfl⟩
  rw [← hQ]
  have hret : ∀ (pc : Nat) (ls : Array Slot) (H : Heap) (locs : List Loc), narrow .boolean (.int res) = .int res → decode cX3_isHome pc = .ok (.ireturn, 1) → va_P G.1 vwCl (rW G.2 ad v_many v_pets v_last v_seed v_weight v_fright v_age v_asked v_homes v_marks v_had v_allergic v_deaths) H → va_S (nA (rWV ad)) s.heap H locs → W p l e ({ frames := 1, cells := 0, slots := 0, locals := 25 } : Room) s m args below meth c H locs 0 0 Q (F0 m pc ls [(.int res)]) := by
    intro pc ls H locs hn hd hP hS
    rw [hQ]
    exact n_zret C hr hlocks hn hd hP hS
  clear hQ
  obtain ⟨H, hH⟩ : ∃ H, H = s.heap := ⟨_, rfl⟩
  obtain ⟨locs, hlo⟩ : ∃ locs : List Loc, locs = [] := ⟨_, rfl⟩
  have hP : va_P G.1 vwCl (rW G.2 ad v_many v_pets v_last v_seed v_weight v_fright v_age v_asked v_homes v_marks v_had v_allergic v_deaths) H := by rw [hH]; exact hP
  have hS : va_S (nA (rWV ad)) s.heap H locs := by rw [hH, hlo]; exact hS
  suffices hZ : W p l e ({ frames := 1, cells := 0, slots := 0, locals := 25 } : Room) s m args below meth c H locs 0 0 Q (F0 m 0 ls []) by rw [hH, hlo] at hZ; exact hZ
  clear hH hlo
  unfold sC_Room_isHome at hE
  refine lv_iload_n C.1 C.2.1 dX3_isHome_0 rfl (lv_at hl 1 rfl) ?_
  refine lv_i2l C.1 C.2.1 dX3_isHome_1 rfl ?_
  refine lv_lconst (v := 0) C.1 C.2.1 dX3_isHome_2 (by decide) ?_
  refine lv_aload_n C.1 C.2.1 dX3_isHome_3 rfl (lv_at hl 0 rfl) ?_
  refine rWg_0_0 q180 C hP dX3_isHome_4 ?_
  refine lv_iconst (v := 1) C.1 C.2.1 dX3_isHome_7 (by decide) ?_
  refine lv_isub C.1 C.2.1 dX3_isHome_8 ?_
  refine lv_i2l C.1 C.2.1 dX3_isHome_9 rfl ?_
  obtain ⟨r1, hr1, hE⟩ := it_b hE
  refine n_after [] C.2.2.2.2.2.1 C.2.2.2.2.2.2.2.1 hP hS (va_runS (As := [.long ((p1 : Int32).toInt64), .long 0, .long (((v_many - 1) : Int32).toInt64)]) (rest := []) ⟨C.1, C.2.1, hml, C.2.2.1, C.2.2.2.1⟩ (metC_HW_in l G ad pl  ((p1 : Int32).toInt64) 0 (((v_many - 1) : Int32).toInt64)  r1 hr1) (va_cwS 3 C.2.2.2.1 (lw_S q585 q402 q80 q403) rfl rfl rfl (by decide +kernel) ⟨Nat.le_of_ble_eq_true rfl, Nat.le_of_ble_eq_true rfl⟩) (n_preS C hP hS [] rfl (by decide) rfl) rfl rfl hl.1 rfl (lv_room (Nat.le_of_ble_eq_true rfl)) dX3_isHome_10 ⟨Nat.le_refl _, Nat.le_refl _⟩) rW_av rfl rfl rfl (fun H locs hP hS => ?_)
  obtain ⟨g2, hE⟩ := it_g hE
  obtain rfl := Option.some.inj hE
  exact hret _ _ _ _ (nbz g2) dX3_isHome_13 hP hS
def sC_Room_may (v_many : Int32) (v_allergic : Nat → Int32) (p1 : Int32) : Option (Int32) :=
  (sC_Room_isHome v_many p1).bind fun r1 =>
  if r1 = 0 then
    some 0
  else
    if gi p1 8 then
    if (v_allergic (p1).toNatClampNeg) = 0 then
      some 1
    else
      some 0
    else none
set_option maxHeartbeats 4000000 in
theorem metC_Room_may (l : Launch) (G : kG) (ad : Nat → Nat) (pl : va_W) (v_many : Int32) (v_pets : Int32) (v_last : Int32) (v_seed : Int32) (v_weight : Int32) (v_fright : Int32) (v_age : Int32) (v_asked : Nat → Int32) (v_homes : Nat → Option Nat) (v_marks : Nat → Int32) (v_had : Nat → Int32) (v_allergic : Nat → Int32) (v_deaths : Nat → Int32) (p1 : Int32) (res : Int32) (hE : sC_Room_may v_many v_allergic p1 = some res) : Met l yX3_may (ws_ yX3_may cX3_may 2 (some .boolean)) ({ frames := 2, cells := 0, slots := 0, locals := 46 } : Room) (nPc G (rW G.2 ad v_many v_pets v_last v_seed v_weight v_fright v_age v_asked v_homes v_marks v_had v_allergic v_deaths) pl (rWV ad) [.ref (ad 0), .int p1]) (nQc G (rW G.2 ad v_many v_pets v_last v_seed v_weight v_fright v_age v_asked v_homes v_marks v_had v_allergic v_deaths) (rWV ad) (some (.int res))) 0 0 (nA (rWV ad)) := by
  refine n_ofW (own := RX3) (by decide) rfl (Nat.le_of_ble_eq_true rfl) ?_
  intro p e s m args below meth c ls C hml hP hS hl hr hlocks
  have hl : lv_has ls 2 [(0, .ref (ad 0)), (1, .int p1)] := hl
  obtain ⟨Q, hQ⟩ : ∃ Q, Q = MQ below (nQc G (rW G.2 ad v_many v_pets v_last v_seed v_weight v_fright v_age v_asked v_homes v_marks v_had v_allergic v_deaths) (rWV ad) (some (.int res))) args s 0 0 (nA (rWV ad)) := ⟨_, rfl⟩
  rw [← hQ]
  have hret : ∀ (pc : Nat) (ls : Array Slot) (H : Heap) (locs : List Loc), narrow .boolean (.int res) = .int res → decode cX3_may pc = .ok (.ireturn, 1) → va_P G.1 vwCl (rW G.2 ad v_many v_pets v_last v_seed v_weight v_fright v_age v_asked v_homes v_marks v_had v_allergic v_deaths) H → va_S (nA (rWV ad)) s.heap H locs → W p l e ({ frames := 2, cells := 0, slots := 0, locals := 46 } : Room) s m args below meth c H locs 0 0 Q (F0 m pc ls [(.int res)]) := by
    intro pc ls H locs hn hd hP hS
    rw [hQ]
    exact n_zret C hr hlocks hn hd hP hS
  clear hQ
  obtain ⟨H, hH⟩ : ∃ H, H = s.heap := ⟨_, rfl⟩
  obtain ⟨locs, hlo⟩ : ∃ locs : List Loc, locs = [] := ⟨_, rfl⟩
  have hP : va_P G.1 vwCl (rW G.2 ad v_many v_pets v_last v_seed v_weight v_fright v_age v_asked v_homes v_marks v_had v_allergic v_deaths) H := by rw [hH]; exact hP
  have hS : va_S (nA (rWV ad)) s.heap H locs := by rw [hH, hlo]; exact hS
  suffices hZ : W p l e ({ frames := 2, cells := 0, slots := 0, locals := 46 } : Room) s m args below meth c H locs 0 0 Q (F0 m 0 ls []) by rw [hH, hlo] at hZ; exact hZ
  clear hH hlo
  unfold sC_Room_may at hE
  refine lv_aload_n C.1 C.2.1 dX3_may_0 rfl (lv_at hl 0 rfl) ?_
  refine lv_iload_n C.1 C.2.1 dX3_may_1 rfl (lv_at hl 1 rfl) ?_
  obtain ⟨r1, hr1, hE⟩ := it_b hE
  refine n_afterS C.2.2.2.2.2.2.2.1 hS (va_runV (As := [.int p1]) (rest := []) ⟨C.1, C.2.1, hml, C.2.2.1, C.2.2.2.1⟩ (metC_Room_isHome l G ad pl _ _ _ _ _ _ _ _ _ _ _ _ _ p1  r1 hr1) (cwV (C := RX3) 1 C.2.2.2.1 (lw_V q975 q582 q583 q83 q584) rfl rfl rfl (by decide +kernel) ⟨Nat.le_of_ble_eq_true rfl, Nat.le_of_ble_eq_true rfl⟩) (n_preV0 C hP hS (va_recv C.2.2.2.2.1 hP (ci := 12) (q0 := 0) rfl rfl)) rfl rfl hl.1 rfl (lv_room (Nat.le_of_ble_eq_true rfl)) dX3_may_2 ⟨Nat.le_refl _, Nat.le_refl _⟩) (fun H locs hP hS => ?_)
  refine lv_if_eq (tgt := 21) C.1 C.2.1 dX3_may_5 (by decide) (fun c2 => ?_) (fun c2 => ?_)
  · have hE := it_t c2 hE
    refine lv_iconst (v := 0) C.1 C.2.1 dX3_may_21 (by decide) ?_
    obtain rfl := Option.some.inj hE
    exact hret _ _ _ _ (nbz (Or.inl rfl)) dX3_may_22 hP hS
  · have hE := it_f c2 hE
    refine lv_aload_n C.1 C.2.1 dX3_may_8 rfl (lv_at hl 0 rfl) ?_
    refine rWg_0_8 q200 C hP dX3_may_9 ?_
    refine lv_iload_n C.1 C.2.1 dX3_may_12 rfl (lv_at hl 1 rfl) ?_
    obtain ⟨g3, hE⟩ := it_g hE
    refine rWl_6 (v := (v_allergic (p1).toNatClampNeg)) C hP (gi_in g3) rfl dX3_may_13 ?_
    refine lv_if_ne (tgt := 21) C.1 C.2.1 dX3_may_14 (by decide) (fun c4 => ?_) (fun c4 => ?_)
    · have hE := it_f c4 hE
      refine lv_iconst (v := 0) C.1 C.2.1 dX3_may_21 (by decide) ?_
      obtain rfl := Option.some.inj hE
      exact hret _ _ _ _ (nbz (Or.inl rfl)) dX3_may_22 hP hS
    · have hE := it_t c4 hE
      refine lv_iconst (v := 1) C.1 C.2.1 dX3_may_17 (by decide) ?_
      refine lv_goto (tgt := 22) C.1 C.2.1 dX3_may_18 (by decide) ?_
      obtain rfl := Option.some.inj hE
      exact hret _ _ _ _ (nbz (Or.inr rfl)) dX3_may_22 hP hS
def sC_Room_mayMany_h4 (v_many : Int32) (v_allergic : Nat → Int32) : Nat → Int32 → Int32 → Option (Int32)
  | 0, _, _ => none
  | fuel + 1, x1, x2 =>
    if v_many ≤ x2 then
      some x1
    else
      (sC_Room_may v_many v_allergic x2).bind fun r502 =>
      @Option.bind (Int32) _ (
        if r502 = 0 then
          some 0
        else
          some 1) fun u504 =>
      sC_Room_mayMany_h4 v_many v_allergic fuel (x1 + u504) (x2 + 1)
def sC_Room_mayMany (v_many : Int32) (v_allergic : Nat → Int32) : Option (Int32) :=
  (sC_Room_mayMany_h4 v_many v_allergic 2000 0 0).bind fun u1 =>
  some u1
set_option maxHeartbeats 4000000 in
theorem wC_Room_mayMany_h4 {p : Program} {l : Launch} {e : Env} {s : State} {m : MethodId} {args : Array Value} {below : List Frame} {meth : Method} {c : Code} {Q : State → Prop} {G : kG} {ad : Nat → Nat} {pl : va_W} {v_many : Int32} {v_pets : Int32} {v_last : Int32} {v_seed : Int32} {v_weight : Int32} {v_fright : Int32} {v_age : Int32} {v_asked : Nat → Int32} {v_homes : Nat → Option Nat} {v_marks : Nat → Int32} {v_had : Nat → Int32} {v_allergic : Nat → Int32} {v_deaths : Nat → Int32} (C : nC p s m args c cX3_mayMany RX3 G (rWV ad) pl (nA (rWV ad))) (hml : c.maxLocals = 3)   (res : Int32) :
    ∀ (fuel : Nat) (x1 : Int32) (x2 : Int32) (H : Heap) (locs : List Loc) (ls : Array Slot), sC_Room_mayMany_h4 v_many v_allergic fuel x1 x2 = some res → va_P G.1 vwCl (rW G.2 ad v_many v_pets v_last v_seed v_weight v_fright v_age v_asked v_homes v_marks v_had v_allergic v_deaths) H → va_S (nA (rWV ad)) s.heap H locs → lv_has ls 3 [(0, .ref (ad 0)), (1, .int x1), (2, .int x2)] → (∀ (H : Heap) (locs : List Loc) (ls : Array Slot), va_P G.1 vwCl (rW G.2 ad v_many v_pets v_last v_seed v_weight v_fright v_age v_asked v_homes v_marks v_had v_allergic v_deaths) H → va_S (nA (rWV ad)) s.heap H locs → lv_has ls 3 [(1, .int res)] → W p l e ({ frames := 3, cells := 0, slots := 0, locals := 67 } : Room) s m args below meth c H locs 0 0 Q (F0 m 34 ls [])) → W p l e ({ frames := 3, cells := 0, slots := 0, locals := 67 } : Room) s m args below meth c H locs 0 0 Q (F0 m 4 ls []) := by
  intro fuel
  induction fuel with
  | zero =>
    intro x1 x2 H locs ls hE
    exact it_n hE
  | succ fuel ih =>
    intro x1 x2 H locs ls hE hP hS hl hX
    rw [sC_Room_mayMany_h4] at hE
    refine lv_iload_n C.1 C.2.1 dX3_mayMany_4 rfl (lv_at hl 2 rfl) ?_
    refine lv_aload_n C.1 C.2.1 dX3_mayMany_5 rfl (lv_at hl 0 rfl) ?_
    refine rWg_0_0 q180 C hP dX3_mayMany_6 ?_
    refine lv_icmp_ge (tgt := 34) C.1 C.2.1 dX3_mayMany_9 (by decide) (fun c501 => ?_) (fun c501 => ?_)
    · have hE := it_t c501 hE
      obtain rfl := Option.some.inj hE
      exact hX H locs ls hP hS (lv_sub hl [1] rfl)
    · have hE := it_f c501 hE
      refine lv_iload_n C.1 C.2.1 dX3_mayMany_12 rfl (lv_at hl 1 rfl) ?_
      refine lv_aload_n C.1 C.2.1 dX3_mayMany_13 rfl (lv_at hl 0 rfl) ?_
      refine lv_iload_n C.1 C.2.1 dX3_mayMany_14 rfl (lv_at hl 2 rfl) ?_
      obtain ⟨r502, hr502, hE⟩ := it_b hE
      refine n_afterS C.2.2.2.2.2.2.2.1 hS (va_runV (As := [.int x2]) (rest := [.int x1]) ⟨C.1, C.2.1, hml, C.2.2.1, C.2.2.2.1⟩ (metC_Room_may l G ad pl _ _ _ _ _ _ _ _ _ _ _ _ _ x2  r502 hr502) (cwV (C := RX3) 1 C.2.2.2.1 (lw_V q1117 q972 q973 q83 q974) rfl rfl rfl (by decide +kernel) ⟨Nat.le_of_ble_eq_true rfl, Nat.le_of_ble_eq_true rfl⟩) (n_preV0 C hP hS (va_recv C.2.2.2.2.1 hP (ci := 12) (q0 := 0) rfl rfl)) rfl rfl hl.1 rfl (lv_room (Nat.le_of_ble_eq_true rfl)) dX3_mayMany_15 ⟨Nat.le_refl _, Nat.le_refl _⟩) (fun H locs hP hS => ?_)
      obtain ⟨u504, hR, hE⟩ := it_b hE
      have hJ26u504 : ∀ (H : Heap) (locs : List Loc) (ls : Array Slot), va_P G.1 vwCl (rW G.2 ad v_many v_pets v_last v_seed v_weight v_fright v_age v_asked v_homes v_marks v_had v_allergic v_deaths) H → va_S (nA (rWV ad)) s.heap H locs → lv_has ls 3 [(0, .ref (ad 0)), (2, .int x2)] → W p l e ({ frames := 3, cells := 0, slots := 0, locals := 67 } : Room) s m args below meth c H locs 0 0 Q (F0 m 26 ls [.int u504, .int x1]) := by
        intro H locs ls hP hS hl
        refine lv_iadd C.1 C.2.1 dX3_mayMany_26 ?_
        refine lv_istore_n (lv' := [(1, .int (x1 + u504)), (0, .ref (ad 0)), (2, .int x2)]) C.1 C.2.1 dX3_mayMany_27 rfl hl (by decide) rfl (fun ls hl => ?_)
        refine lv_iinc (v := (x2 + 1)) (lv' := [(2, .int (x2 + 1)), (1, .int (x1 + u504)), (0, .ref (ad 0))]) C.1 C.2.1 dX3_mayMany_28 hl (k := 2) rfl rfl (by decide) rfl (fun ls hl => ?_)
        refine lv_goto (tgt := 4) C.1 C.2.1 dX3_mayMany_31 (by decide) ?_
        exact ih (x1 + u504) (x2 + 1) _ _ _ hE hP hS (lv_sub hl [2, 1, 0] rfl) hX
      have hE := hR
      refine lv_if_eq (tgt := 25) C.1 C.2.1 dX3_mayMany_18 (by decide) (fun c503 => ?_) (fun c503 => ?_)
      · have hE := it_t c503 hE
        refine lv_iconst (v := 0) C.1 C.2.1 dX3_mayMany_25 (by decide) ?_
        obtain rfl := Option.some.inj hE
        exact hJ26u504 H locs ls hP hS (lv_sub hl [0, 2] rfl)
      · have hE := it_f c503 hE
        refine lv_iconst (v := 1) C.1 C.2.1 dX3_mayMany_21 (by decide) ?_
        refine lv_goto (tgt := 26) C.1 C.2.1 dX3_mayMany_22 (by decide) ?_
        obtain rfl := Option.some.inj hE
        exact hJ26u504 H locs ls hP hS (lv_sub hl [0, 2] rfl)
set_option maxHeartbeats 4000000 in
theorem metC_Room_mayMany (l : Launch) (G : kG) (ad : Nat → Nat) (pl : va_W) (v_many : Int32) (v_pets : Int32) (v_last : Int32) (v_seed : Int32) (v_weight : Int32) (v_fright : Int32) (v_age : Int32) (v_asked : Nat → Int32) (v_homes : Nat → Option Nat) (v_marks : Nat → Int32) (v_had : Nat → Int32) (v_allergic : Nat → Int32) (v_deaths : Nat → Int32)  (res : Int32) (hE : sC_Room_mayMany v_many v_allergic = some res) : Met l yX3_mayMany (ws_ yX3_mayMany cX3_mayMany 3 (some .int)) ({ frames := 3, cells := 0, slots := 0, locals := 67 } : Room) (nPc G (rW G.2 ad v_many v_pets v_last v_seed v_weight v_fright v_age v_asked v_homes v_marks v_had v_allergic v_deaths) pl (rWV ad) [.ref (ad 0)]) (nQc G (rW G.2 ad v_many v_pets v_last v_seed v_weight v_fright v_age v_asked v_homes v_marks v_had v_allergic v_deaths) (rWV ad) (some (.int res))) 0 0 (nA (rWV ad)) := by
  refine n_ofW (own := RX3) (by decide) rfl (Nat.le_of_ble_eq_true rfl) ?_
  intro p e s m args below meth c ls C hml hP hS hl hr hlocks
  have hl : lv_has ls 3 [(0, .ref (ad 0))] := hl
  obtain ⟨Q, hQ⟩ : ∃ Q, Q = MQ below (nQc G (rW G.2 ad v_many v_pets v_last v_seed v_weight v_fright v_age v_asked v_homes v_marks v_had v_allergic v_deaths) (rWV ad) (some (.int res))) args s 0 0 (nA (rWV ad)) := ⟨_, rfl⟩
  rw [← hQ]
  have hret : ∀ (pc : Nat) (ls : Array Slot) (H : Heap) (locs : List Loc), decode cX3_mayMany pc = .ok (.ireturn, 1) → va_P G.1 vwCl (rW G.2 ad v_many v_pets v_last v_seed v_weight v_fright v_age v_asked v_homes v_marks v_had v_allergic v_deaths) H → va_S (nA (rWV ad)) s.heap H locs → W p l e ({ frames := 3, cells := 0, slots := 0, locals := 67 } : Room) s m args below meth c H locs 0 0 Q (F0 m pc ls [(.int res)]) := by
    intro pc ls H locs hd hP hS
    rw [hQ]
    exact n_iret C hr hlocks hd hP hS
  clear hQ
  obtain ⟨H, hH⟩ : ∃ H, H = s.heap := ⟨_, rfl⟩
  obtain ⟨locs, hlo⟩ : ∃ locs : List Loc, locs = [] := ⟨_, rfl⟩
  have hP : va_P G.1 vwCl (rW G.2 ad v_many v_pets v_last v_seed v_weight v_fright v_age v_asked v_homes v_marks v_had v_allergic v_deaths) H := by rw [hH]; exact hP
  have hS : va_S (nA (rWV ad)) s.heap H locs := by rw [hH, hlo]; exact hS
  suffices hZ : W p l e ({ frames := 3, cells := 0, slots := 0, locals := 67 } : Room) s m args below meth c H locs 0 0 Q (F0 m 0 ls []) by rw [hH, hlo] at hZ; exact hZ
  clear hH hlo
  unfold sC_Room_mayMany at hE
  refine lv_iconst (v := 0) C.1 C.2.1 dX3_mayMany_0 (by decide) ?_
  refine lv_istore_n (lv' := [(1, .int 0), (0, .ref (ad 0))]) C.1 C.2.1 dX3_mayMany_1 rfl hl (by decide) rfl (fun ls hl => ?_)
  refine lv_iconst (v := 0) C.1 C.2.1 dX3_mayMany_2 (by decide) ?_
  refine lv_istore_n (lv' := [(2, .int 0), (1, .int 0), (0, .ref (ad 0))]) C.1 C.2.1 dX3_mayMany_3 rfl hl (by decide) rfl (fun ls hl => ?_)
  obtain ⟨u1, hu1, hE⟩ := it_b hE
  refine wC_Room_mayMany_h4 C hml   u1 2000 0 0 H locs ls hu1 hP hS (lv_sub hl [2, 1, 0] rfl) (fun H locs ls hP hS hl => ?_)
  refine lv_iload_n C.1 C.2.1 dX3_mayMany_34 rfl (lv_at hl 0 rfl) ?_
  obtain rfl := Option.some.inj hE
  exact hret _ _ _ _ dX3_mayMany_35 hP hS
def sC_Room_mayAt_h4 (v_many : Int32) (v_allergic : Nat → Int32) : Nat → Int32 → Int32 → Option (Int32)
  | 0, _, _ => none
  | fuel + 1, x2, x3 =>
    (sC_Room_may v_many v_allergic x3).bind fun r501 =>
    if r501 = 0 then
      sC_Room_mayAt_h4 v_many v_allergic fuel x2 (x3 + 1)
    else
      if x2 ≤ 0 then
        some x3
      else
        sC_Room_mayAt_h4 v_many v_allergic fuel (x2 + (-1)) (x3 + 1)
def sC_Room_mayAt (v_many : Int32) (v_allergic : Nat → Int32) (p1 : Int32) : Option (Int32) :=
  (sC_Room_mayAt_h4 v_many v_allergic 2000 p1 0).bind fun u1 =>
  some u1
set_option maxHeartbeats 4000000 in
theorem wC_Room_mayAt_h4 {p : Program} {l : Launch} {e : Env} {s : State} {m : MethodId} {args : Array Value} {below : List Frame} {meth : Method} {c : Code} {Q : State → Prop} {G : kG} {ad : Nat → Nat} {pl : va_W} {v_many : Int32} {v_pets : Int32} {v_last : Int32} {v_seed : Int32} {v_weight : Int32} {v_fright : Int32} {v_age : Int32} {v_asked : Nat → Int32} {v_homes : Nat → Option Nat} {v_marks : Nat → Int32} {v_had : Nat → Int32} {v_allergic : Nat → Int32} {v_deaths : Nat → Int32} (C : nC p s m args c cX3_mayAt RX3 G (rWV ad) pl (nA (rWV ad))) (hml : c.maxLocals = 4)   (res : Int32) :
    ∀ (fuel : Nat) (x2 : Int32) (x3 : Int32) (H : Heap) (locs : List Loc) (ls : Array Slot), sC_Room_mayAt_h4 v_many v_allergic fuel x2 x3 = some res → va_P G.1 vwCl (rW G.2 ad v_many v_pets v_last v_seed v_weight v_fright v_age v_asked v_homes v_marks v_had v_allergic v_deaths) H → va_S (nA (rWV ad)) s.heap H locs → lv_has ls 4 [(0, .ref (ad 0)), (2, .int x2), (3, .int x3)] → (∀ (H : Heap) (locs : List Loc) (ls : Array Slot), va_P G.1 vwCl (rW G.2 ad v_many v_pets v_last v_seed v_weight v_fright v_age v_asked v_homes v_marks v_had v_allergic v_deaths) H → va_S (nA (rWV ad)) s.heap H locs → lv_has ls 4 [(3, .int res)] → W p l e ({ frames := 3, cells := 0, slots := 0, locals := 67 } : Room) s m args below meth c H locs 0 0 Q (F0 m 25 ls [])) → W p l e ({ frames := 3, cells := 0, slots := 0, locals := 67 } : Room) s m args below meth c H locs 0 0 Q (F0 m 4 ls []) := by
  intro fuel
  induction fuel with
  | zero =>
    intro x2 x3 H locs ls hE
    exact it_n hE
  | succ fuel ih =>
    intro x2 x3 H locs ls hE hP hS hl hX
    rw [sC_Room_mayAt_h4] at hE
    refine lv_aload_n C.1 C.2.1 dX3_mayAt_4 rfl (lv_at hl 0 rfl) ?_
    refine lv_iload_n C.1 C.2.1 dX3_mayAt_5 rfl (lv_at hl 2 rfl) ?_
    obtain ⟨r501, hr501, hE⟩ := it_b hE
    refine n_afterS C.2.2.2.2.2.2.2.1 hS (va_runV (As := [.int x3]) (rest := []) ⟨C.1, C.2.1, hml, C.2.2.1, C.2.2.2.1⟩ (metC_Room_may l G ad pl _ _ _ _ _ _ _ _ _ _ _ _ _ x3  r501 hr501) (cwV (C := RX3) 1 C.2.2.2.1 (lw_V q1117 q972 q973 q83 q974) rfl rfl rfl (by decide +kernel) ⟨Nat.le_of_ble_eq_true rfl, Nat.le_of_ble_eq_true rfl⟩) (n_preV0 C hP hS (va_recv C.2.2.2.2.1 hP (ci := 12) (q0 := 0) rfl rfl)) rfl rfl hl.1 rfl (lv_room (Nat.le_of_ble_eq_true rfl)) dX3_mayAt_6 ⟨Nat.le_refl _, Nat.le_refl _⟩) (fun H locs hP hS => ?_)
    refine lv_if_eq (tgt := 19) C.1 C.2.1 dX3_mayAt_9 (by decide) (fun c502 => ?_) (fun c502 => ?_)
    · have hE := it_t c502 hE
      refine lv_iinc (v := (x3 + 1)) (lv' := [(3, .int (x3 + 1)), (0, .ref (ad 0)), (2, .int x2)]) C.1 C.2.1 dX3_mayAt_19 hl (k := 2) rfl rfl (by decide) rfl (fun ls hl => ?_)
      refine lv_goto (tgt := 4) C.1 C.2.1 dX3_mayAt_22 (by decide) ?_
      exact ih x2 (x3 + 1) _ _ _ hE hP hS (lv_sub hl [1, 2, 0] rfl) hX
    · have hE := it_f c502 hE
      refine lv_iload_n C.1 C.2.1 dX3_mayAt_12 rfl (lv_at hl 1 rfl) ?_
      refine lv_iinc (v := (x2 + (-1))) (lv' := [(2, .int (x2 + (-1))), (0, .ref (ad 0)), (3, .int x3)]) C.1 C.2.1 dX3_mayAt_13 hl (k := 1) rfl rfl (by decide) rfl (fun ls hl => ?_)
      refine lv_if_le (tgt := 25) C.1 C.2.1 dX3_mayAt_16 (by decide) (fun c503 => ?_) (fun c503 => ?_)
      · have hE := it_t c503 hE
        obtain rfl := Option.some.inj hE
        exact hX H locs ls hP hS (lv_sub hl [2] rfl)
      · have hE := it_f c503 hE
        refine lv_iinc (v := (x3 + 1)) (lv' := [(3, .int (x3 + 1)), (2, .int (x2 + (-1))), (0, .ref (ad 0))]) C.1 C.2.1 dX3_mayAt_19 hl (k := 2) rfl rfl (by decide) rfl (fun ls hl => ?_)
        refine lv_goto (tgt := 4) C.1 C.2.1 dX3_mayAt_22 (by decide) ?_
        exact ih (x2 + (-1)) (x3 + 1) _ _ _ hE hP hS (lv_sub hl [2, 1, 0] rfl) hX
set_option maxHeartbeats 4000000 in
theorem metC_Room_mayAt (l : Launch) (G : kG) (ad : Nat → Nat) (pl : va_W) (v_many : Int32) (v_pets : Int32) (v_last : Int32) (v_seed : Int32) (v_weight : Int32) (v_fright : Int32) (v_age : Int32) (v_asked : Nat → Int32) (v_homes : Nat → Option Nat) (v_marks : Nat → Int32) (v_had : Nat → Int32) (v_allergic : Nat → Int32) (v_deaths : Nat → Int32) (p1 : Int32) (res : Int32) (hE : sC_Room_mayAt v_many v_allergic p1 = some res) : Met l yX3_mayAt (ws_ yX3_mayAt cX3_mayAt 4 (some .int)) ({ frames := 3, cells := 0, slots := 0, locals := 67 } : Room) (nPc G (rW G.2 ad v_many v_pets v_last v_seed v_weight v_fright v_age v_asked v_homes v_marks v_had v_allergic v_deaths) pl (rWV ad) [.ref (ad 0), .int p1]) (nQc G (rW G.2 ad v_many v_pets v_last v_seed v_weight v_fright v_age v_asked v_homes v_marks v_had v_allergic v_deaths) (rWV ad) (some (.int res))) 0 0 (nA (rWV ad)) := by
  refine n_ofW (own := RX3) (by decide) rfl (Nat.le_of_ble_eq_true rfl) ?_
  intro p e s m args below meth c ls C hml hP hS hl hr hlocks
  have hl : lv_has ls 4 [(0, .ref (ad 0)), (1, .int p1)] := hl
  obtain ⟨Q, hQ⟩ : ∃ Q, Q = MQ below (nQc G (rW G.2 ad v_many v_pets v_last v_seed v_weight v_fright v_age v_asked v_homes v_marks v_had v_allergic v_deaths) (rWV ad) (some (.int res))) args s 0 0 (nA (rWV ad)) := ⟨_, rfl⟩
  rw [← hQ]
  have hret : ∀ (pc : Nat) (ls : Array Slot) (H : Heap) (locs : List Loc), decode cX3_mayAt pc = .ok (.ireturn, 1) → va_P G.1 vwCl (rW G.2 ad v_many v_pets v_last v_seed v_weight v_fright v_age v_asked v_homes v_marks v_had v_allergic v_deaths) H → va_S (nA (rWV ad)) s.heap H locs → W p l e ({ frames := 3, cells := 0, slots := 0, locals := 67 } : Room) s m args below meth c H locs 0 0 Q (F0 m pc ls [(.int res)]) := by
    intro pc ls H locs hd hP hS
    rw [hQ]
    exact n_iret C hr hlocks hd hP hS
  clear hQ
  obtain ⟨H, hH⟩ : ∃ H, H = s.heap := ⟨_, rfl⟩
  obtain ⟨locs, hlo⟩ : ∃ locs : List Loc, locs = [] := ⟨_, rfl⟩
  have hP : va_P G.1 vwCl (rW G.2 ad v_many v_pets v_last v_seed v_weight v_fright v_age v_asked v_homes v_marks v_had v_allergic v_deaths) H := by rw [hH]; exact hP
  have hS : va_S (nA (rWV ad)) s.heap H locs := by rw [hH, hlo]; exact hS
  suffices hZ : W p l e ({ frames := 3, cells := 0, slots := 0, locals := 67 } : Room) s m args below meth c H locs 0 0 Q (F0 m 0 ls []) by rw [hH, hlo] at hZ; exact hZ
  clear hH hlo
  unfold sC_Room_mayAt at hE
  refine lv_iload_n C.1 C.2.1 dX3_mayAt_0 rfl (lv_at hl 1 rfl) ?_
  refine lv_istore_n (lv' := [(2, .int p1), (0, .ref (ad 0)), (1, .int p1)]) C.1 C.2.1 dX3_mayAt_1 rfl hl (by decide) rfl (fun ls hl => ?_)
  refine lv_iconst (v := 0) C.1 C.2.1 dX3_mayAt_2 (by decide) ?_
  refine lv_istore_n (lv' := [(3, .int 0), (2, .int p1), (0, .ref (ad 0)), (1, .int p1)]) C.1 C.2.1 dX3_mayAt_3 rfl hl (by decide) rfl (fun ls hl => ?_)
  obtain ⟨u1, hu1, hE⟩ := it_b hE
  refine wC_Room_mayAt_h4 C hml   u1 2000 p1 0 H locs ls hu1 hP hS (lv_sub hl [2, 1, 0] rfl) (fun H locs ls hP hS hl => ?_)
  refine lv_iload_n C.1 C.2.1 dX3_mayAt_25 rfl (lv_at hl 0 rfl) ?_
  obtain rfl := Option.some.inj hE
  exact hret _ _ _ _ dX3_mayAt_26 hP hS
def sC_Room_of (v_homes : Nat → Option Nat) (p1 : Int32) : Option (Option Nat) :=
  if p1 = (-1) then
    some none
  else
    if gi p1 8 then
    some (v_homes (p1).toNatClampNeg)
    else none
set_option maxHeartbeats 4000000 in
theorem metC_Room_of (l : Launch) (G : kG) (ad : Nat → Nat) (pl : va_W) (v_many : Int32) (v_pets : Int32) (v_last : Int32) (v_seed : Int32) (v_weight : Int32) (v_fright : Int32) (v_age : Int32) (v_asked : Nat → Int32) (v_homes : Nat → Option Nat) (v_marks : Nat → Int32) (v_had : Nat → Int32) (v_allergic : Nat → Int32) (v_deaths : Nat → Int32) (p1 : Int32) (res : Option Nat) (hE : sC_Room_of v_homes p1 = some res) : Met l yX3_of (ws_ yX3_of cX3_of 2 (some (.object "HamsterWeekends$Home"))) ({ frames := 0, cells := 0, slots := 0, locals := 0 } : Room) (nPc G (rW G.2 ad v_many v_pets v_last v_seed v_weight v_fright v_age v_asked v_homes v_marks v_had v_allergic v_deaths) pl (rWV ad) [.ref (ad 0), .int p1]) (nQc G (rW G.2 ad v_many v_pets v_last v_seed v_weight v_fright v_age v_asked v_homes v_marks v_had v_allergic v_deaths) (rWV ad) (some (va_rf res))) 0 0 (nA (rWV ad)) := by
  refine n_ofW (own := RX3) (by decide) rfl (Nat.le_of_ble_eq_true rfl) ?_
  intro p e s m args below meth c ls C hml hP hS hl hr hlocks
  have hl : lv_has ls 2 [(0, .ref (ad 0)), (1, .int p1)] := hl
  obtain ⟨Q, hQ⟩ : ∃ Q, Q = MQ below (nQc G (rW G.2 ad v_many v_pets v_last v_seed v_weight v_fright v_age v_asked v_homes v_marks v_had v_allergic v_deaths) (rWV ad) (some (va_rf res))) args s 0 0 (nA (rWV ad)) := ⟨_, rfl⟩
  rw [← hQ]
  have hret : ∀ (pc : Nat) (ls : Array Slot) (H : Heap) (locs : List Loc), decode cX3_of pc = .ok (.areturn, 1) → va_P G.1 vwCl (rW G.2 ad v_many v_pets v_last v_seed v_weight v_fright v_age v_asked v_homes v_marks v_had v_allergic v_deaths) H → va_S (nA (rWV ad)) s.heap H locs → W p l e ({ frames := 0, cells := 0, slots := 0, locals := 0 } : Room) s m args below meth c H locs 0 0 Q (F0 m pc ls [(va_rf res)]) := by
    intro pc ls H locs hd hP hS
    rw [hQ]
    exact n_aret C hr (Or.inl ⟨_, rfl⟩) (va_rf_or _) hlocks hd hP hS
  clear hQ
  obtain ⟨H, hH⟩ : ∃ H, H = s.heap := ⟨_, rfl⟩
  obtain ⟨locs, hlo⟩ : ∃ locs : List Loc, locs = [] := ⟨_, rfl⟩
  have hP : va_P G.1 vwCl (rW G.2 ad v_many v_pets v_last v_seed v_weight v_fright v_age v_asked v_homes v_marks v_had v_allergic v_deaths) H := by rw [hH]; exact hP
  have hS : va_S (nA (rWV ad)) s.heap H locs := by rw [hH, hlo]; exact hS
  suffices hZ : W p l e ({ frames := 0, cells := 0, slots := 0, locals := 0 } : Room) s m args below meth c H locs 0 0 Q (F0 m 0 ls []) by rw [hH, hlo] at hZ; exact hZ
  clear hH hlo
  unfold sC_Room_of at hE
  refine lv_iload_n C.1 C.2.1 dX3_of_0 rfl (lv_at hl 1 rfl) ?_
  refine lv_iconst (v := (-1)) C.1 C.2.1 dX3_of_1 (by decide) ?_
  refine lv_icmp_ne (tgt := 9) C.1 C.2.1 dX3_of_2 (by decide) (fun c1 => ?_) (fun c1 => ?_)
  · have hE := it_f c1 hE
    refine lv_aload_n C.1 C.2.1 dX3_of_9 rfl (lv_at hl 0 rfl) ?_
    refine rWg_0_5 q192 C hP dX3_of_10 ?_
    refine lv_iload_n C.1 C.2.1 dX3_of_13 rfl (lv_at hl 1 rfl) ?_
    obtain ⟨g2, hE⟩ := it_g hE
    refine rWl_3 (v := (v_homes (p1).toNatClampNeg)) C hP (gi_in g2) rfl dX3_of_14 ?_
    obtain rfl := Option.some.inj hE
    exact hret _ _ _ _ dX3_of_15 hP hS
  · have hE := it_t c1 hE
    refine lv_null C.1 C.2.1 dX3_of_5 ?_
    refine lv_goto (tgt := 15) C.1 C.2.1 dX3_of_6 (by decide) ?_
    obtain rfl := Option.some.inj hE
    exact hret _ _ _ _ dX3_of_15 hP hS
def sC_Room_whose_h4 (x1 : Int32) (v_many : Int32) (v_marks : Nat → Int32) (v_had : Nat → Int32) (v_allergic : Nat → Int32) : Nat → Int32 → Int32 → Option (Int32)
  | 0, _, _ => none
  | fuel + 1, x2, x3 =>
    if v_many ≤ x3 then
      some x2
    else
      (sC_Room_may v_many v_allergic x3).bind fun r502 =>
      @Option.bind (Int32) _ (
        if r502 = 0 then
          some x2
        else
          @Option.bind (Int32) _ (
            if x2 = (-1) then
              some 1
            else
              if x1 = 0 then
                some 0
              else
                if gi x3 8 then
                if gi x2 8 then
                some ((v_marks (x3).toNatClampNeg) - (v_marks (x2).toNatClampNeg))
                else none
                else none) fun u506 =>
          @Option.bind (Bool) _ (
            if x2 = (-1) then
              some false
            else
              if gi x3 8 then
              if gi x2 8 then
              if (v_had (x2).toNatClampNeg) ≤ (v_had (x3).toNatClampNeg) then
                some false
              else
                some true
              else none
              else none) fun u511 =>
          if u511 = true then
            @Option.bind (Int32) _ (
              if 0 < u506 then
                some x3
              else
                if u506 = 0 then
                  some x3
                else
                  some x2) fun u516 =>
            some u516
          else
            @Option.bind (Int32) _ (
              if 0 < u506 then
                some x3
              else
                if u506 = 0 then
                  some x2
                else
                  some x2) fun u520 =>
            some u520) fun u504 =>
      sC_Room_whose_h4 x1 v_many v_marks v_had v_allergic fuel u504 (x3 + 1)
def sC_Room_whose (v_many : Int32) (v_marks : Nat → Int32) (v_had : Nat → Int32) (v_allergic : Nat → Int32) (p1 : Int32) : Option (Int32) :=
  (sC_Room_whose_h4 p1 v_many v_marks v_had v_allergic 2000 (-1) 0).bind fun u1 =>
  some u1
set_option maxHeartbeats 4000000 in
theorem wC_Room_whose_h4 {p : Program} {l : Launch} {e : Env} {s : State} {m : MethodId} {args : Array Value} {below : List Frame} {meth : Method} {c : Code} {Q : State → Prop} {G : kG} {ad : Nat → Nat} {pl : va_W} {v_many : Int32} {v_pets : Int32} {v_last : Int32} {v_seed : Int32} {v_weight : Int32} {v_fright : Int32} {v_age : Int32} {v_asked : Nat → Int32} {v_homes : Nat → Option Nat} {v_marks : Nat → Int32} {v_had : Nat → Int32} {v_allergic : Nat → Int32} {v_deaths : Nat → Int32} (C : nC p s m args c cX3_whose RX3 G (rWV ad) pl (nA (rWV ad))) (hml : c.maxLocals = 6)  (x1 : Int32) (res : Int32) :
    ∀ (fuel : Nat) (x2 : Int32) (x3 : Int32) (H : Heap) (locs : List Loc) (ls : Array Slot), sC_Room_whose_h4 x1 v_many v_marks v_had v_allergic fuel x2 x3 = some res → va_P G.1 vwCl (rW G.2 ad v_many v_pets v_last v_seed v_weight v_fright v_age v_asked v_homes v_marks v_had v_allergic v_deaths) H → va_S (nA (rWV ad)) s.heap H locs → lv_has ls 6 [(0, .ref (ad 0)), (1, .int x1), (2, .int x2), (3, .int x3)] → (∀ (H : Heap) (locs : List Loc) (ls : Array Slot), va_P G.1 vwCl (rW G.2 ad v_many v_pets v_last v_seed v_weight v_fright v_age v_asked v_homes v_marks v_had v_allergic v_deaths) H → va_S (nA (rWV ad)) s.heap H locs → lv_has ls 6 [(2, .int res)] → W p l e ({ frames := 3, cells := 0, slots := 0, locals := 67 } : Room) s m args below meth c H locs 0 0 Q (F0 m 109 ls [])) → W p l e ({ frames := 3, cells := 0, slots := 0, locals := 67 } : Room) s m args below meth c H locs 0 0 Q (F0 m 4 ls []) := by
  intro fuel
  induction fuel with
  | zero =>
    intro x2 x3 H locs ls hE
    exact it_n hE
  | succ fuel ih =>
    intro x2 x3 H locs ls hE hP hS hl hX
    rw [sC_Room_whose_h4] at hE
    refine lv_iload_n C.1 C.2.1 dX3_whose_4 rfl (lv_at hl 3 rfl) ?_
    refine lv_aload_n C.1 C.2.1 dX3_whose_5 rfl (lv_at hl 0 rfl) ?_
    refine rWg_0_0 q180 C hP dX3_whose_6 ?_
    refine lv_icmp_ge (tgt := 109) C.1 C.2.1 dX3_whose_9 (by decide) (fun c501 => ?_) (fun c501 => ?_)
    · have hE := it_t c501 hE
      obtain rfl := Option.some.inj hE
      exact hX H locs ls hP hS (lv_sub hl [2] rfl)
    · have hE := it_f c501 hE
      refine lv_aload_n C.1 C.2.1 dX3_whose_12 rfl (lv_at hl 0 rfl) ?_
      refine lv_iload_n C.1 C.2.1 dX3_whose_13 rfl (lv_at hl 3 rfl) ?_
      obtain ⟨r502, hr502, hE⟩ := it_b hE
      refine n_afterS C.2.2.2.2.2.2.2.1 hS (va_runV (As := [.int x3]) (rest := []) ⟨C.1, C.2.1, hml, C.2.2.1, C.2.2.2.1⟩ (metC_Room_may l G ad pl _ _ _ _ _ _ _ _ _ _ _ _ _ x3  r502 hr502) (cwV (C := RX3) 1 C.2.2.2.1 (lw_V q1117 q972 q973 q83 q974) rfl rfl rfl (by decide +kernel) ⟨Nat.le_of_ble_eq_true rfl, Nat.le_of_ble_eq_true rfl⟩) (n_preV0 C hP hS (va_recv C.2.2.2.2.1 hP (ci := 12) (q0 := 0) rfl rfl)) rfl rfl hl.1 rfl (lv_room (Nat.le_of_ble_eq_true rfl)) dX3_whose_14 ⟨Nat.le_refl _, Nat.le_refl _⟩) (fun H locs hP hS => ?_)
      obtain ⟨u504, hR, hE⟩ := it_b hE
      have hJ103u504 : ∀ (H : Heap) (locs : List Loc) (ls : Array Slot), va_P G.1 vwCl (rW G.2 ad v_many v_pets v_last v_seed v_weight v_fright v_age v_asked v_homes v_marks v_had v_allergic v_deaths) H → va_S (nA (rWV ad)) s.heap H locs → lv_has ls 6 [(0, .ref (ad 0)), (1, .int x1), (2, .int u504), (3, .int x3)] → W p l e ({ frames := 3, cells := 0, slots := 0, locals := 67 } : Room) s m args below meth c H locs 0 0 Q (F0 m 103 ls []) := by
        intro H locs ls hP hS hl
        refine lv_iinc (v := (x3 + 1)) (lv' := [(3, .int (x3 + 1)), (0, .ref (ad 0)), (1, .int x1), (2, .int u504)]) C.1 C.2.1 dX3_whose_103 hl (k := 3) rfl rfl (by decide) rfl (fun ls hl => ?_)
        refine lv_goto (tgt := 4) C.1 C.2.1 dX3_whose_106 (by decide) ?_
        exact ih u504 (x3 + 1) _ _ _ hE hP hS (lv_sub hl [1, 2, 3, 0] rfl) hX
      have hE := hR
      refine lv_if_ne (tgt := 23) C.1 C.2.1 dX3_whose_17 (by decide) (fun c503 => ?_) (fun c503 => ?_)
      · have hE := it_f c503 hE
        refine lv_iload_n C.1 C.2.1 dX3_whose_23 rfl (lv_at hl 2 rfl) ?_
        refine lv_iconst (v := (-1)) C.1 C.2.1 dX3_whose_24 (by decide) ?_
        obtain ⟨u506, hR, hE⟩ := it_b hE
        have hJ53u506 : ∀ (H : Heap) (locs : List Loc) (ls : Array Slot), va_P G.1 vwCl (rW G.2 ad v_many v_pets v_last v_seed v_weight v_fright v_age v_asked v_homes v_marks v_had v_allergic v_deaths) H → va_S (nA (rWV ad)) s.heap H locs → lv_has ls 6 [(0, .ref (ad 0)), (1, .int x1), (2, .int x2), (3, .int x3)] → W p l e ({ frames := 3, cells := 0, slots := 0, locals := 67 } : Room) s m args below meth c H locs 0 0 Q (F0 m 53 ls [.int u506]) := by
          intro H locs ls hP hS hl
          refine lv_istore (lv' := [(4, .int u506), (0, .ref (ad 0)), (1, .int x1), (2, .int x2), (3, .int x3)]) C.1 C.2.1 dX3_whose_53 hl (by decide) rfl (fun ls hl => ?_)
          refine lv_iload_n C.1 C.2.1 dX3_whose_55 rfl (lv_at hl 3 rfl) ?_
          refine lv_iconst (v := (-1)) C.1 C.2.1 dX3_whose_56 (by decide) ?_
          obtain ⟨u511, hR, hE⟩ := it_b hE
          have hJ75u511 : u511 = true → ∀ (H : Heap) (locs : List Loc) (ls : Array Slot), va_P G.1 vwCl (rW G.2 ad v_many v_pets v_last v_seed v_weight v_fright v_age v_asked v_homes v_marks v_had v_allergic v_deaths) H → va_S (nA (rWV ad)) s.heap H locs → lv_has ls 6 [(0, .ref (ad 0)), (1, .int x1), (2, .int x2), (3, .int x3), (4, .int u506)] → W p l e ({ frames := 3, cells := 0, slots := 0, locals := 67 } : Room) s m args below meth c H locs 0 0 Q (F0 m 75 ls []) := by
            intro hu H locs ls hP hS hl
            have hE := it_t hu hE
            refine lv_iconst (v := 1) C.1 C.2.1 dX3_whose_75 (by decide) ?_
            refine lv_goto (tgt := 80) C.1 C.2.1 dX3_whose_76 (by decide) ?_
            refine lv_istore (lv' := [(5, .int 1), (0, .ref (ad 0)), (1, .int x1), (2, .int x2), (3, .int x3), (4, .int u506)]) C.1 C.2.1 dX3_whose_80 hl (by decide) rfl (fun ls hl => ?_)
            refine lv_iload C.1 C.2.1 dX3_whose_82 (lv_at hl 5 rfl) ?_
            obtain ⟨u516, hR, hE⟩ := it_b hE
            have hJ102u516 : ∀ (H : Heap) (locs : List Loc) (ls : Array Slot), va_P G.1 vwCl (rW G.2 ad v_many v_pets v_last v_seed v_weight v_fright v_age v_asked v_homes v_marks v_had v_allergic v_deaths) H → va_S (nA (rWV ad)) s.heap H locs → lv_has ls 6 [(0, .ref (ad 0)), (1, .int x1), (3, .int x3)] → W p l e ({ frames := 3, cells := 0, slots := 0, locals := 67 } : Room) s m args below meth c H locs 0 0 Q (F0 m 102 ls [.int u516]) := by
              intro H locs ls hP hS hl
              refine lv_istore_n (lv' := [(2, .int u516), (0, .ref (ad 0)), (1, .int x1), (3, .int x3)]) C.1 C.2.1 dX3_whose_102 rfl hl (by decide) rfl (fun ls hl => ?_)
              obtain rfl := Option.some.inj hE
              exact hJ103u504 H locs ls hP hS (lv_sub hl [1, 2, 0, 3] rfl)
            have hE := hR
            refine lv_if_gt (tgt := 97) C.1 C.2.1 dX3_whose_84 (by decide) (fun c515 => ?_) (fun c515 => ?_)
            · have hE := it_t c515 hE
              refine lv_iload_n C.1 C.2.1 dX3_whose_97 rfl (lv_at hl 4 rfl) ?_
              refine lv_goto (tgt := 102) C.1 C.2.1 dX3_whose_98 (by decide) ?_
              obtain rfl := Option.some.inj hE
              exact hJ102u516 H locs ls hP hS (lv_sub hl [1, 2, 4] rfl)
            · have hE := it_f c515 hE
              refine lv_iload C.1 C.2.1 dX3_whose_87 (lv_at hl 5 rfl) ?_
              refine lv_if_ne (tgt := 101) C.1 C.2.1 dX3_whose_89 (by decide) (fun c517 => ?_) (fun c517 => ?_)
              · have hE := it_f c517 hE
                refine lv_iload_n C.1 C.2.1 dX3_whose_101 rfl (lv_at hl 3 rfl) ?_
                obtain rfl := Option.some.inj hE
                exact hJ102u516 H locs ls hP hS (lv_sub hl [1, 2, 4] rfl)
              · have hE := it_t c517 hE
                refine lv_iload C.1 C.2.1 dX3_whose_92 (lv_at hl 0 rfl) ?_
                refine lv_if_eq (tgt := 101) C.1 C.2.1 dX3_whose_94 (by decide) (fun c518 => absurd c518 (by decide)) (fun c518 => ?_)
                refine lv_iload_n C.1 C.2.1 dX3_whose_97 rfl (lv_at hl 4 rfl) ?_
                refine lv_goto (tgt := 102) C.1 C.2.1 dX3_whose_98 (by decide) ?_
                obtain rfl := Option.some.inj hE
                exact hJ102u516 H locs ls hP hS (lv_sub hl [1, 2, 4] rfl)
          have hJ79u511 : ¬ u511 = true → ∀ (H : Heap) (locs : List Loc) (ls : Array Slot), va_P G.1 vwCl (rW G.2 ad v_many v_pets v_last v_seed v_weight v_fright v_age v_asked v_homes v_marks v_had v_allergic v_deaths) H → va_S (nA (rWV ad)) s.heap H locs → lv_has ls 6 [(0, .ref (ad 0)), (1, .int x1), (2, .int x2), (3, .int x3), (4, .int u506)] → W p l e ({ frames := 3, cells := 0, slots := 0, locals := 67 } : Room) s m args below meth c H locs 0 0 Q (F0 m 79 ls []) := by
            intro hu H locs ls hP hS hl
            have hE := it_f hu hE
            refine lv_iconst (v := 0) C.1 C.2.1 dX3_whose_79 (by decide) ?_
            refine lv_istore (lv' := [(5, .int 0), (0, .ref (ad 0)), (1, .int x1), (2, .int x2), (3, .int x3), (4, .int u506)]) C.1 C.2.1 dX3_whose_80 hl (by decide) rfl (fun ls hl => ?_)
            refine lv_iload C.1 C.2.1 dX3_whose_82 (lv_at hl 5 rfl) ?_
            obtain ⟨u520, hR, hE⟩ := it_b hE
            have hJ102u520 : ∀ (H : Heap) (locs : List Loc) (ls : Array Slot), va_P G.1 vwCl (rW G.2 ad v_many v_pets v_last v_seed v_weight v_fright v_age v_asked v_homes v_marks v_had v_allergic v_deaths) H → va_S (nA (rWV ad)) s.heap H locs → lv_has ls 6 [(0, .ref (ad 0)), (1, .int x1), (3, .int x3)] → W p l e ({ frames := 3, cells := 0, slots := 0, locals := 67 } : Room) s m args below meth c H locs 0 0 Q (F0 m 102 ls [.int u520]) := by
              intro H locs ls hP hS hl
              refine lv_istore_n (lv' := [(2, .int u520), (0, .ref (ad 0)), (1, .int x1), (3, .int x3)]) C.1 C.2.1 dX3_whose_102 rfl hl (by decide) rfl (fun ls hl => ?_)
              obtain rfl := Option.some.inj hE
              exact hJ103u504 H locs ls hP hS (lv_sub hl [1, 2, 0, 3] rfl)
            have hE := hR
            refine lv_if_gt (tgt := 97) C.1 C.2.1 dX3_whose_84 (by decide) (fun c519 => ?_) (fun c519 => ?_)
            · have hE := it_t c519 hE
              refine lv_iload_n C.1 C.2.1 dX3_whose_97 rfl (lv_at hl 4 rfl) ?_
              refine lv_goto (tgt := 102) C.1 C.2.1 dX3_whose_98 (by decide) ?_
              obtain rfl := Option.some.inj hE
              exact hJ102u520 H locs ls hP hS (lv_sub hl [1, 2, 4] rfl)
            · have hE := it_f c519 hE
              refine lv_iload C.1 C.2.1 dX3_whose_87 (lv_at hl 5 rfl) ?_
              refine lv_if_ne (tgt := 101) C.1 C.2.1 dX3_whose_89 (by decide) (fun c521 => ?_) (fun c521 => ?_)
              · have hE := it_f c521 hE
                refine lv_iload_n C.1 C.2.1 dX3_whose_101 rfl (lv_at hl 3 rfl) ?_
                obtain rfl := Option.some.inj hE
                exact hJ102u520 H locs ls hP hS (lv_sub hl [1, 2, 4] rfl)
              · have hE := it_t c521 hE
                refine lv_iload C.1 C.2.1 dX3_whose_92 (lv_at hl 0 rfl) ?_
                refine lv_if_eq (tgt := 101) C.1 C.2.1 dX3_whose_94 (by decide) (fun c522 => ?_) (fun c522 => absurd c522 (by decide))
                refine lv_iload_n C.1 C.2.1 dX3_whose_101 rfl (lv_at hl 3 rfl) ?_
                obtain rfl := Option.some.inj hE
                exact hJ102u520 H locs ls hP hS (lv_sub hl [1, 2, 4] rfl)
          have hE := hR
          refine lv_icmp_eq (tgt := 79) C.1 C.2.1 dX3_whose_57 (by decide) (fun c510 => ?_) (fun c510 => ?_)
          · have hE := it_t c510 hE
            obtain rfl := Option.some.inj hE
            exact hJ79u511 (by decide) H locs ls hP hS (lv_sub hl [1, 2, 3, 4, 0] rfl)
          · have hE := it_f c510 hE
            refine lv_aload_n C.1 C.2.1 dX3_whose_60 rfl (lv_at hl 1 rfl) ?_
            refine rWg_0_7 q197 C hP dX3_whose_61 ?_
            refine lv_iload_n C.1 C.2.1 dX3_whose_64 rfl (lv_at hl 4 rfl) ?_
            obtain ⟨g512, hE⟩ := it_g hE
            refine rWl_5 (v := (v_had (x3).toNatClampNeg)) C hP (gi_in g512) rfl dX3_whose_65 ?_
            refine lv_aload_n C.1 C.2.1 dX3_whose_66 rfl (lv_at hl 1 rfl) ?_
            refine rWg_0_7 q197 C hP dX3_whose_67 ?_
            refine lv_iload_n C.1 C.2.1 dX3_whose_70 rfl (lv_at hl 3 rfl) ?_
            obtain ⟨g513, hE⟩ := it_g hE
            refine rWl_5 (v := (v_had (x2).toNatClampNeg)) C hP (gi_in g513) rfl dX3_whose_71 ?_
            refine lv_icmp_ge (tgt := 79) C.1 C.2.1 dX3_whose_72 (by decide) (fun c514 => ?_) (fun c514 => ?_)
            · have hE := it_t c514 hE
              obtain rfl := Option.some.inj hE
              exact hJ79u511 (by decide) H locs ls hP hS (lv_sub hl [1, 2, 3, 4, 0] rfl)
            · have hE := it_f c514 hE
              obtain rfl := Option.some.inj hE
              exact hJ75u511 rfl H locs ls hP hS (lv_sub hl [1, 2, 3, 4, 0] rfl)
        have hE := hR
        refine lv_icmp_ne (tgt := 32) C.1 C.2.1 dX3_whose_25 (by decide) (fun c505 => ?_) (fun c505 => ?_)
        · have hE := it_f c505 hE
          refine lv_iload_n C.1 C.2.1 dX3_whose_32 rfl (lv_at hl 1 rfl) ?_
          refine lv_if_eq (tgt := 52) C.1 C.2.1 dX3_whose_33 (by decide) (fun c507 => ?_) (fun c507 => ?_)
          · have hE := it_t c507 hE
            refine lv_iconst (v := 0) C.1 C.2.1 dX3_whose_52 (by decide) ?_
            obtain rfl := Option.some.inj hE
            exact hJ53u506 H locs ls hP hS (lv_sub hl [0, 1, 2, 3] rfl)
          · have hE := it_f c507 hE
            refine lv_aload_n C.1 C.2.1 dX3_whose_36 rfl (lv_at hl 0 rfl) ?_
            refine rWg_0_6 q194 C hP dX3_whose_37 ?_
            refine lv_iload_n C.1 C.2.1 dX3_whose_40 rfl (lv_at hl 3 rfl) ?_
            obtain ⟨g508, hE⟩ := it_g hE
            refine rWl_4 (v := (v_marks (x3).toNatClampNeg)) C hP (gi_in g508) rfl dX3_whose_41 ?_
            refine lv_aload_n C.1 C.2.1 dX3_whose_42 rfl (lv_at hl 0 rfl) ?_
            refine rWg_0_6 q194 C hP dX3_whose_43 ?_
            refine lv_iload_n C.1 C.2.1 dX3_whose_46 rfl (lv_at hl 2 rfl) ?_
            obtain ⟨g509, hE⟩ := it_g hE
            refine rWl_4 (v := (v_marks (x2).toNatClampNeg)) C hP (gi_in g509) rfl dX3_whose_47 ?_
            refine lv_isub C.1 C.2.1 dX3_whose_48 ?_
            refine lv_goto (tgt := 53) C.1 C.2.1 dX3_whose_49 (by decide) ?_
            obtain rfl := Option.some.inj hE
            exact hJ53u506 H locs ls hP hS (lv_sub hl [0, 1, 2, 3] rfl)
        · have hE := it_t c505 hE
          refine lv_iconst (v := 1) C.1 C.2.1 dX3_whose_28 (by decide) ?_
          refine lv_goto (tgt := 53) C.1 C.2.1 dX3_whose_29 (by decide) ?_
          obtain rfl := Option.some.inj hE
          exact hJ53u506 H locs ls hP hS (lv_sub hl [0, 1, 2, 3] rfl)
      · have hE := it_t c503 hE
        refine lv_goto (tgt := 103) C.1 C.2.1 dX3_whose_20 (by decide) ?_
        obtain rfl := Option.some.inj hE
        exact hJ103u504 H locs ls hP hS (lv_sub hl [0, 1, 2, 3] rfl)
set_option maxHeartbeats 4000000 in
theorem metC_Room_whose (l : Launch) (G : kG) (ad : Nat → Nat) (pl : va_W) (v_many : Int32) (v_pets : Int32) (v_last : Int32) (v_seed : Int32) (v_weight : Int32) (v_fright : Int32) (v_age : Int32) (v_asked : Nat → Int32) (v_homes : Nat → Option Nat) (v_marks : Nat → Int32) (v_had : Nat → Int32) (v_allergic : Nat → Int32) (v_deaths : Nat → Int32) (p1 : Int32) (res : Int32) (hE : sC_Room_whose v_many v_marks v_had v_allergic p1 = some res) : Met l yX3_whose (ws_ yX3_whose cX3_whose 6 (some .int)) ({ frames := 3, cells := 0, slots := 0, locals := 67 } : Room) (nPc G (rW G.2 ad v_many v_pets v_last v_seed v_weight v_fright v_age v_asked v_homes v_marks v_had v_allergic v_deaths) pl (rWV ad) [.ref (ad 0), .int p1]) (nQc G (rW G.2 ad v_many v_pets v_last v_seed v_weight v_fright v_age v_asked v_homes v_marks v_had v_allergic v_deaths) (rWV ad) (some (.int res))) 0 0 (nA (rWV ad)) := by
  refine n_ofW (own := RX3) (by decide) rfl (Nat.le_of_ble_eq_true rfl) ?_
  intro p e s m args below meth c ls C hml hP hS hl hr hlocks
  have hl : lv_has ls 6 [(0, .ref (ad 0)), (1, .int p1)] := hl
  obtain ⟨Q, hQ⟩ : ∃ Q, Q = MQ below (nQc G (rW G.2 ad v_many v_pets v_last v_seed v_weight v_fright v_age v_asked v_homes v_marks v_had v_allergic v_deaths) (rWV ad) (some (.int res))) args s 0 0 (nA (rWV ad)) := ⟨_, rfl⟩
  rw [← hQ]
  have hret : ∀ (pc : Nat) (ls : Array Slot) (H : Heap) (locs : List Loc), decode cX3_whose pc = .ok (.ireturn, 1) → va_P G.1 vwCl (rW G.2 ad v_many v_pets v_last v_seed v_weight v_fright v_age v_asked v_homes v_marks v_had v_allergic v_deaths) H → va_S (nA (rWV ad)) s.heap H locs → W p l e ({ frames := 3, cells := 0, slots := 0, locals := 67 } : Room) s m args below meth c H locs 0 0 Q (F0 m pc ls [(.int res)]) := by
    intro pc ls H locs hd hP hS
    rw [hQ]
    exact n_iret C hr hlocks hd hP hS
  clear hQ
  obtain ⟨H, hH⟩ : ∃ H, H = s.heap := ⟨_, rfl⟩
  obtain ⟨locs, hlo⟩ : ∃ locs : List Loc, locs = [] := ⟨_, rfl⟩
  have hP : va_P G.1 vwCl (rW G.2 ad v_many v_pets v_last v_seed v_weight v_fright v_age v_asked v_homes v_marks v_had v_allergic v_deaths) H := by rw [hH]; exact hP
  have hS : va_S (nA (rWV ad)) s.heap H locs := by rw [hH, hlo]; exact hS
  suffices hZ : W p l e ({ frames := 3, cells := 0, slots := 0, locals := 67 } : Room) s m args below meth c H locs 0 0 Q (F0 m 0 ls []) by rw [hH, hlo] at hZ; exact hZ
  clear hH hlo
  unfold sC_Room_whose at hE
  refine lv_iconst (v := (-1)) C.1 C.2.1 dX3_whose_0 (by decide) ?_
  refine lv_istore_n (lv' := [(2, .int (-1)), (0, .ref (ad 0)), (1, .int p1)]) C.1 C.2.1 dX3_whose_1 rfl hl (by decide) rfl (fun ls hl => ?_)
  refine lv_iconst (v := 0) C.1 C.2.1 dX3_whose_2 (by decide) ?_
  refine lv_istore_n (lv' := [(3, .int 0), (2, .int (-1)), (0, .ref (ad 0)), (1, .int p1)]) C.1 C.2.1 dX3_whose_3 rfl hl (by decide) rfl (fun ls hl => ?_)
  obtain ⟨u1, hu1, hE⟩ := it_b hE
  refine wC_Room_whose_h4 C hml  p1 u1 2000 (-1) 0 H locs ls hu1 hP hS (lv_sub hl [2, 3, 1, 0] rfl) (fun H locs ls hP hS hl => ?_)
  refine lv_iload_n C.1 C.2.1 dX3_whose_109 rfl (lv_at hl 0 rfl) ?_
  obtain rfl := Option.some.inj hE
  exact hret _ _ _ _ dX3_whose_110 hP hS
def sC_Room_hadSum_h4 (v_many : Int32) (v_had : Nat → Int32) : Nat → Int32 → Int32 → Option (Int32)
  | 0, _, _ => none
  | fuel + 1, x1, x2 =>
    if v_many ≤ x2 then
      some x1
    else
      if gi x2 8 then
      sC_Room_hadSum_h4 v_many v_had fuel (x1 + (v_had (x2).toNatClampNeg)) (x2 + 1)
      else none
def sC_Room_hadSum (v_many : Int32) (v_had : Nat → Int32) : Option (Int32) :=
  (sC_Room_hadSum_h4 v_many v_had 2000 0 0).bind fun u1 =>
  some u1
set_option maxHeartbeats 4000000 in
theorem wC_Room_hadSum_h4 {p : Program} {l : Launch} {e : Env} {s : State} {m : MethodId} {args : Array Value} {below : List Frame} {meth : Method} {c : Code} {Q : State → Prop} {G : kG} {ad : Nat → Nat} {pl : va_W} {v_many : Int32} {v_pets : Int32} {v_last : Int32} {v_seed : Int32} {v_weight : Int32} {v_fright : Int32} {v_age : Int32} {v_asked : Nat → Int32} {v_homes : Nat → Option Nat} {v_marks : Nat → Int32} {v_had : Nat → Int32} {v_allergic : Nat → Int32} {v_deaths : Nat → Int32} (C : nC p s m args c cX3_hadSum RX3 G (rWV ad) pl (nA (rWV ad))) (hml : c.maxLocals = 3)   (res : Int32) :
    ∀ (fuel : Nat) (x1 : Int32) (x2 : Int32) (H : Heap) (locs : List Loc) (ls : Array Slot), sC_Room_hadSum_h4 v_many v_had fuel x1 x2 = some res → va_P G.1 vwCl (rW G.2 ad v_many v_pets v_last v_seed v_weight v_fright v_age v_asked v_homes v_marks v_had v_allergic v_deaths) H → va_S (nA (rWV ad)) s.heap H locs → lv_has ls 3 [(0, .ref (ad 0)), (1, .int x1), (2, .int x2)] → (∀ (H : Heap) (locs : List Loc) (ls : Array Slot), va_P G.1 vwCl (rW G.2 ad v_many v_pets v_last v_seed v_weight v_fright v_age v_asked v_homes v_marks v_had v_allergic v_deaths) H → va_S (nA (rWV ad)) s.heap H locs → lv_has ls 3 [(1, .int res)] → W p l e ({ frames := 0, cells := 0, slots := 0, locals := 0 } : Room) s m args below meth c H locs 0 0 Q (F0 m 27 ls [])) → W p l e ({ frames := 0, cells := 0, slots := 0, locals := 0 } : Room) s m args below meth c H locs 0 0 Q (F0 m 4 ls []) := by
  intro fuel
  induction fuel with
  | zero =>
    intro x1 x2 H locs ls hE
    exact it_n hE
  | succ fuel ih =>
    intro x1 x2 H locs ls hE hP hS hl hX
    rw [sC_Room_hadSum_h4] at hE
    refine lv_iload_n C.1 C.2.1 dX3_hadSum_4 rfl (lv_at hl 2 rfl) ?_
    refine lv_aload_n C.1 C.2.1 dX3_hadSum_5 rfl (lv_at hl 0 rfl) ?_
    refine rWg_0_0 q180 C hP dX3_hadSum_6 ?_
    refine lv_icmp_ge (tgt := 27) C.1 C.2.1 dX3_hadSum_9 (by decide) (fun c501 => ?_) (fun c501 => ?_)
    · have hE := it_t c501 hE
      obtain rfl := Option.some.inj hE
      exact hX H locs ls hP hS (lv_sub hl [1] rfl)
    · have hE := it_f c501 hE
      refine lv_iload_n C.1 C.2.1 dX3_hadSum_12 rfl (lv_at hl 1 rfl) ?_
      refine lv_aload_n C.1 C.2.1 dX3_hadSum_13 rfl (lv_at hl 0 rfl) ?_
      refine rWg_0_7 q197 C hP dX3_hadSum_14 ?_
      refine lv_iload_n C.1 C.2.1 dX3_hadSum_17 rfl (lv_at hl 2 rfl) ?_
      obtain ⟨g502, hE⟩ := it_g hE
      refine rWl_5 (v := (v_had (x2).toNatClampNeg)) C hP (gi_in g502) rfl dX3_hadSum_18 ?_
      refine lv_iadd C.1 C.2.1 dX3_hadSum_19 ?_
      refine lv_istore_n (lv' := [(1, .int (x1 + (v_had (x2).toNatClampNeg))), (0, .ref (ad 0)), (2, .int x2)]) C.1 C.2.1 dX3_hadSum_20 rfl hl (by decide) rfl (fun ls hl => ?_)
      refine lv_iinc (v := (x2 + 1)) (lv' := [(2, .int (x2 + 1)), (1, .int (x1 + (v_had (x2).toNatClampNeg))), (0, .ref (ad 0))]) C.1 C.2.1 dX3_hadSum_21 hl (k := 2) rfl rfl (by decide) rfl (fun ls hl => ?_)
      refine lv_goto (tgt := 4) C.1 C.2.1 dX3_hadSum_24 (by decide) ?_
      exact ih (x1 + (v_had (x2).toNatClampNeg)) (x2 + 1) _ _ _ hE hP hS (lv_sub hl [2, 1, 0] rfl) hX
set_option maxHeartbeats 4000000 in
theorem metC_Room_hadSum (l : Launch) (G : kG) (ad : Nat → Nat) (pl : va_W) (v_many : Int32) (v_pets : Int32) (v_last : Int32) (v_seed : Int32) (v_weight : Int32) (v_fright : Int32) (v_age : Int32) (v_asked : Nat → Int32) (v_homes : Nat → Option Nat) (v_marks : Nat → Int32) (v_had : Nat → Int32) (v_allergic : Nat → Int32) (v_deaths : Nat → Int32)  (res : Int32) (hE : sC_Room_hadSum v_many v_had = some res) : Met l yX3_hadSum (ws_ yX3_hadSum cX3_hadSum 3 (some .int)) ({ frames := 0, cells := 0, slots := 0, locals := 0 } : Room) (nPc G (rW G.2 ad v_many v_pets v_last v_seed v_weight v_fright v_age v_asked v_homes v_marks v_had v_allergic v_deaths) pl (rWV ad) [.ref (ad 0)]) (nQc G (rW G.2 ad v_many v_pets v_last v_seed v_weight v_fright v_age v_asked v_homes v_marks v_had v_allergic v_deaths) (rWV ad) (some (.int res))) 0 0 (nA (rWV ad)) := by
  refine n_ofW (own := RX3) (by decide) rfl (Nat.le_of_ble_eq_true rfl) ?_
  intro p e s m args below meth c ls C hml hP hS hl hr hlocks
  have hl : lv_has ls 3 [(0, .ref (ad 0))] := hl
  obtain ⟨Q, hQ⟩ : ∃ Q, Q = MQ below (nQc G (rW G.2 ad v_many v_pets v_last v_seed v_weight v_fright v_age v_asked v_homes v_marks v_had v_allergic v_deaths) (rWV ad) (some (.int res))) args s 0 0 (nA (rWV ad)) := ⟨_, rfl⟩
  rw [← hQ]
  have hret : ∀ (pc : Nat) (ls : Array Slot) (H : Heap) (locs : List Loc), decode cX3_hadSum pc = .ok (.ireturn, 1) → va_P G.1 vwCl (rW G.2 ad v_many v_pets v_last v_seed v_weight v_fright v_age v_asked v_homes v_marks v_had v_allergic v_deaths) H → va_S (nA (rWV ad)) s.heap H locs → W p l e ({ frames := 0, cells := 0, slots := 0, locals := 0 } : Room) s m args below meth c H locs 0 0 Q (F0 m pc ls [(.int res)]) := by
    intro pc ls H locs hd hP hS
    rw [hQ]
    exact n_iret C hr hlocks hd hP hS
  clear hQ
  obtain ⟨H, hH⟩ : ∃ H, H = s.heap := ⟨_, rfl⟩
  obtain ⟨locs, hlo⟩ : ∃ locs : List Loc, locs = [] := ⟨_, rfl⟩
  have hP : va_P G.1 vwCl (rW G.2 ad v_many v_pets v_last v_seed v_weight v_fright v_age v_asked v_homes v_marks v_had v_allergic v_deaths) H := by rw [hH]; exact hP
  have hS : va_S (nA (rWV ad)) s.heap H locs := by rw [hH, hlo]; exact hS
  suffices hZ : W p l e ({ frames := 0, cells := 0, slots := 0, locals := 0 } : Room) s m args below meth c H locs 0 0 Q (F0 m 0 ls []) by rw [hH, hlo] at hZ; exact hZ
  clear hH hlo
  unfold sC_Room_hadSum at hE
  refine lv_iconst (v := 0) C.1 C.2.1 dX3_hadSum_0 (by decide) ?_
  refine lv_istore_n (lv' := [(1, .int 0), (0, .ref (ad 0))]) C.1 C.2.1 dX3_hadSum_1 rfl hl (by decide) rfl (fun ls hl => ?_)
  refine lv_iconst (v := 0) C.1 C.2.1 dX3_hadSum_2 (by decide) ?_
  refine lv_istore_n (lv' := [(2, .int 0), (1, .int 0), (0, .ref (ad 0))]) C.1 C.2.1 dX3_hadSum_3 rfl hl (by decide) rfl (fun ls hl => ?_)
  obtain ⟨u1, hu1, hE⟩ := it_b hE
  refine wC_Room_hadSum_h4 C hml   u1 2000 0 0 H locs ls hu1 hP hS (lv_sub hl [2, 1, 0] rfl) (fun H locs ls hP hS hl => ?_)
  refine lv_iload_n C.1 C.2.1 dX3_hadSum_27 rfl (lv_at hl 0 rfl) ?_
  obtain rfl := Option.some.inj hE
  exact hret _ _ _ _ dX3_hadSum_28 hP hS
def sC_Room_draw (v_seed : Int32) (p1 : Int32) : Option (Int32 × Int32) :=
  if ¬ p1 = 0 then
  some (((((((v_seed * 1103515245) + 12345)).toUInt32 >>> ((16 : Int32).toUInt32 &&& Int32.toUInt32 31)).toInt32) - (((((v_seed * 1103515245) + 12345)).toUInt32 >>> ((16 : Int32).toUInt32 &&& Int32.toUInt32 31)).toInt32) / p1 * p1), ((v_seed * 1103515245) + 12345))
  else none
set_option maxHeartbeats 4000000 in
theorem metC_Room_draw (l : Launch) (G : kG) (ad : Nat → Nat) (pl : va_W) (v_many : Int32) (v_pets : Int32) (v_last : Int32) (v_seed : Int32) (v_weight : Int32) (v_fright : Int32) (v_age : Int32) (v_asked : Nat → Int32) (v_homes : Nat → Option Nat) (v_marks : Nat → Int32) (v_had : Nat → Int32) (v_allergic : Nat → Int32) (v_deaths : Nat → Int32) (p1 : Int32) (res : Int32 × Int32) (hE : sC_Room_draw v_seed p1 = some res) : Met l yX3_draw (ws_ yX3_draw cX3_draw 2 (some .int)) ({ frames := 0, cells := 0, slots := 0, locals := 0 } : Room) (nPc G (rW G.2 ad v_many v_pets v_last v_seed v_weight v_fright v_age v_asked v_homes v_marks v_had v_allergic v_deaths) pl (rWV ad) [.ref (ad 0), .int p1]) (nQc G (rW G.2 ad v_many v_pets v_last res.2 v_weight v_fright v_age v_asked v_homes v_marks v_had v_allergic v_deaths) (rWV ad) (some (.int res.1))) 0 0 (nA (rWV ad)) := by
  refine n_ofW (own := RX3) (by decide) rfl (Nat.le_of_ble_eq_true rfl) ?_
  intro p e s m args below meth c ls C hml hP hS hl hr hlocks
  have hl : lv_has ls 2 [(0, .ref (ad 0)), (1, .int p1)] := hl
  obtain ⟨Q, hQ⟩ : ∃ Q, Q = MQ below (nQc G (rW G.2 ad v_many v_pets v_last res.2 v_weight v_fright v_age v_asked v_homes v_marks v_had v_allergic v_deaths) (rWV ad) (some (.int res.1))) args s 0 0 (nA (rWV ad)) := ⟨_, rfl⟩
  rw [← hQ]
  have hret : ∀ (pc : Nat) (ls : Array Slot) (H : Heap) (locs : List Loc), decode cX3_draw pc = .ok (.ireturn, 1) → va_P G.1 vwCl (rW G.2 ad v_many v_pets v_last res.2 v_weight v_fright v_age v_asked v_homes v_marks v_had v_allergic v_deaths) H → va_S (nA (rWV ad)) s.heap H locs → W p l e ({ frames := 0, cells := 0, slots := 0, locals := 0 } : Room) s m args below meth c H locs 0 0 Q (F0 m pc ls [(.int res.1)]) := by
    intro pc ls H locs hd hP hS
    rw [hQ]
    exact n_iret C hr hlocks hd hP hS
  clear hQ
  obtain ⟨H, hH⟩ : ∃ H, H = s.heap := ⟨_, rfl⟩
  obtain ⟨locs, hlo⟩ : ∃ locs : List Loc, locs = [] := ⟨_, rfl⟩
  have hP : va_P G.1 vwCl (rW G.2 ad v_many v_pets v_last v_seed v_weight v_fright v_age v_asked v_homes v_marks v_had v_allergic v_deaths) H := by rw [hH]; exact hP
  have hS : va_S (nA (rWV ad)) s.heap H locs := by rw [hH, hlo]; exact hS
  suffices hZ : W p l e ({ frames := 0, cells := 0, slots := 0, locals := 0 } : Room) s m args below meth c H locs 0 0 Q (F0 m 0 ls []) by rw [hH, hlo] at hZ; exact hZ
  clear hH hlo
  unfold sC_Room_draw at hE
  refine lv_aload_n C.1 C.2.1 dX3_draw_0 rfl (lv_at hl 0 rfl) ?_
  refine lv_aload_n C.1 C.2.1 dX3_draw_1 rfl (lv_at hl 0 rfl) ?_
  refine rWg_0_3 q187 C hP dX3_draw_2 ?_
  refine lv_ldc C.1 C.2.1 C.2.2.1 (C.2.2.2.1 _ q1198) dX3_draw_5 ?_
  refine lv_imul C.1 C.2.1 dX3_draw_7 ?_
  refine lv_sipush (v := 12345) C.1 C.2.1 dX3_draw_8 (by decide) ?_
  refine lv_iadd C.1 C.2.1 dX3_draw_11 ?_
  refine rWp_0_3 q187 C hP hS dX3_draw_12 (fun H locs hP hS => ?_)
  refine lv_aload_n C.1 C.2.1 dX3_draw_15 rfl (lv_at hl 0 rfl) ?_
  refine rWg_0_3 q187 C hP dX3_draw_16 ?_
  refine lv_bipush (v := 16) C.1 C.2.1 dX3_draw_19 (by decide) ?_
  refine lv_iushr C.1 C.2.1 dX3_draw_21 rfl ?_
  refine lv_iload_n C.1 C.2.1 dX3_draw_22 rfl (lv_at hl 1 rfl) ?_
  obtain ⟨g1, hE⟩ := it_g hE
  refine lv_irem C.1 C.2.1 dX3_draw_23 g1 ?_
  obtain rfl := Option.some.inj hE
  exact hret _ _ _ _ dX3_draw_24 hP hS
