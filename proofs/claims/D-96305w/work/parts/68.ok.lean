set_option maxRecDepth 100000
theorem arE_ne {aT : Nat → ClassId} {k n k2 : Nat} {rc : Nat → Int64} {fs : List Value} (h : arE aT k n rc = .inr (k2, fs)) : False := by
  unfold arE at h
  split at h
  · cases h
  · split at h
    · cases h
    · split at h
      · cases h
      · cases h
def sC_HW_home_ok (v_refusals : Nat → Int32) (v_many : Int32) (p1 : Int32) (p2 : Int32) : Option Unit :=
  (sC_HW_in ((p1 : Int32).toInt64) 0 6).bind fun r1 =>
  if r1 = 0 then
    none
  else
    (sC_HW_in ((p2 : Int32).toInt64) 0 9).bind fun r4 =>
    if r4 = 0 then
      none
    else
      @Option.bind (Int32) _ (
        if 8 ≤ v_many then
          some 0
        else
          some 1) fun u8 =>
      if u8 = 0 then
        none
      else
        if gi v_many 8 then
        some ()
        else none
set_option maxHeartbeats 4000000 in
theorem metC_HW_home_ok (l : Launch) (hfl : l.stackTraces = false) (G : kG) (ad : Nat → Nat) (pl : va_W) (sz : Nat) (E : va_W) (v_latestFault : Int32) (v_died : Int32) (v_leastWeight : Int32) (v_noticedBy : Int32) (v_noticed : Int32) (v_orderDied : Int32) (v_orderLeast : Int32) (v_imaged : Option Nat) (v_shelves : Nat → Option Nat) (v_refusals : Nat → Int32) (v_ran : Int32) (v_bodies : Nat → Int32) (v_tweight : Int32) (v_tfright : Int32) (v_tage : Int32) (v_tasked : Nat → Int32) (v_told : Nat → Int32) (v_bestRow : Nat → Int32) (v_weight_a1 : Int32) (v_fright_a1 : Int32) (v_age_a1 : Int32) (v_asked_a1 : Nat → Int32) (v_weight_a2 : Int32) (v_fright_a2 : Int32) (v_age_a2 : Int32) (v_asked_a2 : Nat → Int32) (v_weight_a3 : Int32) (v_fright_a3 : Int32) (v_age_a3 : Int32) (v_asked_a3 : Nat → Int32) (v_weight_a4 : Int32) (v_fright_a4 : Int32) (v_age_a4 : Int32) (v_asked_a4 : Nat → Int32) (v_many : Int32) (v_pets : Int32) (v_last : Int32) (v_seed : Int32) (v_weight : Int32) (v_fright : Int32) (v_age : Int32) (v_asked : Nat → Int32) (v_homes : Nat → Option Nat) (v_marks : Nat → Int32) (v_had : Nat → Int32) (v_allergic : Nat → Int32) (v_deaths : Nat → Int32) (p1 : Int32) (p2 : Int32) (hE : sC_HW_home_ok v_refusals v_many p1 p2 = some ()) : vx_Met l yX0_home (wsW_ yX0_home cX0_home 4 (some .int) [((0 : Nat), (67 : Nat), (68 : Nat), (21 : Nat))]) ({ frames := 7, cells := 4, slots := 23, locals := 160 } : Room) (dPc G (xW G.2 ad v_latestFault v_died v_leastWeight v_noticedBy v_noticed v_orderDied v_orderLeast v_imaged v_shelves v_refusals v_ran v_bodies v_tweight v_tfright v_tage v_tasked v_told v_bestRow v_weight_a1 v_fright_a1 v_age_a1 v_asked_a1 v_weight_a2 v_fright_a2 v_age_a2 v_asked_a2 v_weight_a3 v_fright_a3 v_age_a3 v_asked_a3 v_weight_a4 v_fright_a4 v_age_a4 v_asked_a4 v_many v_pets v_last v_seed v_weight v_fright v_age v_asked v_homes v_marks v_had v_allergic v_deaths) pl E (xWV ad) sz [.ref (ad 0), .int p1, .int p2]) (uQ G (fun q => (xW G.2 ad v_latestFault v_died v_leastWeight v_noticedBy v_noticed v_orderDied v_orderLeast v_imaged v_shelves v_refusals v_ran v_bodies v_tweight v_tfright v_tage v_tasked v_told v_bestRow v_weight_a1 v_fright_a1 v_age_a1 v_asked_a1 v_weight_a2 v_fright_a2 v_age_a2 v_asked_a2 v_weight_a3 v_fright_a3 v_age_a3 v_asked_a3 v_weight_a4 v_fright_a4 v_age_a4 v_asked_a4 (v_many + 1) v_pets v_last v_seed v_weight v_fright v_age v_asked (va_up v_homes v_many.toNatClampNeg (some q)) (upd v_marks v_many.toNatClampNeg 0) (upd v_had v_many.toNatClampNeg 0) (upd v_allergic v_many.toNatClampNeg 0) v_deaths) ++ [(q, .inr (hkd p1, [.int v_many, .int p2]))]) (tA sz (xWV ad) E) sz (some (.int (v_many + 1 - 1)))) (fun _ _ _ _ => False) 4 23 (tA sz (xWV ad) E) := by
  refine d_ofWH (own := RX0) (by decide) rfl (Nat.le_of_ble_eq_true rfl) ?_
  intro p e s m args below meth c ls C C0 D hN hml htab hP hp hS hl hr hlocks hsz
  have hl : lv_has ls 4 [(0, .ref (ad 0)), (1, .int p1), (2, .int p2)] := hl
  obtain ⟨H, hH⟩ : ∃ H, H = s.heap := ⟨_, rfl⟩
  obtain ⟨locs, hlo⟩ : ∃ locs : List Loc, locs = [] := ⟨_, rfl⟩
  have hP : va_P G.1 vwCl (xW G.2 ad v_latestFault v_died v_leastWeight v_noticedBy v_noticed v_orderDied v_orderLeast v_imaged v_shelves v_refusals v_ran v_bodies v_tweight v_tfright v_tage v_tasked v_told v_bestRow v_weight_a1 v_fright_a1 v_age_a1 v_asked_a1 v_weight_a2 v_fright_a2 v_age_a2 v_asked_a2 v_weight_a3 v_fright_a3 v_age_a3 v_asked_a3 v_weight_a4 v_fright_a4 v_age_a4 v_asked_a4 v_many v_pets v_last v_seed v_weight v_fright v_age v_asked v_homes v_marks v_had v_allergic v_deaths) H := by rw [hH]; exact hP
  have hp : va_P G.1 vwCl E H := by rw [hH]; exact hp
  have hS : va_S (tA sz (xWV ad) E) s.heap H locs := by rw [hH, hlo]; exact hS
  obtain ⟨Q, hQ⟩ : ∃ Q, Q = vx_MQ below (uQ G (fun q => (xW G.2 ad v_latestFault v_died v_leastWeight v_noticedBy v_noticed v_orderDied v_orderLeast v_imaged v_shelves v_refusals v_ran v_bodies v_tweight v_tfright v_tage v_tasked v_told v_bestRow v_weight_a1 v_fright_a1 v_age_a1 v_asked_a1 v_weight_a2 v_fright_a2 v_age_a2 v_asked_a2 v_weight_a3 v_fright_a3 v_age_a3 v_asked_a3 v_weight_a4 v_fright_a4 v_age_a4 v_asked_a4 (v_many + 1) v_pets v_last v_seed v_weight v_fright v_age v_asked (va_up v_homes v_many.toNatClampNeg (some q)) (upd v_marks v_many.toNatClampNeg 0) (upd v_had v_many.toNatClampNeg 0) (upd v_allergic v_many.toNatClampNeg 0) v_deaths) ++ [(q, .inr (hkd p1, [.int v_many, .int p2]))]) (tA sz (xWV ad) E) sz (some (.int (v_many + 1 - 1)))) (fun _ _ _ _ => False) args s 4 23 (tA sz (xWV ad) E) := ⟨_, rfl⟩
  rw [← hQ]
  suffices hZ : W p l e ({ frames := 7, cells := 4, slots := 23, locals := 160 } : Room) s m args below meth c H locs 0 0 Q (F0 m 0 ls []) by rw [hH, hlo] at hZ; exact hZ
  clear hH hlo
  unfold sC_HW_home_ok at hE
  refine lv_iload_n C.1 C.2.1 dX0_home_0 rfl (lv_at hl 1 rfl) ?_
  refine lv_i2l C.1 C.2.1 dX0_home_1 rfl ?_
  refine lv_lconst (v := 0) C.1 C.2.1 dX0_home_2 (by decide) ?_
  refine lv_ldc2 C.1 C.2.1 C.2.2.1 (C.2.2.2.1 _ q596) dX0_home_3 ?_
  obtain ⟨r1, hr1, hE⟩ := it_b hE
  refine tn_after (plc := []) [] C0 D hP hp hS (va_runS (As := [.long ((p1 : Int32).toInt64), .long 0, .long 6]) (rest := []) ⟨C.1, C.2.1, hml, C.2.2.1, C.2.2.2.1⟩ (metC_HW_in l G ad pl  ((p1 : Int32).toInt64) 0 6  r1 hr1) (va_cwS 3 C.2.2.2.1 (lw_S q401 q402 q80 q403) rfl rfl rfl (by decide +kernel) ⟨Nat.le_of_ble_eq_true rfl, Nat.le_of_ble_eq_true rfl⟩) (n_preS C hP hS [] rfl (by decide) rfl) rfl rfl hl.1 rfl (lv_room (Nat.le_of_ble_eq_true rfl)) dX0_home_6 ⟨Nat.le_of_ble_eq_true rfl, Nat.le_of_ble_eq_true rfl⟩) xW_av rfl rfl rfl (fun H locs hP hp hS => ?_)
  refine lv_iconst (v := (-1)) C.1 C.2.1 dX0_home_9 (by decide) ?_
  refine d_after [] C0 D hP hp hS (vx_runS (As := [.int r1, .int (-1)]) (rest := []) ⟨C.1, C.2.1, hml, C.2.2.1, C.2.2.2.1⟩ (metC_HW_need l hfl G ad (pl ++ E) H.size r1 (-1) _ (need_eq _ _)) (va_cwS 2 C.2.2.2.1 (lw_S q397 q398 q80 q399) rfl rfl rfl (by decide +kernel) ⟨Nat.le_of_ble_eq_true rfl, Nat.le_of_ble_eq_true rfl⟩) (d_preS C C0 D hN hP hp hS [] rfl (by decide) rfl) rfl rfl hl.1 rfl (lv_room (Nat.le_of_ble_eq_true rfl)) dX0_home_10 ⟨Nat.le_of_ble_eq_true rfl, Nat.le_of_ble_eq_true rfl⟩) xW_av rfl rfl rfl (fun hφ H locs hP hp hS => ?_) (fun w q H locs hw => ?_)
  · have hE := it_f (nd_n hφ) hE
    refine lv_iload_n C.1 C.2.1 dX0_home_13 rfl (lv_at hl 2 rfl) ?_
    refine lv_i2l C.1 C.2.1 dX0_home_14 rfl ?_
    refine lv_lconst (v := 0) C.1 C.2.1 dX0_home_15 (by decide) ?_
    refine lv_ldc2 C.1 C.2.1 C.2.2.1 (C.2.2.2.1 _ q648) dX0_home_16 ?_
    obtain ⟨r4, hr4, hE⟩ := it_b hE
    refine tn_after (plc := []) [] C0 D hP hp hS (va_runS (As := [.long ((p2 : Int32).toInt64), .long 0, .long 9]) (rest := []) ⟨C.1, C.2.1, hml, C.2.2.1, C.2.2.2.1⟩ (metC_HW_in l G ad pl  ((p2 : Int32).toInt64) 0 9  r4 hr4) (va_cwS 3 C.2.2.2.1 (lw_S q401 q402 q80 q403) rfl rfl rfl (by decide +kernel) ⟨Nat.le_of_ble_eq_true rfl, Nat.le_of_ble_eq_true rfl⟩) (n_preS C hP hS [] rfl (by decide) rfl) rfl rfl hl.1 rfl (lv_room (Nat.le_of_ble_eq_true rfl)) dX0_home_19 ⟨Nat.le_of_ble_eq_true rfl, Nat.le_of_ble_eq_true rfl⟩) xW_av rfl rfl rfl (fun H locs hP hp hS => ?_)
    refine lv_bipush (v := (-6)) C.1 C.2.1 dX0_home_22 (by decide) ?_
    refine d_after [] C0 D hP hp hS (vx_runS (As := [.int r4, .int (-6)]) (rest := []) ⟨C.1, C.2.1, hml, C.2.2.1, C.2.2.2.1⟩ (metC_HW_need l hfl G ad (pl ++ E) H.size r4 (-6) _ (need_eq _ _)) (va_cwS 2 C.2.2.2.1 (lw_S q397 q398 q80 q399) rfl rfl rfl (by decide +kernel) ⟨Nat.le_of_ble_eq_true rfl, Nat.le_of_ble_eq_true rfl⟩) (d_preS C C0 D hN hP hp hS [] rfl (by decide) rfl) rfl rfl hl.1 rfl (lv_room (Nat.le_of_ble_eq_true rfl)) dX0_home_24 ⟨Nat.le_of_ble_eq_true rfl, Nat.le_of_ble_eq_true rfl⟩) xW_av rfl rfl rfl (fun hφ H locs hP hp hS => ?_) (fun w q H locs hw => ?_)
    · have hE := it_f (nd_n hφ) hE
      refine lv_aload_n C.1 C.2.1 dX0_home_27 rfl (lv_at hl 0 rfl) ?_
      refine xWg_0_6 q244 C hP dX0_home_28 ?_
      refine xWg_18_0 q182 C hP dX0_home_31 ?_
      refine lv_bipush (v := 8) C.1 C.2.1 dX0_home_34 (by decide) ?_
      obtain ⟨u8, hR, hE⟩ := it_b hE
      have hJ44u8 : ∀ (H : Heap) (locs : List Loc) (ls : Array Slot), va_P G.1 vwCl (xW G.2 ad v_latestFault v_died v_leastWeight v_noticedBy v_noticed v_orderDied v_orderLeast v_imaged v_shelves v_refusals v_ran v_bodies v_tweight v_tfright v_tage v_tasked v_told v_bestRow v_weight_a1 v_fright_a1 v_age_a1 v_asked_a1 v_weight_a2 v_fright_a2 v_age_a2 v_asked_a2 v_weight_a3 v_fright_a3 v_age_a3 v_asked_a3 v_weight_a4 v_fright_a4 v_age_a4 v_asked_a4 v_many v_pets v_last v_seed v_weight v_fright v_age v_asked v_homes v_marks v_had v_allergic v_deaths) H → va_P G.1 vwCl E H → va_S (tA sz (xWV ad) E) s.heap H locs → lv_has ls 4 [(0, .ref (ad 0)), (1, .int p1), (2, .int p2)] → W p l e ({ frames := 7, cells := 4, slots := 23, locals := 160 } : Room) s m args below meth c H locs 2 14 Q (F0 m 44 ls [.int u8]) := by
        intro H locs ls hP hp hS hl
        refine lv_bipush (v := (-7)) C.1 C.2.1 dX0_home_44 (by decide) ?_
        refine d_after [] C0 D hP hp hS (vx_runS (As := [.int u8, .int (-7)]) (rest := []) ⟨C.1, C.2.1, hml, C.2.2.1, C.2.2.2.1⟩ (metC_HW_need l hfl G ad (pl ++ E) H.size u8 (-7) _ (need_eq _ _)) (va_cwS 2 C.2.2.2.1 (lw_S q397 q398 q80 q399) rfl rfl rfl (by decide +kernel) ⟨Nat.le_of_ble_eq_true rfl, Nat.le_of_ble_eq_true rfl⟩) (d_preS C C0 D hN hP hp hS [] rfl (by decide) rfl) rfl rfl hl.1 rfl (lv_room (Nat.le_of_ble_eq_true rfl)) dX0_home_46 ⟨Nat.le_of_ble_eq_true rfl, Nat.le_of_ble_eq_true rfl⟩) xW_av rfl rfl rfl (fun hφ H locs hP hp hS => ?_) (fun w q H locs hw => ?_)
        · have hE := it_f (nd_n hφ) hE
          refine lv_aload_n C.1 C.2.1 dX0_home_49 rfl (lv_at hl 0 rfl) ?_
          refine xWg_0_6 q244 C hP dX0_home_50 ?_
          refine lv_iload_n C.1 C.2.1 dX0_home_53 rfl (lv_at hl 1 rfl) ?_
          refine lv_iload_n C.1 C.2.1 dX0_home_54 rfl (lv_at hl 2 rfl) ?_
          obtain ⟨g11, hE⟩ := it_g hE
          have hHs := hS.1
          have hAv : ∀ q, q ∈ rWV (fun i => ad (18 + i)) → (tA sz (xWV ad) E) q := fun q hq => C.2.2.2.2.2.2.2.1 q (sub_of (isC := [18, 19, 20, 21, 22, 23, 24, 25]) (av := xWV ad) rfl hq)
          refine gu_after (avc := rWV (fun i => ad (18 + i))) D.2.2.1 hAv hS (vx_runV (As := [.int p1, .int p2]) (rest := []) ⟨C.1, C.2.1, hml, C.2.2.1, C.2.2.2.1⟩ (metC_Room_addHome l G (fun i => ad (18 + i)) (pl ++ E) H.size _ _ _ _ _ _ _ _ _ _ _ _ _ p1 p2 g11) (cwV (C := RX3) 2 C.2.2.2.1 (lw_V q649 q650 q651 q83 q652) rfl rfl rfl (by decide +kernel) ⟨Nat.le_of_ble_eq_true rfl, Nat.le_of_ble_eq_true rfl⟩) (d_preV C C0 D hN hP hp hS [18, 19, 20, 21, 22, 23, 24, 25] sub_xW_rW_18 (by decide) rfl (va_recv C.2.2.2.2.1 hP (ci := 12) (q0 := 18) rfl rfl)) rfl rfl hl.1 rfl (lv_room (Nat.le_of_ble_eq_true rfl)) dX0_home_55 ⟨Nat.le_of_ble_eq_true rfl, Nat.le_of_ble_eq_true rfl⟩) (fun q H1 locs hq hΨ hz hk hS => ?_)
          have hP := t_mrg (pl := []) (t := H1) [18, 19, 20, 21, 22, 23, 24, 25] (by simpa using nd_left D.1) hP (P_left hΨ) (fun x h1 h2 => hk x h1 (fun h => h2 (Or.inl h))) xW_av rfl rfl mg_xW_rW_18
          have hc := P_right hΨ
          refine lv_aload_n C.1 C.2.1 dX0_home_58 rfl (lv_at hl 0 rfl) ?_
          refine xWg_0_6 q244 C hP dX0_home_59 ?_
          refine xWg_18_0 q182 C hP dX0_home_62 ?_
          refine lv_iconst (v := 1) C.1 C.2.1 dX0_home_65 (by decide) ?_
          refine lv_isub C.1 C.2.1 dX0_home_66 ?_
          refine W.widen (k := 4) (n := 23) (Nat.le_of_ble_eq_true rfl) (Nat.le_of_ble_eq_true rfl) ?_
          rw [hQ]
          exact vx_ret (W.iret C.1 C.2.1 hr (fun t ht hW => ⟨rfl, ⟨q, by omega, by rw [ht]; exact hP.app hc⟩, hS.F ht⟩) hS.2.2 dX0_home_67 hlocks)
        · obtain ⟨c9, rfl⟩ := nd_x hw
          obtain ⟨q10, rfl⟩ : ∃ z, z = q := ⟨_, rfl⟩
          have hE := it_t c9 hE
          exact it_n hE
      have hE := hR
      refine lv_icmp_ge (tgt := 43) C.1 C.2.1 dX0_home_36 (by decide) (fun c7 => ?_) (fun c7 => ?_)
      · have hE := it_t c7 hE
        refine lv_iconst (v := 0) C.1 C.2.1 dX0_home_43 (by decide) ?_
        obtain rfl := Option.some.inj hE
        exact hJ44u8 H locs ls hP hp hS (lv_sub hl [0, 1, 2] rfl)
      · have hE := it_f c7 hE
        refine lv_iconst (v := 1) C.1 C.2.1 dX0_home_39 (by decide) ?_
        refine lv_goto (tgt := 44) C.1 C.2.1 dX0_home_40 (by decide) ?_
        obtain rfl := Option.some.inj hE
        exact hJ44u8 H locs ls hP hp hS (lv_sub hl [0, 1, 2] rfl)
    · obtain ⟨c5, rfl⟩ := nd_x hw
      obtain ⟨q6, rfl⟩ : ∃ z, z = q := ⟨_, rfl⟩
      have hE := it_t c5 hE
      exact it_n hE
  · obtain ⟨c2, rfl⟩ := nd_x hw
    obtain ⟨q3, rfl⟩ : ∃ z, z = q := ⟨_, rfl⟩
    have hE := it_t c2 hE
    exact it_n hE
def sC_HW_row_ok (v_refusals : Nat → Int32) (hd : Nat → Nat) (rs : Nat → Nat) (rn : Nat → Nat) (rc : Nat → Nat → Int64) (sk : Nat → Nat) (si : Nat → Int32) (sb : Nat → Int32) (p1 : Int32) (p2 : Int32) (p3 : Int32) : Option Unit :=
  if gi p1 8 then
    @Option.bind (Int32) _ (
      if p3 < 0 then
        some 0
      else
        some 1) fun u5 =>
    if u5 = 0 then
      none
    else
      (sC_HW_in ((p2 : Int32).toInt64) 0 3).bind fun r8 =>
      if r8 = 0 then
        none
      else
        @Option.bind (Int32) _ (
          if 160 < p3 then
            some 0
          else
            some 1) fun u12 =>
        if u12 = 0 then
          none
        else
          if ¬ p3 < 0 then
          if (p3).toNatClampNeg ≤ 160 then
          if p2 = 0 then
            some ()
          else
          if p2 = 1 then
            some ()
          else
          if p2 = 2 then
            some ()
          else
          if p2 = 3 then
            some ()
          else
          none
          else none
          else none
  else
    none
set_option maxHeartbeats 4000000 in
theorem metC_HW_row_ok (l : Launch) (hfl : l.stackTraces = false) (G : kG) (ad : Nat → Nat) (pl : va_W) (sa ra rb hd rs rn : Nat → Nat) (rc : Nat → Nat → Int64) (sk : Nat → Nat) (si sb : Nat → Int32) (sz : Nat) (E : va_W) (v_latestFault : Int32) (v_died : Int32) (v_leastWeight : Int32) (v_noticedBy : Int32) (v_noticed : Int32) (v_orderDied : Int32) (v_orderLeast : Int32) (v_imaged : Option Nat) (v_shelves : Nat → Option Nat) (v_refusals : Nat → Int32) (v_ran : Int32) (v_bodies : Nat → Int32) (v_tweight : Int32) (v_tfright : Int32) (v_tage : Int32) (v_tasked : Nat → Int32) (v_told : Nat → Int32) (v_bestRow : Nat → Int32) (v_weight_a1 : Int32) (v_fright_a1 : Int32) (v_age_a1 : Int32) (v_asked_a1 : Nat → Int32) (v_weight_a2 : Int32) (v_fright_a2 : Int32) (v_age_a2 : Int32) (v_asked_a2 : Nat → Int32) (v_weight_a3 : Int32) (v_fright_a3 : Int32) (v_age_a3 : Int32) (v_asked_a3 : Nat → Int32) (v_weight_a4 : Int32) (v_fright_a4 : Int32) (v_age_a4 : Int32) (v_asked_a4 : Nat → Int32) (v_many : Int32) (v_pets : Int32) (v_last : Int32) (v_seed : Int32) (v_weight : Int32) (v_fright : Int32) (v_age : Int32) (v_asked : Nat → Int32) (v_homes : Nat → Option Nat) (v_marks : Nat → Int32) (v_had : Nat → Int32) (v_allergic : Nat → Int32) (v_deaths : Nat → Int32) (shok : shOK G v_shelves sa hd ra rb rs rn rc sk si sb (pl ++ E)) (p1 : Int32) (p2 : Int32) (p3 : Int32) (v0 : Value) (hEe : E = [(sa p1.toNatClampNeg, .inr (13, [v0]))]) (hE : sC_HW_row_ok v_refusals hd rs rn rc sk si sb p1 p2 p3 = some ()) : vx_Met l yX0_row (wsW_ yX0_row cX0_row 5 (some .int) [((0 : Nat), (63 : Nat), (64 : Nat), (21 : Nat))]) ({ frames := 9, cells := 9, slots := 411, locals := 10272 } : Room) (dPc G (xW G.2 ad v_latestFault v_died v_leastWeight v_noticedBy v_noticed v_orderDied v_orderLeast v_imaged v_shelves v_refusals v_ran v_bodies v_tweight v_tfright v_tage v_tasked v_told v_bestRow v_weight_a1 v_fright_a1 v_age_a1 v_asked_a1 v_weight_a2 v_fright_a2 v_age_a2 v_asked_a2 v_weight_a3 v_fright_a3 v_age_a3 v_asked_a3 v_weight_a4 v_fright_a4 v_age_a4 v_asked_a4 v_many v_pets v_last v_seed v_weight v_fright v_age v_asked v_homes v_marks v_had v_allergic v_deaths) pl E (xWV ad) sz [.ref (ad 0), .int p1, .int p2, .int p3]) (fun _ st oc t => oc = .returned (some (.int 1)) ∧ (∃ a b, sz ≤ a ∧ sz ≤ b ∧ a ≠ b ∧ va_P G.1 vwCl ([(sa p1.toNatClampNeg, .inr (13, [.ref a]))] ++ ((xW G.2 ad v_latestFault v_died v_leastWeight v_noticedBy v_noticed v_orderDied v_orderLeast v_imaged v_shelves v_refusals v_ran v_bodies v_tweight v_tfright v_tage v_tasked v_told v_bestRow v_weight_a1 v_fright_a1 v_age_a1 v_asked_a1 v_weight_a2 v_fright_a2 v_age_a2 v_asked_a2 v_weight_a3 v_fright_a3 v_age_a3 v_asked_a3 v_weight_a4 v_fright_a4 v_age_a4 v_asked_a4 v_many v_pets v_last v_seed v_weight v_fright v_age v_asked v_homes v_marks v_had v_allergic v_deaths) ++ [(a, .inr (7 + p2.toNatClampNeg, [.ref b])), (b, arE G.2 p2.toNatClampNeg p3.toNatClampNeg (fun _ => 0))])) t.heap) ∧ va_F (tA sz (xWV ad) E) st t) (fun _ _ _ _ => False) 9 411 (tA sz (xWV ad) E) := by
  refine d_ofWH (own := RX0) (by decide) rfl (Nat.le_of_ble_eq_true rfl) ?_
  intro p e s m args below meth c ls C C0 D hN hml htab hP hp hS hl hr hlocks hsz
  have hl : lv_has ls 5 [(0, .ref (ad 0)), (1, .int p1), (2, .int p2), (3, .int p3)] := hl
  obtain ⟨H, hH⟩ : ∃ H, H = s.heap := ⟨_, rfl⟩
  obtain ⟨locs, hlo⟩ : ∃ locs : List Loc, locs = [] := ⟨_, rfl⟩
  have hP : va_P G.1 vwCl (xW G.2 ad v_latestFault v_died v_leastWeight v_noticedBy v_noticed v_orderDied v_orderLeast v_imaged v_shelves v_refusals v_ran v_bodies v_tweight v_tfright v_tage v_tasked v_told v_bestRow v_weight_a1 v_fright_a1 v_age_a1 v_asked_a1 v_weight_a2 v_fright_a2 v_age_a2 v_asked_a2 v_weight_a3 v_fright_a3 v_age_a3 v_asked_a3 v_weight_a4 v_fright_a4 v_age_a4 v_asked_a4 v_many v_pets v_last v_seed v_weight v_fright v_age v_asked v_homes v_marks v_had v_allergic v_deaths) H := by rw [hH]; exact hP
  have hp : va_P G.1 vwCl E H := by rw [hH]; exact hp
  have hS : va_S (tA sz (xWV ad) E) s.heap H locs := by rw [hH, hlo]; exact hS
  obtain ⟨Q, hQ⟩ : ∃ Q, Q = vx_MQ below (fun _ st oc t => oc = .returned (some (.int 1)) ∧ (∃ a b, sz ≤ a ∧ sz ≤ b ∧ a ≠ b ∧ va_P G.1 vwCl ([(sa p1.toNatClampNeg, .inr (13, [.ref a]))] ++ ((xW G.2 ad v_latestFault v_died v_leastWeight v_noticedBy v_noticed v_orderDied v_orderLeast v_imaged v_shelves v_refusals v_ran v_bodies v_tweight v_tfright v_tage v_tasked v_told v_bestRow v_weight_a1 v_fright_a1 v_age_a1 v_asked_a1 v_weight_a2 v_fright_a2 v_age_a2 v_asked_a2 v_weight_a3 v_fright_a3 v_age_a3 v_asked_a3 v_weight_a4 v_fright_a4 v_age_a4 v_asked_a4 v_many v_pets v_last v_seed v_weight v_fright v_age v_asked v_homes v_marks v_had v_allergic v_deaths) ++ [(a, .inr (7 + p2.toNatClampNeg, [.ref b])), (b, arE G.2 p2.toNatClampNeg p3.toNatClampNeg (fun _ => 0))])) t.heap) ∧ va_F (tA sz (xWV ad) E) st t) (fun _ _ _ _ => False) args s 9 411 (tA sz (xWV ad) E) := ⟨_, rfl⟩
  rw [← hQ]
  suffices hZ : W p l e ({ frames := 9, cells := 9, slots := 411, locals := 10272 } : Room) s m args below meth c H locs 0 0 Q (F0 m 0 ls []) by rw [hH, hlo] at hZ; exact hZ
  clear hH hlo
  unfold sC_HW_row_ok at hE
  refine lv_aload_n C.1 C.2.1 dX0_row_0 rfl (lv_at hl 0 rfl) ?_
  refine lv_iload_n C.1 C.2.1 dX0_row_1 rfl (lv_at hl 1 rfl) ?_
  refine d_afterS C0 D hP hp hS (vx_runVX (As := [.int p1]) (rest := []) ⟨C.1, C.2.1, hml, C.2.2.1, C.2.2.2.1⟩ (metC_HW_shelf l hfl G ad (pl ++ E) H.size _ _ _ _ _ _ _ _ _ _ _ _ _ _ _ _ _ _ _ _ _ _ _ _ _ _ _ _ _ _ _ _ _ _ _ _ _ _ _ _ _ _ _ _ _ _ _ p1) (vx_cwVW (C := RX0) 1 C.2.2.2.1 (lw_VW q292 q294 qs0 q80 q295) rfl rfl rfl (by decide +kernel) ⟨Nat.le_of_ble_eq_true rfl, Nat.le_of_ble_eq_true rfl⟩) (d_preV0 C C0 D hN hP hp hS (va_recv C.2.2.2.2.1 hP (ci := 16) (q0 := 0) rfl rfl)) rfl rfl hl.1 rfl (lv_room (Nat.le_of_ble_eq_true rfl)) dX0_row_2 ⟨Nat.le_of_ble_eq_true rfl, Nat.le_of_ble_eq_true rfl⟩) xW_av (fun hφ H locs hP hp hS => ?_) (fun w q H locs hw => ?_)
  · have hE := it_t hφ hE
    obtain ⟨hsag1, hshg1⟩ := shok _ (gi_lt hφ)
    rw [hsag1]
    refine lv_astore (lv' := [(4, .ref (sa (p1).toNatClampNeg)), (0, .ref (ad 0)), (1, .int p1), (2, .int p2), (3, .int p3)]) C.1 C.2.1 dX0_row_5 hl (by decide) rfl (fun ls hl => ?_)
    refine lv_iload_n C.1 C.2.1 dX0_row_7 rfl (lv_at hl 4 rfl) ?_
    obtain ⟨u5, hR, hE⟩ := it_b hE
    have hJ16u5 : ∀ (H : Heap) (locs : List Loc) (ls : Array Slot), va_P G.1 vwCl (xW G.2 ad v_latestFault v_died v_leastWeight v_noticedBy v_noticed v_orderDied v_orderLeast v_imaged v_shelves v_refusals v_ran v_bodies v_tweight v_tfright v_tage v_tasked v_told v_bestRow v_weight_a1 v_fright_a1 v_age_a1 v_asked_a1 v_weight_a2 v_fright_a2 v_age_a2 v_asked_a2 v_weight_a3 v_fright_a3 v_age_a3 v_asked_a3 v_weight_a4 v_fright_a4 v_age_a4 v_asked_a4 v_many v_pets v_last v_seed v_weight v_fright v_age v_asked v_homes v_marks v_had v_allergic v_deaths) H → va_P G.1 vwCl E H → va_S (tA sz (xWV ad) E) s.heap H locs → lv_has ls 5 [(0, .ref (ad 0)), (2, .int p2), (3, .int p3), (4, .ref (sa (p1).toNatClampNeg))] → W p l e ({ frames := 9, cells := 9, slots := 411, locals := 10272 } : Room) s m args below meth c H locs 4 229 Q (F0 m 16 ls [.int u5]) := by
      intro H locs ls hP hp hS hl
      refine lv_bipush (v := (-4)) C.1 C.2.1 dX0_row_16 (by decide) ?_
      refine d_after [] C0 D hP hp hS (vx_runS (As := [.int u5, .int (-4)]) (rest := []) ⟨C.1, C.2.1, hml, C.2.2.1, C.2.2.2.1⟩ (metC_HW_need l hfl G ad (pl ++ E) H.size u5 (-4) _ (need_eq _ _)) (va_cwS 2 C.2.2.2.1 (lw_S q397 q398 q80 q399) rfl rfl rfl (by decide +kernel) ⟨Nat.le_of_ble_eq_true rfl, Nat.le_of_ble_eq_true rfl⟩) (d_preS C C0 D hN hP hp hS [] rfl (by decide) rfl) rfl rfl hl.1 rfl (lv_room (Nat.le_of_ble_eq_true rfl)) dX0_row_18 ⟨Nat.le_of_ble_eq_true rfl, Nat.le_of_ble_eq_true rfl⟩) xW_av rfl rfl rfl (fun hφ H locs hP hp hS => ?_) (fun w q H locs hw => ?_)
      · have hE := it_f (nd_n hφ) hE
        refine lv_iload_n C.1 C.2.1 dX0_row_21 rfl (lv_at hl 1 rfl) ?_
        refine lv_i2l C.1 C.2.1 dX0_row_22 rfl ?_
        refine lv_lconst (v := 0) C.1 C.2.1 dX0_row_23 (by decide) ?_
        refine lv_ldc2 C.1 C.2.1 C.2.2.1 (C.2.2.2.1 _ q400) dX0_row_24 ?_
        obtain ⟨r8, hr8, hE⟩ := it_b hE
        refine tn_after (plc := []) [] C0 D hP hp hS (va_runS (As := [.long ((p2 : Int32).toInt64), .long 0, .long 3]) (rest := []) ⟨C.1, C.2.1, hml, C.2.2.1, C.2.2.2.1⟩ (metC_HW_in l G ad pl  ((p2 : Int32).toInt64) 0 3  r8 hr8) (va_cwS 3 C.2.2.2.1 (lw_S q401 q402 q80 q403) rfl rfl rfl (by decide +kernel) ⟨Nat.le_of_ble_eq_true rfl, Nat.le_of_ble_eq_true rfl⟩) (n_preS C hP hS [] rfl (by decide) rfl) rfl rfl hl.1 rfl (lv_room (Nat.le_of_ble_eq_true rfl)) dX0_row_27 ⟨Nat.le_of_ble_eq_true rfl, Nat.le_of_ble_eq_true rfl⟩) xW_av rfl rfl rfl (fun H locs hP hp hS => ?_)
        refine lv_bipush (v := (-6)) C.1 C.2.1 dX0_row_30 (by decide) ?_
        refine d_after [] C0 D hP hp hS (vx_runS (As := [.int r8, .int (-6)]) (rest := []) ⟨C.1, C.2.1, hml, C.2.2.1, C.2.2.2.1⟩ (metC_HW_need l hfl G ad (pl ++ E) H.size r8 (-6) _ (need_eq _ _)) (va_cwS 2 C.2.2.2.1 (lw_S q397 q398 q80 q399) rfl rfl rfl (by decide +kernel) ⟨Nat.le_of_ble_eq_true rfl, Nat.le_of_ble_eq_true rfl⟩) (d_preS C C0 D hN hP hp hS [] rfl (by decide) rfl) rfl rfl hl.1 rfl (lv_room (Nat.le_of_ble_eq_true rfl)) dX0_row_32 ⟨Nat.le_of_ble_eq_true rfl, Nat.le_of_ble_eq_true rfl⟩) xW_av rfl rfl rfl (fun hφ H locs hP hp hS => ?_) (fun w q H locs hw => ?_)
        · have hE := it_f (nd_n hφ) hE
          refine lv_iload_n C.1 C.2.1 dX0_row_35 rfl (lv_at hl 2 rfl) ?_
          refine lv_sipush (v := 160) C.1 C.2.1 dX0_row_36 (by decide) ?_
          obtain ⟨u12, hR, hE⟩ := it_b hE
          have hJ47u12 : ∀ (H : Heap) (locs : List Loc) (ls : Array Slot), va_P G.1 vwCl (xW G.2 ad v_latestFault v_died v_leastWeight v_noticedBy v_noticed v_orderDied v_orderLeast v_imaged v_shelves v_refusals v_ran v_bodies v_tweight v_tfright v_tage v_tasked v_told v_bestRow v_weight_a1 v_fright_a1 v_age_a1 v_asked_a1 v_weight_a2 v_fright_a2 v_age_a2 v_asked_a2 v_weight_a3 v_fright_a3 v_age_a3 v_asked_a3 v_weight_a4 v_fright_a4 v_age_a4 v_asked_a4 v_many v_pets v_last v_seed v_weight v_fright v_age v_asked v_homes v_marks v_had v_allergic v_deaths) H → va_P G.1 vwCl E H → va_S (tA sz (xWV ad) E) s.heap H locs → lv_has ls 5 [(0, .ref (ad 0)), (2, .int p2), (3, .int p3), (4, .ref (sa (p1).toNatClampNeg))] → W p l e ({ frames := 9, cells := 9, slots := 411, locals := 10272 } : Room) s m args below meth c H locs 6 243 Q (F0 m 47 ls [.int u12]) := by
            intro H locs ls hP hp hS hl
            refine lv_bipush (v := (-7)) C.1 C.2.1 dX0_row_47 (by decide) ?_
            refine d_after [] C0 D hP hp hS (vx_runS (As := [.int u12, .int (-7)]) (rest := []) ⟨C.1, C.2.1, hml, C.2.2.1, C.2.2.2.1⟩ (metC_HW_need l hfl G ad (pl ++ E) H.size u12 (-7) _ (need_eq _ _)) (va_cwS 2 C.2.2.2.1 (lw_S q397 q398 q80 q399) rfl rfl rfl (by decide +kernel) ⟨Nat.le_of_ble_eq_true rfl, Nat.le_of_ble_eq_true rfl⟩) (d_preS C C0 D hN hP hp hS [] rfl (by decide) rfl) rfl rfl hl.1 rfl (lv_room (Nat.le_of_ble_eq_true rfl)) dX0_row_49 ⟨Nat.le_of_ble_eq_true rfl, Nat.le_of_ble_eq_true rfl⟩) xW_av rfl rfl rfl (fun hφ H locs hP hp hS => ?_) (fun w q H locs hw => ?_)
            · have hE := it_f (nd_n hφ) hE
              refine lv_aload C.1 C.2.1 dX0_row_52 (lv_at hl 3 rfl) ?_
              refine lv_iload_n C.1 C.2.1 dX0_row_54 rfl (lv_at hl 1 rfl) ?_
              refine lv_iload_n C.1 C.2.1 dX0_row_55 rfl (lv_at hl 2 rfl) ?_
              obtain ⟨g15, hE⟩ := it_g hE
              obtain ⟨g16, hE⟩ := it_g hE
              by_cases c17 : p2 = 0
              · have hE := it_t c17 hE
                rw [c17]
                have hHs := hS.1
                refine r_newRow_0 C D hml hl.1 hS g15 g16 q404 ⟨Nat.le_of_ble_eq_true rfl, Nat.le_of_ble_eq_true rfl, Nat.le_of_ble_eq_true rfl, Nat.le_of_ble_eq_true rfl⟩ (Nat.le_of_ble_eq_true rfl) dX0_row_56 (fun a b H1 locs ha hb hne hc hk hS => ?_)
                subst hEe
                have hlt : ∀ z, z ∈ xWV ad ++ [sa (p1).toNatClampNeg] → z < H.size := fun z hz => by
                    rcases List.mem_append.mp hz with h9 | h9
                    · exact P_lt hP h9
                    · exact P_lt hp h9
                have hPP : va_P G.1 vwCl ([(sa (p1).toNatClampNeg, .inr (13, [v0]))] ++ ((xW G.2 ad v_latestFault v_died v_leastWeight v_noticedBy v_noticed v_orderDied v_orderLeast v_imaged v_shelves v_refusals v_ran v_bodies v_tweight v_tfright v_tage v_tasked v_told v_bestRow v_weight_a1 v_fright_a1 v_age_a1 v_asked_a1 v_weight_a2 v_fright_a2 v_age_a2 v_asked_a2 v_weight_a3 v_fright_a3 v_age_a3 v_asked_a3 v_weight_a4 v_fright_a4 v_age_a4 v_asked_a4 v_many v_pets v_last v_seed v_weight v_fright v_age v_asked v_homes v_marks v_had v_allergic v_deaths) ++ [(a, .inr (7, [.ref b])), (b, arE G.2 0 (p3).toNatClampNeg (fun _ => 0))])) H1 := (P_kept hp (fun z _ hz => hk z hz)).app ((P_kept hP (fun z _ hz => hk z hz)).app hc)
                have hDD : va_D (tA sz (xWV ad) [(sa (p1).toNatClampNeg, .inr (13, [v0]))]) ([(sa (p1).toNatClampNeg, .inr (13, [v0]))] ++ ((xW G.2 ad v_latestFault v_died v_leastWeight v_noticedBy v_noticed v_orderDied v_orderLeast v_imaged v_shelves v_refusals v_ran v_bodies v_tweight v_tfright v_tage v_tasked v_told v_bestRow v_weight_a1 v_fright_a1 v_age_a1 v_asked_a1 v_weight_a2 v_fright_a2 v_age_a2 v_asked_a2 v_weight_a3 v_fright_a3 v_age_a3 v_asked_a3 v_weight_a4 v_fright_a4 v_age_a4 v_asked_a4 v_many v_pets v_last v_seed v_weight v_fright v_age v_asked v_homes v_marks v_had v_allergic v_deaths) ++ [(a, .inr (7, [.ref b])), (b, arE G.2 0 (p3).toNatClampNeg (fun _ => 0))])) := by
                    have h1 : (xWV ad ++ [sa (p1).toNatClampNeg]).Nodup := D.1
                    refine va_D_of ?_ ?_
                    · show (sa (p1).toNatClampNeg :: (xWV ad ++ [a, b])).Nodup
                      rw [List.nodup_append] at h1
                      refine List.nodup_cons.mpr ⟨fun h9 => ?_, List.nodup_append.mpr ⟨h1.1, by simp [hne], fun y hy z hz => ?_⟩⟩
                      · rcases List.mem_append.mp h9 with h9 | h9
                        · exact h1.2.2 _ h9 _ (List.mem_singleton.mpr rfl) rfl
                        · have h8 := hlt (sa (p1).toNatClampNeg) (List.mem_append_right _ (List.mem_singleton.mpr rfl))
                          simp only [List.mem_cons, List.not_mem_nil, or_false] at h9
                          omega
                      · have h8 := hlt y (List.mem_append_left _ hy)
                        simp only [List.mem_cons, List.not_mem_nil, or_false] at hz
                        omega
                    · intro z hz
                      have hz : z ∈ sa (p1).toNatClampNeg :: (xWV ad ++ [a, b]) := hz
                      rcases List.mem_cons.mp hz with h9 | h9
                      · exact Or.inr (Or.inl (by rw [h9]; exact List.mem_singleton.mpr rfl))
                      · rcases List.mem_append.mp h9 with h9 | h9
                        · exact Or.inl h9
                        · refine Or.inr (Or.inr ?_)
                          simp only [List.mem_cons, List.not_mem_nil, or_false] at h9
                          omega
                refine va_put (D := G.1) (ci := 13) (v := .ref a) (ty := (.object "java/lang/Object")) (C := RX4) (T := TX4) (N := 1) C.1 C.2.1 C.2.2.2.1 in_X4 tyX4 tyX4_ok nmX4 C.2.2.1 C.2.2.2.2.1 hPP hDD hS 0 rfl rfl 0 (by decide) (C.2.2.2.1 _ q234) (fun _ h => h) rfl (by decide +kernel) rfl rfl (Nat.le_of_ble_eq_true rfl) dX0_row_59 (fun H locs hPP hDD hS => ?_)
                refine lv_iconst (v := 1) C.1 C.2.1 dX0_row_62 (by decide) ?_
                refine W.widen (k := 9) (n := 411) (Nat.le_of_ble_eq_true rfl) (Nat.le_of_ble_eq_true rfl) ?_
                rw [hQ]
                exact vx_ret (W.iret C.1 C.2.1 hr (fun t ht hW => ⟨rfl, ⟨a, b, by omega, by omega, hne, by rw [ht]; rw [show (p2 : Int32).toNatClampNeg = 0 from by rw [c17]; rfl]; exact hPP⟩, hS.F ht⟩) hS.2.2 dX0_row_63 hlocks)
              have hE := it_f c17 hE
              by_cases c18 : p2 = 1
              · have hE := it_t c18 hE
                rw [c18]
                have hHs := hS.1
                refine r_newRow_1 C D hml hl.1 hS g15 g16 q404 ⟨Nat.le_of_ble_eq_true rfl, Nat.le_of_ble_eq_true rfl, Nat.le_of_ble_eq_true rfl, Nat.le_of_ble_eq_true rfl⟩ (Nat.le_of_ble_eq_true rfl) dX0_row_56 (fun a b H1 locs ha hb hne hc hk hS => ?_)
                subst hEe
                have hlt : ∀ z, z ∈ xWV ad ++ [sa (p1).toNatClampNeg] → z < H.size := fun z hz => by
                    rcases List.mem_append.mp hz with h9 | h9
                    · exact P_lt hP h9
                    · exact P_lt hp h9
                have hPP : va_P G.1 vwCl ([(sa (p1).toNatClampNeg, .inr (13, [v0]))] ++ ((xW G.2 ad v_latestFault v_died v_leastWeight v_noticedBy v_noticed v_orderDied v_orderLeast v_imaged v_shelves v_refusals v_ran v_bodies v_tweight v_tfright v_tage v_tasked v_told v_bestRow v_weight_a1 v_fright_a1 v_age_a1 v_asked_a1 v_weight_a2 v_fright_a2 v_age_a2 v_asked_a2 v_weight_a3 v_fright_a3 v_age_a3 v_asked_a3 v_weight_a4 v_fright_a4 v_age_a4 v_asked_a4 v_many v_pets v_last v_seed v_weight v_fright v_age v_asked v_homes v_marks v_had v_allergic v_deaths) ++ [(a, .inr (8, [.ref b])), (b, arE G.2 1 (p3).toNatClampNeg (fun _ => 0))])) H1 := (P_kept hp (fun z _ hz => hk z hz)).app ((P_kept hP (fun z _ hz => hk z hz)).app hc)
                have hDD : va_D (tA sz (xWV ad) [(sa (p1).toNatClampNeg, .inr (13, [v0]))]) ([(sa (p1).toNatClampNeg, .inr (13, [v0]))] ++ ((xW G.2 ad v_latestFault v_died v_leastWeight v_noticedBy v_noticed v_orderDied v_orderLeast v_imaged v_shelves v_refusals v_ran v_bodies v_tweight v_tfright v_tage v_tasked v_told v_bestRow v_weight_a1 v_fright_a1 v_age_a1 v_asked_a1 v_weight_a2 v_fright_a2 v_age_a2 v_asked_a2 v_weight_a3 v_fright_a3 v_age_a3 v_asked_a3 v_weight_a4 v_fright_a4 v_age_a4 v_asked_a4 v_many v_pets v_last v_seed v_weight v_fright v_age v_asked v_homes v_marks v_had v_allergic v_deaths) ++ [(a, .inr (8, [.ref b])), (b, arE G.2 1 (p3).toNatClampNeg (fun _ => 0))])) := by
                    have h1 : (xWV ad ++ [sa (p1).toNatClampNeg]).Nodup := D.1
                    refine va_D_of ?_ ?_
                    · show (sa (p1).toNatClampNeg :: (xWV ad ++ [a, b])).Nodup
                      rw [List.nodup_append] at h1
                      refine List.nodup_cons.mpr ⟨fun h9 => ?_, List.nodup_append.mpr ⟨h1.1, by simp [hne], fun y hy z hz => ?_⟩⟩
                      · rcases List.mem_append.mp h9 with h9 | h9
                        · exact h1.2.2 _ h9 _ (List.mem_singleton.mpr rfl) rfl
                        · have h8 := hlt (sa (p1).toNatClampNeg) (List.mem_append_right _ (List.mem_singleton.mpr rfl))
                          simp only [List.mem_cons, List.not_mem_nil, or_false] at h9
                          omega
                      · have h8 := hlt y (List.mem_append_left _ hy)
                        simp only [List.mem_cons, List.not_mem_nil, or_false] at hz
                        omega
                    · intro z hz
                      have hz : z ∈ sa (p1).toNatClampNeg :: (xWV ad ++ [a, b]) := hz
                      rcases List.mem_cons.mp hz with h9 | h9
                      · exact Or.inr (Or.inl (by rw [h9]; exact List.mem_singleton.mpr rfl))
                      · rcases List.mem_append.mp h9 with h9 | h9
                        · exact Or.inl h9
                        · refine Or.inr (Or.inr ?_)
                          simp only [List.mem_cons, List.not_mem_nil, or_false] at h9
                          omega
                refine va_put (D := G.1) (ci := 13) (v := .ref a) (ty := (.object "java/lang/Object")) (C := RX4) (T := TX4) (N := 1) C.1 C.2.1 C.2.2.2.1 in_X4 tyX4 tyX4_ok nmX4 C.2.2.1 C.2.2.2.2.1 hPP hDD hS 0 rfl rfl 0 (by decide) (C.2.2.2.1 _ q234) (fun _ h => h) rfl (by decide +kernel) rfl rfl (Nat.le_of_ble_eq_true rfl) dX0_row_59 (fun H locs hPP hDD hS => ?_)
                refine lv_iconst (v := 1) C.1 C.2.1 dX0_row_62 (by decide) ?_
                refine W.widen (k := 9) (n := 411) (Nat.le_of_ble_eq_true rfl) (Nat.le_of_ble_eq_true rfl) ?_
                rw [hQ]
                exact vx_ret (W.iret C.1 C.2.1 hr (fun t ht hW => ⟨rfl, ⟨a, b, by omega, by omega, hne, by rw [ht]; rw [show (p2 : Int32).toNatClampNeg = 1 from by rw [c18]; rfl]; exact hPP⟩, hS.F ht⟩) hS.2.2 dX0_row_63 hlocks)
              have hE := it_f c18 hE
              by_cases c19 : p2 = 2
              · have hE := it_t c19 hE
                rw [c19]
                have hHs := hS.1
                refine r_newRow_2 C D hml hl.1 hS g15 g16 q404 ⟨Nat.le_of_ble_eq_true rfl, Nat.le_of_ble_eq_true rfl, Nat.le_of_ble_eq_true rfl, Nat.le_of_ble_eq_true rfl⟩ (Nat.le_of_ble_eq_true rfl) dX0_row_56 (fun a b H1 locs ha hb hne hc hk hS => ?_)
                subst hEe
                have hlt : ∀ z, z ∈ xWV ad ++ [sa (p1).toNatClampNeg] → z < H.size := fun z hz => by
                    rcases List.mem_append.mp hz with h9 | h9
                    · exact P_lt hP h9
                    · exact P_lt hp h9
                have hPP : va_P G.1 vwCl ([(sa (p1).toNatClampNeg, .inr (13, [v0]))] ++ ((xW G.2 ad v_latestFault v_died v_leastWeight v_noticedBy v_noticed v_orderDied v_orderLeast v_imaged v_shelves v_refusals v_ran v_bodies v_tweight v_tfright v_tage v_tasked v_told v_bestRow v_weight_a1 v_fright_a1 v_age_a1 v_asked_a1 v_weight_a2 v_fright_a2 v_age_a2 v_asked_a2 v_weight_a3 v_fright_a3 v_age_a3 v_asked_a3 v_weight_a4 v_fright_a4 v_age_a4 v_asked_a4 v_many v_pets v_last v_seed v_weight v_fright v_age v_asked v_homes v_marks v_had v_allergic v_deaths) ++ [(a, .inr (9, [.ref b])), (b, arE G.2 2 (p3).toNatClampNeg (fun _ => 0))])) H1 := (P_kept hp (fun z _ hz => hk z hz)).app ((P_kept hP (fun z _ hz => hk z hz)).app hc)
                have hDD : va_D (tA sz (xWV ad) [(sa (p1).toNatClampNeg, .inr (13, [v0]))]) ([(sa (p1).toNatClampNeg, .inr (13, [v0]))] ++ ((xW G.2 ad v_latestFault v_died v_leastWeight v_noticedBy v_noticed v_orderDied v_orderLeast v_imaged v_shelves v_refusals v_ran v_bodies v_tweight v_tfright v_tage v_tasked v_told v_bestRow v_weight_a1 v_fright_a1 v_age_a1 v_asked_a1 v_weight_a2 v_fright_a2 v_age_a2 v_asked_a2 v_weight_a3 v_fright_a3 v_age_a3 v_asked_a3 v_weight_a4 v_fright_a4 v_age_a4 v_asked_a4 v_many v_pets v_last v_seed v_weight v_fright v_age v_asked v_homes v_marks v_had v_allergic v_deaths) ++ [(a, .inr (9, [.ref b])), (b, arE G.2 2 (p3).toNatClampNeg (fun _ => 0))])) := by
                    have h1 : (xWV ad ++ [sa (p1).toNatClampNeg]).Nodup := D.1
                    refine va_D_of ?_ ?_
                    · show (sa (p1).toNatClampNeg :: (xWV ad ++ [a, b])).Nodup
                      rw [List.nodup_append] at h1
                      refine List.nodup_cons.mpr ⟨fun h9 => ?_, List.nodup_append.mpr ⟨h1.1, by simp [hne], fun y hy z hz => ?_⟩⟩
                      · rcases List.mem_append.mp h9 with h9 | h9
                        · exact h1.2.2 _ h9 _ (List.mem_singleton.mpr rfl) rfl
                        · have h8 := hlt (sa (p1).toNatClampNeg) (List.mem_append_right _ (List.mem_singleton.mpr rfl))
                          simp only [List.mem_cons, List.not_mem_nil, or_false] at h9
                          omega
                      · have h8 := hlt y (List.mem_append_left _ hy)
                        simp only [List.mem_cons, List.not_mem_nil, or_false] at hz
                        omega
                    · intro z hz
                      have hz : z ∈ sa (p1).toNatClampNeg :: (xWV ad ++ [a, b]) := hz
                      rcases List.mem_cons.mp hz with h9 | h9
                      · exact Or.inr (Or.inl (by rw [h9]; exact List.mem_singleton.mpr rfl))
                      · rcases List.mem_append.mp h9 with h9 | h9
                        · exact Or.inl h9
                        · refine Or.inr (Or.inr ?_)
                          simp only [List.mem_cons, List.not_mem_nil, or_false] at h9
                          omega
                refine va_put (D := G.1) (ci := 13) (v := .ref a) (ty := (.object "java/lang/Object")) (C := RX4) (T := TX4) (N := 1) C.1 C.2.1 C.2.2.2.1 in_X4 tyX4 tyX4_ok nmX4 C.2.2.1 C.2.2.2.2.1 hPP hDD hS 0 rfl rfl 0 (by decide) (C.2.2.2.1 _ q234) (fun _ h => h) rfl (by decide +kernel) rfl rfl (Nat.le_of_ble_eq_true rfl) dX0_row_59 (fun H locs hPP hDD hS => ?_)
                refine lv_iconst (v := 1) C.1 C.2.1 dX0_row_62 (by decide) ?_
                refine W.widen (k := 9) (n := 411) (Nat.le_of_ble_eq_true rfl) (Nat.le_of_ble_eq_true rfl) ?_
                rw [hQ]
                exact vx_ret (W.iret C.1 C.2.1 hr (fun t ht hW => ⟨rfl, ⟨a, b, by omega, by omega, hne, by rw [ht]; rw [show (p2 : Int32).toNatClampNeg = 2 from by rw [c19]; rfl]; exact hPP⟩, hS.F ht⟩) hS.2.2 dX0_row_63 hlocks)
              have hE := it_f c19 hE
              by_cases c20 : p2 = 3
              · have hE := it_t c20 hE
                rw [c20]
                have hHs := hS.1
                refine r_newRow_3 C D hml hl.1 hS g15 g16 q404 ⟨Nat.le_of_ble_eq_true rfl, Nat.le_of_ble_eq_true rfl, Nat.le_of_ble_eq_true rfl, Nat.le_of_ble_eq_true rfl⟩ (Nat.le_of_ble_eq_true rfl) dX0_row_56 (fun a b H1 locs ha hb hne hc hk hS => ?_)
                subst hEe
                have hlt : ∀ z, z ∈ xWV ad ++ [sa (p1).toNatClampNeg] → z < H.size := fun z hz => by
                    rcases List.mem_append.mp hz with h9 | h9
                    · exact P_lt hP h9
                    · exact P_lt hp h9
                have hPP : va_P G.1 vwCl ([(sa (p1).toNatClampNeg, .inr (13, [v0]))] ++ ((xW G.2 ad v_latestFault v_died v_leastWeight v_noticedBy v_noticed v_orderDied v_orderLeast v_imaged v_shelves v_refusals v_ran v_bodies v_tweight v_tfright v_tage v_tasked v_told v_bestRow v_weight_a1 v_fright_a1 v_age_a1 v_asked_a1 v_weight_a2 v_fright_a2 v_age_a2 v_asked_a2 v_weight_a3 v_fright_a3 v_age_a3 v_asked_a3 v_weight_a4 v_fright_a4 v_age_a4 v_asked_a4 v_many v_pets v_last v_seed v_weight v_fright v_age v_asked v_homes v_marks v_had v_allergic v_deaths) ++ [(a, .inr (10, [.ref b])), (b, arE G.2 3 (p3).toNatClampNeg (fun _ => 0))])) H1 := (P_kept hp (fun z _ hz => hk z hz)).app ((P_kept hP (fun z _ hz => hk z hz)).app hc)
                have hDD : va_D (tA sz (xWV ad) [(sa (p1).toNatClampNeg, .inr (13, [v0]))]) ([(sa (p1).toNatClampNeg, .inr (13, [v0]))] ++ ((xW G.2 ad v_latestFault v_died v_leastWeight v_noticedBy v_noticed v_orderDied v_orderLeast v_imaged v_shelves v_refusals v_ran v_bodies v_tweight v_tfright v_tage v_tasked v_told v_bestRow v_weight_a1 v_fright_a1 v_age_a1 v_asked_a1 v_weight_a2 v_fright_a2 v_age_a2 v_asked_a2 v_weight_a3 v_fright_a3 v_age_a3 v_asked_a3 v_weight_a4 v_fright_a4 v_age_a4 v_asked_a4 v_many v_pets v_last v_seed v_weight v_fright v_age v_asked v_homes v_marks v_had v_allergic v_deaths) ++ [(a, .inr (10, [.ref b])), (b, arE G.2 3 (p3).toNatClampNeg (fun _ => 0))])) := by
                    have h1 : (xWV ad ++ [sa (p1).toNatClampNeg]).Nodup := D.1
                    refine va_D_of ?_ ?_
                    · show (sa (p1).toNatClampNeg :: (xWV ad ++ [a, b])).Nodup
                      rw [List.nodup_append] at h1
                      refine List.nodup_cons.mpr ⟨fun h9 => ?_, List.nodup_append.mpr ⟨h1.1, by simp [hne], fun y hy z hz => ?_⟩⟩
                      · rcases List.mem_append.mp h9 with h9 | h9
                        · exact h1.2.2 _ h9 _ (List.mem_singleton.mpr rfl) rfl
                        · have h8 := hlt (sa (p1).toNatClampNeg) (List.mem_append_right _ (List.mem_singleton.mpr rfl))
                          simp only [List.mem_cons, List.not_mem_nil, or_false] at h9
                          omega
                      · have h8 := hlt y (List.mem_append_left _ hy)
                        simp only [List.mem_cons, List.not_mem_nil, or_false] at hz
                        omega
                    · intro z hz
                      have hz : z ∈ sa (p1).toNatClampNeg :: (xWV ad ++ [a, b]) := hz
                      rcases List.mem_cons.mp hz with h9 | h9
                      · exact Or.inr (Or.inl (by rw [h9]; exact List.mem_singleton.mpr rfl))
                      · rcases List.mem_append.mp h9 with h9 | h9
                        · exact Or.inl h9
                        · refine Or.inr (Or.inr ?_)
                          simp only [List.mem_cons, List.not_mem_nil, or_false] at h9
                          omega
                refine va_put (D := G.1) (ci := 13) (v := .ref a) (ty := (.object "java/lang/Object")) (C := RX4) (T := TX4) (N := 1) C.1 C.2.1 C.2.2.2.1 in_X4 tyX4 tyX4_ok nmX4 C.2.2.1 C.2.2.2.2.1 hPP hDD hS 0 rfl rfl 0 (by decide) (C.2.2.2.1 _ q234) (fun _ h => h) rfl (by decide +kernel) rfl rfl (Nat.le_of_ble_eq_true rfl) dX0_row_59 (fun H locs hPP hDD hS => ?_)
                refine lv_iconst (v := 1) C.1 C.2.1 dX0_row_62 (by decide) ?_
                refine W.widen (k := 9) (n := 411) (Nat.le_of_ble_eq_true rfl) (Nat.le_of_ble_eq_true rfl) ?_
                rw [hQ]
                exact vx_ret (W.iret C.1 C.2.1 hr (fun t ht hW => ⟨rfl, ⟨a, b, by omega, by omega, hne, by rw [ht]; rw [show (p2 : Int32).toNatClampNeg = 3 from by rw [c20]; rfl]; exact hPP⟩, hS.F ht⟩) hS.2.2 dX0_row_63 hlocks)
              have hE := it_f c20 hE
              exact it_n hE
            · obtain ⟨c13, rfl⟩ := nd_x hw
              obtain ⟨q14, rfl⟩ : ∃ z, z = q := ⟨_, rfl⟩
              have hE := it_t c13 hE
              exact it_n hE
          have hE := hR
          refine lv_icmp_gt (tgt := 46) C.1 C.2.1 dX0_row_39 (by decide) (fun c11 => ?_) (fun c11 => ?_)
          · have hE := it_t c11 hE
            refine lv_iconst (v := 0) C.1 C.2.1 dX0_row_46 (by decide) ?_
            obtain rfl := Option.some.inj hE
            exact hJ47u12 H locs ls hP hp hS (lv_sub hl [0, 1, 2, 3] rfl)
          · have hE := it_f c11 hE
            refine lv_iconst (v := 1) C.1 C.2.1 dX0_row_42 (by decide) ?_
            refine lv_goto (tgt := 47) C.1 C.2.1 dX0_row_43 (by decide) ?_
            obtain rfl := Option.some.inj hE
            exact hJ47u12 H locs ls hP hp hS (lv_sub hl [0, 1, 2, 3] rfl)
        · obtain ⟨c9, rfl⟩ := nd_x hw
          obtain ⟨q10, rfl⟩ : ∃ z, z = q := ⟨_, rfl⟩
          have hE := it_t c9 hE
          exact it_n hE
      · obtain ⟨c6, rfl⟩ := nd_x hw
        obtain ⟨q7, rfl⟩ : ∃ z, z = q := ⟨_, rfl⟩
        have hE := it_t c6 hE
        exact it_n hE
    have hE := hR
    refine lv_if_lt (tgt := 15) C.1 C.2.1 dX0_row_8 (by decide) (fun c4 => ?_) (fun c4 => ?_)
    · have hE := it_t c4 hE
      refine lv_iconst (v := 0) C.1 C.2.1 dX0_row_15 (by decide) ?_
      obtain rfl := Option.some.inj hE
      exact hJ16u5 H locs ls hP hp hS (lv_sub hl [1, 3, 4, 0] rfl)
    · have hE := it_f c4 hE
      refine lv_iconst (v := 1) C.1 C.2.1 dX0_row_11 (by decide) ?_
      refine lv_goto (tgt := 16) C.1 C.2.1 dX0_row_12 (by decide) ?_
      obtain rfl := Option.some.inj hE
      exact hJ16u5 H locs ls hP hp hS (lv_sub hl [1, 3, 4, 0] rfl)
  · obtain ⟨c2, rfl⟩ := shO_x hw
    have hE := it_f c2 hE
    obtain ⟨q3, rfl⟩ : ∃ z, z = q := ⟨_, rfl⟩
    exact it_n hE
def sC_HW_show_ok (v_refusals : Nat → Int32) (v_many : Int32) (v_homes : Nat → Option Nat) (hk : Nat → Nat) (hb : Nat → Int32) (hd : Nat → Nat) (rs : Nat → Nat) (rn : Nat → Nat) (rc : Nat → Nat → Int64) (sk : Nat → Nat) (si : Nat → Int32) (sb : Nat → Int32) (p1 : Int32) (p2 : Int32) : Option Unit :=
  if gi p1 8 then
    if p2 = (-1) then
      some ()
    else
      (sC_HW_mustHome v_many p2).bind fun r5 =>
      if r5 = none then
        if gi p2 8 then
        if gm p2 v_many then
        some ()
        else none
        else none
      else
        none
  else
    none
set_option maxHeartbeats 4000000 in
theorem metC_HW_show_ok (l : Launch) (hfl : l.stackTraces = false) (G : kG) (ad : Nat → Nat) (pl : va_W) (hk : Nat → Nat) (hb : Nat → Int32) (sa ra rb hd rs rn : Nat → Nat) (rc : Nat → Nat → Int64) (sk : Nat → Nat) (si sb : Nat → Int32) (sz : Nat) (E : va_W) (v_latestFault : Int32) (v_died : Int32) (v_leastWeight : Int32) (v_noticedBy : Int32) (v_noticed : Int32) (v_orderDied : Int32) (v_orderLeast : Int32) (v_imaged : Option Nat) (v_shelves : Nat → Option Nat) (v_refusals : Nat → Int32) (v_ran : Int32) (v_bodies : Nat → Int32) (v_tweight : Int32) (v_tfright : Int32) (v_tage : Int32) (v_tasked : Nat → Int32) (v_told : Nat → Int32) (v_bestRow : Nat → Int32) (v_weight_a1 : Int32) (v_fright_a1 : Int32) (v_age_a1 : Int32) (v_asked_a1 : Nat → Int32) (v_weight_a2 : Int32) (v_fright_a2 : Int32) (v_age_a2 : Int32) (v_asked_a2 : Nat → Int32) (v_weight_a3 : Int32) (v_fright_a3 : Int32) (v_age_a3 : Int32) (v_asked_a3 : Nat → Int32) (v_weight_a4 : Int32) (v_fright_a4 : Int32) (v_age_a4 : Int32) (v_asked_a4 : Nat → Int32) (v_many : Int32) (v_pets : Int32) (v_last : Int32) (v_seed : Int32) (v_weight : Int32) (v_fright : Int32) (v_age : Int32) (v_asked : Nat → Int32) (v_homes : Nat → Option Nat) (v_marks : Nat → Int32) (v_had : Nat → Int32) (v_allergic : Nat → Int32) (v_deaths : Nat → Int32) (hom : homOK v_homes v_many hk hb (pl ++ E)) (shok : shOK G v_shelves sa hd ra rb rs rn rc sk si sb (pl ++ E)) (p1 : Int32) (p2 : Int32) (v0 : Value) (hEe : E = [(sa p1.toNatClampNeg, .inr (13, [v0]))]) (hE : sC_HW_show_ok v_refusals v_many v_homes hk hb hd rs rn rc sk si sb p1 p2 = some ()) : vx_Met l yX0_show (wsW_ yX0_show cX0_show 4 (some .int) [((0 : Nat), (17 : Nat), (38 : Nat), (21 : Nat)), ((18 : Nat), (37 : Nat), (38 : Nat), (21 : Nat))]) ({ frames := 9, cells := 5, slots := 236, locals := 10272 } : Room) (dPc G (xW G.2 ad v_latestFault v_died v_leastWeight v_noticedBy v_noticed v_orderDied v_orderLeast v_imaged v_shelves v_refusals v_ran v_bodies v_tweight v_tfright v_tage v_tasked v_told v_bestRow v_weight_a1 v_fright_a1 v_age_a1 v_asked_a1 v_weight_a2 v_fright_a2 v_age_a2 v_asked_a2 v_weight_a3 v_fright_a3 v_age_a3 v_asked_a3 v_weight_a4 v_fright_a4 v_age_a4 v_asked_a4 v_many v_pets v_last v_seed v_weight v_fright v_age v_asked v_homes v_marks v_had v_allergic v_deaths) pl E (xWV ad) sz [.ref (ad 0), .int p1, .int p2]) (fun _ st oc t => oc = .returned (some (.int (if p2 = -1 then 0 else 1))) ∧ va_P G.1 vwCl ([(sa p1.toNatClampNeg, .inr (13, [if p2 = -1 then .null else va_rf (v_homes p2.toNatClampNeg)]))] ++ (xW G.2 ad v_latestFault v_died v_leastWeight v_noticedBy v_noticed v_orderDied v_orderLeast v_imaged v_shelves v_refusals v_ran v_bodies v_tweight v_tfright v_tage v_tasked v_told v_bestRow v_weight_a1 v_fright_a1 v_age_a1 v_asked_a1 v_weight_a2 v_fright_a2 v_age_a2 v_asked_a2 v_weight_a3 v_fright_a3 v_age_a3 v_asked_a3 v_weight_a4 v_fright_a4 v_age_a4 v_asked_a4 v_many v_pets v_last v_seed v_weight v_fright v_age v_asked v_homes v_marks v_had v_allergic v_deaths)) t.heap ∧ va_F (tA sz (xWV ad) E) st t) (fun _ _ _ _ => False) 5 236 (tA sz (xWV ad) E) := by
  refine d_ofWH (own := RX0) (by decide) rfl (Nat.le_of_ble_eq_true rfl) ?_
  intro p e s m args below meth c ls C C0 D hN hml htab hP hp hS hl hr hlocks hsz
  have hl : lv_has ls 4 [(0, .ref (ad 0)), (1, .int p1), (2, .int p2)] := hl
  obtain ⟨H, hH⟩ : ∃ H, H = s.heap := ⟨_, rfl⟩
  obtain ⟨locs, hlo⟩ : ∃ locs : List Loc, locs = [] := ⟨_, rfl⟩
  have hP : va_P G.1 vwCl (xW G.2 ad v_latestFault v_died v_leastWeight v_noticedBy v_noticed v_orderDied v_orderLeast v_imaged v_shelves v_refusals v_ran v_bodies v_tweight v_tfright v_tage v_tasked v_told v_bestRow v_weight_a1 v_fright_a1 v_age_a1 v_asked_a1 v_weight_a2 v_fright_a2 v_age_a2 v_asked_a2 v_weight_a3 v_fright_a3 v_age_a3 v_asked_a3 v_weight_a4 v_fright_a4 v_age_a4 v_asked_a4 v_many v_pets v_last v_seed v_weight v_fright v_age v_asked v_homes v_marks v_had v_allergic v_deaths) H := by rw [hH]; exact hP
  have hp : va_P G.1 vwCl E H := by rw [hH]; exact hp
  have hS : va_S (tA sz (xWV ad) E) s.heap H locs := by rw [hH, hlo]; exact hS
  obtain ⟨Q, hQ⟩ : ∃ Q, Q = vx_MQ below (fun _ st oc t => oc = .returned (some (.int (if p2 = -1 then 0 else 1))) ∧ va_P G.1 vwCl ([(sa p1.toNatClampNeg, .inr (13, [if p2 = -1 then .null else va_rf (v_homes p2.toNatClampNeg)]))] ++ (xW G.2 ad v_latestFault v_died v_leastWeight v_noticedBy v_noticed v_orderDied v_orderLeast v_imaged v_shelves v_refusals v_ran v_bodies v_tweight v_tfright v_tage v_tasked v_told v_bestRow v_weight_a1 v_fright_a1 v_age_a1 v_asked_a1 v_weight_a2 v_fright_a2 v_age_a2 v_asked_a2 v_weight_a3 v_fright_a3 v_age_a3 v_asked_a3 v_weight_a4 v_fright_a4 v_age_a4 v_asked_a4 v_many v_pets v_last v_seed v_weight v_fright v_age v_asked v_homes v_marks v_had v_allergic v_deaths)) t.heap ∧ va_F (tA sz (xWV ad) E) st t) (fun _ _ _ _ => False) args s 5 236 (tA sz (xWV ad) E) := ⟨_, rfl⟩
  rw [← hQ]
  suffices hZ : W p l e ({ frames := 9, cells := 5, slots := 236, locals := 10272 } : Room) s m args below meth c H locs 0 0 Q (F0 m 0 ls []) by rw [hH, hlo] at hZ; exact hZ
  clear hH hlo
  unfold sC_HW_show_ok at hE
  refine lv_aload_n C.1 C.2.1 dX0_show_0 rfl (lv_at hl 0 rfl) ?_
  refine lv_iload_n C.1 C.2.1 dX0_show_1 rfl (lv_at hl 1 rfl) ?_
  refine d_afterS C0 D hP hp hS (vx_runVX (As := [.int p1]) (rest := []) ⟨C.1, C.2.1, hml, C.2.2.1, C.2.2.2.1⟩ (metC_HW_shelf l hfl G ad (pl ++ E) H.size _ _ _ _ _ _ _ _ _ _ _ _ _ _ _ _ _ _ _ _ _ _ _ _ _ _ _ _ _ _ _ _ _ _ _ _ _ _ _ _ _ _ _ _ _ _ _ p1) (vx_cwVW (C := RX0) 1 C.2.2.2.1 (lw_VW q292 q294 qs0 q80 q295) rfl rfl rfl (by decide +kernel) ⟨Nat.le_of_ble_eq_true rfl, Nat.le_of_ble_eq_true rfl⟩) (d_preV0 C C0 D hN hP hp hS (va_recv C.2.2.2.2.1 hP (ci := 16) (q0 := 0) rfl rfl)) rfl rfl hl.1 rfl (lv_room (Nat.le_of_ble_eq_true rfl)) dX0_show_2 ⟨Nat.le_of_ble_eq_true rfl, Nat.le_of_ble_eq_true rfl⟩) xW_av (fun hφ H locs hP hp hS => ?_) (fun w q H locs hw => ?_)
  · have hE := it_t hφ hE
    obtain ⟨hsag1, hshg1⟩ := shok _ (gi_lt hφ)
    rw [hsag1]
    refine lv_astore_n (lv' := [(3, .ref (sa (p1).toNatClampNeg)), (0, .ref (ad 0)), (1, .int p1), (2, .int p2)]) C.1 C.2.1 dX0_show_5 rfl hl (by decide) rfl (fun ls hl => ?_)
    refine lv_iload_n C.1 C.2.1 dX0_show_6 rfl (lv_at hl 3 rfl) ?_
    refine lv_iconst (v := (-1)) C.1 C.2.1 dX0_show_7 (by decide) ?_
    refine lv_icmp_ne (tgt := 18) C.1 C.2.1 dX0_show_8 (by decide) (fun c4 => ?_) (fun c4 => ?_)
    · have hE := it_f c4 hE
      refine lv_aload_n C.1 C.2.1 dX0_show_18 rfl (lv_at hl 1 rfl) ?_
      refine lv_iload_n C.1 C.2.1 dX0_show_19 rfl (lv_at hl 3 rfl) ?_
      obtain ⟨r5, hr5, hE⟩ := it_b hE
      refine d_afterS C0 D hP hp hS (vx_runV (As := [.int p2]) (rest := []) ⟨C.1, C.2.1, hml, C.2.2.1, C.2.2.2.1⟩ (metC_HW_mustHome l hfl G ad (pl ++ E) H.size _ _ _ _ _ _ _ _ _ _ _ _ _ _ _ _ _ _ _ _ _ _ _ _ _ _ _ _ _ _ _ _ _ _ _ _ _ _ _ _ _ _ _ _ _ _ _ p2 r5 hr5) (cwV (C := RX0) 1 C.2.2.2.1 (lw_V q577 q579 qs3 q80 q580) rfl rfl rfl (by decide +kernel) ⟨Nat.le_of_ble_eq_true rfl, Nat.le_of_ble_eq_true rfl⟩) (d_preV0 C C0 D hN hP hp hS (va_recv C.2.2.2.2.1 hP (ci := 16) (q0 := 0) rfl rfl)) rfl rfl hl.1 rfl (lv_room (Nat.le_of_ble_eq_true rfl)) dX0_show_20 ⟨Nat.le_of_ble_eq_true rfl, Nat.le_of_ble_eq_true rfl⟩) xW_av (fun hφ H locs hP hp hS => ?_) (fun w q H locs hw => ?_)
      · have hE := it_t hφ hE
        refine lv_aload_n C.1 C.2.1 dX0_show_23 rfl (lv_at hl 0 rfl) ?_
        refine lv_aload_n C.1 C.2.1 dX0_show_24 rfl (lv_at hl 1 rfl) ?_
        refine xWg_0_6 q244 C hP dX0_show_25 ?_
        refine xWg_18_5 q193 C hP dX0_show_28 ?_
        refine lv_iload_n C.1 C.2.1 dX0_show_31 rfl (lv_at hl 3 rfl) ?_
        obtain ⟨g7, hE⟩ := it_g hE
        obtain ⟨g8, hE⟩ := it_g hE
        obtain ⟨q9, hq90, hq9, hq97⟩ := hom _ g8
        refine xWl_21 (v := some q9) C hP (gi_in g7) hq90 dX0_show_32 ?_
        subst hEe
        have hPP : va_P G.1 vwCl ([(sa (p1).toNatClampNeg, .inr (13, [v0]))] ++ (xW G.2 ad v_latestFault v_died v_leastWeight v_noticedBy v_noticed v_orderDied v_orderLeast v_imaged v_shelves v_refusals v_ran v_bodies v_tweight v_tfright v_tage v_tasked v_told v_bestRow v_weight_a1 v_fright_a1 v_age_a1 v_asked_a1 v_weight_a2 v_fright_a2 v_age_a2 v_asked_a2 v_weight_a3 v_fright_a3 v_age_a3 v_asked_a3 v_weight_a4 v_fright_a4 v_age_a4 v_asked_a4 v_many v_pets v_last v_seed v_weight v_fright v_age v_asked v_homes v_marks v_had v_allergic v_deaths)) H := hp.app hP
        have hDD : va_D (tA sz (xWV ad) [(sa (p1).toNatClampNeg, .inr (13, [v0]))]) ([(sa (p1).toNatClampNeg, .inr (13, [v0]))] ++ (xW G.2 ad v_latestFault v_died v_leastWeight v_noticedBy v_noticed v_orderDied v_orderLeast v_imaged v_shelves v_refusals v_ran v_bodies v_tweight v_tfright v_tage v_tasked v_told v_bestRow v_weight_a1 v_fright_a1 v_age_a1 v_asked_a1 v_weight_a2 v_fright_a2 v_age_a2 v_asked_a2 v_weight_a3 v_fright_a3 v_age_a3 v_asked_a3 v_weight_a4 v_fright_a4 v_age_a4 v_asked_a4 v_many v_pets v_last v_seed v_weight v_fright v_age v_asked v_homes v_marks v_had v_allergic v_deaths)) := by
            have h1 : (xWV ad ++ [sa (p1).toNatClampNeg]).Nodup := D.1
            refine va_D_of ?_ ?_
            · show (sa (p1).toNatClampNeg :: xWV ad).Nodup
              rw [List.nodup_append] at h1
              exact List.nodup_cons.mpr ⟨fun h9 => h1.2.2 _ h9 _ (List.mem_singleton.mpr rfl) rfl, h1.1⟩
            · intro z hz
              have hz : z ∈ sa (p1).toNatClampNeg :: xWV ad := hz
              rcases List.mem_cons.mp hz with h9 | h9
              · exact Or.inr (Or.inl (by rw [h9]; exact List.mem_singleton.mpr rfl))
              · exact Or.inl h9
        refine va_put (D := G.1) (ci := 13) (v := .ref q9) (ty := (.object "java/lang/Object")) (C := RX4) (T := TX4) (N := 1) C.1 C.2.1 C.2.2.2.1 in_X4 tyX4 tyX4_ok nmX4 C.2.2.1 C.2.2.2.2.1 hPP hDD hS 0 rfl rfl 0 (by decide) (C.2.2.2.1 _ q234) (fun _ h => h) rfl (by decide +kernel) rfl rfl (Nat.le_of_ble_eq_true rfl) dX0_show_33 (fun H locs hPP hDD hS => ?_)
        refine lv_iconst (v := 1) C.1 C.2.1 dX0_show_36 (by decide) ?_
        refine W.widen (k := 5) (n := 236) (Nat.le_of_ble_eq_true rfl) (Nat.le_of_ble_eq_true rfl) ?_
        rw [hQ]
        exact vx_ret (W.iret C.1 C.2.1 hr (fun t ht hW => ⟨by rw [if_neg c4], by rw [ht]; rw [if_neg c4, hq90]; exact hPP, hS.F ht⟩) hS.2.2 dX0_show_37 hlocks)
      · have hE := it_f (by rw [hw]; exact fun h => nomatch h) hE
        obtain ⟨q6, rfl⟩ : ∃ z, z = q := ⟨_, rfl⟩
        obtain rfl : w = (r5.getD 0) := by rw [hw]; rfl
        exact it_n hE
    · have hE := it_t c4 hE
      refine lv_aload_n C.1 C.2.1 dX0_show_11 rfl (lv_at hl 0 rfl) ?_
      refine lv_null C.1 C.2.1 dX0_show_12 ?_
      subst hEe
      have hPP : va_P G.1 vwCl ([(sa (p1).toNatClampNeg, .inr (13, [v0]))] ++ (xW G.2 ad v_latestFault v_died v_leastWeight v_noticedBy v_noticed v_orderDied v_orderLeast v_imaged v_shelves v_refusals v_ran v_bodies v_tweight v_tfright v_tage v_tasked v_told v_bestRow v_weight_a1 v_fright_a1 v_age_a1 v_asked_a1 v_weight_a2 v_fright_a2 v_age_a2 v_asked_a2 v_weight_a3 v_fright_a3 v_age_a3 v_asked_a3 v_weight_a4 v_fright_a4 v_age_a4 v_asked_a4 v_many v_pets v_last v_seed v_weight v_fright v_age v_asked v_homes v_marks v_had v_allergic v_deaths)) H := hp.app hP
      have hDD : va_D (tA sz (xWV ad) [(sa (p1).toNatClampNeg, .inr (13, [v0]))]) ([(sa (p1).toNatClampNeg, .inr (13, [v0]))] ++ (xW G.2 ad v_latestFault v_died v_leastWeight v_noticedBy v_noticed v_orderDied v_orderLeast v_imaged v_shelves v_refusals v_ran v_bodies v_tweight v_tfright v_tage v_tasked v_told v_bestRow v_weight_a1 v_fright_a1 v_age_a1 v_asked_a1 v_weight_a2 v_fright_a2 v_age_a2 v_asked_a2 v_weight_a3 v_fright_a3 v_age_a3 v_asked_a3 v_weight_a4 v_fright_a4 v_age_a4 v_asked_a4 v_many v_pets v_last v_seed v_weight v_fright v_age v_asked v_homes v_marks v_had v_allergic v_deaths)) := by
          have h1 : (xWV ad ++ [sa (p1).toNatClampNeg]).Nodup := D.1
          refine va_D_of ?_ ?_
          · show (sa (p1).toNatClampNeg :: xWV ad).Nodup
            rw [List.nodup_append] at h1
            exact List.nodup_cons.mpr ⟨fun h9 => h1.2.2 _ h9 _ (List.mem_singleton.mpr rfl) rfl, h1.1⟩
          · intro z hz
            have hz : z ∈ sa (p1).toNatClampNeg :: xWV ad := hz
            rcases List.mem_cons.mp hz with h9 | h9
            · exact Or.inr (Or.inl (by rw [h9]; exact List.mem_singleton.mpr rfl))
            · exact Or.inl h9
      refine va_put (D := G.1) (ci := 13) (v := .null) (ty := (.object "java/lang/Object")) (C := RX4) (T := TX4) (N := 1) C.1 C.2.1 C.2.2.2.1 in_X4 tyX4 tyX4_ok nmX4 C.2.2.1 C.2.2.2.2.1 hPP hDD hS 0 rfl rfl 0 (by decide) (C.2.2.2.1 _ q234) (fun _ h => h) rfl (by decide +kernel) rfl rfl (Nat.le_of_ble_eq_true rfl) dX0_show_13 (fun H locs hPP hDD hS => ?_)
      refine lv_iconst (v := 0) C.1 C.2.1 dX0_show_16 (by decide) ?_
      refine W.widen (k := 5) (n := 236) (Nat.le_of_ble_eq_true rfl) (Nat.le_of_ble_eq_true rfl) ?_
      rw [hQ]
      exact vx_ret (W.iret C.1 C.2.1 hr (fun t ht hW => ⟨by rw [if_pos c4], by rw [ht]; rw [if_pos c4]; exact hPP, hS.F ht⟩) hS.2.2 dX0_show_17 hlocks)
  · obtain ⟨c2, rfl⟩ := shO_x hw
    have hE := it_f c2 hE
    obtain ⟨q3, rfl⟩ : ∃ z, z = q := ⟨_, rfl⟩
    exact it_n hE
def sC_HW_set_ok (v_refusals : Nat → Int32) (hd : Nat → Nat) (rs : Nat → Nat) (rn : Nat → Nat) (rc : Nat → Nat → Int64) (sk : Nat → Nat) (si : Nat → Int32) (sb : Nat → Int32) (p1 : Int32) (p2 : Int32) (p3 : Int64) : Option Unit :=
  if gi p1 8 then
    if hd (p1).toNatClampNeg = 1 then
      if gi p2 (rn (p1).toNatClampNeg) then
      some ()
      else none
    else
      none
  else
    none
set_option maxHeartbeats 4000000 in
theorem metC_HW_set_ok (l : Launch) (hfl : l.stackTraces = false) (G : kG) (ad : Nat → Nat) (pl : va_W) (sa ra rb hd rs rn : Nat → Nat) (rc : Nat → Nat → Int64) (sk : Nat → Nat) (si sb : Nat → Int32) (sz : Nat) (E : va_W) (v_latestFault : Int32) (v_died : Int32) (v_leastWeight : Int32) (v_noticedBy : Int32) (v_noticed : Int32) (v_orderDied : Int32) (v_orderLeast : Int32) (v_imaged : Option Nat) (v_shelves : Nat → Option Nat) (v_refusals : Nat → Int32) (v_ran : Int32) (v_bodies : Nat → Int32) (v_tweight : Int32) (v_tfright : Int32) (v_tage : Int32) (v_tasked : Nat → Int32) (v_told : Nat → Int32) (v_bestRow : Nat → Int32) (v_weight_a1 : Int32) (v_fright_a1 : Int32) (v_age_a1 : Int32) (v_asked_a1 : Nat → Int32) (v_weight_a2 : Int32) (v_fright_a2 : Int32) (v_age_a2 : Int32) (v_asked_a2 : Nat → Int32) (v_weight_a3 : Int32) (v_fright_a3 : Int32) (v_age_a3 : Int32) (v_asked_a3 : Nat → Int32) (v_weight_a4 : Int32) (v_fright_a4 : Int32) (v_age_a4 : Int32) (v_asked_a4 : Nat → Int32) (v_many : Int32) (v_pets : Int32) (v_last : Int32) (v_seed : Int32) (v_weight : Int32) (v_fright : Int32) (v_age : Int32) (v_asked : Nat → Int32) (v_homes : Nat → Option Nat) (v_marks : Nat → Int32) (v_had : Nat → Int32) (v_allergic : Nat → Int32) (v_deaths : Nat → Int32) (shok : shOK G v_shelves sa hd ra rb rs rn rc sk si sb (pl ++ E)) (p1 : Int32) (p2 : Int32) (p3 : Int64) (hEe : E = [(rb p1.toNatClampNeg, arE G.2 (rs p1.toNatClampNeg) (rn p1.toNatClampNeg) (rc p1.toNatClampNeg))]) (hE : sC_HW_set_ok v_refusals hd rs rn rc sk si sb p1 p2 p3 = some ()) : vx_Met l yX0_set (wsW_ yX0_set cX0_set 7 (some .int) [((10 : Nat), (17 : Nat), (20 : Nat), (106 : Nat)), ((0 : Nat), (33 : Nat), (34 : Nat), (21 : Nat))]) ({ frames := 9, cells := 13, slots := 1442, locals := 10281 } : Room) (dPc G (xW G.2 ad v_latestFault v_died v_leastWeight v_noticedBy v_noticed v_orderDied v_orderLeast v_imaged v_shelves v_refusals v_ran v_bodies v_tweight v_tfright v_tage v_tasked v_told v_bestRow v_weight_a1 v_fright_a1 v_age_a1 v_asked_a1 v_weight_a2 v_fright_a2 v_age_a2 v_asked_a2 v_weight_a3 v_fright_a3 v_age_a3 v_asked_a3 v_weight_a4 v_fright_a4 v_age_a4 v_asked_a4 v_many v_pets v_last v_seed v_weight v_fright v_age v_asked v_homes v_marks v_had v_allergic v_deaths) pl E (xWV ad) sz [.ref (ad 0), .int p1, .int p2, .long p3]) (fun _ st oc t => oc = .returned (some (.int 1)) ∧ va_P G.1 vwCl ((xW G.2 ad v_latestFault v_died v_leastWeight v_noticedBy v_noticed v_orderDied v_orderLeast v_imaged v_shelves v_refusals v_ran v_bodies v_tweight v_tfright v_tage v_tasked v_told v_bestRow v_weight_a1 v_fright_a1 v_age_a1 v_asked_a1 v_weight_a2 v_fright_a2 v_age_a2 v_asked_a2 v_weight_a3 v_fright_a3 v_age_a3 v_asked_a3 v_weight_a4 v_fright_a4 v_age_a4 v_asked_a4 v_many v_pets v_last v_seed v_weight v_fright v_age v_asked v_homes v_marks v_had v_allergic v_deaths) ++ [(rb p1.toNatClampNeg, arE G.2 (rs p1.toNatClampNeg) (rn p1.toNatClampNeg) (vp_updL (rc p1.toNatClampNeg) p2.toNatClampNeg (narr (rs p1.toNatClampNeg) p3)))]) t.heap ∧ va_F (tA sz (xWV ad) E) st t) (fun _ _ _ _ => False) 13 1442 (tA sz (xWV ad) E) := by
  refine d_ofWH (own := RX0) (by decide) rfl (Nat.le_of_ble_eq_true rfl) ?_
  intro p e s m args below meth c ls C C0 D hN hml htab hP hp hS hl hr hlocks hsz
  have hl : lv_has ls 7 [(0, .ref (ad 0)), (1, .int p1), (2, .int p2), (3, .long p3)] := hl
  obtain ⟨H, hH⟩ : ∃ H, H = s.heap := ⟨_, rfl⟩
  obtain ⟨locs, hlo⟩ : ∃ locs : List Loc, locs = [] := ⟨_, rfl⟩
  have hP : va_P G.1 vwCl (xW G.2 ad v_latestFault v_died v_leastWeight v_noticedBy v_noticed v_orderDied v_orderLeast v_imaged v_shelves v_refusals v_ran v_bodies v_tweight v_tfright v_tage v_tasked v_told v_bestRow v_weight_a1 v_fright_a1 v_age_a1 v_asked_a1 v_weight_a2 v_fright_a2 v_age_a2 v_asked_a2 v_weight_a3 v_fright_a3 v_age_a3 v_asked_a3 v_weight_a4 v_fright_a4 v_age_a4 v_asked_a4 v_many v_pets v_last v_seed v_weight v_fright v_age v_asked v_homes v_marks v_had v_allergic v_deaths) H := by rw [hH]; exact hP
  have hp : va_P G.1 vwCl E H := by rw [hH]; exact hp
  have hS : va_S (tA sz (xWV ad) E) s.heap H locs := by rw [hH, hlo]; exact hS
  obtain ⟨Q, hQ⟩ : ∃ Q, Q = vx_MQ below (fun _ st oc t => oc = .returned (some (.int 1)) ∧ va_P G.1 vwCl ((xW G.2 ad v_latestFault v_died v_leastWeight v_noticedBy v_noticed v_orderDied v_orderLeast v_imaged v_shelves v_refusals v_ran v_bodies v_tweight v_tfright v_tage v_tasked v_told v_bestRow v_weight_a1 v_fright_a1 v_age_a1 v_asked_a1 v_weight_a2 v_fright_a2 v_age_a2 v_asked_a2 v_weight_a3 v_fright_a3 v_age_a3 v_asked_a3 v_weight_a4 v_fright_a4 v_age_a4 v_asked_a4 v_many v_pets v_last v_seed v_weight v_fright v_age v_asked v_homes v_marks v_had v_allergic v_deaths) ++ [(rb p1.toNatClampNeg, arE G.2 (rs p1.toNatClampNeg) (rn p1.toNatClampNeg) (vp_updL (rc p1.toNatClampNeg) p2.toNatClampNeg (narr (rs p1.toNatClampNeg) p3)))]) t.heap ∧ va_F (tA sz (xWV ad) E) st t) (fun _ _ _ _ => False) args s 13 1442 (tA sz (xWV ad) E) := ⟨_, rfl⟩
  rw [← hQ]
  suffices hZ : W p l e ({ frames := 9, cells := 13, slots := 1442, locals := 10281 } : Room) s m args below meth c H locs 0 0 Q (F0 m 0 ls []) by rw [hH, hlo] at hZ; exact hZ
  clear hH hlo
  unfold sC_HW_set_ok at hE
  refine lv_aload_n C.1 C.2.1 dX0_set_0 rfl (lv_at hl 0 rfl) ?_
  refine lv_iload_n C.1 C.2.1 dX0_set_1 rfl (lv_at hl 1 rfl) ?_
  refine d_afterS C0 D hP hp hS (vx_runVX (As := [.int p1]) (rest := []) ⟨C.1, C.2.1, hml, C.2.2.1, C.2.2.2.1⟩ (metC_HW_shelf l hfl G ad (pl ++ E) H.size _ _ _ _ _ _ _ _ _ _ _ _ _ _ _ _ _ _ _ _ _ _ _ _ _ _ _ _ _ _ _ _ _ _ _ _ _ _ _ _ _ _ _ _ _ _ _ p1) (vx_cwVW (C := RX0) 1 C.2.2.2.1 (lw_VW q292 q294 qs0 q80 q295) rfl rfl rfl (by decide +kernel) ⟨Nat.le_of_ble_eq_true rfl, Nat.le_of_ble_eq_true rfl⟩) (d_preV0 C C0 D hN hP hp hS (va_recv C.2.2.2.2.1 hP (ci := 16) (q0 := 0) rfl rfl)) rfl rfl hl.1 rfl (lv_room (Nat.le_of_ble_eq_true rfl)) dX0_set_2 ⟨Nat.le_of_ble_eq_true rfl, Nat.le_of_ble_eq_true rfl⟩) xW_av (fun hφ H locs hP hp hS => ?_) (fun w q H locs hw => ?_)
  · have hE := it_t hφ hE
    obtain ⟨hsag1, hshg1⟩ := shok _ (gi_lt hφ)
    rw [hsag1]
    refine d_after [] C0 D hP hp hS (vx_runVX (As := []) (rest := []) ⟨C.1, C.2.1, hml, C.2.2.1, C.2.2.2.1⟩ (metC_Shelf_row l hfl G (pl ++ E) H.size _ _ _ _ _ _ _ _ _ _ hshg1) (vx_cwVW (C := RX4) 0 C.2.2.2.1 (lw_VW q474 q475 q476 q84 q477) rfl rfl rfl (by decide +kernel) ⟨Nat.le_of_ble_eq_true rfl, Nat.le_of_ble_eq_true rfl⟩) (d_preV C C0 D hN hP hp hS [] rfl (by decide) rfl (d_shrecv C hS hp hshg1)) rfl rfl hl.1 rfl (lv_room (Nat.le_of_ble_eq_true rfl)) dX0_set_5 ⟨Nat.le_of_ble_eq_true rfl, Nat.le_of_ble_eq_true rfl⟩) xW_av rfl rfl rfl (fun hφ H locs hP hp hS => ?_) (fun w q H locs hw => ?_)
    · have hE := it_t hφ hE
      have hrwg4 := (shAt_1 hshg1 hφ).2
      refine lv_astore (lv' := [(5, .ref (ra (p1).toNatClampNeg)), (0, .ref (ad 0)), (1, .int p1), (2, .int p2), (3, .long p3)]) C.1 C.2.1 dX0_set_8 hl (by decide) rfl (fun ls hl => ?_)
      refine lv_aload C.1 C.2.1 dX0_set_10 (lv_at hl 0 rfl) ?_
      refine lv_iload_n C.1 C.2.1 dX0_set_12 rfl (lv_at hl 3 rfl) ?_
      refine lv_lload_n C.1 C.2.1 dX0_set_13 rfl (lv_at hl 4 rfl) ?_
      obtain ⟨g7, hE⟩ := it_g hE
      subst hEe
      have hrx := hrwg4
      have hqx : (ra (p1).toNatClampNeg, .inr (7 + rs (p1).toNatClampNeg, [.ref (rb (p1).toNatClampNeg)])) ∈ pl := by
          rcases List.mem_append.mp hrx.2.2.2.1 with h9 | h9
          · exact h9
          · have h9 := congrArg Prod.snd (List.mem_singleton.mp h9)
            exact absurd h9 (fun h8 => nomatch (arE_ne h8.symm))
      refine rw_put C C0 D hml hl.1 hp hS hrx.1 hqx g7 q496 ⟨Nat.le_of_ble_eq_true rfl, Nat.le_of_ble_eq_true rfl, Nat.le_of_ble_eq_true rfl, Nat.le_of_ble_eq_true rfl⟩ (Nat.le_of_ble_eq_true rfl) dX0_set_14 (fun H1 locs hp hz hk hS => ?_)
      have hP := P_kept hP (fun a ha hlt => hk a hlt (fun h9 => nd_disj D.1 ha (by rw [List.mem_singleton.mp h9]; exact List.mem_singleton.mpr rfl)))
      refine lv_goto (tgt := 32) C.1 C.2.1 dX0_set_17 (by decide) ?_
      refine lv_iconst (v := 1) C.1 C.2.1 dX0_set_32 (by decide) ?_
      refine W.widen (k := 13) (n := 1442) (Nat.le_of_ble_eq_true rfl) (Nat.le_of_ble_eq_true rfl) ?_
      rw [hQ]
      exact vx_ret (W.iret C.1 C.2.1 hr (fun t ht hW => ⟨rfl, by rw [ht]; exact hP.app hp, hS.F ht⟩) hS.2.2 dX0_set_33 hlocks)
    · obtain ⟨c5, rfl⟩ := shR_x hw
      have hE := it_f c5 hE
      obtain ⟨q6, rfl⟩ : ∃ z, z = q := ⟨_, rfl⟩
      exact it_n hE
  · obtain ⟨c2, rfl⟩ := shO_x hw
    have hE := it_f c2 hE
    obtain ⟨q3, rfl⟩ : ∃ z, z = q := ⟨_, rfl⟩
    exact it_n hE
