set_option maxRecDepth 100000
def sC_HW_behind (v_died : Int32) (v_leastWeight : Int32) (v_noticedBy : Int32) (v_noticed : Int32) (v_refusals : Nat → Int32) (v_tweight : Int32) (v_tfright : Int32) (v_tage : Int32) (v_tasked : Nat → Int32) (v_told : Nat → Int32) (v_many : Int32) (v_weight : Int32) (v_fright : Int32) (v_age : Int32) (v_asked : Nat → Int32) (v_homes : Nat → Option Nat) (v_allergic : Nat → Int32) (hk : Nat → Nat) (hb : Nat → Int32) (hd : Nat → Nat) (rs : Nat → Nat) (rn : Nat → Nat) (rc : Nat → Nat → Int64) (sk : Nat → Nat) (si : Nat → Int32) (sb : Nat → Int32) (p1 : Int32) (p2 : Int32) (p3 : Int32) : Option (Int32 × Int32 × Int32 × Int32 × (Nat → Int32) × Int32 × Int32 × Int32 × (Nat → Int32) × (Nat → Int32)) :=
  (sC_HW_toldAt hd rs rn rc sk si sb p1 p2).bind fun r1 =>
  if r1 = none then
    (sC_HW_in ((p3 : Int32).toInt64) 0 3).bind fun r4 =>
    if r4 = 0 then
      (sC_HW_refused v_refusals (-5)).bind fun r15 =>
      some (r15.1, v_died, v_leastWeight, v_noticed, r15.2, v_tweight, v_tfright, v_tage, v_tasked, v_told)
    else
      (sC_HW_mustBeRight v_told v_many v_allergic (rn (p1).toNatClampNeg) (rc (p1).toNatClampNeg) p2).bind fun r7 =>
      if r7.1 = none then
        (sC_Pet_take v_tweight v_tfright v_tage v_tasked v_weight v_fright v_age v_asked).bind fun r9 =>
        (sC_HW_goesRow v_died v_leastWeight v_noticedBy v_noticed r9.1 r9.2.1 r9.2.2.1 r9.2.2.2 r7.2 v_many v_homes hk hb p2).bind fun r10 =>
        if p3 = 0 then
          some (r10.2.2.2.1, r10.1, r10.2.1, r10.2.2.1, v_refusals, r10.2.2.2.1, r10.2.2.2.2.1, r10.2.2.2.2.2, r9.2.2.2, r7.2)
        else
          if p3 = 1 then
            some (r10.2.2.2.2.1, r10.1, r10.2.1, r10.2.2.1, v_refusals, r10.2.2.2.1, r10.2.2.2.2.1, r10.2.2.2.2.2, r9.2.2.2, r7.2)
          else
            if p3 = 2 then
              some (r10.2.2.2.2.2, r10.1, r10.2.1, r10.2.2.1, v_refusals, r10.2.2.2.1, r10.2.2.2.2.1, r10.2.2.2.2.2, r9.2.2.2, r7.2)
            else
              some (r10.1, r10.1, r10.2.1, r10.2.2.1, v_refusals, r10.2.2.2.1, r10.2.2.2.2.1, r10.2.2.2.2.2, r9.2.2.2, r7.2)
      else
        (sC_HW_refused v_refusals (r7.1.getD 0)).bind fun r14 =>
        some (r14.1, v_died, v_leastWeight, v_noticed, r14.2, v_tweight, v_tfright, v_tage, v_tasked, r7.2)
  else
    (sC_HW_refused v_refusals (r1.getD 0)).bind fun r16 =>
    some (r16.1, v_died, v_leastWeight, v_noticed, r16.2, v_tweight, v_tfright, v_tage, v_tasked, v_told)
set_option maxHeartbeats 4000000 in
theorem metC_HW_behind (l : Launch) (hfl : l.stackTraces = false) (G : kG) (ad : Nat → Nat) (pl : va_W) (hk : Nat → Nat) (hb : Nat → Int32) (sa ra rb hd rs rn : Nat → Nat) (rc : Nat → Nat → Int64) (sk : Nat → Nat) (si sb : Nat → Int32) (sz : Nat) (v_latestFault : Int32) (v_died : Int32) (v_leastWeight : Int32) (v_noticedBy : Int32) (v_noticed : Int32) (v_orderDied : Int32) (v_orderLeast : Int32) (v_imaged : Option Nat) (v_shelves : Nat → Option Nat) (v_refusals : Nat → Int32) (v_ran : Int32) (v_bodies : Nat → Int32) (v_tweight : Int32) (v_tfright : Int32) (v_tage : Int32) (v_tasked : Nat → Int32) (v_told : Nat → Int32) (v_bestRow : Nat → Int32) (v_weight_a1 : Int32) (v_fright_a1 : Int32) (v_age_a1 : Int32) (v_asked_a1 : Nat → Int32) (v_weight_a2 : Int32) (v_fright_a2 : Int32) (v_age_a2 : Int32) (v_asked_a2 : Nat → Int32) (v_weight_a3 : Int32) (v_fright_a3 : Int32) (v_age_a3 : Int32) (v_asked_a3 : Nat → Int32) (v_weight_a4 : Int32) (v_fright_a4 : Int32) (v_age_a4 : Int32) (v_asked_a4 : Nat → Int32) (v_many : Int32) (v_pets : Int32) (v_last : Int32) (v_seed : Int32) (v_weight : Int32) (v_fright : Int32) (v_age : Int32) (v_asked : Nat → Int32) (v_homes : Nat → Option Nat) (v_marks : Nat → Int32) (v_had : Nat → Int32) (v_allergic : Nat → Int32) (v_deaths : Nat → Int32) (hom : homOK v_homes v_many hk hb pl) (shok : shOK G v_shelves sa hd ra rb rs rn rc sk si sb pl) (p1 : Int32) (p2 : Int32) (p3 : Int32) (res : Int32 × Int32 × Int32 × Int32 × (Nat → Int32) × Int32 × Int32 × Int32 × (Nat → Int32) × (Nat → Int32)) (hE : sC_HW_behind v_died v_leastWeight v_noticedBy v_noticed v_refusals v_tweight v_tfright v_tage v_tasked v_told v_many v_weight v_fright v_age v_asked v_homes v_allergic hk hb hd rs rn rc sk si sb p1 p2 p3 = some res) : vx_Met l yX0_behind (wsW_ yX0_behind cX0_behind 5 (some .int) [((0 : Nat), (97 : Nat), (98 : Nat), (21 : Nat))]) ({ frames := 10, cells := 13, slots := 1241, locals := 10304 } : Room) (rPc G (xW G.2 ad v_latestFault v_died v_leastWeight v_noticedBy v_noticed v_orderDied v_orderLeast v_imaged v_shelves v_refusals v_ran v_bodies v_tweight v_tfright v_tage v_tasked v_told v_bestRow v_weight_a1 v_fright_a1 v_age_a1 v_asked_a1 v_weight_a2 v_fright_a2 v_age_a2 v_asked_a2 v_weight_a3 v_fright_a3 v_age_a3 v_asked_a3 v_weight_a4 v_fright_a4 v_age_a4 v_asked_a4 v_many v_pets v_last v_seed v_weight v_fright v_age v_asked v_homes v_marks v_had v_allergic v_deaths) pl (xWV ad) sz [.ref (ad 0), .int p1, .int p2, .int p3]) (tQc G (xW G.2 ad v_latestFault res.2.1 res.2.2.1 v_noticedBy res.2.2.2.1 v_orderDied v_orderLeast v_imaged v_shelves res.2.2.2.2.1 v_ran v_bodies res.2.2.2.2.2.1 res.2.2.2.2.2.2.1 res.2.2.2.2.2.2.2.1 res.2.2.2.2.2.2.2.2.1 res.2.2.2.2.2.2.2.2.2 v_bestRow v_weight_a1 v_fright_a1 v_age_a1 v_asked_a1 v_weight_a2 v_fright_a2 v_age_a2 v_asked_a2 v_weight_a3 v_fright_a3 v_age_a3 v_asked_a3 v_weight_a4 v_fright_a4 v_age_a4 v_asked_a4 v_many v_pets v_last v_seed v_weight v_fright v_age v_asked v_homes v_marks v_had v_allergic v_deaths) [] (tA sz (xWV ad) []) (True) (some (.int res.1))) (tXC G (xW G.2 ad v_latestFault res.2.1 res.2.2.1 v_noticedBy res.2.2.2.1 v_orderDied v_orderLeast v_imaged v_shelves res.2.2.2.2.1 v_ran v_bodies res.2.2.2.2.2.1 res.2.2.2.2.2.2.1 res.2.2.2.2.2.2.2.1 res.2.2.2.2.2.2.2.2.1 res.2.2.2.2.2.2.2.2.2 v_bestRow v_weight_a1 v_fright_a1 v_age_a1 v_asked_a1 v_weight_a2 v_fright_a2 v_age_a2 v_asked_a2 v_weight_a3 v_fright_a3 v_age_a3 v_asked_a3 v_weight_a4 v_fright_a4 v_age_a4 v_asked_a4 v_many v_pets v_last v_seed v_weight v_fright v_age v_asked v_homes v_marks v_had v_allergic v_deaths) [] (tA sz (xWV ad) []) 18 RX6 none sz) 13 1241 (tA sz (xWV ad) []) := by
  refine r_ofWH (own := RX0) (by decide) rfl (Nat.le_of_ble_eq_true rfl) ?_
  intro p e s m args below meth c ls C C0 D hml htab hP hS hl hr hlocks hsz
  have hl : lv_has ls 5 [(0, .ref (ad 0)), (1, .int p1), (2, .int p2), (3, .int p3)] := hl
  obtain ⟨Q, hQ⟩ : ∃ Q, Q = vx_MQ below (tQc G (xW G.2 ad v_latestFault res.2.1 res.2.2.1 v_noticedBy res.2.2.2.1 v_orderDied v_orderLeast v_imaged v_shelves res.2.2.2.2.1 v_ran v_bodies res.2.2.2.2.2.1 res.2.2.2.2.2.2.1 res.2.2.2.2.2.2.2.1 res.2.2.2.2.2.2.2.2.1 res.2.2.2.2.2.2.2.2.2 v_bestRow v_weight_a1 v_fright_a1 v_age_a1 v_asked_a1 v_weight_a2 v_fright_a2 v_age_a2 v_asked_a2 v_weight_a3 v_fright_a3 v_age_a3 v_asked_a3 v_weight_a4 v_fright_a4 v_age_a4 v_asked_a4 v_many v_pets v_last v_seed v_weight v_fright v_age v_asked v_homes v_marks v_had v_allergic v_deaths) [] (tA sz (xWV ad) []) (True) (some (.int res.1))) (tXC G (xW G.2 ad v_latestFault res.2.1 res.2.2.1 v_noticedBy res.2.2.2.1 v_orderDied v_orderLeast v_imaged v_shelves res.2.2.2.2.1 v_ran v_bodies res.2.2.2.2.2.1 res.2.2.2.2.2.2.1 res.2.2.2.2.2.2.2.1 res.2.2.2.2.2.2.2.2.1 res.2.2.2.2.2.2.2.2.2 v_bestRow v_weight_a1 v_fright_a1 v_age_a1 v_asked_a1 v_weight_a2 v_fright_a2 v_age_a2 v_asked_a2 v_weight_a3 v_fright_a3 v_age_a3 v_asked_a3 v_weight_a4 v_fright_a4 v_age_a4 v_asked_a4 v_many v_pets v_last v_seed v_weight v_fright v_age v_asked v_homes v_marks v_had v_allergic v_deaths) [] (tA sz (xWV ad) []) 18 RX6 none sz) args s 13 1241 (tA sz (xWV ad) []) := ⟨_, rfl⟩
  rw [← hQ]
  have hret : ∀ (pc : Nat) (ls : Array Slot) (H : Heap) (locs : List Loc), decode cX0_behind pc = .ok (.ireturn, 1) → True → va_P G.1 vwCl (xW G.2 ad v_latestFault res.2.1 res.2.2.1 v_noticedBy res.2.2.2.1 v_orderDied v_orderLeast v_imaged v_shelves res.2.2.2.2.1 v_ran v_bodies res.2.2.2.2.2.1 res.2.2.2.2.2.2.1 res.2.2.2.2.2.2.2.1 res.2.2.2.2.2.2.2.2.1 res.2.2.2.2.2.2.2.2.2 v_bestRow v_weight_a1 v_fright_a1 v_age_a1 v_asked_a1 v_weight_a2 v_fright_a2 v_age_a2 v_asked_a2 v_weight_a3 v_fright_a3 v_age_a3 v_asked_a3 v_weight_a4 v_fright_a4 v_age_a4 v_asked_a4 v_many v_pets v_last v_seed v_weight v_fright v_age v_asked v_homes v_marks v_had v_allergic v_deaths) H → va_S (tA sz (xWV ad) []) s.heap H locs → W p l e ({ frames := 10, cells := 13, slots := 1241, locals := 10304 } : Room) s m args below meth c H locs 13 1241 Q (F0 m pc ls [(.int res.1)]) := by
    intro pc ls H locs hd hφ hP hS
    rw [hQ]
    exact t_iret C0 hr hlocks hd hφ hP P_nil hS
  clear hQ
  obtain ⟨H, hH⟩ : ∃ H, H = s.heap := ⟨_, rfl⟩
  obtain ⟨locs, hlo⟩ : ∃ locs : List Loc, locs = [] := ⟨_, rfl⟩
  have hP : va_P G.1 vwCl (xW G.2 ad v_latestFault v_died v_leastWeight v_noticedBy v_noticed v_orderDied v_orderLeast v_imaged v_shelves v_refusals v_ran v_bodies v_tweight v_tfright v_tage v_tasked v_told v_bestRow v_weight_a1 v_fright_a1 v_age_a1 v_asked_a1 v_weight_a2 v_fright_a2 v_age_a2 v_asked_a2 v_weight_a3 v_fright_a3 v_age_a3 v_asked_a3 v_weight_a4 v_fright_a4 v_age_a4 v_asked_a4 v_many v_pets v_last v_seed v_weight v_fright v_age v_asked v_homes v_marks v_had v_allergic v_deaths) H := by rw [hH]; exact hP
  have hS : va_S (tA sz (xWV ad) []) s.heap H locs := by rw [hH, hlo]; exact hS
  suffices hZ : W p l e ({ frames := 10, cells := 13, slots := 1241, locals := 10304 } : Room) s m args below meth c H locs 0 0 Q (F0 m 0 ls []) by rw [hH, hlo] at hZ; exact hZ
  clear hH hlo
  unfold sC_HW_behind at hE
  refine lv_aload_n C.1 C.2.1 dX0_behind_0 rfl (lv_at hl 0 rfl) ?_
  refine lv_iload_n C.1 C.2.1 dX0_behind_1 rfl (lv_at hl 1 rfl) ?_
  refine lv_iload_n C.1 C.2.1 dX0_behind_2 rfl (lv_at hl 2 rfl) ?_
  obtain ⟨r1, hr1, hE⟩ := it_b hE
  refine t_afterS C0 D hP P_nil hS (vx_runV (As := [.int p1, .int p2]) (rest := []) ⟨C.1, C.2.1, hml, C.2.2.1, C.2.2.2.1⟩ (metC_HW_toldAt l hfl G ad pl sa ra rb hd rs rn rc sk si sb H.size _ _ _ _ _ _ _ _ _ _ _ _ _ _ _ _ _ _ _ _ _ _ _ _ _ _ _ _ _ _ _ _ _ _ _ _ _ _ _ _ _ _ _ _ _ _ _ shok p1 p2 r1 hr1) (cwV (C := RX0) 2 C.2.2.2.1 (lw_V q1057 q1059 qs20 q80 q1060) rfl rfl rfl (by decide +kernel) ⟨Nat.le_of_ble_eq_true rfl, Nat.le_of_ble_eq_true rfl⟩) (rr_preV0 C D hP hS (va_recv C.2.2.2.2.1 hP (ci := 16) (q0 := 0) rfl rfl)) rfl rfl hl.1 rfl (lv_room (Nat.le_of_ble_eq_true rfl)) dX0_behind_3 ⟨Nat.le_of_ble_eq_true rfl, Nat.le_of_ble_eq_true rfl⟩) xW_av (fun hφ H locs hP _ hS => ?_) (fun w q H locs hw hq hc hP _ hS => ?_)
  · have hE := it_t hφ hE
    obtain ⟨hgg3, hdg3⟩ := told_ok hr1 hφ
    obtain ⟨hsag3, hshg3⟩ := shok _ (gi_lt hgg3)
    have hrwg3 := (shAt_1 hshg3 hdg3).2
    refine lv_astore (lv' := [(4, .ref (ra (p1).toNatClampNeg)), (0, .ref (ad 0)), (1, .int p1), (2, .int p2), (3, .int p3)]) C.1 C.2.1 dX0_behind_6 hl (by decide) rfl (fun ls hl => ?_)
    refine lv_iload_n C.1 C.2.1 dX0_behind_8 rfl (lv_at hl 4 rfl) ?_
    refine lv_i2l C.1 C.2.1 dX0_behind_9 rfl ?_
    refine lv_lconst (v := 0) C.1 C.2.1 dX0_behind_10 (by decide) ?_
    refine lv_ldc2 C.1 C.2.1 C.2.2.1 (C.2.2.2.1 _ q400) dX0_behind_11 ?_
    obtain ⟨r4, hr4, hE⟩ := it_b hE
    refine n_after [] C.2.2.2.2.2.1 C.2.2.2.2.2.2.2.1 hP hS (va_runS (As := [.long ((p3 : Int32).toInt64), .long 0, .long 3]) (rest := []) ⟨C.1, C.2.1, hml, C.2.2.1, C.2.2.2.1⟩ (metC_HW_in l G ad pl  ((p3 : Int32).toInt64) 0 3  r4 hr4) (va_cwS 3 C.2.2.2.1 (lw_S q401 q402 q80 q403) rfl rfl rfl (by decide +kernel) ⟨Nat.le_of_ble_eq_true rfl, Nat.le_of_ble_eq_true rfl⟩) (n_preS C hP hS [] rfl (by decide) rfl) rfl rfl hl.1 rfl (lv_room (Nat.le_of_ble_eq_true rfl)) dX0_behind_14 ⟨Nat.le_of_ble_eq_true rfl, Nat.le_of_ble_eq_true rfl⟩) xW_av rfl rfl rfl (fun H locs hP hS => ?_)
    refine lv_bipush (v := (-5)) C.1 C.2.1 dX0_behind_17 (by decide) ?_
    refine t_after [] C0 D hP P_nil hS (vx_runS (As := [.int r4, .int (-5)]) (rest := []) ⟨C.1, C.2.1, hml, C.2.2.1, C.2.2.2.1⟩ (metC_HW_need l hfl G ad pl H.size r4 (-5) _ (need_eq _ _)) (va_cwS 2 C.2.2.2.1 (lw_S q397 q398 q80 q399) rfl rfl rfl (by decide +kernel) ⟨Nat.le_of_ble_eq_true rfl, Nat.le_of_ble_eq_true rfl⟩) (rr_preS C D hP hS [] rfl (by decide) rfl) rfl rfl hl.1 rfl (lv_room (Nat.le_of_ble_eq_true rfl)) dX0_behind_19 ⟨Nat.le_of_ble_eq_true rfl, Nat.le_of_ble_eq_true rfl⟩) xW_av rfl rfl rfl (fun hφ H locs hP _ hS => ?_) (fun w q H locs hw hq hc hP _ hS => ?_)
    · have hE := it_f (nd_n hφ) hE
      refine lv_aload_n C.1 C.2.1 dX0_behind_22 rfl (lv_at hl 1 rfl) ?_
      refine lv_aload C.1 C.2.1 dX0_behind_23 (lv_at hl 0 rfl) ?_
      refine lv_iload_n C.1 C.2.1 dX0_behind_25 rfl (lv_at hl 3 rfl) ?_
      obtain ⟨r7, hr7, hE⟩ := it_b hE
      refine t_afterS C0 D hP P_nil hS (vx_runV (As := [.ref (ra (p1).toNatClampNeg), .int p2]) (rest := []) ⟨C.1, C.2.1, hml, C.2.2.1, C.2.2.2.1⟩ (metC_HW_mustBeRight l hfl G ad pl H.size _ _ _ _ _ _ _ _ _ _ _ _ _ _ _ _ _ _ _ _ _ _ _ _ _ _ _ _ _ _ _ _ _ _ _ _ _ _ _ _ _ _ _ _ _ _ _ (ra (p1).toNatClampNeg) (rs (p1).toNatClampNeg) (rb (p1).toNatClampNeg) (rn (p1).toNatClampNeg) (rc (p1).toNatClampNeg) p2 hrwg3 r7 hr7) (cwV (C := RX0) 2 C.2.2.2.1 (lw_V q1072 q1074 qs22 q80 q1075) rfl rfl rfl (by decide +kernel) ⟨Nat.le_of_ble_eq_true rfl, Nat.le_of_ble_eq_true rfl⟩) (rr_preV0 C D hP hS (va_recv C.2.2.2.2.1 hP (ci := 16) (q0 := 0) rfl rfl)) rfl rfl hl.1 rfl (lv_room (Nat.le_of_ble_eq_true rfl)) dX0_behind_26 ⟨Nat.le_of_ble_eq_true rfl, Nat.le_of_ble_eq_true rfl⟩) xW_av (fun hφ H locs hP _ hS => ?_) (fun w q H locs hw hq hc hP _ hS => ?_)
      · have hE := it_t hφ hE
        refine lv_aload_n C.1 C.2.1 dX0_behind_29 rfl (lv_at hl 1 rfl) ?_
        refine xWg_0_3 q241 C hP dX0_behind_30 ?_
        refine lv_aload_n C.1 C.2.1 dX0_behind_33 rfl (lv_at hl 1 rfl) ?_
        refine xWg_0_6 q244 C hP dX0_behind_34 ?_
        refine xWg_18_4 q191 C hP dX0_behind_37 ?_
        obtain ⟨r9, hr9, hE⟩ := it_b hE
        refine n_after [5, 6, 19, 20] C.2.2.2.2.2.1 C.2.2.2.2.2.2.2.1 hP hS (va_runV (As := [.ref (ad 19)]) (rest := []) ⟨C.1, C.2.1, hml, C.2.2.1, C.2.2.2.1⟩ (metC_Pet_take l G (fun i => ad (if i < 2 then 5 + i else 19 + (i - 2))) pl _ _ _ _ _ _ _ _   r9 hr9) (cwV (C := RX2) 1 C.2.2.2.1 (lw_V q1076 q796 q797 q82 q798) rfl rfl rfl (by decide +kernel) ⟨Nat.le_of_ble_eq_true rfl, Nat.le_of_ble_eq_true rfl⟩) (n_preV C hP hS [5, 6, 19, 20] sub_xW_ppW_5_19 (by decide) rfl (va_recv C.2.2.2.2.1 hP (ci := 11) (q0 := 5) rfl rfl)) rfl rfl hl.1 rfl (lv_room (Nat.le_of_ble_eq_true rfl)) dX0_behind_40 ⟨Nat.le_of_ble_eq_true rfl, Nat.le_of_ble_eq_true rfl⟩) xW_av rfl rfl mg_xW_ppW_5_19 (fun H locs hP hS => ?_)
        refine lv_pop C.1 C.2.1 dX0_behind_43 rfl ?_
        refine lv_aload_n C.1 C.2.1 dX0_behind_44 rfl (lv_at hl 1 rfl) ?_
        refine lv_iload_n C.1 C.2.1 dX0_behind_45 rfl (lv_at hl 3 rfl) ?_
        obtain ⟨r10, hr10, hE⟩ := it_b hE
        refine n_afterS C.2.2.2.2.2.2.2.1 hS (va_runV (As := [.int p2]) (rest := []) ⟨C.1, C.2.1, hml, C.2.2.1, C.2.2.2.1⟩ (metC_HW_goesRow l G ad pl hk hb _ _ _ _ _ _ _ _ _ _ _ _ _ _ _ _ _ _ _ _ _ _ _ _ _ _ _ _ _ _ _ _ _ _ _ _ _ _ _ _ _ _ _ _ _ _ _ hom p2  r10 hr10) (cwV (C := RX0) 1 C.2.2.2.1 (lw_V q1077 q1079 qs23 q80 q1080) rfl rfl rfl (by decide +kernel) ⟨Nat.le_of_ble_eq_true rfl, Nat.le_of_ble_eq_true rfl⟩) (n_preV0 C hP hS (va_recv C.2.2.2.2.1 hP (ci := 16) (q0 := 0) rfl rfl)) rfl rfl hl.1 rfl (lv_room (Nat.le_of_ble_eq_true rfl)) dX0_behind_46 ⟨Nat.le_of_ble_eq_true rfl, Nat.le_of_ble_eq_true rfl⟩) (fun H locs hP hS => ?_)
        refine lv_iload_n C.1 C.2.1 dX0_behind_49 rfl (lv_at hl 4 rfl) ?_
        refine lv_if_ne (tgt := 63) C.1 C.2.1 dX0_behind_50 (by decide) (fun c11 => ?_) (fun c11 => ?_)
        · have hE := it_f c11 hE
          refine lv_iload_n C.1 C.2.1 dX0_behind_63 rfl (lv_at hl 4 rfl) ?_
          refine lv_iconst (v := 1) C.1 C.2.1 dX0_behind_64 (by decide) ?_
          refine lv_icmp_ne (tgt := 78) C.1 C.2.1 dX0_behind_65 (by decide) (fun c12 => ?_) (fun c12 => ?_)
          · have hE := it_f c12 hE
            refine lv_iload_n C.1 C.2.1 dX0_behind_78 rfl (lv_at hl 4 rfl) ?_
            refine lv_iconst (v := 2) C.1 C.2.1 dX0_behind_79 (by decide) ?_
            refine lv_icmp_ne (tgt := 93) C.1 C.2.1 dX0_behind_80 (by decide) (fun c13 => ?_) (fun c13 => ?_)
            · have hE := it_f c13 hE
              refine lv_aload_n C.1 C.2.1 dX0_behind_93 rfl (lv_at hl 1 rfl) ?_
              refine xWg_0_9 q247 C hP dX0_behind_94 ?_
              obtain rfl := Option.some.inj hE
              exact hret _ _ _ _ dX0_behind_97 trivial hP hS
            · have hE := it_t c13 hE
              refine lv_aload_n C.1 C.2.1 dX0_behind_83 rfl (lv_at hl 1 rfl) ?_
              refine xWg_0_3 q241 C hP dX0_behind_84 ?_
              refine xWg_5_2 q157 C hP dX0_behind_87 ?_
              refine lv_goto (tgt := 97) C.1 C.2.1 dX0_behind_90 (by decide) ?_
              obtain rfl := Option.some.inj hE
              exact hret _ _ _ _ dX0_behind_97 trivial hP hS
          · have hE := it_t c12 hE
            refine lv_aload_n C.1 C.2.1 dX0_behind_68 rfl (lv_at hl 1 rfl) ?_
            refine xWg_0_3 q241 C hP dX0_behind_69 ?_
            refine xWg_5_1 q154 C hP dX0_behind_72 ?_
            refine lv_goto (tgt := 97) C.1 C.2.1 dX0_behind_75 (by decide) ?_
            obtain rfl := Option.some.inj hE
            exact hret _ _ _ _ dX0_behind_97 trivial hP hS
        · have hE := it_t c11 hE
          refine lv_aload_n C.1 C.2.1 dX0_behind_53 rfl (lv_at hl 1 rfl) ?_
          refine xWg_0_3 q241 C hP dX0_behind_54 ?_
          refine xWg_5_0 q149 C hP dX0_behind_57 ?_
          refine lv_goto (tgt := 97) C.1 C.2.1 dX0_behind_60 (by decide) ?_
          obtain rfl := Option.some.inj hE
          exact hret _ _ _ _ dX0_behind_97 trivial hP hS
      · have hE := it_f (by rw [hw]; exact fun h => nomatch h) hE
        obtain ⟨q8, rfl⟩ : ∃ z, z = q := ⟨_, rfl⟩
        obtain rfl : w = (r7.1.getD 0) := by rw [hw]; rfl
        obtain ⟨ce, g1, g2, g3⟩ := t_cell C0 hc rfl
        refine t_catch (name := "HamsterWeekends$Refused") (E := "HamsterWeekends$Refused") C0 D [] ⟨0, 97, 98, 21⟩ [] htab (fun z hz => nomatch hz) rfl (by decide) q291 (List.mem_of_getElem? (i := 1) rfl) g1 g2 g3 ?_
        refine W.eq (g2 := F0 m 98 ls [.ref q8]) rfl ?_
        refine lv_astore (lv' := [(4, .ref q8), (0, .ref (ad 0)), (1, .int p1), (2, .int p2), (3, .int p3)]) C.1 C.2.1 dX0_behind_98 hl (by decide) rfl (fun ls hl => ?_)
        refine lv_aload_n C.1 C.2.1 dX0_behind_100 rfl (lv_at hl 1 rfl) ?_
        refine lv_aload C.1 C.2.1 dX0_behind_101 (lv_at hl 0 rfl) ?_
        obtain ⟨r14, hr14, hE⟩ := it_b hE
        refine n_afterS C.2.2.2.2.2.2.2.1 hS (va_runV (As := [.ref q8]) (rest := []) ⟨C.1, C.2.1, hml, C.2.2.1, C.2.2.2.1⟩ (metC_HW_refused l G ad [(q8, .inr (18, xF (r7.1.getD 0)))] _ _ _ _ _ _ _ _ _ _ _ _ _ _ _ _ _ _ _ _ _ _ _ _ _ _ _ _ _ _ _ _ _ _ _ _ _ _ _ _ _ _ _ _ _ _ _ q8 (r7.1.getD 0) (List.mem_singleton.mpr rfl) r14 hr14) (cwV (C := RX0) 1 C.2.2.2.1 (lw_V q466 q468 qs2 q80 q469) rfl rfl rfl (by decide +kernel) ⟨Nat.le_of_ble_eq_true rfl, Nat.le_of_ble_eq_true rfl⟩) (t_preX C0 hP hc hq.1 (va_recv C.2.2.2.2.1 hP (ci := 16) (q0 := 0) rfl rfl)) rfl rfl hl.1 rfl (lv_room (Nat.le_of_ble_eq_true rfl)) dX0_behind_103 ⟨Nat.le_of_ble_eq_true rfl, Nat.le_of_ble_eq_true rfl⟩) (fun H locs hP hS => ?_)
        obtain rfl := Option.some.inj hE
        exact hret _ _ _ _ dX0_behind_106 trivial hP hS
    · obtain ⟨c5, rfl⟩ := nd_x hw
      obtain ⟨q6, rfl⟩ : ∃ z, z = q := ⟨_, rfl⟩
      have hE := it_t c5 hE
      obtain ⟨ce, g1, g2, g3⟩ := t_cell C0 hc rfl
      refine t_catch (name := "HamsterWeekends$Refused") (E := "HamsterWeekends$Refused") C0 D [] ⟨0, 97, 98, 21⟩ [] htab (fun z hz => nomatch hz) rfl (by decide) q291 (List.mem_of_getElem? (i := 1) rfl) g1 g2 g3 ?_
      refine W.eq (g2 := F0 m 98 ls [.ref q6]) rfl ?_
      refine lv_astore (lv' := [(4, .ref q6), (0, .ref (ad 0)), (1, .int p1), (2, .int p2), (3, .int p3)]) C.1 C.2.1 dX0_behind_98 hl (by decide) rfl (fun ls hl => ?_)
      refine lv_aload_n C.1 C.2.1 dX0_behind_100 rfl (lv_at hl 1 rfl) ?_
      refine lv_aload C.1 C.2.1 dX0_behind_101 (lv_at hl 0 rfl) ?_
      obtain ⟨r15, hr15, hE⟩ := it_b hE
      refine n_afterS C.2.2.2.2.2.2.2.1 hS (va_runV (As := [.ref q6]) (rest := []) ⟨C.1, C.2.1, hml, C.2.2.1, C.2.2.2.1⟩ (metC_HW_refused l G ad [(q6, .inr (18, xF (-5)))] _ _ _ _ _ _ _ _ _ _ _ _ _ _ _ _ _ _ _ _ _ _ _ _ _ _ _ _ _ _ _ _ _ _ _ _ _ _ _ _ _ _ _ _ _ _ _ q6 (-5) (List.mem_singleton.mpr rfl) r15 hr15) (cwV (C := RX0) 1 C.2.2.2.1 (lw_V q466 q468 qs2 q80 q469) rfl rfl rfl (by decide +kernel) ⟨Nat.le_of_ble_eq_true rfl, Nat.le_of_ble_eq_true rfl⟩) (t_preX C0 hP hc hq.1 (va_recv C.2.2.2.2.1 hP (ci := 16) (q0 := 0) rfl rfl)) rfl rfl hl.1 rfl (lv_room (Nat.le_of_ble_eq_true rfl)) dX0_behind_103 ⟨Nat.le_of_ble_eq_true rfl, Nat.le_of_ble_eq_true rfl⟩) (fun H locs hP hS => ?_)
      obtain rfl := Option.some.inj hE
      refine W.widen (k := 13) (n := 1241) (Nat.le_of_ble_eq_true rfl) (Nat.le_of_ble_eq_true rfl) ?_
      exact hret _ _ _ _ dX0_behind_106 trivial hP hS
  · have hE := it_f (by rw [hw]; exact fun h => nomatch h) hE
    obtain ⟨q2, rfl⟩ : ∃ z, z = q := ⟨_, rfl⟩
    obtain rfl : w = (r1.getD 0) := by rw [hw]; rfl
    obtain ⟨ce, g1, g2, g3⟩ := t_cell C0 hc rfl
    refine t_catch (name := "HamsterWeekends$Refused") (E := "HamsterWeekends$Refused") C0 D [] ⟨0, 97, 98, 21⟩ [] htab (fun z hz => nomatch hz) rfl (by decide) q291 (List.mem_of_getElem? (i := 1) rfl) g1 g2 g3 ?_
    refine W.eq (g2 := F0 m 98 ls [.ref q2]) rfl ?_
    refine lv_astore (lv' := [(4, .ref q2), (0, .ref (ad 0)), (1, .int p1), (2, .int p2), (3, .int p3)]) C.1 C.2.1 dX0_behind_98 hl (by decide) rfl (fun ls hl => ?_)
    refine lv_aload_n C.1 C.2.1 dX0_behind_100 rfl (lv_at hl 1 rfl) ?_
    refine lv_aload C.1 C.2.1 dX0_behind_101 (lv_at hl 0 rfl) ?_
    obtain ⟨r16, hr16, hE⟩ := it_b hE
    refine n_afterS C.2.2.2.2.2.2.2.1 hS (va_runV (As := [.ref q2]) (rest := []) ⟨C.1, C.2.1, hml, C.2.2.1, C.2.2.2.1⟩ (metC_HW_refused l G ad [(q2, .inr (18, xF (r1.getD 0)))] _ _ _ _ _ _ _ _ _ _ _ _ _ _ _ _ _ _ _ _ _ _ _ _ _ _ _ _ _ _ _ _ _ _ _ _ _ _ _ _ _ _ _ _ _ _ _ q2 (r1.getD 0) (List.mem_singleton.mpr rfl) r16 hr16) (cwV (C := RX0) 1 C.2.2.2.1 (lw_V q466 q468 qs2 q80 q469) rfl rfl rfl (by decide +kernel) ⟨Nat.le_of_ble_eq_true rfl, Nat.le_of_ble_eq_true rfl⟩) (t_preX C0 hP hc hq.1 (va_recv C.2.2.2.2.1 hP (ci := 16) (q0 := 0) rfl rfl)) rfl rfl hl.1 rfl (lv_room (Nat.le_of_ble_eq_true rfl)) dX0_behind_103 ⟨Nat.le_of_ble_eq_true rfl, Nat.le_of_ble_eq_true rfl⟩) (fun H locs hP hS => ?_)
    obtain rfl := Option.some.inj hE
    refine W.widen (k := 13) (n := 1241) (Nat.le_of_ble_eq_true rfl) (Nat.le_of_ble_eq_true rfl) ?_
    exact hret _ _ _ _ dX0_behind_106 trivial hP hS
def sC_HW_leastFeed_h32 (x2 : Int32) (x3 : Int32) (v_noticedBy : Int32) (v_refusals : Nat → Int32) (v_told : Nat → Int32) (v_many : Int32) (v_weight : Int32) (v_fright : Int32) (v_age : Int32) (v_asked : Nat → Int32) (v_homes : Nat → Option Nat) (hk : Nat → Nat) (hb : Nat → Int32) : Nat → Int32 → Int32 → Int32 → Int32 → Int32 → Int32 → Int32 → (Nat → Int32) → Option (Int32 × Int32 × Int32 × Int32 × (Nat → Int32) × Int32 × Int32 × Int32 × (Nat → Int32) × (Nat → Int32))
  | 0, _, _, _, _, _, _, _, _ => none
  | fuel + 1, x5, v_died, v_leastWeight, v_noticed, v_tweight, v_tfright, v_tage, v_tasked =>
    if 9 < x5 then
      some ((-1), v_died, v_leastWeight, v_noticed, v_refusals, v_tweight, v_tfright, v_tage, v_tasked, v_told)
    else
      (sC_Pet_take v_tweight v_tfright v_tage v_tasked v_weight v_fright v_age v_asked).bind fun r3302 =>
      (sC_HW_goesRow v_died v_leastWeight v_noticedBy v_noticed r3302.1 r3302.2.1 r3302.2.2.1 (upd r3302.2.2.2 0 x5) v_told v_many v_homes hk hb x2).bind fun r3303 =>
      if r3303.1 = 0 then
        if x2 = 0 then
          some (x5, r3303.1, r3303.2.1, r3303.2.2.1, v_refusals, r3303.2.2.2.1, r3303.2.2.2.2.1, r3303.2.2.2.2.2, (upd r3302.2.2.2 0 x5), v_told)
        else
          if r3303.2.1 < x3 then
            sC_HW_leastFeed_h32 x2 x3 v_noticedBy v_refusals v_told v_many v_weight v_fright v_age v_asked v_homes hk hb fuel (x5 + 1) r3303.1 r3303.2.1 r3303.2.2.1 r3303.2.2.2.1 r3303.2.2.2.2.1 r3303.2.2.2.2.2 (upd r3302.2.2.2 0 x5)
          else
            some (x5, r3303.1, r3303.2.1, r3303.2.2.1, v_refusals, r3303.2.2.2.1, r3303.2.2.2.2.1, r3303.2.2.2.2.2, (upd r3302.2.2.2 0 x5), v_told)
      else
        sC_HW_leastFeed_h32 x2 x3 v_noticedBy v_refusals v_told v_many v_weight v_fright v_age v_asked v_homes hk hb fuel (x5 + 1) r3303.1 r3303.2.1 r3303.2.2.1 r3303.2.2.2.1 r3303.2.2.2.2.1 r3303.2.2.2.2.2 (upd r3302.2.2.2 0 x5)
def sC_HW_leastFeed (v_died : Int32) (v_leastWeight : Int32) (v_noticedBy : Int32) (v_noticed : Int32) (v_refusals : Nat → Int32) (v_tweight : Int32) (v_tfright : Int32) (v_tage : Int32) (v_tasked : Nat → Int32) (v_told : Nat → Int32) (v_many : Int32) (v_weight : Int32) (v_fright : Int32) (v_age : Int32) (v_asked : Nat → Int32) (v_homes : Nat → Option Nat) (v_allergic : Nat → Int32) (hk : Nat → Nat) (hb : Nat → Int32) (hd : Nat → Nat) (rs : Nat → Nat) (rn : Nat → Nat) (rc : Nat → Nat → Int64) (sk : Nat → Nat) (si : Nat → Int32) (sb : Nat → Int32) (p1 : Int32) (p2 : Int32) (p3 : Int32) : Option (Int32 × Int32 × Int32 × Int32 × (Nat → Int32) × Int32 × Int32 × Int32 × (Nat → Int32) × (Nat → Int32)) :=
  (sC_HW_toldAt hd rs rn rc sk si sb p1 p2).bind fun r1 =>
  if r1 = none then
    (sC_HW_in ((p3 : Int32).toInt64) 0 400).bind fun r4 =>
    if r4 = 0 then
      (sC_HW_refused v_refusals (-6)).bind fun r11 =>
      some ((r11.1 - 10), v_died, v_leastWeight, v_noticed, r11.2, v_tweight, v_tfright, v_tage, v_tasked, v_told)
    else
      (sC_HW_mustBeRight v_told v_many v_allergic (rn (p1).toNatClampNeg) (rc (p1).toNatClampNeg) p2).bind fun r7 =>
      if r7.1 = none then
        sC_HW_leastFeed_h32 p2 p3 v_noticedBy v_refusals r7.2 v_many v_weight v_fright v_age v_asked v_homes hk hb 2000 0 v_died v_leastWeight v_noticed v_tweight v_tfright v_tage v_tasked
      else
        (sC_HW_refused v_refusals (r7.1.getD 0)).bind fun r10 =>
        some ((r10.1 - 10), v_died, v_leastWeight, v_noticed, r10.2, v_tweight, v_tfright, v_tage, v_tasked, r7.2)
  else
    (sC_HW_refused v_refusals (r1.getD 0)).bind fun r12 =>
    some ((r12.1 - 10), v_died, v_leastWeight, v_noticed, r12.2, v_tweight, v_tfright, v_tage, v_tasked, v_told)
set_option maxHeartbeats 4000000 in
theorem wC_HW_leastFeed_h32 {p : Program} {l : Launch} {e : Env} {s : State} {m : MethodId} {args : Array Value} {below : List Frame} {meth : Method} {c : Code} {Q : State → Prop} {G : kG} {ad : Nat → Nat} {pl : va_W} {hk : Nat → Nat} {hb : Nat → Int32} {sa ra rb hd rs rn : Nat → Nat} {rc : Nat → Nat → Int64} {sk : Nat → Nat} {si sb : Nat → Int32} {sz : Nat} {v_latestFault : Int32} {v_noticedBy : Int32} {v_orderDied : Int32} {v_orderLeast : Int32} {v_imaged : Option Nat} {v_shelves : Nat → Option Nat} {v_refusals : Nat → Int32} {v_ran : Int32} {v_bodies : Nat → Int32} {v_told : Nat → Int32} {v_bestRow : Nat → Int32} {v_weight_a1 : Int32} {v_fright_a1 : Int32} {v_age_a1 : Int32} {v_asked_a1 : Nat → Int32} {v_weight_a2 : Int32} {v_fright_a2 : Int32} {v_age_a2 : Int32} {v_asked_a2 : Nat → Int32} {v_weight_a3 : Int32} {v_fright_a3 : Int32} {v_age_a3 : Int32} {v_asked_a3 : Nat → Int32} {v_weight_a4 : Int32} {v_fright_a4 : Int32} {v_age_a4 : Int32} {v_asked_a4 : Nat → Int32} {v_many : Int32} {v_pets : Int32} {v_last : Int32} {v_seed : Int32} {v_weight : Int32} {v_fright : Int32} {v_age : Int32} {v_asked : Nat → Int32} {v_homes : Nat → Option Nat} {v_marks : Nat → Int32} {v_had : Nat → Int32} {v_allergic : Nat → Int32} {v_deaths : Nat → Int32} (C : nC p s m args c cX0_leastFeed RX0 G (xWV ad) pl (tA sz (xWV ad) [])) (hml : c.maxLocals = 6)  (D : tD s (xWV ad) [] (tA sz (xWV ad) [])) (hom : homOK v_homes v_many hk hb pl) (shok : shOK G v_shelves sa hd ra rb rs rn rc sk si sb pl) (x2 : Int32) (x3 : Int32) (res : Int32 × Int32 × Int32 × Int32 × (Nat → Int32) × Int32 × Int32 × Int32 × (Nat → Int32) × (Nat → Int32)) :
    ∀ (fuel : Nat) (x5 : Int32) (v_died : Int32) (v_leastWeight : Int32) (v_noticed : Int32) (v_tweight : Int32) (v_tfright : Int32) (v_tage : Int32) (v_tasked : Nat → Int32) (H : Heap) (locs : List Loc) (ls : Array Slot), sC_HW_leastFeed_h32 x2 x3 v_noticedBy v_refusals v_told v_many v_weight v_fright v_age v_asked v_homes hk hb fuel x5 v_died v_leastWeight v_noticed v_tweight v_tfright v_tage v_tasked = some res → va_P G.1 vwCl (xW G.2 ad v_latestFault v_died v_leastWeight v_noticedBy v_noticed v_orderDied v_orderLeast v_imaged v_shelves v_refusals v_ran v_bodies v_tweight v_tfright v_tage v_tasked v_told v_bestRow v_weight_a1 v_fright_a1 v_age_a1 v_asked_a1 v_weight_a2 v_fright_a2 v_age_a2 v_asked_a2 v_weight_a3 v_fright_a3 v_age_a3 v_asked_a3 v_weight_a4 v_fright_a4 v_age_a4 v_asked_a4 v_many v_pets v_last v_seed v_weight v_fright v_age v_asked v_homes v_marks v_had v_allergic v_deaths) H → va_S (tA sz (xWV ad) []) s.heap H locs → lv_has ls 6 [(0, .ref (ad 0)), (2, .int x2), (3, .int x3), (5, .int x5)] → (∀ (pc : Nat) (ls : Array Slot) (H : Heap) (locs : List Loc), decode cX0_leastFeed pc = .ok (.ireturn, 1) → True → va_P G.1 vwCl (xW G.2 ad v_latestFault res.2.1 res.2.2.1 v_noticedBy res.2.2.2.1 v_orderDied v_orderLeast v_imaged v_shelves res.2.2.2.2.1 v_ran v_bodies res.2.2.2.2.2.1 res.2.2.2.2.2.2.1 res.2.2.2.2.2.2.2.1 res.2.2.2.2.2.2.2.2.1 res.2.2.2.2.2.2.2.2.2 v_bestRow v_weight_a1 v_fright_a1 v_age_a1 v_asked_a1 v_weight_a2 v_fright_a2 v_age_a2 v_asked_a2 v_weight_a3 v_fright_a3 v_age_a3 v_asked_a3 v_weight_a4 v_fright_a4 v_age_a4 v_asked_a4 v_many v_pets v_last v_seed v_weight v_fright v_age v_asked v_homes v_marks v_had v_allergic v_deaths) H → va_S (tA sz (xWV ad) []) s.heap H locs → W p l e ({ frames := 10, cells := 13, slots := 1241, locals := 10304 } : Room) s m args below meth c H locs 13 1241 Q (F0 m pc ls [(.int res.1)])) → W p l e ({ frames := 10, cells := 13, slots := 1241, locals := 10304 } : Room) s m args below meth c H locs 13 1241 Q (F0 m 32 ls []) := by
  intro fuel
  induction fuel with
  | zero =>
    intro x5 v_died v_leastWeight v_noticed v_tweight v_tfright v_tage v_tasked H locs ls hE
    exact it_n hE
  | succ fuel ih =>
    intro x5 v_died v_leastWeight v_noticed v_tweight v_tfright v_tage v_tasked H locs ls hE hP hS hl hret
    rw [sC_HW_leastFeed_h32] at hE
    refine lv_iload C.1 C.2.1 dX0_leastFeed_32 (lv_at hl 3 rfl) ?_
    refine lv_bipush (v := 9) C.1 C.2.1 dX0_leastFeed_34 (by decide) ?_
    refine lv_icmp_gt (tgt := 98) C.1 C.2.1 dX0_leastFeed_36 (by decide) (fun c3301 => ?_) (fun c3301 => ?_)
    · have hE := it_t c3301 hE
      refine lv_iconst (v := (-1)) C.1 C.2.1 dX0_leastFeed_98 (by decide) ?_
      obtain rfl := Option.some.inj hE
      exact hret _ _ _ _ dX0_leastFeed_99 trivial hP hS
    · have hE := it_f c3301 hE
      refine lv_aload_n C.1 C.2.1 dX0_leastFeed_39 rfl (lv_at hl 0 rfl) ?_
      refine xWg_0_3 q241 C hP dX0_leastFeed_40 ?_
      refine lv_aload_n C.1 C.2.1 dX0_leastFeed_43 rfl (lv_at hl 0 rfl) ?_
      refine xWg_0_6 q244 C hP dX0_leastFeed_44 ?_
      refine xWg_18_4 q191 C hP dX0_leastFeed_47 ?_
      obtain ⟨r3302, hr3302, hE⟩ := it_b hE
      refine n_after [5, 6, 19, 20] C.2.2.2.2.2.1 C.2.2.2.2.2.2.2.1 hP hS (va_runV (As := [.ref (ad 19)]) (rest := []) ⟨C.1, C.2.1, hml, C.2.2.1, C.2.2.2.1⟩ (metC_Pet_take l G (fun i => ad (if i < 2 then 5 + i else 19 + (i - 2))) pl _ _ _ _ _ _ _ _   r3302 hr3302) (cwV (C := RX2) 1 C.2.2.2.1 (lw_V q1076 q796 q797 q82 q798) rfl rfl rfl (by decide +kernel) ⟨Nat.le_of_ble_eq_true rfl, Nat.le_of_ble_eq_true rfl⟩) (n_preV C hP hS [5, 6, 19, 20] sub_xW_ppW_5_19 (by decide) rfl (va_recv C.2.2.2.2.1 hP (ci := 11) (q0 := 5) rfl rfl)) rfl rfl hl.1 rfl (lv_room (Nat.le_of_ble_eq_true rfl)) dX0_leastFeed_50 ⟨Nat.le_of_ble_eq_true rfl, Nat.le_of_ble_eq_true rfl⟩) xW_av rfl rfl mg_xW_ppW_5_19 (fun H locs hP hS => ?_)
      refine lv_pop C.1 C.2.1 dX0_leastFeed_53 rfl ?_
      refine lv_aload_n C.1 C.2.1 dX0_leastFeed_54 rfl (lv_at hl 0 rfl) ?_
      refine xWg_0_3 q241 C hP dX0_leastFeed_55 ?_
      refine xWg_5_3 q160 C hP dX0_leastFeed_58 ?_
      refine lv_iconst (v := 0) C.1 C.2.1 dX0_leastFeed_61 (by decide) ?_
      refine lv_iload C.1 C.2.1 dX0_leastFeed_62 (lv_at hl 3 rfl) ?_
      refine xWs_6 C hP hS (gi_in (by decide)) dX0_leastFeed_64 (fun H locs hP hS => ?_)
      refine lv_aload_n C.1 C.2.1 dX0_leastFeed_65 rfl (lv_at hl 0 rfl) ?_
      refine lv_iload_n C.1 C.2.1 dX0_leastFeed_66 rfl (lv_at hl 1 rfl) ?_
      obtain ⟨r3303, hr3303, hE⟩ := it_b hE
      refine n_afterS C.2.2.2.2.2.2.2.1 hS (va_runV (As := [.int x2]) (rest := []) ⟨C.1, C.2.1, hml, C.2.2.1, C.2.2.2.1⟩ (metC_HW_goesRow l G ad pl hk hb _ _ _ _ _ _ _ _ _ _ _ _ _ _ _ _ _ _ _ _ _ _ _ _ _ _ _ _ _ _ _ _ _ _ _ _ _ _ _ _ _ _ _ _ _ _ _ hom x2  r3303 hr3303) (cwV (C := RX0) 1 C.2.2.2.1 (lw_V q1077 q1079 qs23 q80 q1080) rfl rfl rfl (by decide +kernel) ⟨Nat.le_of_ble_eq_true rfl, Nat.le_of_ble_eq_true rfl⟩) (n_preV0 C hP hS (va_recv C.2.2.2.2.1 hP (ci := 16) (q0 := 0) rfl rfl)) rfl rfl hl.1 rfl (lv_room (Nat.le_of_ble_eq_true rfl)) dX0_leastFeed_67 ⟨Nat.le_of_ble_eq_true rfl, Nat.le_of_ble_eq_true rfl⟩) (fun H locs hP hS => ?_)
      refine lv_aload_n C.1 C.2.1 dX0_leastFeed_70 rfl (lv_at hl 0 rfl) ?_
      refine xWg_0_9 q247 C hP dX0_leastFeed_71 ?_
      refine lv_if_ne (tgt := 92) C.1 C.2.1 dX0_leastFeed_74 (by decide) (fun c3304 => ?_) (fun c3304 => ?_)
      · have hE := it_f c3304 hE
        refine lv_iinc (v := (x5 + 1)) (lv' := [(5, .int (x5 + 1)), (0, .ref (ad 0)), (2, .int x2), (3, .int x3)]) C.1 C.2.1 dX0_leastFeed_92 hl (k := 3) rfl rfl (by decide) rfl (fun ls hl => ?_)
        refine lv_goto (tgt := 32) C.1 C.2.1 dX0_leastFeed_95 (by decide) ?_
        exact ih (x5 + 1) r3303.1 r3303.2.1 r3303.2.2.1 r3303.2.2.2.1 r3303.2.2.2.2.1 r3303.2.2.2.2.2 (upd r3302.2.2.2 0 x5) _ _ _ hE hP hS (lv_sub hl [1, 2, 3, 0] rfl) hret
      · have hE := it_t c3304 hE
        refine lv_iload_n C.1 C.2.1 dX0_leastFeed_77 rfl (lv_at hl 1 rfl) ?_
        refine lv_if_eq (tgt := 89) C.1 C.2.1 dX0_leastFeed_78 (by decide) (fun c3305 => ?_) (fun c3305 => ?_)
        · have hE := it_t c3305 hE
          refine lv_iload C.1 C.2.1 dX0_leastFeed_89 (lv_at hl 3 rfl) ?_
          obtain rfl := Option.some.inj hE
          exact hret _ _ _ _ dX0_leastFeed_91 trivial hP hS
        · have hE := it_f c3305 hE
          refine lv_aload_n C.1 C.2.1 dX0_leastFeed_81 rfl (lv_at hl 0 rfl) ?_
          refine xWg_0_10 q248 C hP dX0_leastFeed_82 ?_
          refine lv_iload_n C.1 C.2.1 dX0_leastFeed_85 rfl (lv_at hl 2 rfl) ?_
          refine lv_icmp_lt (tgt := 92) C.1 C.2.1 dX0_leastFeed_86 (by decide) (fun c3306 => ?_) (fun c3306 => ?_)
          · have hE := it_t c3306 hE
            refine lv_iinc (v := (x5 + 1)) (lv' := [(5, .int (x5 + 1)), (0, .ref (ad 0)), (2, .int x2), (3, .int x3)]) C.1 C.2.1 dX0_leastFeed_92 hl (k := 3) rfl rfl (by decide) rfl (fun ls hl => ?_)
            refine lv_goto (tgt := 32) C.1 C.2.1 dX0_leastFeed_95 (by decide) ?_
            exact ih (x5 + 1) r3303.1 r3303.2.1 r3303.2.2.1 r3303.2.2.2.1 r3303.2.2.2.2.1 r3303.2.2.2.2.2 (upd r3302.2.2.2 0 x5) _ _ _ hE hP hS (lv_sub hl [1, 2, 3, 0] rfl) hret
          · have hE := it_f c3306 hE
            refine lv_iload C.1 C.2.1 dX0_leastFeed_89 (lv_at hl 3 rfl) ?_
            obtain rfl := Option.some.inj hE
            exact hret _ _ _ _ dX0_leastFeed_91 trivial hP hS
set_option maxHeartbeats 4000000 in
theorem metC_HW_leastFeed (l : Launch) (hfl : l.stackTraces = false) (G : kG) (ad : Nat → Nat) (pl : va_W) (hk : Nat → Nat) (hb : Nat → Int32) (sa ra rb hd rs rn : Nat → Nat) (rc : Nat → Nat → Int64) (sk : Nat → Nat) (si sb : Nat → Int32) (sz : Nat) (v_latestFault : Int32) (v_died : Int32) (v_leastWeight : Int32) (v_noticedBy : Int32) (v_noticed : Int32) (v_orderDied : Int32) (v_orderLeast : Int32) (v_imaged : Option Nat) (v_shelves : Nat → Option Nat) (v_refusals : Nat → Int32) (v_ran : Int32) (v_bodies : Nat → Int32) (v_tweight : Int32) (v_tfright : Int32) (v_tage : Int32) (v_tasked : Nat → Int32) (v_told : Nat → Int32) (v_bestRow : Nat → Int32) (v_weight_a1 : Int32) (v_fright_a1 : Int32) (v_age_a1 : Int32) (v_asked_a1 : Nat → Int32) (v_weight_a2 : Int32) (v_fright_a2 : Int32) (v_age_a2 : Int32) (v_asked_a2 : Nat → Int32) (v_weight_a3 : Int32) (v_fright_a3 : Int32) (v_age_a3 : Int32) (v_asked_a3 : Nat → Int32) (v_weight_a4 : Int32) (v_fright_a4 : Int32) (v_age_a4 : Int32) (v_asked_a4 : Nat → Int32) (v_many : Int32) (v_pets : Int32) (v_last : Int32) (v_seed : Int32) (v_weight : Int32) (v_fright : Int32) (v_age : Int32) (v_asked : Nat → Int32) (v_homes : Nat → Option Nat) (v_marks : Nat → Int32) (v_had : Nat → Int32) (v_allergic : Nat → Int32) (v_deaths : Nat → Int32) (hom : homOK v_homes v_many hk hb pl) (shok : shOK G v_shelves sa hd ra rb rs rn rc sk si sb pl) (p1 : Int32) (p2 : Int32) (p3 : Int32) (res : Int32 × Int32 × Int32 × Int32 × (Nat → Int32) × Int32 × Int32 × Int32 × (Nat → Int32) × (Nat → Int32)) (hE : sC_HW_leastFeed v_died v_leastWeight v_noticedBy v_noticed v_refusals v_tweight v_tfright v_tage v_tasked v_told v_many v_weight v_fright v_age v_asked v_homes v_allergic hk hb hd rs rn rc sk si sb p1 p2 p3 = some res) : vx_Met l yX0_leastFeed (wsW_ yX0_leastFeed cX0_leastFeed 6 (some .int) [((0 : Nat), (91 : Nat), (100 : Nat), (21 : Nat)), ((92 : Nat), (99 : Nat), (100 : Nat), (21 : Nat))]) ({ frames := 10, cells := 13, slots := 1241, locals := 10304 } : Room) (rPc G (xW G.2 ad v_latestFault v_died v_leastWeight v_noticedBy v_noticed v_orderDied v_orderLeast v_imaged v_shelves v_refusals v_ran v_bodies v_tweight v_tfright v_tage v_tasked v_told v_bestRow v_weight_a1 v_fright_a1 v_age_a1 v_asked_a1 v_weight_a2 v_fright_a2 v_age_a2 v_asked_a2 v_weight_a3 v_fright_a3 v_age_a3 v_asked_a3 v_weight_a4 v_fright_a4 v_age_a4 v_asked_a4 v_many v_pets v_last v_seed v_weight v_fright v_age v_asked v_homes v_marks v_had v_allergic v_deaths) pl (xWV ad) sz [.ref (ad 0), .int p1, .int p2, .int p3]) (tQc G (xW G.2 ad v_latestFault res.2.1 res.2.2.1 v_noticedBy res.2.2.2.1 v_orderDied v_orderLeast v_imaged v_shelves res.2.2.2.2.1 v_ran v_bodies res.2.2.2.2.2.1 res.2.2.2.2.2.2.1 res.2.2.2.2.2.2.2.1 res.2.2.2.2.2.2.2.2.1 res.2.2.2.2.2.2.2.2.2 v_bestRow v_weight_a1 v_fright_a1 v_age_a1 v_asked_a1 v_weight_a2 v_fright_a2 v_age_a2 v_asked_a2 v_weight_a3 v_fright_a3 v_age_a3 v_asked_a3 v_weight_a4 v_fright_a4 v_age_a4 v_asked_a4 v_many v_pets v_last v_seed v_weight v_fright v_age v_asked v_homes v_marks v_had v_allergic v_deaths) [] (tA sz (xWV ad) []) (True) (some (.int res.1))) (tXC G (xW G.2 ad v_latestFault res.2.1 res.2.2.1 v_noticedBy res.2.2.2.1 v_orderDied v_orderLeast v_imaged v_shelves res.2.2.2.2.1 v_ran v_bodies res.2.2.2.2.2.1 res.2.2.2.2.2.2.1 res.2.2.2.2.2.2.2.1 res.2.2.2.2.2.2.2.2.1 res.2.2.2.2.2.2.2.2.2 v_bestRow v_weight_a1 v_fright_a1 v_age_a1 v_asked_a1 v_weight_a2 v_fright_a2 v_age_a2 v_asked_a2 v_weight_a3 v_fright_a3 v_age_a3 v_asked_a3 v_weight_a4 v_fright_a4 v_age_a4 v_asked_a4 v_many v_pets v_last v_seed v_weight v_fright v_age v_asked v_homes v_marks v_had v_allergic v_deaths) [] (tA sz (xWV ad) []) 18 RX6 none sz) 13 1241 (tA sz (xWV ad) []) := by
  refine r_ofWH (own := RX0) (by decide) rfl (Nat.le_of_ble_eq_true rfl) ?_
  intro p e s m args below meth c ls C C0 D hml htab hP hS hl hr hlocks hsz
  have hl : lv_has ls 6 [(0, .ref (ad 0)), (1, .int p1), (2, .int p2), (3, .int p3)] := hl
  obtain ⟨Q, hQ⟩ : ∃ Q, Q = vx_MQ below (tQc G (xW G.2 ad v_latestFault res.2.1 res.2.2.1 v_noticedBy res.2.2.2.1 v_orderDied v_orderLeast v_imaged v_shelves res.2.2.2.2.1 v_ran v_bodies res.2.2.2.2.2.1 res.2.2.2.2.2.2.1 res.2.2.2.2.2.2.2.1 res.2.2.2.2.2.2.2.2.1 res.2.2.2.2.2.2.2.2.2 v_bestRow v_weight_a1 v_fright_a1 v_age_a1 v_asked_a1 v_weight_a2 v_fright_a2 v_age_a2 v_asked_a2 v_weight_a3 v_fright_a3 v_age_a3 v_asked_a3 v_weight_a4 v_fright_a4 v_age_a4 v_asked_a4 v_many v_pets v_last v_seed v_weight v_fright v_age v_asked v_homes v_marks v_had v_allergic v_deaths) [] (tA sz (xWV ad) []) (True) (some (.int res.1))) (tXC G (xW G.2 ad v_latestFault res.2.1 res.2.2.1 v_noticedBy res.2.2.2.1 v_orderDied v_orderLeast v_imaged v_shelves res.2.2.2.2.1 v_ran v_bodies res.2.2.2.2.2.1 res.2.2.2.2.2.2.1 res.2.2.2.2.2.2.2.1 res.2.2.2.2.2.2.2.2.1 res.2.2.2.2.2.2.2.2.2 v_bestRow v_weight_a1 v_fright_a1 v_age_a1 v_asked_a1 v_weight_a2 v_fright_a2 v_age_a2 v_asked_a2 v_weight_a3 v_fright_a3 v_age_a3 v_asked_a3 v_weight_a4 v_fright_a4 v_age_a4 v_asked_a4 v_many v_pets v_last v_seed v_weight v_fright v_age v_asked v_homes v_marks v_had v_allergic v_deaths) [] (tA sz (xWV ad) []) 18 RX6 none sz) args s 13 1241 (tA sz (xWV ad) []) := ⟨_, rfl⟩
  rw [← hQ]
  have hret : ∀ (pc : Nat) (ls : Array Slot) (H : Heap) (locs : List Loc), decode cX0_leastFeed pc = .ok (.ireturn, 1) → True → va_P G.1 vwCl (xW G.2 ad v_latestFault res.2.1 res.2.2.1 v_noticedBy res.2.2.2.1 v_orderDied v_orderLeast v_imaged v_shelves res.2.2.2.2.1 v_ran v_bodies res.2.2.2.2.2.1 res.2.2.2.2.2.2.1 res.2.2.2.2.2.2.2.1 res.2.2.2.2.2.2.2.2.1 res.2.2.2.2.2.2.2.2.2 v_bestRow v_weight_a1 v_fright_a1 v_age_a1 v_asked_a1 v_weight_a2 v_fright_a2 v_age_a2 v_asked_a2 v_weight_a3 v_fright_a3 v_age_a3 v_asked_a3 v_weight_a4 v_fright_a4 v_age_a4 v_asked_a4 v_many v_pets v_last v_seed v_weight v_fright v_age v_asked v_homes v_marks v_had v_allergic v_deaths) H → va_S (tA sz (xWV ad) []) s.heap H locs → W p l e ({ frames := 10, cells := 13, slots := 1241, locals := 10304 } : Room) s m args below meth c H locs 13 1241 Q (F0 m pc ls [(.int res.1)]) := by
    intro pc ls H locs hd hφ hP hS
    rw [hQ]
    exact t_iret C0 hr hlocks hd hφ hP P_nil hS
  clear hQ
  obtain ⟨H, hH⟩ : ∃ H, H = s.heap := ⟨_, rfl⟩
  obtain ⟨locs, hlo⟩ : ∃ locs : List Loc, locs = [] := ⟨_, rfl⟩
  have hP : va_P G.1 vwCl (xW G.2 ad v_latestFault v_died v_leastWeight v_noticedBy v_noticed v_orderDied v_orderLeast v_imaged v_shelves v_refusals v_ran v_bodies v_tweight v_tfright v_tage v_tasked v_told v_bestRow v_weight_a1 v_fright_a1 v_age_a1 v_asked_a1 v_weight_a2 v_fright_a2 v_age_a2 v_asked_a2 v_weight_a3 v_fright_a3 v_age_a3 v_asked_a3 v_weight_a4 v_fright_a4 v_age_a4 v_asked_a4 v_many v_pets v_last v_seed v_weight v_fright v_age v_asked v_homes v_marks v_had v_allergic v_deaths) H := by rw [hH]; exact hP
  have hS : va_S (tA sz (xWV ad) []) s.heap H locs := by rw [hH, hlo]; exact hS
  suffices hZ : W p l e ({ frames := 10, cells := 13, slots := 1241, locals := 10304 } : Room) s m args below meth c H locs 0 0 Q (F0 m 0 ls []) by rw [hH, hlo] at hZ; exact hZ
  clear hH hlo
  unfold sC_HW_leastFeed at hE
  refine lv_aload_n C.1 C.2.1 dX0_leastFeed_0 rfl (lv_at hl 0 rfl) ?_
  refine lv_iload_n C.1 C.2.1 dX0_leastFeed_1 rfl (lv_at hl 1 rfl) ?_
  refine lv_iload_n C.1 C.2.1 dX0_leastFeed_2 rfl (lv_at hl 2 rfl) ?_
  obtain ⟨r1, hr1, hE⟩ := it_b hE
  refine t_afterS C0 D hP P_nil hS (vx_runV (As := [.int p1, .int p2]) (rest := []) ⟨C.1, C.2.1, hml, C.2.2.1, C.2.2.2.1⟩ (metC_HW_toldAt l hfl G ad pl sa ra rb hd rs rn rc sk si sb H.size _ _ _ _ _ _ _ _ _ _ _ _ _ _ _ _ _ _ _ _ _ _ _ _ _ _ _ _ _ _ _ _ _ _ _ _ _ _ _ _ _ _ _ _ _ _ _ shok p1 p2 r1 hr1) (cwV (C := RX0) 2 C.2.2.2.1 (lw_V q1057 q1059 qs20 q80 q1060) rfl rfl rfl (by decide +kernel) ⟨Nat.le_of_ble_eq_true rfl, Nat.le_of_ble_eq_true rfl⟩) (rr_preV0 C D hP hS (va_recv C.2.2.2.2.1 hP (ci := 16) (q0 := 0) rfl rfl)) rfl rfl hl.1 rfl (lv_room (Nat.le_of_ble_eq_true rfl)) dX0_leastFeed_3 ⟨Nat.le_of_ble_eq_true rfl, Nat.le_of_ble_eq_true rfl⟩) xW_av (fun hφ H locs hP _ hS => ?_) (fun w q H locs hw hq hc hP _ hS => ?_)
  · have hE := it_t hφ hE
    obtain ⟨hgg3, hdg3⟩ := told_ok hr1 hφ
    obtain ⟨hsag3, hshg3⟩ := shok _ (gi_lt hgg3)
    have hrwg3 := (shAt_1 hshg3 hdg3).2
    refine lv_astore (lv' := [(4, .ref (ra (p1).toNatClampNeg)), (0, .ref (ad 0)), (1, .int p1), (2, .int p2), (3, .int p3)]) C.1 C.2.1 dX0_leastFeed_6 hl (by decide) rfl (fun ls hl => ?_)
    refine lv_iload_n C.1 C.2.1 dX0_leastFeed_8 rfl (lv_at hl 4 rfl) ?_
    refine lv_i2l C.1 C.2.1 dX0_leastFeed_9 rfl ?_
    refine lv_lconst (v := 0) C.1 C.2.1 dX0_leastFeed_10 (by decide) ?_
    refine lv_ldc2 C.1 C.2.1 C.2.2.1 (C.2.2.2.1 _ q778) dX0_leastFeed_11 ?_
    obtain ⟨r4, hr4, hE⟩ := it_b hE
    refine n_after [] C.2.2.2.2.2.1 C.2.2.2.2.2.2.2.1 hP hS (va_runS (As := [.long ((p3 : Int32).toInt64), .long 0, .long 400]) (rest := []) ⟨C.1, C.2.1, hml, C.2.2.1, C.2.2.2.1⟩ (metC_HW_in l G ad pl  ((p3 : Int32).toInt64) 0 400  r4 hr4) (va_cwS 3 C.2.2.2.1 (lw_S q401 q402 q80 q403) rfl rfl rfl (by decide +kernel) ⟨Nat.le_of_ble_eq_true rfl, Nat.le_of_ble_eq_true rfl⟩) (n_preS C hP hS [] rfl (by decide) rfl) rfl rfl hl.1 rfl (lv_room (Nat.le_of_ble_eq_true rfl)) dX0_leastFeed_14 ⟨Nat.le_of_ble_eq_true rfl, Nat.le_of_ble_eq_true rfl⟩) xW_av rfl rfl rfl (fun H locs hP hS => ?_)
    refine lv_bipush (v := (-6)) C.1 C.2.1 dX0_leastFeed_17 (by decide) ?_
    refine t_after [] C0 D hP P_nil hS (vx_runS (As := [.int r4, .int (-6)]) (rest := []) ⟨C.1, C.2.1, hml, C.2.2.1, C.2.2.2.1⟩ (metC_HW_need l hfl G ad pl H.size r4 (-6) _ (need_eq _ _)) (va_cwS 2 C.2.2.2.1 (lw_S q397 q398 q80 q399) rfl rfl rfl (by decide +kernel) ⟨Nat.le_of_ble_eq_true rfl, Nat.le_of_ble_eq_true rfl⟩) (rr_preS C D hP hS [] rfl (by decide) rfl) rfl rfl hl.1 rfl (lv_room (Nat.le_of_ble_eq_true rfl)) dX0_leastFeed_19 ⟨Nat.le_of_ble_eq_true rfl, Nat.le_of_ble_eq_true rfl⟩) xW_av rfl rfl rfl (fun hφ H locs hP _ hS => ?_) (fun w q H locs hw hq hc hP _ hS => ?_)
    · have hE := it_f (nd_n hφ) hE
      refine lv_aload_n C.1 C.2.1 dX0_leastFeed_22 rfl (lv_at hl 1 rfl) ?_
      refine lv_aload C.1 C.2.1 dX0_leastFeed_23 (lv_at hl 0 rfl) ?_
      refine lv_iload_n C.1 C.2.1 dX0_leastFeed_25 rfl (lv_at hl 3 rfl) ?_
      obtain ⟨r7, hr7, hE⟩ := it_b hE
      refine t_afterS C0 D hP P_nil hS (vx_runV (As := [.ref (ra (p1).toNatClampNeg), .int p2]) (rest := []) ⟨C.1, C.2.1, hml, C.2.2.1, C.2.2.2.1⟩ (metC_HW_mustBeRight l hfl G ad pl H.size _ _ _ _ _ _ _ _ _ _ _ _ _ _ _ _ _ _ _ _ _ _ _ _ _ _ _ _ _ _ _ _ _ _ _ _ _ _ _ _ _ _ _ _ _ _ _ (ra (p1).toNatClampNeg) (rs (p1).toNatClampNeg) (rb (p1).toNatClampNeg) (rn (p1).toNatClampNeg) (rc (p1).toNatClampNeg) p2 hrwg3 r7 hr7) (cwV (C := RX0) 2 C.2.2.2.1 (lw_V q1072 q1074 qs22 q80 q1075) rfl rfl rfl (by decide +kernel) ⟨Nat.le_of_ble_eq_true rfl, Nat.le_of_ble_eq_true rfl⟩) (rr_preV0 C D hP hS (va_recv C.2.2.2.2.1 hP (ci := 16) (q0 := 0) rfl rfl)) rfl rfl hl.1 rfl (lv_room (Nat.le_of_ble_eq_true rfl)) dX0_leastFeed_26 ⟨Nat.le_of_ble_eq_true rfl, Nat.le_of_ble_eq_true rfl⟩) xW_av (fun hφ H locs hP _ hS => ?_) (fun w q H locs hw hq hc hP _ hS => ?_)
      · have hE := it_t hφ hE
        refine lv_iconst (v := 0) C.1 C.2.1 dX0_leastFeed_29 (by decide) ?_
        refine lv_istore (lv' := [(5, .int 0), (4, .ref (ra (p1).toNatClampNeg)), (0, .ref (ad 0)), (1, .int p1), (2, .int p2), (3, .int p3)]) C.1 C.2.1 dX0_leastFeed_30 hl (by decide) rfl (fun ls hl => ?_)
        exact wC_HW_leastFeed_h32 C hml  D hom shok p2 p3 res 2000 0 v_died v_leastWeight v_noticed v_tweight v_tfright v_tage v_tasked H locs ls hE hP hS (lv_sub hl [2, 4, 5, 0] rfl) hret
      · have hE := it_f (by rw [hw]; exact fun h => nomatch h) hE
        obtain ⟨q8, rfl⟩ : ∃ z, z = q := ⟨_, rfl⟩
        obtain rfl : w = (r7.1.getD 0) := by rw [hw]; rfl
        obtain ⟨ce, g1, g2, g3⟩ := t_cell C0 hc rfl
        refine t_catch (name := "HamsterWeekends$Refused") (E := "HamsterWeekends$Refused") C0 D [] ⟨0, 91, 100, 21⟩ [⟨92, 99, 100, 21⟩] htab (fun z hz => nomatch hz) rfl (by decide) q291 (List.mem_of_getElem? (i := 1) rfl) g1 g2 g3 ?_
        refine W.eq (g2 := F0 m 100 ls [.ref q8]) rfl ?_
        refine lv_astore (lv' := [(4, .ref q8), (0, .ref (ad 0)), (1, .int p1), (2, .int p2), (3, .int p3)]) C.1 C.2.1 dX0_leastFeed_100 hl (by decide) rfl (fun ls hl => ?_)
        refine lv_aload_n C.1 C.2.1 dX0_leastFeed_102 rfl (lv_at hl 1 rfl) ?_
        refine lv_aload C.1 C.2.1 dX0_leastFeed_103 (lv_at hl 0 rfl) ?_
        obtain ⟨r10, hr10, hE⟩ := it_b hE
        refine n_afterS C.2.2.2.2.2.2.2.1 hS (va_runV (As := [.ref q8]) (rest := []) ⟨C.1, C.2.1, hml, C.2.2.1, C.2.2.2.1⟩ (metC_HW_refused l G ad [(q8, .inr (18, xF (r7.1.getD 0)))] _ _ _ _ _ _ _ _ _ _ _ _ _ _ _ _ _ _ _ _ _ _ _ _ _ _ _ _ _ _ _ _ _ _ _ _ _ _ _ _ _ _ _ _ _ _ _ q8 (r7.1.getD 0) (List.mem_singleton.mpr rfl) r10 hr10) (cwV (C := RX0) 1 C.2.2.2.1 (lw_V q466 q468 qs2 q80 q469) rfl rfl rfl (by decide +kernel) ⟨Nat.le_of_ble_eq_true rfl, Nat.le_of_ble_eq_true rfl⟩) (t_preX C0 hP hc hq.1 (va_recv C.2.2.2.2.1 hP (ci := 16) (q0 := 0) rfl rfl)) rfl rfl hl.1 rfl (lv_room (Nat.le_of_ble_eq_true rfl)) dX0_leastFeed_105 ⟨Nat.le_of_ble_eq_true rfl, Nat.le_of_ble_eq_true rfl⟩) (fun H locs hP hS => ?_)
        refine lv_bipush (v := 10) C.1 C.2.1 dX0_leastFeed_108 (by decide) ?_
        refine lv_isub C.1 C.2.1 dX0_leastFeed_110 ?_
        obtain rfl := Option.some.inj hE
        exact hret _ _ _ _ dX0_leastFeed_111 trivial hP hS
    · obtain ⟨c5, rfl⟩ := nd_x hw
      obtain ⟨q6, rfl⟩ : ∃ z, z = q := ⟨_, rfl⟩
      have hE := it_t c5 hE
      obtain ⟨ce, g1, g2, g3⟩ := t_cell C0 hc rfl
      refine t_catch (name := "HamsterWeekends$Refused") (E := "HamsterWeekends$Refused") C0 D [] ⟨0, 91, 100, 21⟩ [⟨92, 99, 100, 21⟩] htab (fun z hz => nomatch hz) rfl (by decide) q291 (List.mem_of_getElem? (i := 1) rfl) g1 g2 g3 ?_
      refine W.eq (g2 := F0 m 100 ls [.ref q6]) rfl ?_
      refine lv_astore (lv' := [(4, .ref q6), (0, .ref (ad 0)), (1, .int p1), (2, .int p2), (3, .int p3)]) C.1 C.2.1 dX0_leastFeed_100 hl (by decide) rfl (fun ls hl => ?_)
      refine lv_aload_n C.1 C.2.1 dX0_leastFeed_102 rfl (lv_at hl 1 rfl) ?_
      refine lv_aload C.1 C.2.1 dX0_leastFeed_103 (lv_at hl 0 rfl) ?_
      obtain ⟨r11, hr11, hE⟩ := it_b hE
      refine n_afterS C.2.2.2.2.2.2.2.1 hS (va_runV (As := [.ref q6]) (rest := []) ⟨C.1, C.2.1, hml, C.2.2.1, C.2.2.2.1⟩ (metC_HW_refused l G ad [(q6, .inr (18, xF (-6)))] _ _ _ _ _ _ _ _ _ _ _ _ _ _ _ _ _ _ _ _ _ _ _ _ _ _ _ _ _ _ _ _ _ _ _ _ _ _ _ _ _ _ _ _ _ _ _ q6 (-6) (List.mem_singleton.mpr rfl) r11 hr11) (cwV (C := RX0) 1 C.2.2.2.1 (lw_V q466 q468 qs2 q80 q469) rfl rfl rfl (by decide +kernel) ⟨Nat.le_of_ble_eq_true rfl, Nat.le_of_ble_eq_true rfl⟩) (t_preX C0 hP hc hq.1 (va_recv C.2.2.2.2.1 hP (ci := 16) (q0 := 0) rfl rfl)) rfl rfl hl.1 rfl (lv_room (Nat.le_of_ble_eq_true rfl)) dX0_leastFeed_105 ⟨Nat.le_of_ble_eq_true rfl, Nat.le_of_ble_eq_true rfl⟩) (fun H locs hP hS => ?_)
      refine lv_bipush (v := 10) C.1 C.2.1 dX0_leastFeed_108 (by decide) ?_
      refine lv_isub C.1 C.2.1 dX0_leastFeed_110 ?_
      obtain rfl := Option.some.inj hE
      refine W.widen (k := 13) (n := 1241) (Nat.le_of_ble_eq_true rfl) (Nat.le_of_ble_eq_true rfl) ?_
      exact hret _ _ _ _ dX0_leastFeed_111 trivial hP hS
  · have hE := it_f (by rw [hw]; exact fun h => nomatch h) hE
    obtain ⟨q2, rfl⟩ : ∃ z, z = q := ⟨_, rfl⟩
    obtain rfl : w = (r1.getD 0) := by rw [hw]; rfl
    obtain ⟨ce, g1, g2, g3⟩ := t_cell C0 hc rfl
    refine t_catch (name := "HamsterWeekends$Refused") (E := "HamsterWeekends$Refused") C0 D [] ⟨0, 91, 100, 21⟩ [⟨92, 99, 100, 21⟩] htab (fun z hz => nomatch hz) rfl (by decide) q291 (List.mem_of_getElem? (i := 1) rfl) g1 g2 g3 ?_
    refine W.eq (g2 := F0 m 100 ls [.ref q2]) rfl ?_
    refine lv_astore (lv' := [(4, .ref q2), (0, .ref (ad 0)), (1, .int p1), (2, .int p2), (3, .int p3)]) C.1 C.2.1 dX0_leastFeed_100 hl (by decide) rfl (fun ls hl => ?_)
    refine lv_aload_n C.1 C.2.1 dX0_leastFeed_102 rfl (lv_at hl 1 rfl) ?_
    refine lv_aload C.1 C.2.1 dX0_leastFeed_103 (lv_at hl 0 rfl) ?_
    obtain ⟨r12, hr12, hE⟩ := it_b hE
    refine n_afterS C.2.2.2.2.2.2.2.1 hS (va_runV (As := [.ref q2]) (rest := []) ⟨C.1, C.2.1, hml, C.2.2.1, C.2.2.2.1⟩ (metC_HW_refused l G ad [(q2, .inr (18, xF (r1.getD 0)))] _ _ _ _ _ _ _ _ _ _ _ _ _ _ _ _ _ _ _ _ _ _ _ _ _ _ _ _ _ _ _ _ _ _ _ _ _ _ _ _ _ _ _ _ _ _ _ q2 (r1.getD 0) (List.mem_singleton.mpr rfl) r12 hr12) (cwV (C := RX0) 1 C.2.2.2.1 (lw_V q466 q468 qs2 q80 q469) rfl rfl rfl (by decide +kernel) ⟨Nat.le_of_ble_eq_true rfl, Nat.le_of_ble_eq_true rfl⟩) (t_preX C0 hP hc hq.1 (va_recv C.2.2.2.2.1 hP (ci := 16) (q0 := 0) rfl rfl)) rfl rfl hl.1 rfl (lv_room (Nat.le_of_ble_eq_true rfl)) dX0_leastFeed_105 ⟨Nat.le_of_ble_eq_true rfl, Nat.le_of_ble_eq_true rfl⟩) (fun H locs hP hS => ?_)
    refine lv_bipush (v := 10) C.1 C.2.1 dX0_leastFeed_108 (by decide) ?_
    refine lv_isub C.1 C.2.1 dX0_leastFeed_110 ?_
    obtain rfl := Option.some.inj hE
    refine W.widen (k := 13) (n := 1241) (Nat.le_of_ble_eq_true rfl) (Nat.le_of_ble_eq_true rfl) ?_
    exact hret _ _ _ _ dX0_leastFeed_111 trivial hP hS
def sC_HW_noticed (v_died : Int32) (v_leastWeight : Int32) (v_noticedBy : Int32) (v_noticed : Int32) (v_refusals : Nat → Int32) (v_tweight : Int32) (v_tfright : Int32) (v_tage : Int32) (v_tasked : Nat → Int32) (v_told : Nat → Int32) (v_many : Int32) (v_weight : Int32) (v_fright : Int32) (v_age : Int32) (v_asked : Nat → Int32) (v_homes : Nat → Option Nat) (v_allergic : Nat → Int32) (hk : Nat → Nat) (hb : Nat → Int32) (hd : Nat → Nat) (rs : Nat → Nat) (rn : Nat → Nat) (rc : Nat → Nat → Int64) (sk : Nat → Nat) (si : Nat → Int32) (sb : Nat → Int32) (p1 : Int32) (p2 : Int32) (p3 : Int32) : Option (Int32 × Int32 × Int32 × Int32 × Int32 × (Nat → Int32) × Int32 × Int32 × Int32 × (Nat → Int32) × (Nat → Int32)) :=
  (sC_HW_toldAt hd rs rn rc sk si sb p1 p2).bind fun r1 =>
  if r1 = none then
    (sC_HW_in ((p3 : Int32).toInt64) 0 400).bind fun r4 =>
    if r4 = 0 then
      (sC_HW_refused v_refusals (-6)).bind fun r12 =>
      some (r12.1, v_died, v_leastWeight, v_noticedBy, v_noticed, r12.2, v_tweight, v_tfright, v_tage, v_tasked, v_told)
    else
      (sC_HW_mustBeRight v_told v_many v_allergic (rn (p1).toNatClampNeg) (rc (p1).toNatClampNeg) p2).bind fun r7 =>
      if r7.1 = none then
        (sC_Pet_take v_tweight v_tfright v_tage v_tasked v_weight v_fright v_age v_asked).bind fun r9 =>
        (sC_HW_goesRow v_died v_leastWeight p3 v_noticed r9.1 r9.2.1 r9.2.2.1 r9.2.2.2 r7.2 v_many v_homes hk hb p2).bind fun r10 =>
        some (r10.2.2.1, r10.1, r10.2.1, p3, r10.2.2.1, v_refusals, r10.2.2.2.1, r10.2.2.2.2.1, r10.2.2.2.2.2, r9.2.2.2, r7.2)
      else
        (sC_HW_refused v_refusals (r7.1.getD 0)).bind fun r11 =>
        some (r11.1, v_died, v_leastWeight, v_noticedBy, v_noticed, r11.2, v_tweight, v_tfright, v_tage, v_tasked, r7.2)
  else
    (sC_HW_refused v_refusals (r1.getD 0)).bind fun r13 =>
    some (r13.1, v_died, v_leastWeight, v_noticedBy, v_noticed, r13.2, v_tweight, v_tfright, v_tage, v_tasked, v_told)
set_option maxHeartbeats 4000000 in
theorem metC_HW_noticed (l : Launch) (hfl : l.stackTraces = false) (G : kG) (ad : Nat → Nat) (pl : va_W) (hk : Nat → Nat) (hb : Nat → Int32) (sa ra rb hd rs rn : Nat → Nat) (rc : Nat → Nat → Int64) (sk : Nat → Nat) (si sb : Nat → Int32) (sz : Nat) (v_latestFault : Int32) (v_died : Int32) (v_leastWeight : Int32) (v_noticedBy : Int32) (v_noticed : Int32) (v_orderDied : Int32) (v_orderLeast : Int32) (v_imaged : Option Nat) (v_shelves : Nat → Option Nat) (v_refusals : Nat → Int32) (v_ran : Int32) (v_bodies : Nat → Int32) (v_tweight : Int32) (v_tfright : Int32) (v_tage : Int32) (v_tasked : Nat → Int32) (v_told : Nat → Int32) (v_bestRow : Nat → Int32) (v_weight_a1 : Int32) (v_fright_a1 : Int32) (v_age_a1 : Int32) (v_asked_a1 : Nat → Int32) (v_weight_a2 : Int32) (v_fright_a2 : Int32) (v_age_a2 : Int32) (v_asked_a2 : Nat → Int32) (v_weight_a3 : Int32) (v_fright_a3 : Int32) (v_age_a3 : Int32) (v_asked_a3 : Nat → Int32) (v_weight_a4 : Int32) (v_fright_a4 : Int32) (v_age_a4 : Int32) (v_asked_a4 : Nat → Int32) (v_many : Int32) (v_pets : Int32) (v_last : Int32) (v_seed : Int32) (v_weight : Int32) (v_fright : Int32) (v_age : Int32) (v_asked : Nat → Int32) (v_homes : Nat → Option Nat) (v_marks : Nat → Int32) (v_had : Nat → Int32) (v_allergic : Nat → Int32) (v_deaths : Nat → Int32) (hom : homOK v_homes v_many hk hb pl) (shok : shOK G v_shelves sa hd ra rb rs rn rc sk si sb pl) (p1 : Int32) (p2 : Int32) (p3 : Int32) (res : Int32 × Int32 × Int32 × Int32 × Int32 × (Nat → Int32) × Int32 × Int32 × Int32 × (Nat → Int32) × (Nat → Int32)) (hE : sC_HW_noticed v_died v_leastWeight v_noticedBy v_noticed v_refusals v_tweight v_tfright v_tage v_tasked v_told v_many v_weight v_fright v_age v_asked v_homes v_allergic hk hb hd rs rn rc sk si sb p1 p2 p3 = some res) : vx_Met l yX0_noticed (wsW_ yX0_noticed cX0_noticed 5 (some .int) [((0 : Nat), (58 : Nat), (59 : Nat), (21 : Nat))]) ({ frames := 10, cells := 13, slots := 1241, locals := 10304 } : Room) (rPc G (xW G.2 ad v_latestFault v_died v_leastWeight v_noticedBy v_noticed v_orderDied v_orderLeast v_imaged v_shelves v_refusals v_ran v_bodies v_tweight v_tfright v_tage v_tasked v_told v_bestRow v_weight_a1 v_fright_a1 v_age_a1 v_asked_a1 v_weight_a2 v_fright_a2 v_age_a2 v_asked_a2 v_weight_a3 v_fright_a3 v_age_a3 v_asked_a3 v_weight_a4 v_fright_a4 v_age_a4 v_asked_a4 v_many v_pets v_last v_seed v_weight v_fright v_age v_asked v_homes v_marks v_had v_allergic v_deaths) pl (xWV ad) sz [.ref (ad 0), .int p1, .int p2, .int p3]) (tQc G (xW G.2 ad v_latestFault res.2.1 res.2.2.1 res.2.2.2.1 res.2.2.2.2.1 v_orderDied v_orderLeast v_imaged v_shelves res.2.2.2.2.2.1 v_ran v_bodies res.2.2.2.2.2.2.1 res.2.2.2.2.2.2.2.1 res.2.2.2.2.2.2.2.2.1 res.2.2.2.2.2.2.2.2.2.1 res.2.2.2.2.2.2.2.2.2.2 v_bestRow v_weight_a1 v_fright_a1 v_age_a1 v_asked_a1 v_weight_a2 v_fright_a2 v_age_a2 v_asked_a2 v_weight_a3 v_fright_a3 v_age_a3 v_asked_a3 v_weight_a4 v_fright_a4 v_age_a4 v_asked_a4 v_many v_pets v_last v_seed v_weight v_fright v_age v_asked v_homes v_marks v_had v_allergic v_deaths) [] (tA sz (xWV ad) []) (True) (some (.int res.1))) (tXC G (xW G.2 ad v_latestFault res.2.1 res.2.2.1 res.2.2.2.1 res.2.2.2.2.1 v_orderDied v_orderLeast v_imaged v_shelves res.2.2.2.2.2.1 v_ran v_bodies res.2.2.2.2.2.2.1 res.2.2.2.2.2.2.2.1 res.2.2.2.2.2.2.2.2.1 res.2.2.2.2.2.2.2.2.2.1 res.2.2.2.2.2.2.2.2.2.2 v_bestRow v_weight_a1 v_fright_a1 v_age_a1 v_asked_a1 v_weight_a2 v_fright_a2 v_age_a2 v_asked_a2 v_weight_a3 v_fright_a3 v_age_a3 v_asked_a3 v_weight_a4 v_fright_a4 v_age_a4 v_asked_a4 v_many v_pets v_last v_seed v_weight v_fright v_age v_asked v_homes v_marks v_had v_allergic v_deaths) [] (tA sz (xWV ad) []) 18 RX6 none sz) 13 1241 (tA sz (xWV ad) []) := by
  refine r_ofWH (own := RX0) (by decide) rfl (Nat.le_of_ble_eq_true rfl) ?_
  intro p e s m args below meth c ls C C0 D hml htab hP hS hl hr hlocks hsz
  have hl : lv_has ls 5 [(0, .ref (ad 0)), (1, .int p1), (2, .int p2), (3, .int p3)] := hl
  obtain ⟨Q, hQ⟩ : ∃ Q, Q = vx_MQ below (tQc G (xW G.2 ad v_latestFault res.2.1 res.2.2.1 res.2.2.2.1 res.2.2.2.2.1 v_orderDied v_orderLeast v_imaged v_shelves res.2.2.2.2.2.1 v_ran v_bodies res.2.2.2.2.2.2.1 res.2.2.2.2.2.2.2.1 res.2.2.2.2.2.2.2.2.1 res.2.2.2.2.2.2.2.2.2.1 res.2.2.2.2.2.2.2.2.2.2 v_bestRow v_weight_a1 v_fright_a1 v_age_a1 v_asked_a1 v_weight_a2 v_fright_a2 v_age_a2 v_asked_a2 v_weight_a3 v_fright_a3 v_age_a3 v_asked_a3 v_weight_a4 v_fright_a4 v_age_a4 v_asked_a4 v_many v_pets v_last v_seed v_weight v_fright v_age v_asked v_homes v_marks v_had v_allergic v_deaths) [] (tA sz (xWV ad) []) (True) (some (.int res.1))) (tXC G (xW G.2 ad v_latestFault res.2.1 res.2.2.1 res.2.2.2.1 res.2.2.2.2.1 v_orderDied v_orderLeast v_imaged v_shelves res.2.2.2.2.2.1 v_ran v_bodies res.2.2.2.2.2.2.1 res.2.2.2.2.2.2.2.1 res.2.2.2.2.2.2.2.2.1 res.2.2.2.2.2.2.2.2.2.1 res.2.2.2.2.2.2.2.2.2.2 v_bestRow v_weight_a1 v_fright_a1 v_age_a1 v_asked_a1 v_weight_a2 v_fright_a2 v_age_a2 v_asked_a2 v_weight_a3 v_fright_a3 v_age_a3 v_asked_a3 v_weight_a4 v_fright_a4 v_age_a4 v_asked_a4 v_many v_pets v_last v_seed v_weight v_fright v_age v_asked v_homes v_marks v_had v_allergic v_deaths) [] (tA sz (xWV ad) []) 18 RX6 none sz) args s 13 1241 (tA sz (xWV ad) []) := ⟨_, rfl⟩
  rw [← hQ]
  have hret : ∀ (pc : Nat) (ls : Array Slot) (H : Heap) (locs : List Loc), decode cX0_noticed pc = .ok (.ireturn, 1) → True → va_P G.1 vwCl (xW G.2 ad v_latestFault res.2.1 res.2.2.1 res.2.2.2.1 res.2.2.2.2.1 v_orderDied v_orderLeast v_imaged v_shelves res.2.2.2.2.2.1 v_ran v_bodies res.2.2.2.2.2.2.1 res.2.2.2.2.2.2.2.1 res.2.2.2.2.2.2.2.2.1 res.2.2.2.2.2.2.2.2.2.1 res.2.2.2.2.2.2.2.2.2.2 v_bestRow v_weight_a1 v_fright_a1 v_age_a1 v_asked_a1 v_weight_a2 v_fright_a2 v_age_a2 v_asked_a2 v_weight_a3 v_fright_a3 v_age_a3 v_asked_a3 v_weight_a4 v_fright_a4 v_age_a4 v_asked_a4 v_many v_pets v_last v_seed v_weight v_fright v_age v_asked v_homes v_marks v_had v_allergic v_deaths) H → va_S (tA sz (xWV ad) []) s.heap H locs → W p l e ({ frames := 10, cells := 13, slots := 1241, locals := 10304 } : Room) s m args below meth c H locs 13 1241 Q (F0 m pc ls [(.int res.1)]) := by
    intro pc ls H locs hd hφ hP hS
    rw [hQ]
    exact t_iret C0 hr hlocks hd hφ hP P_nil hS
  clear hQ
  obtain ⟨H, hH⟩ : ∃ H, H = s.heap := ⟨_, rfl⟩
  obtain ⟨locs, hlo⟩ : ∃ locs : List Loc, locs = [] := ⟨_, rfl⟩
  have hP : va_P G.1 vwCl (xW G.2 ad v_latestFault v_died v_leastWeight v_noticedBy v_noticed v_orderDied v_orderLeast v_imaged v_shelves v_refusals v_ran v_bodies v_tweight v_tfright v_tage v_tasked v_told v_bestRow v_weight_a1 v_fright_a1 v_age_a1 v_asked_a1 v_weight_a2 v_fright_a2 v_age_a2 v_asked_a2 v_weight_a3 v_fright_a3 v_age_a3 v_asked_a3 v_weight_a4 v_fright_a4 v_age_a4 v_asked_a4 v_many v_pets v_last v_seed v_weight v_fright v_age v_asked v_homes v_marks v_had v_allergic v_deaths) H := by rw [hH]; exact hP
  have hS : va_S (tA sz (xWV ad) []) s.heap H locs := by rw [hH, hlo]; exact hS
  suffices hZ : W p l e ({ frames := 10, cells := 13, slots := 1241, locals := 10304 } : Room) s m args below meth c H locs 0 0 Q (F0 m 0 ls []) by rw [hH, hlo] at hZ; exact hZ
  clear hH hlo
  unfold sC_HW_noticed at hE
  refine lv_aload_n C.1 C.2.1 dX0_noticed_0 rfl (lv_at hl 0 rfl) ?_
  refine lv_iload_n C.1 C.2.1 dX0_noticed_1 rfl (lv_at hl 1 rfl) ?_
  refine lv_iload_n C.1 C.2.1 dX0_noticed_2 rfl (lv_at hl 2 rfl) ?_
  obtain ⟨r1, hr1, hE⟩ := it_b hE
  refine t_afterS C0 D hP P_nil hS (vx_runV (As := [.int p1, .int p2]) (rest := []) ⟨C.1, C.2.1, hml, C.2.2.1, C.2.2.2.1⟩ (metC_HW_toldAt l hfl G ad pl sa ra rb hd rs rn rc sk si sb H.size _ _ _ _ _ _ _ _ _ _ _ _ _ _ _ _ _ _ _ _ _ _ _ _ _ _ _ _ _ _ _ _ _ _ _ _ _ _ _ _ _ _ _ _ _ _ _ shok p1 p2 r1 hr1) (cwV (C := RX0) 2 C.2.2.2.1 (lw_V q1057 q1059 qs20 q80 q1060) rfl rfl rfl (by decide +kernel) ⟨Nat.le_of_ble_eq_true rfl, Nat.le_of_ble_eq_true rfl⟩) (rr_preV0 C D hP hS (va_recv C.2.2.2.2.1 hP (ci := 16) (q0 := 0) rfl rfl)) rfl rfl hl.1 rfl (lv_room (Nat.le_of_ble_eq_true rfl)) dX0_noticed_3 ⟨Nat.le_of_ble_eq_true rfl, Nat.le_of_ble_eq_true rfl⟩) xW_av (fun hφ H locs hP _ hS => ?_) (fun w q H locs hw hq hc hP _ hS => ?_)
  · have hE := it_t hφ hE
    obtain ⟨hgg3, hdg3⟩ := told_ok hr1 hφ
    obtain ⟨hsag3, hshg3⟩ := shok _ (gi_lt hgg3)
    have hrwg3 := (shAt_1 hshg3 hdg3).2
    refine lv_astore (lv' := [(4, .ref (ra (p1).toNatClampNeg)), (0, .ref (ad 0)), (1, .int p1), (2, .int p2), (3, .int p3)]) C.1 C.2.1 dX0_noticed_6 hl (by decide) rfl (fun ls hl => ?_)
    refine lv_iload_n C.1 C.2.1 dX0_noticed_8 rfl (lv_at hl 4 rfl) ?_
    refine lv_i2l C.1 C.2.1 dX0_noticed_9 rfl ?_
    refine lv_lconst (v := 0) C.1 C.2.1 dX0_noticed_10 (by decide) ?_
    refine lv_ldc2 C.1 C.2.1 C.2.2.1 (C.2.2.2.1 _ q778) dX0_noticed_11 ?_
    obtain ⟨r4, hr4, hE⟩ := it_b hE
    refine n_after [] C.2.2.2.2.2.1 C.2.2.2.2.2.2.2.1 hP hS (va_runS (As := [.long ((p3 : Int32).toInt64), .long 0, .long 400]) (rest := []) ⟨C.1, C.2.1, hml, C.2.2.1, C.2.2.2.1⟩ (metC_HW_in l G ad pl  ((p3 : Int32).toInt64) 0 400  r4 hr4) (va_cwS 3 C.2.2.2.1 (lw_S q401 q402 q80 q403) rfl rfl rfl (by decide +kernel) ⟨Nat.le_of_ble_eq_true rfl, Nat.le_of_ble_eq_true rfl⟩) (n_preS C hP hS [] rfl (by decide) rfl) rfl rfl hl.1 rfl (lv_room (Nat.le_of_ble_eq_true rfl)) dX0_noticed_14 ⟨Nat.le_of_ble_eq_true rfl, Nat.le_of_ble_eq_true rfl⟩) xW_av rfl rfl rfl (fun H locs hP hS => ?_)
    refine lv_bipush (v := (-6)) C.1 C.2.1 dX0_noticed_17 (by decide) ?_
    refine t_after [] C0 D hP P_nil hS (vx_runS (As := [.int r4, .int (-6)]) (rest := []) ⟨C.1, C.2.1, hml, C.2.2.1, C.2.2.2.1⟩ (metC_HW_need l hfl G ad pl H.size r4 (-6) _ (need_eq _ _)) (va_cwS 2 C.2.2.2.1 (lw_S q397 q398 q80 q399) rfl rfl rfl (by decide +kernel) ⟨Nat.le_of_ble_eq_true rfl, Nat.le_of_ble_eq_true rfl⟩) (rr_preS C D hP hS [] rfl (by decide) rfl) rfl rfl hl.1 rfl (lv_room (Nat.le_of_ble_eq_true rfl)) dX0_noticed_19 ⟨Nat.le_of_ble_eq_true rfl, Nat.le_of_ble_eq_true rfl⟩) xW_av rfl rfl rfl (fun hφ H locs hP _ hS => ?_) (fun w q H locs hw hq hc hP _ hS => ?_)
    · have hE := it_f (nd_n hφ) hE
      refine lv_aload_n C.1 C.2.1 dX0_noticed_22 rfl (lv_at hl 1 rfl) ?_
      refine lv_aload C.1 C.2.1 dX0_noticed_23 (lv_at hl 0 rfl) ?_
      refine lv_iload_n C.1 C.2.1 dX0_noticed_25 rfl (lv_at hl 3 rfl) ?_
      obtain ⟨r7, hr7, hE⟩ := it_b hE
      refine t_afterS C0 D hP P_nil hS (vx_runV (As := [.ref (ra (p1).toNatClampNeg), .int p2]) (rest := []) ⟨C.1, C.2.1, hml, C.2.2.1, C.2.2.2.1⟩ (metC_HW_mustBeRight l hfl G ad pl H.size _ _ _ _ _ _ _ _ _ _ _ _ _ _ _ _ _ _ _ _ _ _ _ _ _ _ _ _ _ _ _ _ _ _ _ _ _ _ _ _ _ _ _ _ _ _ _ (ra (p1).toNatClampNeg) (rs (p1).toNatClampNeg) (rb (p1).toNatClampNeg) (rn (p1).toNatClampNeg) (rc (p1).toNatClampNeg) p2 hrwg3 r7 hr7) (cwV (C := RX0) 2 C.2.2.2.1 (lw_V q1072 q1074 qs22 q80 q1075) rfl rfl rfl (by decide +kernel) ⟨Nat.le_of_ble_eq_true rfl, Nat.le_of_ble_eq_true rfl⟩) (rr_preV0 C D hP hS (va_recv C.2.2.2.2.1 hP (ci := 16) (q0 := 0) rfl rfl)) rfl rfl hl.1 rfl (lv_room (Nat.le_of_ble_eq_true rfl)) dX0_noticed_26 ⟨Nat.le_of_ble_eq_true rfl, Nat.le_of_ble_eq_true rfl⟩) xW_av (fun hφ H locs hP _ hS => ?_) (fun w q H locs hw hq hc hP _ hS => ?_)
      · have hE := it_t hφ hE
        refine lv_aload_n C.1 C.2.1 dX0_noticed_29 rfl (lv_at hl 1 rfl) ?_
        refine lv_iload_n C.1 C.2.1 dX0_noticed_30 rfl (lv_at hl 4 rfl) ?_
        refine xWp_0_11 q249 C hP hS dX0_noticed_31 (fun H locs hP hS => ?_)
        refine lv_aload_n C.1 C.2.1 dX0_noticed_34 rfl (lv_at hl 1 rfl) ?_
        refine xWg_0_3 q241 C hP dX0_noticed_35 ?_
        refine lv_aload_n C.1 C.2.1 dX0_noticed_38 rfl (lv_at hl 1 rfl) ?_
        refine xWg_0_6 q244 C hP dX0_noticed_39 ?_
        refine xWg_18_4 q191 C hP dX0_noticed_42 ?_
        obtain ⟨r9, hr9, hE⟩ := it_b hE
        refine n_after [5, 6, 19, 20] C.2.2.2.2.2.1 C.2.2.2.2.2.2.2.1 hP hS (va_runV (As := [.ref (ad 19)]) (rest := []) ⟨C.1, C.2.1, hml, C.2.2.1, C.2.2.2.1⟩ (metC_Pet_take l G (fun i => ad (if i < 2 then 5 + i else 19 + (i - 2))) pl _ _ _ _ _ _ _ _   r9 hr9) (cwV (C := RX2) 1 C.2.2.2.1 (lw_V q1076 q796 q797 q82 q798) rfl rfl rfl (by decide +kernel) ⟨Nat.le_of_ble_eq_true rfl, Nat.le_of_ble_eq_true rfl⟩) (n_preV C hP hS [5, 6, 19, 20] sub_xW_ppW_5_19 (by decide) rfl (va_recv C.2.2.2.2.1 hP (ci := 11) (q0 := 5) rfl rfl)) rfl rfl hl.1 rfl (lv_room (Nat.le_of_ble_eq_true rfl)) dX0_noticed_45 ⟨Nat.le_of_ble_eq_true rfl, Nat.le_of_ble_eq_true rfl⟩) xW_av rfl rfl mg_xW_ppW_5_19 (fun H locs hP hS => ?_)
        refine lv_pop C.1 C.2.1 dX0_noticed_48 rfl ?_
        refine lv_aload_n C.1 C.2.1 dX0_noticed_49 rfl (lv_at hl 1 rfl) ?_
        refine lv_iload_n C.1 C.2.1 dX0_noticed_50 rfl (lv_at hl 3 rfl) ?_
        obtain ⟨r10, hr10, hE⟩ := it_b hE
        refine n_afterS C.2.2.2.2.2.2.2.1 hS (va_runV (As := [.int p2]) (rest := []) ⟨C.1, C.2.1, hml, C.2.2.1, C.2.2.2.1⟩ (metC_HW_goesRow l G ad pl hk hb _ _ _ _ _ _ _ _ _ _ _ _ _ _ _ _ _ _ _ _ _ _ _ _ _ _ _ _ _ _ _ _ _ _ _ _ _ _ _ _ _ _ _ _ _ _ _ hom p2  r10 hr10) (cwV (C := RX0) 1 C.2.2.2.1 (lw_V q1077 q1079 qs23 q80 q1080) rfl rfl rfl (by decide +kernel) ⟨Nat.le_of_ble_eq_true rfl, Nat.le_of_ble_eq_true rfl⟩) (n_preV0 C hP hS (va_recv C.2.2.2.2.1 hP (ci := 16) (q0 := 0) rfl rfl)) rfl rfl hl.1 rfl (lv_room (Nat.le_of_ble_eq_true rfl)) dX0_noticed_51 ⟨Nat.le_of_ble_eq_true rfl, Nat.le_of_ble_eq_true rfl⟩) (fun H locs hP hS => ?_)
        refine lv_aload_n C.1 C.2.1 dX0_noticed_54 rfl (lv_at hl 1 rfl) ?_
        refine xWg_0_12 q250 C hP dX0_noticed_55 ?_
        obtain rfl := Option.some.inj hE
        exact hret _ _ _ _ dX0_noticed_58 trivial hP hS
      · have hE := it_f (by rw [hw]; exact fun h => nomatch h) hE
        obtain ⟨q8, rfl⟩ : ∃ z, z = q := ⟨_, rfl⟩
        obtain rfl : w = (r7.1.getD 0) := by rw [hw]; rfl
        obtain ⟨ce, g1, g2, g3⟩ := t_cell C0 hc rfl
        refine t_catch (name := "HamsterWeekends$Refused") (E := "HamsterWeekends$Refused") C0 D [] ⟨0, 58, 59, 21⟩ [] htab (fun z hz => nomatch hz) rfl (by decide) q291 (List.mem_of_getElem? (i := 1) rfl) g1 g2 g3 ?_
        refine W.eq (g2 := F0 m 59 ls [.ref q8]) rfl ?_
        refine lv_astore (lv' := [(4, .ref q8), (0, .ref (ad 0)), (1, .int p1), (2, .int p2), (3, .int p3)]) C.1 C.2.1 dX0_noticed_59 hl (by decide) rfl (fun ls hl => ?_)
        refine lv_aload_n C.1 C.2.1 dX0_noticed_61 rfl (lv_at hl 1 rfl) ?_
        refine lv_aload C.1 C.2.1 dX0_noticed_62 (lv_at hl 0 rfl) ?_
        obtain ⟨r11, hr11, hE⟩ := it_b hE
        refine n_afterS C.2.2.2.2.2.2.2.1 hS (va_runV (As := [.ref q8]) (rest := []) ⟨C.1, C.2.1, hml, C.2.2.1, C.2.2.2.1⟩ (metC_HW_refused l G ad [(q8, .inr (18, xF (r7.1.getD 0)))] _ _ _ _ _ _ _ _ _ _ _ _ _ _ _ _ _ _ _ _ _ _ _ _ _ _ _ _ _ _ _ _ _ _ _ _ _ _ _ _ _ _ _ _ _ _ _ q8 (r7.1.getD 0) (List.mem_singleton.mpr rfl) r11 hr11) (cwV (C := RX0) 1 C.2.2.2.1 (lw_V q466 q468 qs2 q80 q469) rfl rfl rfl (by decide +kernel) ⟨Nat.le_of_ble_eq_true rfl, Nat.le_of_ble_eq_true rfl⟩) (t_preX C0 hP hc hq.1 (va_recv C.2.2.2.2.1 hP (ci := 16) (q0 := 0) rfl rfl)) rfl rfl hl.1 rfl (lv_room (Nat.le_of_ble_eq_true rfl)) dX0_noticed_64 ⟨Nat.le_of_ble_eq_true rfl, Nat.le_of_ble_eq_true rfl⟩) (fun H locs hP hS => ?_)
        obtain rfl := Option.some.inj hE
        exact hret _ _ _ _ dX0_noticed_67 trivial hP hS
    · obtain ⟨c5, rfl⟩ := nd_x hw
      obtain ⟨q6, rfl⟩ : ∃ z, z = q := ⟨_, rfl⟩
      have hE := it_t c5 hE
      obtain ⟨ce, g1, g2, g3⟩ := t_cell C0 hc rfl
      refine t_catch (name := "HamsterWeekends$Refused") (E := "HamsterWeekends$Refused") C0 D [] ⟨0, 58, 59, 21⟩ [] htab (fun z hz => nomatch hz) rfl (by decide) q291 (List.mem_of_getElem? (i := 1) rfl) g1 g2 g3 ?_
      refine W.eq (g2 := F0 m 59 ls [.ref q6]) rfl ?_
      refine lv_astore (lv' := [(4, .ref q6), (0, .ref (ad 0)), (1, .int p1), (2, .int p2), (3, .int p3)]) C.1 C.2.1 dX0_noticed_59 hl (by decide) rfl (fun ls hl => ?_)
      refine lv_aload_n C.1 C.2.1 dX0_noticed_61 rfl (lv_at hl 1 rfl) ?_
      refine lv_aload C.1 C.2.1 dX0_noticed_62 (lv_at hl 0 rfl) ?_
      obtain ⟨r12, hr12, hE⟩ := it_b hE
      refine n_afterS C.2.2.2.2.2.2.2.1 hS (va_runV (As := [.ref q6]) (rest := []) ⟨C.1, C.2.1, hml, C.2.2.1, C.2.2.2.1⟩ (metC_HW_refused l G ad [(q6, .inr (18, xF (-6)))] _ _ _ _ _ _ _ _ _ _ _ _ _ _ _ _ _ _ _ _ _ _ _ _ _ _ _ _ _ _ _ _ _ _ _ _ _ _ _ _ _ _ _ _ _ _ _ q6 (-6) (List.mem_singleton.mpr rfl) r12 hr12) (cwV (C := RX0) 1 C.2.2.2.1 (lw_V q466 q468 qs2 q80 q469) rfl rfl rfl (by decide +kernel) ⟨Nat.le_of_ble_eq_true rfl, Nat.le_of_ble_eq_true rfl⟩) (t_preX C0 hP hc hq.1 (va_recv C.2.2.2.2.1 hP (ci := 16) (q0 := 0) rfl rfl)) rfl rfl hl.1 rfl (lv_room (Nat.le_of_ble_eq_true rfl)) dX0_noticed_64 ⟨Nat.le_of_ble_eq_true rfl, Nat.le_of_ble_eq_true rfl⟩) (fun H locs hP hS => ?_)
      obtain rfl := Option.some.inj hE
      refine W.widen (k := 13) (n := 1241) (Nat.le_of_ble_eq_true rfl) (Nat.le_of_ble_eq_true rfl) ?_
      exact hret _ _ _ _ dX0_noticed_67 trivial hP hS
  · have hE := it_f (by rw [hw]; exact fun h => nomatch h) hE
    obtain ⟨q2, rfl⟩ : ∃ z, z = q := ⟨_, rfl⟩
    obtain rfl : w = (r1.getD 0) := by rw [hw]; rfl
    obtain ⟨ce, g1, g2, g3⟩ := t_cell C0 hc rfl
    refine t_catch (name := "HamsterWeekends$Refused") (E := "HamsterWeekends$Refused") C0 D [] ⟨0, 58, 59, 21⟩ [] htab (fun z hz => nomatch hz) rfl (by decide) q291 (List.mem_of_getElem? (i := 1) rfl) g1 g2 g3 ?_
    refine W.eq (g2 := F0 m 59 ls [.ref q2]) rfl ?_
    refine lv_astore (lv' := [(4, .ref q2), (0, .ref (ad 0)), (1, .int p1), (2, .int p2), (3, .int p3)]) C.1 C.2.1 dX0_noticed_59 hl (by decide) rfl (fun ls hl => ?_)
    refine lv_aload_n C.1 C.2.1 dX0_noticed_61 rfl (lv_at hl 1 rfl) ?_
    refine lv_aload C.1 C.2.1 dX0_noticed_62 (lv_at hl 0 rfl) ?_
    obtain ⟨r13, hr13, hE⟩ := it_b hE
    refine n_afterS C.2.2.2.2.2.2.2.1 hS (va_runV (As := [.ref q2]) (rest := []) ⟨C.1, C.2.1, hml, C.2.2.1, C.2.2.2.1⟩ (metC_HW_refused l G ad [(q2, .inr (18, xF (r1.getD 0)))] _ _ _ _ _ _ _ _ _ _ _ _ _ _ _ _ _ _ _ _ _ _ _ _ _ _ _ _ _ _ _ _ _ _ _ _ _ _ _ _ _ _ _ _ _ _ _ q2 (r1.getD 0) (List.mem_singleton.mpr rfl) r13 hr13) (cwV (C := RX0) 1 C.2.2.2.1 (lw_V q466 q468 qs2 q80 q469) rfl rfl rfl (by decide +kernel) ⟨Nat.le_of_ble_eq_true rfl, Nat.le_of_ble_eq_true rfl⟩) (t_preX C0 hP hc hq.1 (va_recv C.2.2.2.2.1 hP (ci := 16) (q0 := 0) rfl rfl)) rfl rfl hl.1 rfl (lv_room (Nat.le_of_ble_eq_true rfl)) dX0_noticed_64 ⟨Nat.le_of_ble_eq_true rfl, Nat.le_of_ble_eq_true rfl⟩) (fun H locs hP hS => ?_)
    obtain rfl := Option.some.inj hE
    refine W.widen (k := 13) (n := 1241) (Nat.le_of_ble_eq_true rfl) (Nat.le_of_ble_eq_true rfl) ?_
    exact hret _ _ _ _ dX0_noticed_67 trivial hP hS
def sC_HW_swap_h66 (x2 : Int32) (x7 : Int32) (v_noticedBy : Int32) (v_many : Int32) (v_weight : Int32) (v_fright : Int32) (v_age : Int32) (v_asked : Nat → Int32) (v_homes : Nat → Option Nat) (hk : Nat → Nat) (hb : Nat → Int32) : Nat → Int32 → Int32 → Int32 → Int32 → Int32 → Int32 → Int32 → Int32 → Int32 → Int32 → (Nat → Int32) → (Nat → Int32) → Option (Int32 × Int32 × Int32 × Int32 × Int32 × Int32 × Int32 × Int32 × Int32 × (Nat → Int32) × (Nat → Int32))
  | 0, _, _, _, _, _, _, _, _, _, _, _, _ => none
  | fuel + 1, x4, x5, x6, x8, v_died, v_leastWeight, v_noticed, v_tweight, v_tfright, v_tage, v_tasked, v_told =>
    if x2 ≤ x8 then
      some (x4, x5, x6, v_died, v_leastWeight, v_noticed, v_tweight, v_tfright, v_tage, v_tasked, v_told)
    else
      (sC_HW_changes v_told x7 x8).bind fun r6702 =>
      (sC_Pet_take v_tweight v_tfright v_tage v_tasked v_weight v_fright v_age v_asked).bind fun r6703 =>
      (sC_HW_goesRow v_died v_leastWeight v_noticedBy v_noticed r6703.1 r6703.2.1 r6703.2.2.1 r6703.2.2.2 r6702 v_many v_homes hk hb x2).bind fun r6704 =>
      (sC_HW_changes r6702 x7 x8).bind fun r6705 =>
      @Option.bind (Int32 × Int32 × Int32) _ (
        if r6704.1 < x5 then
          some (((100 * x7) + x8), r6704.1, r6704.2.2.2.1)
        else
          if r6704.1 = x5 then
            if r6704.2.2.2.1 ≤ x6 then
              some (x4, x5, x6)
            else
              some (((100 * x7) + x8), r6704.1, r6704.2.2.2.1)
          else
            some (x4, x5, x6)) fun u6707 =>
      sC_HW_swap_h66 x2 x7 v_noticedBy v_many v_weight v_fright v_age v_asked v_homes hk hb fuel u6707.1 u6707.2.1 u6707.2.2 (x8 + 1) r6704.1 r6704.2.1 r6704.2.2.1 r6704.2.2.2.1 r6704.2.2.2.2.1 r6704.2.2.2.2.2 r6703.2.2.2 r6705
def sC_HW_swap_h54 (x2 : Int32) (v_noticedBy : Int32) (v_many : Int32) (v_weight : Int32) (v_fright : Int32) (v_age : Int32) (v_asked : Nat → Int32) (v_homes : Nat → Option Nat) (hk : Nat → Nat) (hb : Nat → Int32) : Nat → Int32 → Int32 → Int32 → Int32 → Int32 → Int32 → Int32 → Int32 → Int32 → Int32 → (Nat → Int32) → (Nat → Int32) → Option (Int32 × Int32 × Int32 × Int32 × Int32 × Int32 × Int32 × (Nat → Int32) × (Nat → Int32))
  | 0, _, _, _, _, _, _, _, _, _, _, _, _ => none
  | fuel + 1, x4, x5, x6, x7, v_died, v_leastWeight, v_noticed, v_tweight, v_tfright, v_tage, v_tasked, v_told =>
    if x2 ≤ x7 then
      some (x4, v_died, v_leastWeight, v_noticed, v_tweight, v_tfright, v_tage, v_tasked, v_told)
    else
      (sC_HW_swap_h66 x2 x7 v_noticedBy v_many v_weight v_fright v_age v_asked v_homes hk hb 2000 x4 x5 x6 (x7 + 1) v_died v_leastWeight v_noticed v_tweight v_tfright v_tage v_tasked v_told).bind fun u5502 =>
      sC_HW_swap_h54 x2 v_noticedBy v_many v_weight v_fright v_age v_asked v_homes hk hb fuel u5502.1 u5502.2.1 u5502.2.2.1 (x7 + 1) u5502.2.2.2.1 u5502.2.2.2.2.1 u5502.2.2.2.2.2.1 u5502.2.2.2.2.2.2.1 u5502.2.2.2.2.2.2.2.1 u5502.2.2.2.2.2.2.2.2.1 u5502.2.2.2.2.2.2.2.2.2.1 u5502.2.2.2.2.2.2.2.2.2.2
def sC_HW_swap (v_died : Int32) (v_leastWeight : Int32) (v_noticedBy : Int32) (v_noticed : Int32) (v_refusals : Nat → Int32) (v_tweight : Int32) (v_tfright : Int32) (v_tage : Int32) (v_tasked : Nat → Int32) (v_told : Nat → Int32) (v_many : Int32) (v_weight : Int32) (v_fright : Int32) (v_age : Int32) (v_asked : Nat → Int32) (v_homes : Nat → Option Nat) (v_allergic : Nat → Int32) (hk : Nat → Nat) (hb : Nat → Int32) (hd : Nat → Nat) (rs : Nat → Nat) (rn : Nat → Nat) (rc : Nat → Nat → Int64) (sk : Nat → Nat) (si : Nat → Int32) (sb : Nat → Int32) (p1 : Int32) (p2 : Int32) : Option (Int32 × Int32 × Int32 × Int32 × (Nat → Int32) × Int32 × Int32 × Int32 × (Nat → Int32) × (Nat → Int32)) :=
  (sC_HW_toldAt hd rs rn rc sk si sb p1 p2).bind fun r1 =>
  if r1 = none then
    (sC_HW_mustBeRight v_told v_many v_allergic (rn (p1).toNatClampNeg) (rc (p1).toNatClampNeg) p2).bind fun r4 =>
    if r4.1 = none then
      (sC_Pet_take v_tweight v_tfright v_tage v_tasked v_weight v_fright v_age v_asked).bind fun r6 =>
      (sC_HW_goesRow v_died v_leastWeight v_noticedBy v_noticed r6.1 r6.2.1 r6.2.2.1 r6.2.2.2 r4.2 v_many v_homes hk hb p2).bind fun r7 =>
      (sC_HW_swap_h54 p2 v_noticedBy v_many v_weight v_fright v_age v_asked v_homes hk hb 2000 (-1) r7.1 r7.2.2.2.1 0 r7.1 r7.2.1 r7.2.2.1 r7.2.2.2.1 r7.2.2.2.2.1 r7.2.2.2.2.2 r6.2.2.2 r4.2).bind fun u8 =>
      some (u8.1, u8.2.1, u8.2.2.1, u8.2.2.2.1, v_refusals, u8.2.2.2.2.1, u8.2.2.2.2.2.1, u8.2.2.2.2.2.2.1, u8.2.2.2.2.2.2.2.1, u8.2.2.2.2.2.2.2.2)
    else
      (sC_HW_refused v_refusals (r4.1.getD 0)).bind fun r9 =>
      some ((r9.1 - 10), v_died, v_leastWeight, v_noticed, r9.2, v_tweight, v_tfright, v_tage, v_tasked, r4.2)
  else
    (sC_HW_refused v_refusals (r1.getD 0)).bind fun r10 =>
    some ((r10.1 - 10), v_died, v_leastWeight, v_noticed, r10.2, v_tweight, v_tfright, v_tage, v_tasked, v_told)
set_option maxHeartbeats 4000000 in
theorem wC_HW_swap_h66 {p : Program} {l : Launch} {e : Env} {s : State} {m : MethodId} {args : Array Value} {below : List Frame} {meth : Method} {c : Code} {Q : State → Prop} {G : kG} {ad : Nat → Nat} {pl : va_W} {hk : Nat → Nat} {hb : Nat → Int32} {sa ra rb hd rs rn : Nat → Nat} {rc : Nat → Nat → Int64} {sk : Nat → Nat} {si sb : Nat → Int32} {sz : Nat} {v_latestFault : Int32} {v_noticedBy : Int32} {v_orderDied : Int32} {v_orderLeast : Int32} {v_imaged : Option Nat} {v_shelves : Nat → Option Nat} {v_refusals : Nat → Int32} {v_ran : Int32} {v_bodies : Nat → Int32} {v_bestRow : Nat → Int32} {v_weight_a1 : Int32} {v_fright_a1 : Int32} {v_age_a1 : Int32} {v_asked_a1 : Nat → Int32} {v_weight_a2 : Int32} {v_fright_a2 : Int32} {v_age_a2 : Int32} {v_asked_a2 : Nat → Int32} {v_weight_a3 : Int32} {v_fright_a3 : Int32} {v_age_a3 : Int32} {v_asked_a3 : Nat → Int32} {v_weight_a4 : Int32} {v_fright_a4 : Int32} {v_age_a4 : Int32} {v_asked_a4 : Nat → Int32} {v_many : Int32} {v_pets : Int32} {v_last : Int32} {v_seed : Int32} {v_weight : Int32} {v_fright : Int32} {v_age : Int32} {v_asked : Nat → Int32} {v_homes : Nat → Option Nat} {v_marks : Nat → Int32} {v_had : Nat → Int32} {v_allergic : Nat → Int32} {v_deaths : Nat → Int32} (C : nC p s m args c cX0_swap RX0 G (xWV ad) pl (tA sz (xWV ad) [])) (hml : c.maxLocals = 9)  (D : tD s (xWV ad) [] (tA sz (xWV ad) [])) (hom : homOK v_homes v_many hk hb pl) (shok : shOK G v_shelves sa hd ra rb rs rn rc sk si sb pl) (x2 : Int32) (x7 : Int32) (res : Int32 × Int32 × Int32 × Int32 × Int32 × Int32 × Int32 × Int32 × Int32 × (Nat → Int32) × (Nat → Int32)) :
    ∀ (fuel : Nat) (x4 : Int32) (x5 : Int32) (x6 : Int32) (x8 : Int32) (v_died : Int32) (v_leastWeight : Int32) (v_noticed : Int32) (v_tweight : Int32) (v_tfright : Int32) (v_tage : Int32) (v_tasked : Nat → Int32) (v_told : Nat → Int32) (H : Heap) (locs : List Loc) (ls : Array Slot), sC_HW_swap_h66 x2 x7 v_noticedBy v_many v_weight v_fright v_age v_asked v_homes hk hb fuel x4 x5 x6 x8 v_died v_leastWeight v_noticed v_tweight v_tfright v_tage v_tasked v_told = some res → va_P G.1 vwCl (xW G.2 ad v_latestFault v_died v_leastWeight v_noticedBy v_noticed v_orderDied v_orderLeast v_imaged v_shelves v_refusals v_ran v_bodies v_tweight v_tfright v_tage v_tasked v_told v_bestRow v_weight_a1 v_fright_a1 v_age_a1 v_asked_a1 v_weight_a2 v_fright_a2 v_age_a2 v_asked_a2 v_weight_a3 v_fright_a3 v_age_a3 v_asked_a3 v_weight_a4 v_fright_a4 v_age_a4 v_asked_a4 v_many v_pets v_last v_seed v_weight v_fright v_age v_asked v_homes v_marks v_had v_allergic v_deaths) H → va_S (tA sz (xWV ad) []) s.heap H locs → lv_has ls 9 [(0, .ref (ad 0)), (2, .int x2), (4, .int x4), (5, .int x5), (6, .int x6), (7, .int x7), (8, .int x8)] → (∀ (H : Heap) (locs : List Loc) (ls : Array Slot), va_P G.1 vwCl (xW G.2 ad v_latestFault res.2.2.2.1 res.2.2.2.2.1 v_noticedBy res.2.2.2.2.2.1 v_orderDied v_orderLeast v_imaged v_shelves v_refusals v_ran v_bodies res.2.2.2.2.2.2.1 res.2.2.2.2.2.2.2.1 res.2.2.2.2.2.2.2.2.1 res.2.2.2.2.2.2.2.2.2.1 res.2.2.2.2.2.2.2.2.2.2 v_bestRow v_weight_a1 v_fright_a1 v_age_a1 v_asked_a1 v_weight_a2 v_fright_a2 v_age_a2 v_asked_a2 v_weight_a3 v_fright_a3 v_age_a3 v_asked_a3 v_weight_a4 v_fright_a4 v_age_a4 v_asked_a4 v_many v_pets v_last v_seed v_weight v_fright v_age v_asked v_homes v_marks v_had v_allergic v_deaths) H → va_S (tA sz (xWV ad) []) s.heap H locs → lv_has ls 9 [(0, .ref (ad 0)), (2, .int x2), (4, .int res.1), (5, .int res.2.1), (6, .int res.2.2.1), (7, .int x7)] → W p l e ({ frames := 10, cells := 12, slots := 1234, locals := 10304 } : Room) s m args below meth c H locs 12 1234 Q (F0 m 169 ls [])) → W p l e ({ frames := 10, cells := 12, slots := 1234, locals := 10304 } : Room) s m args below meth c H locs 12 1234 Q (F0 m 66 ls []) := by
  intro fuel
  induction fuel with
  | zero =>
    intro x4 x5 x6 x8 v_died v_leastWeight v_noticed v_tweight v_tfright v_tage v_tasked v_told H locs ls hE
    exact it_n hE
  | succ fuel ih =>
    intro x4 x5 x6 x8 v_died v_leastWeight v_noticed v_tweight v_tfright v_tage v_tasked v_told H locs ls hE hP hS hl hX
    rw [sC_HW_swap_h66] at hE
    refine lv_iload C.1 C.2.1 dX0_swap_66 (lv_at hl 6 rfl) ?_
    refine lv_iload_n C.1 C.2.1 dX0_swap_68 rfl (lv_at hl 1 rfl) ?_
    refine lv_icmp_ge (tgt := 169) C.1 C.2.1 dX0_swap_69 (by decide) (fun c6701 => ?_) (fun c6701 => ?_)
    · have hE := it_t c6701 hE
      obtain rfl := Option.some.inj hE
      exact hX H locs ls hP hS (lv_sub hl [0, 1, 2, 3, 4, 5] rfl)
    · have hE := it_f c6701 hE
      refine lv_aload_n C.1 C.2.1 dX0_swap_72 rfl (lv_at hl 0 rfl) ?_
      refine lv_iload C.1 C.2.1 dX0_swap_73 (lv_at hl 5 rfl) ?_
      refine lv_iload C.1 C.2.1 dX0_swap_75 (lv_at hl 6 rfl) ?_
      obtain ⟨r6702, hr6702, hE⟩ := it_b hE
      refine n_afterS C.2.2.2.2.2.2.2.1 hS (va_runV (As := [.int x7, .int x8]) (rest := []) ⟨C.1, C.2.1, hml, C.2.2.1, C.2.2.2.1⟩ (metC_HW_changes l G ad pl _ _ _ _ _ _ _ _ _ _ _ _ _ _ _ _ _ _ _ _ _ _ _ _ _ _ _ _ _ _ _ _ _ _ _ _ _ _ _ _ _ _ _ _ _ _ _ x7 x8  r6702 hr6702) (cwV (C := RX0) 2 C.2.2.2.1 (lw_V q1101 q1103 qs24 q80 q1104) rfl rfl rfl (by decide +kernel) ⟨Nat.le_of_ble_eq_true rfl, Nat.le_of_ble_eq_true rfl⟩) (n_preV0 C hP hS (va_recv C.2.2.2.2.1 hP (ci := 16) (q0 := 0) rfl rfl)) rfl rfl hl.1 rfl (lv_room (Nat.le_of_ble_eq_true rfl)) dX0_swap_77 ⟨Nat.le_of_ble_eq_true rfl, Nat.le_of_ble_eq_true rfl⟩) (fun H locs hP hS => ?_)
      refine lv_aload_n C.1 C.2.1 dX0_swap_80 rfl (lv_at hl 0 rfl) ?_
      refine xWg_0_3 q241 C hP dX0_swap_81 ?_
      refine lv_aload_n C.1 C.2.1 dX0_swap_84 rfl (lv_at hl 0 rfl) ?_
      refine xWg_0_6 q244 C hP dX0_swap_85 ?_
      refine xWg_18_4 q191 C hP dX0_swap_88 ?_
      obtain ⟨r6703, hr6703, hE⟩ := it_b hE
      refine n_after [5, 6, 19, 20] C.2.2.2.2.2.1 C.2.2.2.2.2.2.2.1 hP hS (va_runV (As := [.ref (ad 19)]) (rest := []) ⟨C.1, C.2.1, hml, C.2.2.1, C.2.2.2.1⟩ (metC_Pet_take l G (fun i => ad (if i < 2 then 5 + i else 19 + (i - 2))) pl _ _ _ _ _ _ _ _   r6703 hr6703) (cwV (C := RX2) 1 C.2.2.2.1 (lw_V q1076 q796 q797 q82 q798) rfl rfl rfl (by decide +kernel) ⟨Nat.le_of_ble_eq_true rfl, Nat.le_of_ble_eq_true rfl⟩) (n_preV C hP hS [5, 6, 19, 20] sub_xW_ppW_5_19 (by decide) rfl (va_recv C.2.2.2.2.1 hP (ci := 11) (q0 := 5) rfl rfl)) rfl rfl hl.1 rfl (lv_room (Nat.le_of_ble_eq_true rfl)) dX0_swap_91 ⟨Nat.le_of_ble_eq_true rfl, Nat.le_of_ble_eq_true rfl⟩) xW_av rfl rfl mg_xW_ppW_5_19 (fun H locs hP hS => ?_)
      refine lv_pop C.1 C.2.1 dX0_swap_94 rfl ?_
      refine lv_aload_n C.1 C.2.1 dX0_swap_95 rfl (lv_at hl 0 rfl) ?_
      refine lv_iload_n C.1 C.2.1 dX0_swap_96 rfl (lv_at hl 1 rfl) ?_
      obtain ⟨r6704, hr6704, hE⟩ := it_b hE
      refine n_afterS C.2.2.2.2.2.2.2.1 hS (va_runV (As := [.int x2]) (rest := []) ⟨C.1, C.2.1, hml, C.2.2.1, C.2.2.2.1⟩ (metC_HW_goesRow l G ad pl hk hb _ _ _ _ _ _ _ _ _ _ _ _ _ _ _ _ _ _ _ _ _ _ _ _ _ _ _ _ _ _ _ _ _ _ _ _ _ _ _ _ _ _ _ _ _ _ _ hom x2  r6704 hr6704) (cwV (C := RX0) 1 C.2.2.2.1 (lw_V q1077 q1079 qs23 q80 q1080) rfl rfl rfl (by decide +kernel) ⟨Nat.le_of_ble_eq_true rfl, Nat.le_of_ble_eq_true rfl⟩) (n_preV0 C hP hS (va_recv C.2.2.2.2.1 hP (ci := 16) (q0 := 0) rfl rfl)) rfl rfl hl.1 rfl (lv_room (Nat.le_of_ble_eq_true rfl)) dX0_swap_97 ⟨Nat.le_of_ble_eq_true rfl, Nat.le_of_ble_eq_true rfl⟩) (fun H locs hP hS => ?_)
      refine lv_aload_n C.1 C.2.1 dX0_swap_100 rfl (lv_at hl 0 rfl) ?_
      refine lv_iload C.1 C.2.1 dX0_swap_101 (lv_at hl 5 rfl) ?_
      refine lv_iload C.1 C.2.1 dX0_swap_103 (lv_at hl 6 rfl) ?_
      obtain ⟨r6705, hr6705, hE⟩ := it_b hE
      refine n_afterS C.2.2.2.2.2.2.2.1 hS (va_runV (As := [.int x7, .int x8]) (rest := []) ⟨C.1, C.2.1, hml, C.2.2.1, C.2.2.2.1⟩ (metC_HW_changes l G ad pl _ _ _ _ _ _ _ _ _ _ _ _ _ _ _ _ _ _ _ _ _ _ _ _ _ _ _ _ _ _ _ _ _ _ _ _ _ _ _ _ _ _ _ _ _ _ _ x7 x8  r6705 hr6705) (cwV (C := RX0) 2 C.2.2.2.1 (lw_V q1101 q1103 qs24 q80 q1104) rfl rfl rfl (by decide +kernel) ⟨Nat.le_of_ble_eq_true rfl, Nat.le_of_ble_eq_true rfl⟩) (n_preV0 C hP hS (va_recv C.2.2.2.2.1 hP (ci := 16) (q0 := 0) rfl rfl)) rfl rfl hl.1 rfl (lv_room (Nat.le_of_ble_eq_true rfl)) dX0_swap_105 ⟨Nat.le_of_ble_eq_true rfl, Nat.le_of_ble_eq_true rfl⟩) (fun H locs hP hS => ?_)
      refine lv_aload_n C.1 C.2.1 dX0_swap_108 rfl (lv_at hl 0 rfl) ?_
      refine xWg_0_9 q247 C hP dX0_swap_109 ?_
      refine lv_iload C.1 C.2.1 dX0_swap_112 (lv_at hl 3 rfl) ?_
      obtain ⟨u6707, hR, hE⟩ := it_b hE
      have hJ163u6707 : ∀ (H : Heap) (locs : List Loc) (ls : Array Slot), va_P G.1 vwCl (xW G.2 ad v_latestFault r6704.1 r6704.2.1 v_noticedBy r6704.2.2.1 v_orderDied v_orderLeast v_imaged v_shelves v_refusals v_ran v_bodies r6704.2.2.2.1 r6704.2.2.2.2.1 r6704.2.2.2.2.2 r6703.2.2.2 r6705 v_bestRow v_weight_a1 v_fright_a1 v_age_a1 v_asked_a1 v_weight_a2 v_fright_a2 v_age_a2 v_asked_a2 v_weight_a3 v_fright_a3 v_age_a3 v_asked_a3 v_weight_a4 v_fright_a4 v_age_a4 v_asked_a4 v_many v_pets v_last v_seed v_weight v_fright v_age v_asked v_homes v_marks v_had v_allergic v_deaths) H → va_S (tA sz (xWV ad) []) s.heap H locs → lv_has ls 9 [(0, .ref (ad 0)), (2, .int x2), (4, .int u6707.1), (5, .int u6707.2.1), (6, .int u6707.2.2), (7, .int x7), (8, .int x8)] → W p l e ({ frames := 10, cells := 12, slots := 1234, locals := 10304 } : Room) s m args below meth c H locs 12 1234 Q (F0 m 163 ls []) := by
        intro H locs ls hP hS hl
        refine lv_iinc (v := (x8 + 1)) (lv' := [(8, .int (x8 + 1)), (0, .ref (ad 0)), (2, .int x2), (4, .int u6707.1), (5, .int u6707.2.1), (6, .int u6707.2.2), (7, .int x7)]) C.1 C.2.1 dX0_swap_163 hl (k := 6) rfl rfl (by decide) rfl (fun ls hl => ?_)
        refine lv_goto (tgt := 66) C.1 C.2.1 dX0_swap_166 (by decide) ?_
        exact ih u6707.1 u6707.2.1 u6707.2.2 (x8 + 1) r6704.1 r6704.2.1 r6704.2.2.1 r6704.2.2.2.1 r6704.2.2.2.2.1 r6704.2.2.2.2.2 r6703.2.2.2 r6705 _ _ _ hE hP hS (lv_sub hl [1, 2, 3, 4, 5, 6, 0] rfl) hX
      have hE := hR
      refine lv_icmp_lt (tgt := 138) C.1 C.2.1 dX0_swap_114 (by decide) (fun c6706 => ?_) (fun c6706 => ?_)
      · have hE := it_t c6706 hE
        refine lv_bipush (v := 100) C.1 C.2.1 dX0_swap_138 (by decide) ?_
        refine lv_iload C.1 C.2.1 dX0_swap_140 (lv_at hl 5 rfl) ?_
        refine lv_imul C.1 C.2.1 dX0_swap_142 ?_
        refine lv_iload C.1 C.2.1 dX0_swap_143 (lv_at hl 6 rfl) ?_
        refine lv_iadd C.1 C.2.1 dX0_swap_145 ?_
        refine lv_istore (lv' := [(4, .int ((100 * x7) + x8)), (0, .ref (ad 0)), (2, .int x2), (5, .int x5), (6, .int x6), (7, .int x7), (8, .int x8)]) C.1 C.2.1 dX0_swap_146 hl (by decide) rfl (fun ls hl => ?_)
        refine lv_aload_n C.1 C.2.1 dX0_swap_148 rfl (lv_at hl 1 rfl) ?_
        refine xWg_0_9 q247 C hP dX0_swap_149 ?_
        refine lv_istore (lv' := [(5, .int r6704.1), (4, .int ((100 * x7) + x8)), (0, .ref (ad 0)), (2, .int x2), (6, .int x6), (7, .int x7), (8, .int x8)]) C.1 C.2.1 dX0_swap_152 hl (by decide) rfl (fun ls hl => ?_)
        refine lv_aload_n C.1 C.2.1 dX0_swap_154 rfl (lv_at hl 2 rfl) ?_
        refine xWg_0_3 q241 C hP dX0_swap_155 ?_
        refine xWg_5_0 q149 C hP dX0_swap_158 ?_
        refine lv_istore (lv' := [(6, .int r6704.2.2.2.1), (5, .int r6704.1), (4, .int ((100 * x7) + x8)), (0, .ref (ad 0)), (2, .int x2), (7, .int x7), (8, .int x8)]) C.1 C.2.1 dX0_swap_161 hl (by decide) rfl (fun ls hl => ?_)
        obtain rfl := Option.some.inj hE
        exact hJ163u6707 H locs ls hP hS (lv_sub hl [3, 4, 2, 1, 0, 5, 6] rfl)
      · have hE := it_f c6706 hE
        refine lv_aload_n C.1 C.2.1 dX0_swap_117 rfl (lv_at hl 0 rfl) ?_
        refine xWg_0_9 q247 C hP dX0_swap_118 ?_
        refine lv_iload C.1 C.2.1 dX0_swap_121 (lv_at hl 3 rfl) ?_
        refine lv_icmp_ne (tgt := 163) C.1 C.2.1 dX0_swap_123 (by decide) (fun c6708 => ?_) (fun c6708 => ?_)
        · have hE := it_f c6708 hE
          obtain rfl := Option.some.inj hE
          exact hJ163u6707 H locs ls hP hS (lv_sub hl [0, 1, 2, 3, 4, 5, 6] rfl)
        · have hE := it_t c6708 hE
          refine lv_aload_n C.1 C.2.1 dX0_swap_126 rfl (lv_at hl 0 rfl) ?_
          refine xWg_0_3 q241 C hP dX0_swap_127 ?_
          refine xWg_5_0 q149 C hP dX0_swap_130 ?_
          refine lv_iload C.1 C.2.1 dX0_swap_133 (lv_at hl 4 rfl) ?_
          refine lv_icmp_le (tgt := 163) C.1 C.2.1 dX0_swap_135 (by decide) (fun c6709 => ?_) (fun c6709 => ?_)
          · have hE := it_t c6709 hE
            obtain rfl := Option.some.inj hE
            exact hJ163u6707 H locs ls hP hS (lv_sub hl [0, 1, 2, 3, 4, 5, 6] rfl)
          · have hE := it_f c6709 hE
            refine lv_bipush (v := 100) C.1 C.2.1 dX0_swap_138 (by decide) ?_
            refine lv_iload C.1 C.2.1 dX0_swap_140 (lv_at hl 5 rfl) ?_
            refine lv_imul C.1 C.2.1 dX0_swap_142 ?_
            refine lv_iload C.1 C.2.1 dX0_swap_143 (lv_at hl 6 rfl) ?_
            refine lv_iadd C.1 C.2.1 dX0_swap_145 ?_
            refine lv_istore (lv' := [(4, .int ((100 * x7) + x8)), (0, .ref (ad 0)), (2, .int x2), (5, .int x5), (6, .int x6), (7, .int x7), (8, .int x8)]) C.1 C.2.1 dX0_swap_146 hl (by decide) rfl (fun ls hl => ?_)
            refine lv_aload_n C.1 C.2.1 dX0_swap_148 rfl (lv_at hl 1 rfl) ?_
            refine xWg_0_9 q247 C hP dX0_swap_149 ?_
            refine lv_istore (lv' := [(5, .int r6704.1), (4, .int ((100 * x7) + x8)), (0, .ref (ad 0)), (2, .int x2), (6, .int x6), (7, .int x7), (8, .int x8)]) C.1 C.2.1 dX0_swap_152 hl (by decide) rfl (fun ls hl => ?_)
            refine lv_aload_n C.1 C.2.1 dX0_swap_154 rfl (lv_at hl 2 rfl) ?_
            refine xWg_0_3 q241 C hP dX0_swap_155 ?_
            refine xWg_5_0 q149 C hP dX0_swap_158 ?_
            refine lv_istore (lv' := [(6, .int r6704.2.2.2.1), (5, .int r6704.1), (4, .int ((100 * x7) + x8)), (0, .ref (ad 0)), (2, .int x2), (7, .int x7), (8, .int x8)]) C.1 C.2.1 dX0_swap_161 hl (by decide) rfl (fun ls hl => ?_)
            obtain rfl := Option.some.inj hE
            exact hJ163u6707 H locs ls hP hS (lv_sub hl [3, 4, 2, 1, 0, 5, 6] rfl)
set_option maxHeartbeats 4000000 in
theorem wC_HW_swap_h54 {p : Program} {l : Launch} {e : Env} {s : State} {m : MethodId} {args : Array Value} {below : List Frame} {meth : Method} {c : Code} {Q : State → Prop} {G : kG} {ad : Nat → Nat} {pl : va_W} {hk : Nat → Nat} {hb : Nat → Int32} {sa ra rb hd rs rn : Nat → Nat} {rc : Nat → Nat → Int64} {sk : Nat → Nat} {si sb : Nat → Int32} {sz : Nat} {v_latestFault : Int32} {v_noticedBy : Int32} {v_orderDied : Int32} {v_orderLeast : Int32} {v_imaged : Option Nat} {v_shelves : Nat → Option Nat} {v_refusals : Nat → Int32} {v_ran : Int32} {v_bodies : Nat → Int32} {v_bestRow : Nat → Int32} {v_weight_a1 : Int32} {v_fright_a1 : Int32} {v_age_a1 : Int32} {v_asked_a1 : Nat → Int32} {v_weight_a2 : Int32} {v_fright_a2 : Int32} {v_age_a2 : Int32} {v_asked_a2 : Nat → Int32} {v_weight_a3 : Int32} {v_fright_a3 : Int32} {v_age_a3 : Int32} {v_asked_a3 : Nat → Int32} {v_weight_a4 : Int32} {v_fright_a4 : Int32} {v_age_a4 : Int32} {v_asked_a4 : Nat → Int32} {v_many : Int32} {v_pets : Int32} {v_last : Int32} {v_seed : Int32} {v_weight : Int32} {v_fright : Int32} {v_age : Int32} {v_asked : Nat → Int32} {v_homes : Nat → Option Nat} {v_marks : Nat → Int32} {v_had : Nat → Int32} {v_allergic : Nat → Int32} {v_deaths : Nat → Int32} (C : nC p s m args c cX0_swap RX0 G (xWV ad) pl (tA sz (xWV ad) [])) (hml : c.maxLocals = 9)  (D : tD s (xWV ad) [] (tA sz (xWV ad) [])) (hom : homOK v_homes v_many hk hb pl) (shok : shOK G v_shelves sa hd ra rb rs rn rc sk si sb pl) (x2 : Int32) (res : Int32 × Int32 × Int32 × Int32 × Int32 × Int32 × Int32 × (Nat → Int32) × (Nat → Int32)) :
    ∀ (fuel : Nat) (x4 : Int32) (x5 : Int32) (x6 : Int32) (x7 : Int32) (v_died : Int32) (v_leastWeight : Int32) (v_noticed : Int32) (v_tweight : Int32) (v_tfright : Int32) (v_tage : Int32) (v_tasked : Nat → Int32) (v_told : Nat → Int32) (H : Heap) (locs : List Loc) (ls : Array Slot), sC_HW_swap_h54 x2 v_noticedBy v_many v_weight v_fright v_age v_asked v_homes hk hb fuel x4 x5 x6 x7 v_died v_leastWeight v_noticed v_tweight v_tfright v_tage v_tasked v_told = some res → va_P G.1 vwCl (xW G.2 ad v_latestFault v_died v_leastWeight v_noticedBy v_noticed v_orderDied v_orderLeast v_imaged v_shelves v_refusals v_ran v_bodies v_tweight v_tfright v_tage v_tasked v_told v_bestRow v_weight_a1 v_fright_a1 v_age_a1 v_asked_a1 v_weight_a2 v_fright_a2 v_age_a2 v_asked_a2 v_weight_a3 v_fright_a3 v_age_a3 v_asked_a3 v_weight_a4 v_fright_a4 v_age_a4 v_asked_a4 v_many v_pets v_last v_seed v_weight v_fright v_age v_asked v_homes v_marks v_had v_allergic v_deaths) H → va_S (tA sz (xWV ad) []) s.heap H locs → lv_has ls 9 [(0, .ref (ad 0)), (2, .int x2), (4, .int x4), (5, .int x5), (6, .int x6), (7, .int x7)] → (∀ (H : Heap) (locs : List Loc) (ls : Array Slot), va_P G.1 vwCl (xW G.2 ad v_latestFault res.2.1 res.2.2.1 v_noticedBy res.2.2.2.1 v_orderDied v_orderLeast v_imaged v_shelves v_refusals v_ran v_bodies res.2.2.2.2.1 res.2.2.2.2.2.1 res.2.2.2.2.2.2.1 res.2.2.2.2.2.2.2.1 res.2.2.2.2.2.2.2.2 v_bestRow v_weight_a1 v_fright_a1 v_age_a1 v_asked_a1 v_weight_a2 v_fright_a2 v_age_a2 v_asked_a2 v_weight_a3 v_fright_a3 v_age_a3 v_asked_a3 v_weight_a4 v_fright_a4 v_age_a4 v_asked_a4 v_many v_pets v_last v_seed v_weight v_fright v_age v_asked v_homes v_marks v_had v_allergic v_deaths) H → va_S (tA sz (xWV ad) []) s.heap H locs → lv_has ls 9 [(0, .ref (ad 0)), (4, .int res.1)] → W p l e ({ frames := 10, cells := 12, slots := 1234, locals := 10304 } : Room) s m args below meth c H locs 12 1234 Q (F0 m 175 ls [])) → W p l e ({ frames := 10, cells := 12, slots := 1234, locals := 10304 } : Room) s m args below meth c H locs 12 1234 Q (F0 m 54 ls []) := by
  intro fuel
  induction fuel with
  | zero =>
    intro x4 x5 x6 x7 v_died v_leastWeight v_noticed v_tweight v_tfright v_tage v_tasked v_told H locs ls hE
    exact it_n hE
  | succ fuel ih =>
    intro x4 x5 x6 x7 v_died v_leastWeight v_noticed v_tweight v_tfright v_tage v_tasked v_told H locs ls hE hP hS hl hX
    rw [sC_HW_swap_h54] at hE
    refine lv_iload C.1 C.2.1 dX0_swap_54 (lv_at hl 5 rfl) ?_
    refine lv_iload_n C.1 C.2.1 dX0_swap_56 rfl (lv_at hl 1 rfl) ?_
    refine lv_icmp_ge (tgt := 175) C.1 C.2.1 dX0_swap_57 (by decide) (fun c5501 => ?_) (fun c5501 => ?_)
    · have hE := it_t c5501 hE
      obtain rfl := Option.some.inj hE
      exact hX H locs ls hP hS (lv_sub hl [0, 2] rfl)
    · have hE := it_f c5501 hE
      refine lv_iload C.1 C.2.1 dX0_swap_60 (lv_at hl 5 rfl) ?_
      refine lv_iconst (v := 1) C.1 C.2.1 dX0_swap_62 (by decide) ?_
      refine lv_iadd C.1 C.2.1 dX0_swap_63 ?_
      refine lv_istore (lv' := [(8, .int (x7 + 1)), (0, .ref (ad 0)), (2, .int x2), (4, .int x4), (5, .int x5), (6, .int x6), (7, .int x7)]) C.1 C.2.1 dX0_swap_64 hl (by decide) rfl (fun ls hl => ?_)
      obtain ⟨u5502, hu5502, hE⟩ := it_b hE
      refine wC_HW_swap_h66 C hml  D hom shok x2 x7 u5502 2000 x4 x5 x6 (x7 + 1) v_died v_leastWeight v_noticed v_tweight v_tfright v_tage v_tasked v_told H locs ls hu5502 hP hS (lv_sub hl [1, 2, 3, 4, 5, 6, 0] rfl) (fun H locs ls hP hS hl => ?_)
      refine lv_iinc (v := (x7 + 1)) (lv' := [(7, .int (x7 + 1)), (0, .ref (ad 0)), (2, .int x2), (4, .int u5502.1), (5, .int u5502.2.1), (6, .int u5502.2.2.1)]) C.1 C.2.1 dX0_swap_169 hl (k := 5) rfl rfl (by decide) rfl (fun ls hl => ?_)
      refine lv_goto (tgt := 54) C.1 C.2.1 dX0_swap_172 (by decide) ?_
      exact ih u5502.1 u5502.2.1 u5502.2.2.1 (x7 + 1) u5502.2.2.2.1 u5502.2.2.2.2.1 u5502.2.2.2.2.2.1 u5502.2.2.2.2.2.2.1 u5502.2.2.2.2.2.2.2.1 u5502.2.2.2.2.2.2.2.2.1 u5502.2.2.2.2.2.2.2.2.2.1 u5502.2.2.2.2.2.2.2.2.2.2 _ _ _ hE hP hS (lv_sub hl [1, 2, 3, 4, 5, 0] rfl) hX
set_option maxHeartbeats 4000000 in
theorem metC_HW_swap (l : Launch) (hfl : l.stackTraces = false) (G : kG) (ad : Nat → Nat) (pl : va_W) (hk : Nat → Nat) (hb : Nat → Int32) (sa ra rb hd rs rn : Nat → Nat) (rc : Nat → Nat → Int64) (sk : Nat → Nat) (si sb : Nat → Int32) (sz : Nat) (v_latestFault : Int32) (v_died : Int32) (v_leastWeight : Int32) (v_noticedBy : Int32) (v_noticed : Int32) (v_orderDied : Int32) (v_orderLeast : Int32) (v_imaged : Option Nat) (v_shelves : Nat → Option Nat) (v_refusals : Nat → Int32) (v_ran : Int32) (v_bodies : Nat → Int32) (v_tweight : Int32) (v_tfright : Int32) (v_tage : Int32) (v_tasked : Nat → Int32) (v_told : Nat → Int32) (v_bestRow : Nat → Int32) (v_weight_a1 : Int32) (v_fright_a1 : Int32) (v_age_a1 : Int32) (v_asked_a1 : Nat → Int32) (v_weight_a2 : Int32) (v_fright_a2 : Int32) (v_age_a2 : Int32) (v_asked_a2 : Nat → Int32) (v_weight_a3 : Int32) (v_fright_a3 : Int32) (v_age_a3 : Int32) (v_asked_a3 : Nat → Int32) (v_weight_a4 : Int32) (v_fright_a4 : Int32) (v_age_a4 : Int32) (v_asked_a4 : Nat → Int32) (v_many : Int32) (v_pets : Int32) (v_last : Int32) (v_seed : Int32) (v_weight : Int32) (v_fright : Int32) (v_age : Int32) (v_asked : Nat → Int32) (v_homes : Nat → Option Nat) (v_marks : Nat → Int32) (v_had : Nat → Int32) (v_allergic : Nat → Int32) (v_deaths : Nat → Int32) (hom : homOK v_homes v_many hk hb pl) (shok : shOK G v_shelves sa hd ra rb rs rn rc sk si sb pl) (p1 : Int32) (p2 : Int32) (res : Int32 × Int32 × Int32 × Int32 × (Nat → Int32) × Int32 × Int32 × Int32 × (Nat → Int32) × (Nat → Int32)) (hE : sC_HW_swap v_died v_leastWeight v_noticedBy v_noticed v_refusals v_tweight v_tfright v_tage v_tasked v_told v_many v_weight v_fright v_age v_asked v_homes v_allergic hk hb hd rs rn rc sk si sb p1 p2 = some res) : vx_Met l yX0_swap (wsW_ yX0_swap cX0_swap 9 (some .int) [((0 : Nat), (177 : Nat), (178 : Nat), (21 : Nat))]) ({ frames := 10, cells := 12, slots := 1234, locals := 10304 } : Room) (rPc G (xW G.2 ad v_latestFault v_died v_leastWeight v_noticedBy v_noticed v_orderDied v_orderLeast v_imaged v_shelves v_refusals v_ran v_bodies v_tweight v_tfright v_tage v_tasked v_told v_bestRow v_weight_a1 v_fright_a1 v_age_a1 v_asked_a1 v_weight_a2 v_fright_a2 v_age_a2 v_asked_a2 v_weight_a3 v_fright_a3 v_age_a3 v_asked_a3 v_weight_a4 v_fright_a4 v_age_a4 v_asked_a4 v_many v_pets v_last v_seed v_weight v_fright v_age v_asked v_homes v_marks v_had v_allergic v_deaths) pl (xWV ad) sz [.ref (ad 0), .int p1, .int p2]) (tQc G (xW G.2 ad v_latestFault res.2.1 res.2.2.1 v_noticedBy res.2.2.2.1 v_orderDied v_orderLeast v_imaged v_shelves res.2.2.2.2.1 v_ran v_bodies res.2.2.2.2.2.1 res.2.2.2.2.2.2.1 res.2.2.2.2.2.2.2.1 res.2.2.2.2.2.2.2.2.1 res.2.2.2.2.2.2.2.2.2 v_bestRow v_weight_a1 v_fright_a1 v_age_a1 v_asked_a1 v_weight_a2 v_fright_a2 v_age_a2 v_asked_a2 v_weight_a3 v_fright_a3 v_age_a3 v_asked_a3 v_weight_a4 v_fright_a4 v_age_a4 v_asked_a4 v_many v_pets v_last v_seed v_weight v_fright v_age v_asked v_homes v_marks v_had v_allergic v_deaths) [] (tA sz (xWV ad) []) (True) (some (.int res.1))) (tXC G (xW G.2 ad v_latestFault res.2.1 res.2.2.1 v_noticedBy res.2.2.2.1 v_orderDied v_orderLeast v_imaged v_shelves res.2.2.2.2.1 v_ran v_bodies res.2.2.2.2.2.1 res.2.2.2.2.2.2.1 res.2.2.2.2.2.2.2.1 res.2.2.2.2.2.2.2.2.1 res.2.2.2.2.2.2.2.2.2 v_bestRow v_weight_a1 v_fright_a1 v_age_a1 v_asked_a1 v_weight_a2 v_fright_a2 v_age_a2 v_asked_a2 v_weight_a3 v_fright_a3 v_age_a3 v_asked_a3 v_weight_a4 v_fright_a4 v_age_a4 v_asked_a4 v_many v_pets v_last v_seed v_weight v_fright v_age v_asked v_homes v_marks v_had v_allergic v_deaths) [] (tA sz (xWV ad) []) 18 RX6 none sz) 12 1234 (tA sz (xWV ad) []) := by
  refine r_ofWH (own := RX0) (by decide) rfl (Nat.le_of_ble_eq_true rfl) ?_
  intro p e s m args below meth c ls C C0 D hml htab hP hS hl hr hlocks hsz
  have hl : lv_has ls 9 [(0, .ref (ad 0)), (1, .int p1), (2, .int p2)] := hl
  obtain ⟨Q, hQ⟩ : ∃ Q, Q = vx_MQ below (tQc G (xW G.2 ad v_latestFault res.2.1 res.2.2.1 v_noticedBy res.2.2.2.1 v_orderDied v_orderLeast v_imaged v_shelves res.2.2.2.2.1 v_ran v_bodies res.2.2.2.2.2.1 res.2.2.2.2.2.2.1 res.2.2.2.2.2.2.2.1 res.2.2.2.2.2.2.2.2.1 res.2.2.2.2.2.2.2.2.2 v_bestRow v_weight_a1 v_fright_a1 v_age_a1 v_asked_a1 v_weight_a2 v_fright_a2 v_age_a2 v_asked_a2 v_weight_a3 v_fright_a3 v_age_a3 v_asked_a3 v_weight_a4 v_fright_a4 v_age_a4 v_asked_a4 v_many v_pets v_last v_seed v_weight v_fright v_age v_asked v_homes v_marks v_had v_allergic v_deaths) [] (tA sz (xWV ad) []) (True) (some (.int res.1))) (tXC G (xW G.2 ad v_latestFault res.2.1 res.2.2.1 v_noticedBy res.2.2.2.1 v_orderDied v_orderLeast v_imaged v_shelves res.2.2.2.2.1 v_ran v_bodies res.2.2.2.2.2.1 res.2.2.2.2.2.2.1 res.2.2.2.2.2.2.2.1 res.2.2.2.2.2.2.2.2.1 res.2.2.2.2.2.2.2.2.2 v_bestRow v_weight_a1 v_fright_a1 v_age_a1 v_asked_a1 v_weight_a2 v_fright_a2 v_age_a2 v_asked_a2 v_weight_a3 v_fright_a3 v_age_a3 v_asked_a3 v_weight_a4 v_fright_a4 v_age_a4 v_asked_a4 v_many v_pets v_last v_seed v_weight v_fright v_age v_asked v_homes v_marks v_had v_allergic v_deaths) [] (tA sz (xWV ad) []) 18 RX6 none sz) args s 12 1234 (tA sz (xWV ad) []) := ⟨_, rfl⟩
  rw [← hQ]
  have hret : ∀ (pc : Nat) (ls : Array Slot) (H : Heap) (locs : List Loc), decode cX0_swap pc = .ok (.ireturn, 1) → True → va_P G.1 vwCl (xW G.2 ad v_latestFault res.2.1 res.2.2.1 v_noticedBy res.2.2.2.1 v_orderDied v_orderLeast v_imaged v_shelves res.2.2.2.2.1 v_ran v_bodies res.2.2.2.2.2.1 res.2.2.2.2.2.2.1 res.2.2.2.2.2.2.2.1 res.2.2.2.2.2.2.2.2.1 res.2.2.2.2.2.2.2.2.2 v_bestRow v_weight_a1 v_fright_a1 v_age_a1 v_asked_a1 v_weight_a2 v_fright_a2 v_age_a2 v_asked_a2 v_weight_a3 v_fright_a3 v_age_a3 v_asked_a3 v_weight_a4 v_fright_a4 v_age_a4 v_asked_a4 v_many v_pets v_last v_seed v_weight v_fright v_age v_asked v_homes v_marks v_had v_allergic v_deaths) H → va_S (tA sz (xWV ad) []) s.heap H locs → W p l e ({ frames := 10, cells := 12, slots := 1234, locals := 10304 } : Room) s m args below meth c H locs 12 1234 Q (F0 m pc ls [(.int res.1)]) := by
    intro pc ls H locs hd hφ hP hS
    rw [hQ]
    exact t_iret C0 hr hlocks hd hφ hP P_nil hS
  clear hQ
  obtain ⟨H, hH⟩ : ∃ H, H = s.heap := ⟨_, rfl⟩
  obtain ⟨locs, hlo⟩ : ∃ locs : List Loc, locs = [] := ⟨_, rfl⟩
  have hP : va_P G.1 vwCl (xW G.2 ad v_latestFault v_died v_leastWeight v_noticedBy v_noticed v_orderDied v_orderLeast v_imaged v_shelves v_refusals v_ran v_bodies v_tweight v_tfright v_tage v_tasked v_told v_bestRow v_weight_a1 v_fright_a1 v_age_a1 v_asked_a1 v_weight_a2 v_fright_a2 v_age_a2 v_asked_a2 v_weight_a3 v_fright_a3 v_age_a3 v_asked_a3 v_weight_a4 v_fright_a4 v_age_a4 v_asked_a4 v_many v_pets v_last v_seed v_weight v_fright v_age v_asked v_homes v_marks v_had v_allergic v_deaths) H := by rw [hH]; exact hP
  have hS : va_S (tA sz (xWV ad) []) s.heap H locs := by rw [hH, hlo]; exact hS
  suffices hZ : W p l e ({ frames := 10, cells := 12, slots := 1234, locals := 10304 } : Room) s m args below meth c H locs 0 0 Q (F0 m 0 ls []) by rw [hH, hlo] at hZ; exact hZ
  clear hH hlo
  unfold sC_HW_swap at hE
  refine lv_aload_n C.1 C.2.1 dX0_swap_0 rfl (lv_at hl 0 rfl) ?_
  refine lv_iload_n C.1 C.2.1 dX0_swap_1 rfl (lv_at hl 1 rfl) ?_
  refine lv_iload_n C.1 C.2.1 dX0_swap_2 rfl (lv_at hl 2 rfl) ?_
  obtain ⟨r1, hr1, hE⟩ := it_b hE
  refine t_afterS C0 D hP P_nil hS (vx_runV (As := [.int p1, .int p2]) (rest := []) ⟨C.1, C.2.1, hml, C.2.2.1, C.2.2.2.1⟩ (metC_HW_toldAt l hfl G ad pl sa ra rb hd rs rn rc sk si sb H.size _ _ _ _ _ _ _ _ _ _ _ _ _ _ _ _ _ _ _ _ _ _ _ _ _ _ _ _ _ _ _ _ _ _ _ _ _ _ _ _ _ _ _ _ _ _ _ shok p1 p2 r1 hr1) (cwV (C := RX0) 2 C.2.2.2.1 (lw_V q1057 q1059 qs20 q80 q1060) rfl rfl rfl (by decide +kernel) ⟨Nat.le_of_ble_eq_true rfl, Nat.le_of_ble_eq_true rfl⟩) (rr_preV0 C D hP hS (va_recv C.2.2.2.2.1 hP (ci := 16) (q0 := 0) rfl rfl)) rfl rfl hl.1 rfl (lv_room (Nat.le_of_ble_eq_true rfl)) dX0_swap_3 ⟨Nat.le_of_ble_eq_true rfl, Nat.le_of_ble_eq_true rfl⟩) xW_av (fun hφ H locs hP _ hS => ?_) (fun w q H locs hw hq hc hP _ hS => ?_)
  · have hE := it_t hφ hE
    obtain ⟨hgg3, hdg3⟩ := told_ok hr1 hφ
    obtain ⟨hsag3, hshg3⟩ := shok _ (gi_lt hgg3)
    have hrwg3 := (shAt_1 hshg3 hdg3).2
    refine lv_astore_n (lv' := [(3, .ref (ra (p1).toNatClampNeg)), (0, .ref (ad 0)), (1, .int p1), (2, .int p2)]) C.1 C.2.1 dX0_swap_6 rfl hl (by decide) rfl (fun ls hl => ?_)
    refine lv_aload_n C.1 C.2.1 dX0_swap_7 rfl (lv_at hl 1 rfl) ?_
    refine lv_aload_n C.1 C.2.1 dX0_swap_8 rfl (lv_at hl 0 rfl) ?_
    refine lv_iload_n C.1 C.2.1 dX0_swap_9 rfl (lv_at hl 3 rfl) ?_
    obtain ⟨r4, hr4, hE⟩ := it_b hE
    refine t_afterS C0 D hP P_nil hS (vx_runV (As := [.ref (ra (p1).toNatClampNeg), .int p2]) (rest := []) ⟨C.1, C.2.1, hml, C.2.2.1, C.2.2.2.1⟩ (metC_HW_mustBeRight l hfl G ad pl H.size _ _ _ _ _ _ _ _ _ _ _ _ _ _ _ _ _ _ _ _ _ _ _ _ _ _ _ _ _ _ _ _ _ _ _ _ _ _ _ _ _ _ _ _ _ _ _ (ra (p1).toNatClampNeg) (rs (p1).toNatClampNeg) (rb (p1).toNatClampNeg) (rn (p1).toNatClampNeg) (rc (p1).toNatClampNeg) p2 hrwg3 r4 hr4) (cwV (C := RX0) 2 C.2.2.2.1 (lw_V q1072 q1074 qs22 q80 q1075) rfl rfl rfl (by decide +kernel) ⟨Nat.le_of_ble_eq_true rfl, Nat.le_of_ble_eq_true rfl⟩) (rr_preV0 C D hP hS (va_recv C.2.2.2.2.1 hP (ci := 16) (q0 := 0) rfl rfl)) rfl rfl hl.1 rfl (lv_room (Nat.le_of_ble_eq_true rfl)) dX0_swap_10 ⟨Nat.le_of_ble_eq_true rfl, Nat.le_of_ble_eq_true rfl⟩) xW_av (fun hφ H locs hP _ hS => ?_) (fun w q H locs hw hq hc hP _ hS => ?_)
    · have hE := it_t hφ hE
      refine lv_aload_n C.1 C.2.1 dX0_swap_13 rfl (lv_at hl 1 rfl) ?_
      refine xWg_0_3 q241 C hP dX0_swap_14 ?_
      refine lv_aload_n C.1 C.2.1 dX0_swap_17 rfl (lv_at hl 1 rfl) ?_
      refine xWg_0_6 q244 C hP dX0_swap_18 ?_
      refine xWg_18_4 q191 C hP dX0_swap_21 ?_
      obtain ⟨r6, hr6, hE⟩ := it_b hE
      refine n_after [5, 6, 19, 20] C.2.2.2.2.2.1 C.2.2.2.2.2.2.2.1 hP hS (va_runV (As := [.ref (ad 19)]) (rest := []) ⟨C.1, C.2.1, hml, C.2.2.1, C.2.2.2.1⟩ (metC_Pet_take l G (fun i => ad (if i < 2 then 5 + i else 19 + (i - 2))) pl _ _ _ _ _ _ _ _   r6 hr6) (cwV (C := RX2) 1 C.2.2.2.1 (lw_V q1076 q796 q797 q82 q798) rfl rfl rfl (by decide +kernel) ⟨Nat.le_of_ble_eq_true rfl, Nat.le_of_ble_eq_true rfl⟩) (n_preV C hP hS [5, 6, 19, 20] sub_xW_ppW_5_19 (by decide) rfl (va_recv C.2.2.2.2.1 hP (ci := 11) (q0 := 5) rfl rfl)) rfl rfl hl.1 rfl (lv_room (Nat.le_of_ble_eq_true rfl)) dX0_swap_24 ⟨Nat.le_of_ble_eq_true rfl, Nat.le_of_ble_eq_true rfl⟩) xW_av rfl rfl mg_xW_ppW_5_19 (fun H locs hP hS => ?_)
      refine lv_pop C.1 C.2.1 dX0_swap_27 rfl ?_
      refine lv_aload_n C.1 C.2.1 dX0_swap_28 rfl (lv_at hl 1 rfl) ?_
      refine lv_iload_n C.1 C.2.1 dX0_swap_29 rfl (lv_at hl 3 rfl) ?_
      obtain ⟨r7, hr7, hE⟩ := it_b hE
      refine n_afterS C.2.2.2.2.2.2.2.1 hS (va_runV (As := [.int p2]) (rest := []) ⟨C.1, C.2.1, hml, C.2.2.1, C.2.2.2.1⟩ (metC_HW_goesRow l G ad pl hk hb _ _ _ _ _ _ _ _ _ _ _ _ _ _ _ _ _ _ _ _ _ _ _ _ _ _ _ _ _ _ _ _ _ _ _ _ _ _ _ _ _ _ _ _ _ _ _ hom p2  r7 hr7) (cwV (C := RX0) 1 C.2.2.2.1 (lw_V q1077 q1079 qs23 q80 q1080) rfl rfl rfl (by decide +kernel) ⟨Nat.le_of_ble_eq_true rfl, Nat.le_of_ble_eq_true rfl⟩) (n_preV0 C hP hS (va_recv C.2.2.2.2.1 hP (ci := 16) (q0 := 0) rfl rfl)) rfl rfl hl.1 rfl (lv_room (Nat.le_of_ble_eq_true rfl)) dX0_swap_30 ⟨Nat.le_of_ble_eq_true rfl, Nat.le_of_ble_eq_true rfl⟩) (fun H locs hP hS => ?_)
      refine lv_iconst (v := (-1)) C.1 C.2.1 dX0_swap_33 (by decide) ?_
      refine lv_istore (lv' := [(4, .int (-1)), (3, .ref (ra (p1).toNatClampNeg)), (0, .ref (ad 0)), (1, .int p1), (2, .int p2)]) C.1 C.2.1 dX0_swap_34 hl (by decide) rfl (fun ls hl => ?_)
      refine lv_aload_n C.1 C.2.1 dX0_swap_36 rfl (lv_at hl 2 rfl) ?_
      refine xWg_0_9 q247 C hP dX0_swap_37 ?_
      refine lv_istore (lv' := [(5, .int r7.1), (4, .int (-1)), (3, .ref (ra (p1).toNatClampNeg)), (0, .ref (ad 0)), (1, .int p1), (2, .int p2)]) C.1 C.2.1 dX0_swap_40 hl (by decide) rfl (fun ls hl => ?_)
      refine lv_aload_n C.1 C.2.1 dX0_swap_42 rfl (lv_at hl 3 rfl) ?_
      refine xWg_0_3 q241 C hP dX0_swap_43 ?_
      refine xWg_5_0 q149 C hP dX0_swap_46 ?_
      refine lv_istore (lv' := [(6, .int r7.2.2.2.1), (5, .int r7.1), (4, .int (-1)), (3, .ref (ra (p1).toNatClampNeg)), (0, .ref (ad 0)), (1, .int p1), (2, .int p2)]) C.1 C.2.1 dX0_swap_49 hl (by decide) rfl (fun ls hl => ?_)
      refine lv_iconst (v := 0) C.1 C.2.1 dX0_swap_51 (by decide) ?_
      refine lv_istore (lv' := [(7, .int 0), (6, .int r7.2.2.2.1), (5, .int r7.1), (4, .int (-1)), (3, .ref (ra (p1).toNatClampNeg)), (0, .ref (ad 0)), (1, .int p1), (2, .int p2)]) C.1 C.2.1 dX0_swap_52 hl (by decide) rfl (fun ls hl => ?_)
      obtain ⟨u8, hu8, hE⟩ := it_b hE
      refine wC_HW_swap_h54 C hml  D hom shok p2 u8 2000 (-1) r7.1 r7.2.2.2.1 0 r7.1 r7.2.1 r7.2.2.1 r7.2.2.2.1 r7.2.2.2.2.1 r7.2.2.2.2.2 r6.2.2.2 r4.2 H locs ls hu8 hP hS (lv_sub hl [5, 7, 3, 2, 1, 0] rfl) (fun H locs ls hP hS hl => ?_)
      refine lv_iload C.1 C.2.1 dX0_swap_175 (lv_at hl 1 rfl) ?_
      obtain rfl := Option.some.inj hE
      exact hret _ _ _ _ dX0_swap_177 trivial hP hS
    · have hE := it_f (by rw [hw]; exact fun h => nomatch h) hE
      obtain ⟨q5, rfl⟩ : ∃ z, z = q := ⟨_, rfl⟩
      obtain rfl : w = (r4.1.getD 0) := by rw [hw]; rfl
      obtain ⟨ce, g1, g2, g3⟩ := t_cell C0 hc rfl
      refine t_catch (name := "HamsterWeekends$Refused") (E := "HamsterWeekends$Refused") C0 D [] ⟨0, 177, 178, 21⟩ [] htab (fun z hz => nomatch hz) rfl (by decide) q291 (List.mem_of_getElem? (i := 1) rfl) g1 g2 g3 ?_
      refine W.eq (g2 := F0 m 178 ls [.ref q5]) rfl ?_
      refine lv_astore_n (lv' := [(3, .ref q5), (0, .ref (ad 0)), (1, .int p1), (2, .int p2)]) C.1 C.2.1 dX0_swap_178 rfl hl (by decide) rfl (fun ls hl => ?_)
      refine lv_aload_n C.1 C.2.1 dX0_swap_179 rfl (lv_at hl 1 rfl) ?_
      refine lv_aload_n C.1 C.2.1 dX0_swap_180 rfl (lv_at hl 0 rfl) ?_
      obtain ⟨r9, hr9, hE⟩ := it_b hE
      refine n_afterS C.2.2.2.2.2.2.2.1 hS (va_runV (As := [.ref q5]) (rest := []) ⟨C.1, C.2.1, hml, C.2.2.1, C.2.2.2.1⟩ (metC_HW_refused l G ad [(q5, .inr (18, xF (r4.1.getD 0)))] _ _ _ _ _ _ _ _ _ _ _ _ _ _ _ _ _ _ _ _ _ _ _ _ _ _ _ _ _ _ _ _ _ _ _ _ _ _ _ _ _ _ _ _ _ _ _ q5 (r4.1.getD 0) (List.mem_singleton.mpr rfl) r9 hr9) (cwV (C := RX0) 1 C.2.2.2.1 (lw_V q466 q468 qs2 q80 q469) rfl rfl rfl (by decide +kernel) ⟨Nat.le_of_ble_eq_true rfl, Nat.le_of_ble_eq_true rfl⟩) (t_preX C0 hP hc hq.1 (va_recv C.2.2.2.2.1 hP (ci := 16) (q0 := 0) rfl rfl)) rfl rfl hl.1 rfl (lv_room (Nat.le_of_ble_eq_true rfl)) dX0_swap_181 ⟨Nat.le_of_ble_eq_true rfl, Nat.le_of_ble_eq_true rfl⟩) (fun H locs hP hS => ?_)
      refine lv_bipush (v := 10) C.1 C.2.1 dX0_swap_184 (by decide) ?_
      refine lv_isub C.1 C.2.1 dX0_swap_186 ?_
      obtain rfl := Option.some.inj hE
      exact hret _ _ _ _ dX0_swap_187 trivial hP hS
  · have hE := it_f (by rw [hw]; exact fun h => nomatch h) hE
    obtain ⟨q2, rfl⟩ : ∃ z, z = q := ⟨_, rfl⟩
    obtain rfl : w = (r1.getD 0) := by rw [hw]; rfl
    obtain ⟨ce, g1, g2, g3⟩ := t_cell C0 hc rfl
    refine t_catch (name := "HamsterWeekends$Refused") (E := "HamsterWeekends$Refused") C0 D [] ⟨0, 177, 178, 21⟩ [] htab (fun z hz => nomatch hz) rfl (by decide) q291 (List.mem_of_getElem? (i := 1) rfl) g1 g2 g3 ?_
    refine W.eq (g2 := F0 m 178 ls [.ref q2]) rfl ?_
    refine lv_astore_n (lv' := [(3, .ref q2), (0, .ref (ad 0)), (1, .int p1), (2, .int p2)]) C.1 C.2.1 dX0_swap_178 rfl hl (by decide) rfl (fun ls hl => ?_)
    refine lv_aload_n C.1 C.2.1 dX0_swap_179 rfl (lv_at hl 1 rfl) ?_
    refine lv_aload_n C.1 C.2.1 dX0_swap_180 rfl (lv_at hl 0 rfl) ?_
    obtain ⟨r10, hr10, hE⟩ := it_b hE
    refine n_afterS C.2.2.2.2.2.2.2.1 hS (va_runV (As := [.ref q2]) (rest := []) ⟨C.1, C.2.1, hml, C.2.2.1, C.2.2.2.1⟩ (metC_HW_refused l G ad [(q2, .inr (18, xF (r1.getD 0)))] _ _ _ _ _ _ _ _ _ _ _ _ _ _ _ _ _ _ _ _ _ _ _ _ _ _ _ _ _ _ _ _ _ _ _ _ _ _ _ _ _ _ _ _ _ _ _ q2 (r1.getD 0) (List.mem_singleton.mpr rfl) r10 hr10) (cwV (C := RX0) 1 C.2.2.2.1 (lw_V q466 q468 qs2 q80 q469) rfl rfl rfl (by decide +kernel) ⟨Nat.le_of_ble_eq_true rfl, Nat.le_of_ble_eq_true rfl⟩) (t_preX C0 hP hc hq.1 (va_recv C.2.2.2.2.1 hP (ci := 16) (q0 := 0) rfl rfl)) rfl rfl hl.1 rfl (lv_room (Nat.le_of_ble_eq_true rfl)) dX0_swap_181 ⟨Nat.le_of_ble_eq_true rfl, Nat.le_of_ble_eq_true rfl⟩) (fun H locs hP hS => ?_)
    refine lv_bipush (v := 10) C.1 C.2.1 dX0_swap_184 (by decide) ?_
    refine lv_isub C.1 C.2.1 dX0_swap_186 ?_
    obtain rfl := Option.some.inj hE
    refine W.widen (k := 12) (n := 1234) (Nat.le_of_ble_eq_true rfl) (Nat.le_of_ble_eq_true rfl) ?_
    exact hret _ _ _ _ dX0_swap_187 trivial hP hS
