set_option maxRecDepth 100000
theorem mg_xW_pW_19 {aT : Nat → ClassId} {ad : Nat → Nat} {v_latestFault : Int32} {v_died : Int32} {v_leastWeight : Int32} {v_noticedBy : Int32} {v_noticed : Int32} {v_orderDied : Int32} {v_orderLeast : Int32} {v_imaged : Option Nat} {v_shelves : Nat → Option Nat} {v_refusals : Nat → Int32} {v_ran : Int32} {v_bodies : Nat → Int32} {v_tweight : Int32} {v_tfright : Int32} {v_tage : Int32} {v_tasked : Nat → Int32} {v_told : Nat → Int32} {v_bestRow : Nat → Int32} {v_weight_a1 : Int32} {v_fright_a1 : Int32} {v_age_a1 : Int32} {v_asked_a1 : Nat → Int32} {v_weight_a2 : Int32} {v_fright_a2 : Int32} {v_age_a2 : Int32} {v_asked_a2 : Nat → Int32} {v_weight_a3 : Int32} {v_fright_a3 : Int32} {v_age_a3 : Int32} {v_asked_a3 : Nat → Int32} {v_weight_a4 : Int32} {v_fright_a4 : Int32} {v_age_a4 : Int32} {v_asked_a4 : Nat → Int32} {v_many : Int32} {v_pets : Int32} {v_last : Int32} {v_seed : Int32} {v_weight : Int32} {v_fright : Int32} {v_age : Int32} {v_asked : Nat → Int32} {v_homes : Nat → Option Nat} {v_marks : Nat → Int32} {v_had : Nat → Int32} {v_allergic : Nat → Int32} {v_deaths : Nat → Int32} {u_weight : Int32} {u_fright : Int32} {u_age : Int32} {u_asked : Nat → Int32} : mergeAt (xW aT ad v_latestFault v_died v_leastWeight v_noticedBy v_noticed v_orderDied v_orderLeast v_imaged v_shelves v_refusals v_ran v_bodies v_tweight v_tfright v_tage v_tasked v_told v_bestRow v_weight_a1 v_fright_a1 v_age_a1 v_asked_a1 v_weight_a2 v_fright_a2 v_age_a2 v_asked_a2 v_weight_a3 v_fright_a3 v_age_a3 v_asked_a3 v_weight_a4 v_fright_a4 v_age_a4 v_asked_a4 v_many v_pets v_last v_seed v_weight v_fright v_age v_asked v_homes v_marks v_had v_allergic v_deaths) [19, 20] (pW aT (fun i => ad (19 + i)) u_weight u_fright u_age u_asked) = (xW aT ad v_latestFault v_died v_leastWeight v_noticedBy v_noticed v_orderDied v_orderLeast v_imaged v_shelves v_refusals v_ran v_bodies v_tweight v_tfright v_tage v_tasked v_told v_bestRow v_weight_a1 v_fright_a1 v_age_a1 v_asked_a1 v_weight_a2 v_fright_a2 v_age_a2 v_asked_a2 v_weight_a3 v_fright_a3 v_age_a3 v_asked_a3 v_weight_a4 v_fright_a4 v_age_a4 v_asked_a4 v_many v_pets v_last v_seed u_weight u_fright u_age u_asked v_homes v_marks v_had v_allergic v_deaths) := rfl
theorem sub_xW_pW_19 {aT : Nat → ClassId} {ad : Nat → Nat} {v_latestFault : Int32} {v_died : Int32} {v_leastWeight : Int32} {v_noticedBy : Int32} {v_noticed : Int32} {v_orderDied : Int32} {v_orderLeast : Int32} {v_imaged : Option Nat} {v_shelves : Nat → Option Nat} {v_refusals : Nat → Int32} {v_ran : Int32} {v_bodies : Nat → Int32} {v_tweight : Int32} {v_tfright : Int32} {v_tage : Int32} {v_tasked : Nat → Int32} {v_told : Nat → Int32} {v_bestRow : Nat → Int32} {v_weight_a1 : Int32} {v_fright_a1 : Int32} {v_age_a1 : Int32} {v_asked_a1 : Nat → Int32} {v_weight_a2 : Int32} {v_fright_a2 : Int32} {v_age_a2 : Int32} {v_asked_a2 : Nat → Int32} {v_weight_a3 : Int32} {v_fright_a3 : Int32} {v_age_a3 : Int32} {v_asked_a3 : Nat → Int32} {v_weight_a4 : Int32} {v_fright_a4 : Int32} {v_age_a4 : Int32} {v_asked_a4 : Nat → Int32} {v_many : Int32} {v_pets : Int32} {v_last : Int32} {v_seed : Int32} {v_weight : Int32} {v_fright : Int32} {v_age : Int32} {v_asked : Nat → Int32} {v_homes : Nat → Option Nat} {v_marks : Nat → Int32} {v_had : Nat → Int32} {v_allergic : Nat → Int32} {v_deaths : Nat → Int32} : ([19, 20] : List Nat).filterMap (fun i => (xW aT ad v_latestFault v_died v_leastWeight v_noticedBy v_noticed v_orderDied v_orderLeast v_imaged v_shelves v_refusals v_ran v_bodies v_tweight v_tfright v_tage v_tasked v_told v_bestRow v_weight_a1 v_fright_a1 v_age_a1 v_asked_a1 v_weight_a2 v_fright_a2 v_age_a2 v_asked_a2 v_weight_a3 v_fright_a3 v_age_a3 v_asked_a3 v_weight_a4 v_fright_a4 v_age_a4 v_asked_a4 v_many v_pets v_last v_seed v_weight v_fright v_age v_asked v_homes v_marks v_had v_allergic v_deaths)[i]?) = (pW aT (fun i => ad (19 + i)) v_weight v_fright v_age v_asked) := rfl
def sC_HW_marks (v_refusals : Nat → Int32) (v_many : Int32) (v_marks : Nat → Int32) (p1 : Int32) (p2 : Int32) : Option (Int32 × (Nat → Int32) × (Nat → Int32)) :=
  (sC_HW_mustHome v_many p1).bind fun r1 =>
  if r1 = none then
    (sC_HW_in ((p2 : Int32).toInt64) 0 9).bind fun r3 =>
    if r3 = 0 then
      (sC_HW_refused v_refusals (-6)).bind fun r8 =>
      some (r8.1, r8.2, v_marks)
    else
      if gi p1 8 then
      if gi p1 8 then
      some ((v_marks (p1).toNatClampNeg), v_refusals, (upd v_marks (p1).toNatClampNeg p2))
      else none
      else none
  else
    (sC_HW_refused v_refusals (r1.getD 0)).bind fun r9 =>
    some (r9.1, r9.2, v_marks)
set_option maxHeartbeats 4000000 in
theorem metC_HW_marks (l : Launch) (hfl : l.stackTraces = false) (G : kG) (ad : Nat → Nat) (pl : va_W) (sz : Nat) (v_latestFault : Int32) (v_died : Int32) (v_leastWeight : Int32) (v_noticedBy : Int32) (v_noticed : Int32) (v_orderDied : Int32) (v_orderLeast : Int32) (v_imaged : Option Nat) (v_shelves : Nat → Option Nat) (v_refusals : Nat → Int32) (v_ran : Int32) (v_bodies : Nat → Int32) (v_tweight : Int32) (v_tfright : Int32) (v_tage : Int32) (v_tasked : Nat → Int32) (v_told : Nat → Int32) (v_bestRow : Nat → Int32) (v_weight_a1 : Int32) (v_fright_a1 : Int32) (v_age_a1 : Int32) (v_asked_a1 : Nat → Int32) (v_weight_a2 : Int32) (v_fright_a2 : Int32) (v_age_a2 : Int32) (v_asked_a2 : Nat → Int32) (v_weight_a3 : Int32) (v_fright_a3 : Int32) (v_age_a3 : Int32) (v_asked_a3 : Nat → Int32) (v_weight_a4 : Int32) (v_fright_a4 : Int32) (v_age_a4 : Int32) (v_asked_a4 : Nat → Int32) (v_many : Int32) (v_pets : Int32) (v_last : Int32) (v_seed : Int32) (v_weight : Int32) (v_fright : Int32) (v_age : Int32) (v_asked : Nat → Int32) (v_homes : Nat → Option Nat) (v_marks : Nat → Int32) (v_had : Nat → Int32) (v_allergic : Nat → Int32) (v_deaths : Nat → Int32) (p1 : Int32) (p2 : Int32) (res : Int32 × (Nat → Int32) × (Nat → Int32)) (hE : sC_HW_marks v_refusals v_many v_marks p1 p2 = some res) : vx_Met l yX0_marks (wsW_ yX0_marks cX0_marks 4 (some .int) [((0 : Nat), (40 : Nat), (41 : Nat), (21 : Nat))]) ({ frames := 6, cells := 2, slots := 14, locals := 143 } : Room) (rPc G (xW G.2 ad v_latestFault v_died v_leastWeight v_noticedBy v_noticed v_orderDied v_orderLeast v_imaged v_shelves v_refusals v_ran v_bodies v_tweight v_tfright v_tage v_tasked v_told v_bestRow v_weight_a1 v_fright_a1 v_age_a1 v_asked_a1 v_weight_a2 v_fright_a2 v_age_a2 v_asked_a2 v_weight_a3 v_fright_a3 v_age_a3 v_asked_a3 v_weight_a4 v_fright_a4 v_age_a4 v_asked_a4 v_many v_pets v_last v_seed v_weight v_fright v_age v_asked v_homes v_marks v_had v_allergic v_deaths) pl (xWV ad) sz [.ref (ad 0), .int p1, .int p2]) (tQc G (xW G.2 ad v_latestFault v_died v_leastWeight v_noticedBy v_noticed v_orderDied v_orderLeast v_imaged v_shelves res.2.1 v_ran v_bodies v_tweight v_tfright v_tage v_tasked v_told v_bestRow v_weight_a1 v_fright_a1 v_age_a1 v_asked_a1 v_weight_a2 v_fright_a2 v_age_a2 v_asked_a2 v_weight_a3 v_fright_a3 v_age_a3 v_asked_a3 v_weight_a4 v_fright_a4 v_age_a4 v_asked_a4 v_many v_pets v_last v_seed v_weight v_fright v_age v_asked v_homes res.2.2 v_had v_allergic v_deaths) [] (tA sz (xWV ad) []) (True) (some (.int res.1))) (tXC G (xW G.2 ad v_latestFault v_died v_leastWeight v_noticedBy v_noticed v_orderDied v_orderLeast v_imaged v_shelves res.2.1 v_ran v_bodies v_tweight v_tfright v_tage v_tasked v_told v_bestRow v_weight_a1 v_fright_a1 v_age_a1 v_asked_a1 v_weight_a2 v_fright_a2 v_age_a2 v_asked_a2 v_weight_a3 v_fright_a3 v_age_a3 v_asked_a3 v_weight_a4 v_fright_a4 v_age_a4 v_asked_a4 v_many v_pets v_last v_seed v_weight v_fright v_age v_asked v_homes res.2.2 v_had v_allergic v_deaths) [] (tA sz (xWV ad) []) 18 RX6 none sz) 2 14 (tA sz (xWV ad) []) := by
  refine r_ofWH (own := RX0) (by decide) rfl (Nat.le_of_ble_eq_true rfl) ?_
  intro p e s m args below meth c ls C C0 D hml htab hP hS hl hr hlocks hsz
  have hl : lv_has ls 4 [(0, .ref (ad 0)), (1, .int p1), (2, .int p2)] := hl
  obtain ⟨Q, hQ⟩ : ∃ Q, Q = vx_MQ below (tQc G (xW G.2 ad v_latestFault v_died v_leastWeight v_noticedBy v_noticed v_orderDied v_orderLeast v_imaged v_shelves res.2.1 v_ran v_bodies v_tweight v_tfright v_tage v_tasked v_told v_bestRow v_weight_a1 v_fright_a1 v_age_a1 v_asked_a1 v_weight_a2 v_fright_a2 v_age_a2 v_asked_a2 v_weight_a3 v_fright_a3 v_age_a3 v_asked_a3 v_weight_a4 v_fright_a4 v_age_a4 v_asked_a4 v_many v_pets v_last v_seed v_weight v_fright v_age v_asked v_homes res.2.2 v_had v_allergic v_deaths) [] (tA sz (xWV ad) []) (True) (some (.int res.1))) (tXC G (xW G.2 ad v_latestFault v_died v_leastWeight v_noticedBy v_noticed v_orderDied v_orderLeast v_imaged v_shelves res.2.1 v_ran v_bodies v_tweight v_tfright v_tage v_tasked v_told v_bestRow v_weight_a1 v_fright_a1 v_age_a1 v_asked_a1 v_weight_a2 v_fright_a2 v_age_a2 v_asked_a2 v_weight_a3 v_fright_a3 v_age_a3 v_asked_a3 v_weight_a4 v_fright_a4 v_age_a4 v_asked_a4 v_many v_pets v_last v_seed v_weight v_fright v_age v_asked v_homes res.2.2 v_had v_allergic v_deaths) [] (tA sz (xWV ad) []) 18 RX6 none sz) args s 2 14 (tA sz (xWV ad) []) := ⟨_, rfl⟩
  rw [← hQ]
  have hret : ∀ (pc : Nat) (ls : Array Slot) (H : Heap) (locs : List Loc), decode cX0_marks pc = .ok (.ireturn, 1) → True → va_P G.1 vwCl (xW G.2 ad v_latestFault v_died v_leastWeight v_noticedBy v_noticed v_orderDied v_orderLeast v_imaged v_shelves res.2.1 v_ran v_bodies v_tweight v_tfright v_tage v_tasked v_told v_bestRow v_weight_a1 v_fright_a1 v_age_a1 v_asked_a1 v_weight_a2 v_fright_a2 v_age_a2 v_asked_a2 v_weight_a3 v_fright_a3 v_age_a3 v_asked_a3 v_weight_a4 v_fright_a4 v_age_a4 v_asked_a4 v_many v_pets v_last v_seed v_weight v_fright v_age v_asked v_homes res.2.2 v_had v_allergic v_deaths) H → va_S (tA sz (xWV ad) []) s.heap H locs → W p l e ({ frames := 6, cells := 2, slots := 14, locals := 143 } : Room) s m args below meth c H locs 2 14 Q (F0 m pc ls [(.int res.1)]) := by
    intro pc ls H locs hd hφ hP hS
    rw [hQ]
    exact t_iret C0 hr hlocks hd hφ hP P_nil hS
  clear hQ
  obtain ⟨H, hH⟩ : ∃ H, H = s.heap := ⟨_, rfl⟩
  obtain ⟨locs, hlo⟩ : ∃ locs : List Loc, locs = [] := ⟨_, rfl⟩
  have hP : va_P G.1 vwCl (xW G.2 ad v_latestFault v_died v_leastWeight v_noticedBy v_noticed v_orderDied v_orderLeast v_imaged v_shelves v_refusals v_ran v_bodies v_tweight v_tfright v_tage v_tasked v_told v_bestRow v_weight_a1 v_fright_a1 v_age_a1 v_asked_a1 v_weight_a2 v_fright_a2 v_age_a2 v_asked_a2 v_weight_a3 v_fright_a3 v_age_a3 v_asked_a3 v_weight_a4 v_fright_a4 v_age_a4 v_asked_a4 v_many v_pets v_last v_seed v_weight v_fright v_age v_asked v_homes v_marks v_had v_allergic v_deaths) H := by rw [hH]; exact hP
  have hS : va_S (tA sz (xWV ad) []) s.heap H locs := by rw [hH, hlo]; exact hS
  suffices hZ : W p l e ({ frames := 6, cells := 2, slots := 14, locals := 143 } : Room) s m args below meth c H locs 0 0 Q (F0 m 0 ls []) by rw [hH, hlo] at hZ; exact hZ
  clear hH hlo
  unfold sC_HW_marks at hE
  refine lv_aload_n C.1 C.2.1 dX0_marks_0 rfl (lv_at hl 0 rfl) ?_
  refine lv_iload_n C.1 C.2.1 dX0_marks_1 rfl (lv_at hl 1 rfl) ?_
  obtain ⟨r1, hr1, hE⟩ := it_b hE
  refine t_afterS C0 D hP P_nil hS (vx_runV (As := [.int p1]) (rest := []) ⟨C.1, C.2.1, hml, C.2.2.1, C.2.2.2.1⟩ (metC_HW_mustHome l hfl G ad pl H.size _ _ _ _ _ _ _ _ _ _ _ _ _ _ _ _ _ _ _ _ _ _ _ _ _ _ _ _ _ _ _ _ _ _ _ _ _ _ _ _ _ _ _ _ _ _ _ p1 r1 hr1) (cwV (C := RX0) 1 C.2.2.2.1 (lw_V q577 q579 qs3 q80 q580) rfl rfl rfl (by decide +kernel) ⟨Nat.le_of_ble_eq_true rfl, Nat.le_of_ble_eq_true rfl⟩) (rr_preV0 C D hP hS (va_recv C.2.2.2.2.1 hP (ci := 16) (q0 := 0) rfl rfl)) rfl rfl hl.1 rfl (lv_room (Nat.le_of_ble_eq_true rfl)) dX0_marks_2 ⟨Nat.le_of_ble_eq_true rfl, Nat.le_of_ble_eq_true rfl⟩) xW_av (fun hφ H locs hP _ hS => ?_) (fun w q H locs hw hq hc hP _ hS => ?_)
  · have hE := it_t hφ hE
    refine lv_iload_n C.1 C.2.1 dX0_marks_5 rfl (lv_at hl 2 rfl) ?_
    refine lv_i2l C.1 C.2.1 dX0_marks_6 rfl ?_
    refine lv_lconst (v := 0) C.1 C.2.1 dX0_marks_7 (by decide) ?_
    refine lv_ldc2 C.1 C.2.1 C.2.2.1 (C.2.2.2.1 _ q648) dX0_marks_8 ?_
    obtain ⟨r3, hr3, hE⟩ := it_b hE
    refine n_after [] C.2.2.2.2.2.1 C.2.2.2.2.2.2.2.1 hP hS (va_runS (As := [.long ((p2 : Int32).toInt64), .long 0, .long 9]) (rest := []) ⟨C.1, C.2.1, hml, C.2.2.1, C.2.2.2.1⟩ (metC_HW_in l G ad pl  ((p2 : Int32).toInt64) 0 9  r3 hr3) (va_cwS 3 C.2.2.2.1 (lw_S q401 q402 q80 q403) rfl rfl rfl (by decide +kernel) ⟨Nat.le_of_ble_eq_true rfl, Nat.le_of_ble_eq_true rfl⟩) (n_preS C hP hS [] rfl (by decide) rfl) rfl rfl hl.1 rfl (lv_room (Nat.le_of_ble_eq_true rfl)) dX0_marks_11 ⟨Nat.le_of_ble_eq_true rfl, Nat.le_of_ble_eq_true rfl⟩) xW_av rfl rfl rfl (fun H locs hP hS => ?_)
    refine lv_bipush (v := (-6)) C.1 C.2.1 dX0_marks_14 (by decide) ?_
    refine t_after [] C0 D hP P_nil hS (vx_runS (As := [.int r3, .int (-6)]) (rest := []) ⟨C.1, C.2.1, hml, C.2.2.1, C.2.2.2.1⟩ (metC_HW_need l hfl G ad pl H.size r3 (-6) _ (need_eq _ _)) (va_cwS 2 C.2.2.2.1 (lw_S q397 q398 q80 q399) rfl rfl rfl (by decide +kernel) ⟨Nat.le_of_ble_eq_true rfl, Nat.le_of_ble_eq_true rfl⟩) (rr_preS C D hP hS [] rfl (by decide) rfl) rfl rfl hl.1 rfl (lv_room (Nat.le_of_ble_eq_true rfl)) dX0_marks_16 ⟨Nat.le_of_ble_eq_true rfl, Nat.le_of_ble_eq_true rfl⟩) xW_av rfl rfl rfl (fun hφ H locs hP _ hS => ?_) (fun w q H locs hw hq hc hP _ hS => ?_)
    · have hE := it_f (nd_n hφ) hE
      refine lv_aload_n C.1 C.2.1 dX0_marks_19 rfl (lv_at hl 0 rfl) ?_
      refine xWg_0_6 q244 C hP dX0_marks_20 ?_
      refine xWg_18_6 q196 C hP dX0_marks_23 ?_
      refine lv_iload_n C.1 C.2.1 dX0_marks_26 rfl (lv_at hl 1 rfl) ?_
      obtain ⟨g6, hE⟩ := it_g hE
      refine xWl_22 (v := (v_marks (p1).toNatClampNeg)) C hP (gi_in g6) rfl dX0_marks_27 ?_
      refine lv_istore_n (lv' := [(3, .int (v_marks (p1).toNatClampNeg)), (0, .ref (ad 0)), (1, .int p1), (2, .int p2)]) C.1 C.2.1 dX0_marks_28 rfl hl (by decide) rfl (fun ls hl => ?_)
      refine lv_aload_n C.1 C.2.1 dX0_marks_29 rfl (lv_at hl 1 rfl) ?_
      refine xWg_0_6 q244 C hP dX0_marks_30 ?_
      refine xWg_18_6 q196 C hP dX0_marks_33 ?_
      refine lv_iload_n C.1 C.2.1 dX0_marks_36 rfl (lv_at hl 2 rfl) ?_
      refine lv_iload_n C.1 C.2.1 dX0_marks_37 rfl (lv_at hl 3 rfl) ?_
      obtain ⟨g7, hE⟩ := it_g hE
      refine xWs_22 C hP hS (gi_in g7) dX0_marks_38 (fun H locs hP hS => ?_)
      refine lv_iload_n C.1 C.2.1 dX0_marks_39 rfl (lv_at hl 0 rfl) ?_
      obtain rfl := Option.some.inj hE
      exact hret _ _ _ _ dX0_marks_40 trivial hP hS
    · obtain ⟨c4, rfl⟩ := nd_x hw
      obtain ⟨q5, rfl⟩ : ∃ z, z = q := ⟨_, rfl⟩
      have hE := it_t c4 hE
      obtain ⟨ce, g1, g2, g3⟩ := t_cell C0 hc rfl
      refine t_catch (name := "HamsterWeekends$Refused") (E := "HamsterWeekends$Refused") C0 D [] ⟨0, 40, 41, 21⟩ [] htab (fun z hz => nomatch hz) rfl (by decide) q291 (List.mem_of_getElem? (i := 1) rfl) g1 g2 g3 ?_
      refine W.eq (g2 := F0 m 41 ls [.ref q5]) rfl ?_
      refine lv_astore_n (lv' := [(3, .ref q5), (0, .ref (ad 0)), (1, .int p1), (2, .int p2)]) C.1 C.2.1 dX0_marks_41 rfl hl (by decide) rfl (fun ls hl => ?_)
      refine lv_aload_n C.1 C.2.1 dX0_marks_42 rfl (lv_at hl 1 rfl) ?_
      refine lv_aload_n C.1 C.2.1 dX0_marks_43 rfl (lv_at hl 0 rfl) ?_
      obtain ⟨r8, hr8, hE⟩ := it_b hE
      refine n_afterS C.2.2.2.2.2.2.2.1 hS (va_runV (As := [.ref q5]) (rest := []) ⟨C.1, C.2.1, hml, C.2.2.1, C.2.2.2.1⟩ (metC_HW_refused l G ad [(q5, .inr (18, xF (-6)))] _ _ _ _ _ _ _ _ _ _ _ _ _ _ _ _ _ _ _ _ _ _ _ _ _ _ _ _ _ _ _ _ _ _ _ _ _ _ _ _ _ _ _ _ _ _ _ q5 (-6) (List.mem_singleton.mpr rfl) r8 hr8) (cwV (C := RX0) 1 C.2.2.2.1 (lw_V q466 q468 qs2 q80 q469) rfl rfl rfl (by decide +kernel) ⟨Nat.le_of_ble_eq_true rfl, Nat.le_of_ble_eq_true rfl⟩) (t_preX C0 hP hc hq.1 (va_recv C.2.2.2.2.1 hP (ci := 16) (q0 := 0) rfl rfl)) rfl rfl hl.1 rfl (lv_room (Nat.le_of_ble_eq_true rfl)) dX0_marks_44 ⟨Nat.le_of_ble_eq_true rfl, Nat.le_of_ble_eq_true rfl⟩) (fun H locs hP hS => ?_)
      obtain rfl := Option.some.inj hE
      exact hret _ _ _ _ dX0_marks_47 trivial hP hS
  · have hE := it_f (by rw [hw]; exact fun h => nomatch h) hE
    obtain ⟨q2, rfl⟩ : ∃ z, z = q := ⟨_, rfl⟩
    obtain rfl : w = (r1.getD 0) := by rw [hw]; rfl
    obtain ⟨ce, g1, g2, g3⟩ := t_cell C0 hc rfl
    refine t_catch (name := "HamsterWeekends$Refused") (E := "HamsterWeekends$Refused") C0 D [] ⟨0, 40, 41, 21⟩ [] htab (fun z hz => nomatch hz) rfl (by decide) q291 (List.mem_of_getElem? (i := 1) rfl) g1 g2 g3 ?_
    refine W.eq (g2 := F0 m 41 ls [.ref q2]) rfl ?_
    refine lv_astore_n (lv' := [(3, .ref q2), (0, .ref (ad 0)), (1, .int p1), (2, .int p2)]) C.1 C.2.1 dX0_marks_41 rfl hl (by decide) rfl (fun ls hl => ?_)
    refine lv_aload_n C.1 C.2.1 dX0_marks_42 rfl (lv_at hl 1 rfl) ?_
    refine lv_aload_n C.1 C.2.1 dX0_marks_43 rfl (lv_at hl 0 rfl) ?_
    obtain ⟨r9, hr9, hE⟩ := it_b hE
    refine n_afterS C.2.2.2.2.2.2.2.1 hS (va_runV (As := [.ref q2]) (rest := []) ⟨C.1, C.2.1, hml, C.2.2.1, C.2.2.2.1⟩ (metC_HW_refused l G ad [(q2, .inr (18, xF (r1.getD 0)))] _ _ _ _ _ _ _ _ _ _ _ _ _ _ _ _ _ _ _ _ _ _ _ _ _ _ _ _ _ _ _ _ _ _ _ _ _ _ _ _ _ _ _ _ _ _ _ q2 (r1.getD 0) (List.mem_singleton.mpr rfl) r9 hr9) (cwV (C := RX0) 1 C.2.2.2.1 (lw_V q466 q468 qs2 q80 q469) rfl rfl rfl (by decide +kernel) ⟨Nat.le_of_ble_eq_true rfl, Nat.le_of_ble_eq_true rfl⟩) (t_preX C0 hP hc hq.1 (va_recv C.2.2.2.2.1 hP (ci := 16) (q0 := 0) rfl rfl)) rfl rfl hl.1 rfl (lv_room (Nat.le_of_ble_eq_true rfl)) dX0_marks_44 ⟨Nat.le_of_ble_eq_true rfl, Nat.le_of_ble_eq_true rfl⟩) (fun H locs hP hS => ?_)
    obtain rfl := Option.some.inj hE
    refine W.widen (k := 2) (n := 14) (Nat.le_of_ble_eq_true rfl) (Nat.le_of_ble_eq_true rfl) ?_
    exact hret _ _ _ _ dX0_marks_47 trivial hP hS
def sC_HW_allergic (v_refusals : Nat → Int32) (v_many : Int32) (v_allergic : Nat → Int32) (p1 : Int32) (p2 : Int32) : Option (Int32 × (Nat → Int32) × (Nat → Int32)) :=
  (sC_HW_mustHome v_many p1).bind fun r1 =>
  if r1 = none then
    if gi p1 8 then
    if p2 = 0 ∨ p2 = 1 then
    if gi p1 8 then
    if (v_allergic (p1).toNatClampNeg) = p2 then
      some (0, v_refusals, (upd v_allergic (p1).toNatClampNeg p2))
    else
      some (1, v_refusals, (upd v_allergic (p1).toNatClampNeg p2))
    else none
    else none
    else none
  else
    (sC_HW_refused v_refusals (r1.getD 0)).bind fun r7 =>
    some (r7.1, r7.2, v_allergic)
set_option maxHeartbeats 4000000 in
theorem metC_HW_allergic (l : Launch) (hfl : l.stackTraces = false) (G : kG) (ad : Nat → Nat) (pl : va_W) (sz : Nat) (v_latestFault : Int32) (v_died : Int32) (v_leastWeight : Int32) (v_noticedBy : Int32) (v_noticed : Int32) (v_orderDied : Int32) (v_orderLeast : Int32) (v_imaged : Option Nat) (v_shelves : Nat → Option Nat) (v_refusals : Nat → Int32) (v_ran : Int32) (v_bodies : Nat → Int32) (v_tweight : Int32) (v_tfright : Int32) (v_tage : Int32) (v_tasked : Nat → Int32) (v_told : Nat → Int32) (v_bestRow : Nat → Int32) (v_weight_a1 : Int32) (v_fright_a1 : Int32) (v_age_a1 : Int32) (v_asked_a1 : Nat → Int32) (v_weight_a2 : Int32) (v_fright_a2 : Int32) (v_age_a2 : Int32) (v_asked_a2 : Nat → Int32) (v_weight_a3 : Int32) (v_fright_a3 : Int32) (v_age_a3 : Int32) (v_asked_a3 : Nat → Int32) (v_weight_a4 : Int32) (v_fright_a4 : Int32) (v_age_a4 : Int32) (v_asked_a4 : Nat → Int32) (v_many : Int32) (v_pets : Int32) (v_last : Int32) (v_seed : Int32) (v_weight : Int32) (v_fright : Int32) (v_age : Int32) (v_asked : Nat → Int32) (v_homes : Nat → Option Nat) (v_marks : Nat → Int32) (v_had : Nat → Int32) (v_allergic : Nat → Int32) (v_deaths : Nat → Int32) (p1 : Int32) (p2 : Int32) (res : Int32 × (Nat → Int32) × (Nat → Int32)) (hE : sC_HW_allergic v_refusals v_many v_allergic p1 p2 = some res) : vx_Met l yX0_allergic (wsW_ yX0_allergic cX0_allergic 4 (some .int) [((0 : Nat), (35 : Nat), (36 : Nat), (21 : Nat))]) ({ frames := 6, cells := 1, slots := 7, locals := 143 } : Room) (rPc G (xW G.2 ad v_latestFault v_died v_leastWeight v_noticedBy v_noticed v_orderDied v_orderLeast v_imaged v_shelves v_refusals v_ran v_bodies v_tweight v_tfright v_tage v_tasked v_told v_bestRow v_weight_a1 v_fright_a1 v_age_a1 v_asked_a1 v_weight_a2 v_fright_a2 v_age_a2 v_asked_a2 v_weight_a3 v_fright_a3 v_age_a3 v_asked_a3 v_weight_a4 v_fright_a4 v_age_a4 v_asked_a4 v_many v_pets v_last v_seed v_weight v_fright v_age v_asked v_homes v_marks v_had v_allergic v_deaths) pl (xWV ad) sz [.ref (ad 0), .int p1, .int p2]) (tQc G (xW G.2 ad v_latestFault v_died v_leastWeight v_noticedBy v_noticed v_orderDied v_orderLeast v_imaged v_shelves res.2.1 v_ran v_bodies v_tweight v_tfright v_tage v_tasked v_told v_bestRow v_weight_a1 v_fright_a1 v_age_a1 v_asked_a1 v_weight_a2 v_fright_a2 v_age_a2 v_asked_a2 v_weight_a3 v_fright_a3 v_age_a3 v_asked_a3 v_weight_a4 v_fright_a4 v_age_a4 v_asked_a4 v_many v_pets v_last v_seed v_weight v_fright v_age v_asked v_homes v_marks v_had res.2.2 v_deaths) [] (tA sz (xWV ad) []) (True) (some (.int res.1))) (tXC G (xW G.2 ad v_latestFault v_died v_leastWeight v_noticedBy v_noticed v_orderDied v_orderLeast v_imaged v_shelves res.2.1 v_ran v_bodies v_tweight v_tfright v_tage v_tasked v_told v_bestRow v_weight_a1 v_fright_a1 v_age_a1 v_asked_a1 v_weight_a2 v_fright_a2 v_age_a2 v_asked_a2 v_weight_a3 v_fright_a3 v_age_a3 v_asked_a3 v_weight_a4 v_fright_a4 v_age_a4 v_asked_a4 v_many v_pets v_last v_seed v_weight v_fright v_age v_asked v_homes v_marks v_had res.2.2 v_deaths) [] (tA sz (xWV ad) []) 18 RX6 none sz) 1 7 (tA sz (xWV ad) []) := by
  refine r_ofWH (own := RX0) (by decide) rfl (Nat.le_of_ble_eq_true rfl) ?_
  intro p e s m args below meth c ls C C0 D hml htab hP hS hl hr hlocks hsz
  have hl : lv_has ls 4 [(0, .ref (ad 0)), (1, .int p1), (2, .int p2)] := hl
  obtain ⟨Q, hQ⟩ : ∃ Q, Q = vx_MQ below (tQc G (xW G.2 ad v_latestFault v_died v_leastWeight v_noticedBy v_noticed v_orderDied v_orderLeast v_imaged v_shelves res.2.1 v_ran v_bodies v_tweight v_tfright v_tage v_tasked v_told v_bestRow v_weight_a1 v_fright_a1 v_age_a1 v_asked_a1 v_weight_a2 v_fright_a2 v_age_a2 v_asked_a2 v_weight_a3 v_fright_a3 v_age_a3 v_asked_a3 v_weight_a4 v_fright_a4 v_age_a4 v_asked_a4 v_many v_pets v_last v_seed v_weight v_fright v_age v_asked v_homes v_marks v_had res.2.2 v_deaths) [] (tA sz (xWV ad) []) (True) (some (.int res.1))) (tXC G (xW G.2 ad v_latestFault v_died v_leastWeight v_noticedBy v_noticed v_orderDied v_orderLeast v_imaged v_shelves res.2.1 v_ran v_bodies v_tweight v_tfright v_tage v_tasked v_told v_bestRow v_weight_a1 v_fright_a1 v_age_a1 v_asked_a1 v_weight_a2 v_fright_a2 v_age_a2 v_asked_a2 v_weight_a3 v_fright_a3 v_age_a3 v_asked_a3 v_weight_a4 v_fright_a4 v_age_a4 v_asked_a4 v_many v_pets v_last v_seed v_weight v_fright v_age v_asked v_homes v_marks v_had res.2.2 v_deaths) [] (tA sz (xWV ad) []) 18 RX6 none sz) args s 1 7 (tA sz (xWV ad) []) := ⟨_, rfl⟩
  rw [← hQ]
  have hret : ∀ (pc : Nat) (ls : Array Slot) (H : Heap) (locs : List Loc), decode cX0_allergic pc = .ok (.ireturn, 1) → True → va_P G.1 vwCl (xW G.2 ad v_latestFault v_died v_leastWeight v_noticedBy v_noticed v_orderDied v_orderLeast v_imaged v_shelves res.2.1 v_ran v_bodies v_tweight v_tfright v_tage v_tasked v_told v_bestRow v_weight_a1 v_fright_a1 v_age_a1 v_asked_a1 v_weight_a2 v_fright_a2 v_age_a2 v_asked_a2 v_weight_a3 v_fright_a3 v_age_a3 v_asked_a3 v_weight_a4 v_fright_a4 v_age_a4 v_asked_a4 v_many v_pets v_last v_seed v_weight v_fright v_age v_asked v_homes v_marks v_had res.2.2 v_deaths) H → va_S (tA sz (xWV ad) []) s.heap H locs → W p l e ({ frames := 6, cells := 1, slots := 7, locals := 143 } : Room) s m args below meth c H locs 1 7 Q (F0 m pc ls [(.int res.1)]) := by
    intro pc ls H locs hd hφ hP hS
    rw [hQ]
    exact t_iret C0 hr hlocks hd hφ hP P_nil hS
  clear hQ
  obtain ⟨H, hH⟩ : ∃ H, H = s.heap := ⟨_, rfl⟩
  obtain ⟨locs, hlo⟩ : ∃ locs : List Loc, locs = [] := ⟨_, rfl⟩
  have hP : va_P G.1 vwCl (xW G.2 ad v_latestFault v_died v_leastWeight v_noticedBy v_noticed v_orderDied v_orderLeast v_imaged v_shelves v_refusals v_ran v_bodies v_tweight v_tfright v_tage v_tasked v_told v_bestRow v_weight_a1 v_fright_a1 v_age_a1 v_asked_a1 v_weight_a2 v_fright_a2 v_age_a2 v_asked_a2 v_weight_a3 v_fright_a3 v_age_a3 v_asked_a3 v_weight_a4 v_fright_a4 v_age_a4 v_asked_a4 v_many v_pets v_last v_seed v_weight v_fright v_age v_asked v_homes v_marks v_had v_allergic v_deaths) H := by rw [hH]; exact hP
  have hS : va_S (tA sz (xWV ad) []) s.heap H locs := by rw [hH, hlo]; exact hS
  suffices hZ : W p l e ({ frames := 6, cells := 1, slots := 7, locals := 143 } : Room) s m args below meth c H locs 0 0 Q (F0 m 0 ls []) by rw [hH, hlo] at hZ; exact hZ
  clear hH hlo
  unfold sC_HW_allergic at hE
  refine lv_aload_n C.1 C.2.1 dX0_allergic_0 rfl (lv_at hl 0 rfl) ?_
  refine lv_iload_n C.1 C.2.1 dX0_allergic_1 rfl (lv_at hl 1 rfl) ?_
  obtain ⟨r1, hr1, hE⟩ := it_b hE
  refine t_afterS C0 D hP P_nil hS (vx_runV (As := [.int p1]) (rest := []) ⟨C.1, C.2.1, hml, C.2.2.1, C.2.2.2.1⟩ (metC_HW_mustHome l hfl G ad pl H.size _ _ _ _ _ _ _ _ _ _ _ _ _ _ _ _ _ _ _ _ _ _ _ _ _ _ _ _ _ _ _ _ _ _ _ _ _ _ _ _ _ _ _ _ _ _ _ p1 r1 hr1) (cwV (C := RX0) 1 C.2.2.2.1 (lw_V q577 q579 qs3 q80 q580) rfl rfl rfl (by decide +kernel) ⟨Nat.le_of_ble_eq_true rfl, Nat.le_of_ble_eq_true rfl⟩) (rr_preV0 C D hP hS (va_recv C.2.2.2.2.1 hP (ci := 16) (q0 := 0) rfl rfl)) rfl rfl hl.1 rfl (lv_room (Nat.le_of_ble_eq_true rfl)) dX0_allergic_2 ⟨Nat.le_of_ble_eq_true rfl, Nat.le_of_ble_eq_true rfl⟩) xW_av (fun hφ H locs hP _ hS => ?_) (fun w q H locs hw hq hc hP _ hS => ?_)
  · have hE := it_t hφ hE
    refine lv_aload_n C.1 C.2.1 dX0_allergic_5 rfl (lv_at hl 0 rfl) ?_
    refine xWg_0_6 q244 C hP dX0_allergic_6 ?_
    refine xWg_18_8 q202 C hP dX0_allergic_9 ?_
    refine lv_iload_n C.1 C.2.1 dX0_allergic_12 rfl (lv_at hl 1 rfl) ?_
    obtain ⟨g3, hE⟩ := it_g hE
    refine xWl_24 (v := (v_allergic (p1).toNatClampNeg)) C hP (gi_in g3) rfl dX0_allergic_13 ?_
    refine lv_istore_n (lv' := [(3, .int (v_allergic (p1).toNatClampNeg)), (0, .ref (ad 0)), (1, .int p1), (2, .int p2)]) C.1 C.2.1 dX0_allergic_14 rfl hl (by decide) rfl (fun ls hl => ?_)
    refine lv_aload_n C.1 C.2.1 dX0_allergic_15 rfl (lv_at hl 1 rfl) ?_
    refine xWg_0_6 q244 C hP dX0_allergic_16 ?_
    refine xWg_18_8 q202 C hP dX0_allergic_19 ?_
    refine lv_iload_n C.1 C.2.1 dX0_allergic_22 rfl (lv_at hl 2 rfl) ?_
    refine lv_iload_n C.1 C.2.1 dX0_allergic_23 rfl (lv_at hl 3 rfl) ?_
    obtain ⟨g4, hE⟩ := it_g hE
    obtain ⟨g5, hE⟩ := it_g hE
    refine xWs_24 C hP hS (gi_in g5) g4 dX0_allergic_24 (fun H locs hP hS => ?_)
    refine lv_iload_n C.1 C.2.1 dX0_allergic_25 rfl (lv_at hl 0 rfl) ?_
    refine lv_iload_n C.1 C.2.1 dX0_allergic_26 rfl (lv_at hl 3 rfl) ?_
    refine lv_icmp_eq (tgt := 34) C.1 C.2.1 dX0_allergic_27 (by decide) (fun c6 => ?_) (fun c6 => ?_)
    · have hE := it_t c6 hE
      refine lv_iconst (v := 0) C.1 C.2.1 dX0_allergic_34 (by decide) ?_
      obtain rfl := Option.some.inj hE
      exact hret _ _ _ _ dX0_allergic_35 trivial hP hS
    · have hE := it_f c6 hE
      refine lv_iconst (v := 1) C.1 C.2.1 dX0_allergic_30 (by decide) ?_
      refine lv_goto (tgt := 35) C.1 C.2.1 dX0_allergic_31 (by decide) ?_
      obtain rfl := Option.some.inj hE
      exact hret _ _ _ _ dX0_allergic_35 trivial hP hS
  · have hE := it_f (by rw [hw]; exact fun h => nomatch h) hE
    obtain ⟨q2, rfl⟩ : ∃ z, z = q := ⟨_, rfl⟩
    obtain rfl : w = (r1.getD 0) := by rw [hw]; rfl
    obtain ⟨ce, g1, g2, g3⟩ := t_cell C0 hc rfl
    refine t_catch (name := "HamsterWeekends$Refused") (E := "HamsterWeekends$Refused") C0 D [] ⟨0, 35, 36, 21⟩ [] htab (fun z hz => nomatch hz) rfl (by decide) q291 (List.mem_of_getElem? (i := 1) rfl) g1 g2 g3 ?_
    refine W.eq (g2 := F0 m 36 ls [.ref q2]) rfl ?_
    refine lv_astore_n (lv' := [(3, .ref q2), (0, .ref (ad 0)), (1, .int p1), (2, .int p2)]) C.1 C.2.1 dX0_allergic_36 rfl hl (by decide) rfl (fun ls hl => ?_)
    refine lv_aload_n C.1 C.2.1 dX0_allergic_37 rfl (lv_at hl 1 rfl) ?_
    refine lv_aload_n C.1 C.2.1 dX0_allergic_38 rfl (lv_at hl 0 rfl) ?_
    obtain ⟨r7, hr7, hE⟩ := it_b hE
    refine n_afterS C.2.2.2.2.2.2.2.1 hS (va_runV (As := [.ref q2]) (rest := []) ⟨C.1, C.2.1, hml, C.2.2.1, C.2.2.2.1⟩ (metC_HW_refused l G ad [(q2, .inr (18, xF (r1.getD 0)))] _ _ _ _ _ _ _ _ _ _ _ _ _ _ _ _ _ _ _ _ _ _ _ _ _ _ _ _ _ _ _ _ _ _ _ _ _ _ _ _ _ _ _ _ _ _ _ q2 (r1.getD 0) (List.mem_singleton.mpr rfl) r7 hr7) (cwV (C := RX0) 1 C.2.2.2.1 (lw_V q466 q468 qs2 q80 q469) rfl rfl rfl (by decide +kernel) ⟨Nat.le_of_ble_eq_true rfl, Nat.le_of_ble_eq_true rfl⟩) (t_preX C0 hP hc hq.1 (va_recv C.2.2.2.2.1 hP (ci := 16) (q0 := 0) rfl rfl)) rfl rfl hl.1 rfl (lv_room (Nat.le_of_ble_eq_true rfl)) dX0_allergic_39 ⟨Nat.le_of_ble_eq_true rfl, Nat.le_of_ble_eq_true rfl⟩) (fun H locs hP hS => ?_)
    obtain rfl := Option.some.inj hE
    exact hret _ _ _ _ dX0_allergic_42 trivial hP hS
def sC_HW_ask (v_refusals : Nat → Int32) (v_weight : Int32) (v_fright : Int32) (v_age : Int32) (v_asked : Nat → Int32) (p1 : Int32) (p2 : Int32) : Option (Int32 × (Nat → Int32) × Int32 × Int32 × Int32 × (Nat → Int32)) :=
  (sC_HW_mayAsk p1 p2).bind fun r1 =>
  if r1 = 0 then
    (sC_HW_refused v_refusals (-6)).bind fun r10 =>
    some (r10.1, r10.2, v_weight, v_fright, v_age, v_asked)
  else
    (sC_HW_asked v_weight v_fright v_age v_asked p1).bind fun r4 =>
    @Option.bind (Int32 × Int32 × Int32 × (Nat → Int32)) _ (
      if p1 = 0 then
        some (p2, v_fright, v_age, v_asked)
      else
      if p1 = 1 then
        some (v_weight, p2, v_age, v_asked)
      else
      if p1 = 2 then
        some (v_weight, v_fright, p2, v_asked)
      else
      if gi (p1 - 3) 3 then
      some (v_weight, v_fright, v_age, (upd v_asked ((p1 - 3)).toNatClampNeg p2))
      else none) fun u5 =>
    some (r4, v_refusals, u5.1, u5.2.1, u5.2.2.1, u5.2.2.2)
set_option maxHeartbeats 4000000 in
theorem metC_HW_ask (l : Launch) (hfl : l.stackTraces = false) (G : kG) (ad : Nat → Nat) (pl : va_W) (sz : Nat) (v_latestFault : Int32) (v_died : Int32) (v_leastWeight : Int32) (v_noticedBy : Int32) (v_noticed : Int32) (v_orderDied : Int32) (v_orderLeast : Int32) (v_imaged : Option Nat) (v_shelves : Nat → Option Nat) (v_refusals : Nat → Int32) (v_ran : Int32) (v_bodies : Nat → Int32) (v_tweight : Int32) (v_tfright : Int32) (v_tage : Int32) (v_tasked : Nat → Int32) (v_told : Nat → Int32) (v_bestRow : Nat → Int32) (v_weight_a1 : Int32) (v_fright_a1 : Int32) (v_age_a1 : Int32) (v_asked_a1 : Nat → Int32) (v_weight_a2 : Int32) (v_fright_a2 : Int32) (v_age_a2 : Int32) (v_asked_a2 : Nat → Int32) (v_weight_a3 : Int32) (v_fright_a3 : Int32) (v_age_a3 : Int32) (v_asked_a3 : Nat → Int32) (v_weight_a4 : Int32) (v_fright_a4 : Int32) (v_age_a4 : Int32) (v_asked_a4 : Nat → Int32) (v_many : Int32) (v_pets : Int32) (v_last : Int32) (v_seed : Int32) (v_weight : Int32) (v_fright : Int32) (v_age : Int32) (v_asked : Nat → Int32) (v_homes : Nat → Option Nat) (v_marks : Nat → Int32) (v_had : Nat → Int32) (v_allergic : Nat → Int32) (v_deaths : Nat → Int32) (p1 : Int32) (p2 : Int32) (res : Int32 × (Nat → Int32) × Int32 × Int32 × Int32 × (Nat → Int32)) (hE : sC_HW_ask v_refusals v_weight v_fright v_age v_asked p1 p2 = some res) : vx_Met l yX0_ask (wsW_ yX0_ask cX0_ask 4 (some .int) [((0 : Nat), (102 : Nat), (103 : Nat), (21 : Nat))]) ({ frames := 5, cells := 1, slots := 7, locals := 122 } : Room) (rPc G (xW G.2 ad v_latestFault v_died v_leastWeight v_noticedBy v_noticed v_orderDied v_orderLeast v_imaged v_shelves v_refusals v_ran v_bodies v_tweight v_tfright v_tage v_tasked v_told v_bestRow v_weight_a1 v_fright_a1 v_age_a1 v_asked_a1 v_weight_a2 v_fright_a2 v_age_a2 v_asked_a2 v_weight_a3 v_fright_a3 v_age_a3 v_asked_a3 v_weight_a4 v_fright_a4 v_age_a4 v_asked_a4 v_many v_pets v_last v_seed v_weight v_fright v_age v_asked v_homes v_marks v_had v_allergic v_deaths) pl (xWV ad) sz [.ref (ad 0), .int p1, .int p2]) (tQc G (xW G.2 ad v_latestFault v_died v_leastWeight v_noticedBy v_noticed v_orderDied v_orderLeast v_imaged v_shelves res.2.1 v_ran v_bodies v_tweight v_tfright v_tage v_tasked v_told v_bestRow v_weight_a1 v_fright_a1 v_age_a1 v_asked_a1 v_weight_a2 v_fright_a2 v_age_a2 v_asked_a2 v_weight_a3 v_fright_a3 v_age_a3 v_asked_a3 v_weight_a4 v_fright_a4 v_age_a4 v_asked_a4 v_many v_pets v_last v_seed res.2.2.1 res.2.2.2.1 res.2.2.2.2.1 res.2.2.2.2.2 v_homes v_marks v_had v_allergic v_deaths) [] (tA sz (xWV ad) []) (True) (some (.int res.1))) (tXC G (xW G.2 ad v_latestFault v_died v_leastWeight v_noticedBy v_noticed v_orderDied v_orderLeast v_imaged v_shelves res.2.1 v_ran v_bodies v_tweight v_tfright v_tage v_tasked v_told v_bestRow v_weight_a1 v_fright_a1 v_age_a1 v_asked_a1 v_weight_a2 v_fright_a2 v_age_a2 v_asked_a2 v_weight_a3 v_fright_a3 v_age_a3 v_asked_a3 v_weight_a4 v_fright_a4 v_age_a4 v_asked_a4 v_many v_pets v_last v_seed res.2.2.1 res.2.2.2.1 res.2.2.2.2.1 res.2.2.2.2.2 v_homes v_marks v_had v_allergic v_deaths) [] (tA sz (xWV ad) []) 18 RX6 none sz) 1 7 (tA sz (xWV ad) []) := by
  refine r_ofWH (own := RX0) (by decide) rfl (Nat.le_of_ble_eq_true rfl) ?_
  intro p e s m args below meth c ls C C0 D hml htab hP hS hl hr hlocks hsz
  have hl : lv_has ls 4 [(0, .ref (ad 0)), (1, .int p1), (2, .int p2)] := hl
  obtain ⟨Q, hQ⟩ : ∃ Q, Q = vx_MQ below (tQc G (xW G.2 ad v_latestFault v_died v_leastWeight v_noticedBy v_noticed v_orderDied v_orderLeast v_imaged v_shelves res.2.1 v_ran v_bodies v_tweight v_tfright v_tage v_tasked v_told v_bestRow v_weight_a1 v_fright_a1 v_age_a1 v_asked_a1 v_weight_a2 v_fright_a2 v_age_a2 v_asked_a2 v_weight_a3 v_fright_a3 v_age_a3 v_asked_a3 v_weight_a4 v_fright_a4 v_age_a4 v_asked_a4 v_many v_pets v_last v_seed res.2.2.1 res.2.2.2.1 res.2.2.2.2.1 res.2.2.2.2.2 v_homes v_marks v_had v_allergic v_deaths) [] (tA sz (xWV ad) []) (True) (some (.int res.1))) (tXC G (xW G.2 ad v_latestFault v_died v_leastWeight v_noticedBy v_noticed v_orderDied v_orderLeast v_imaged v_shelves res.2.1 v_ran v_bodies v_tweight v_tfright v_tage v_tasked v_told v_bestRow v_weight_a1 v_fright_a1 v_age_a1 v_asked_a1 v_weight_a2 v_fright_a2 v_age_a2 v_asked_a2 v_weight_a3 v_fright_a3 v_age_a3 v_asked_a3 v_weight_a4 v_fright_a4 v_age_a4 v_asked_a4 v_many v_pets v_last v_seed res.2.2.1 res.2.2.2.1 res.2.2.2.2.1 res.2.2.2.2.2 v_homes v_marks v_had v_allergic v_deaths) [] (tA sz (xWV ad) []) 18 RX6 none sz) args s 1 7 (tA sz (xWV ad) []) := ⟨_, rfl⟩
  rw [← hQ]
  have hret : ∀ (pc : Nat) (ls : Array Slot) (H : Heap) (locs : List Loc), decode cX0_ask pc = .ok (.ireturn, 1) → True → va_P G.1 vwCl (xW G.2 ad v_latestFault v_died v_leastWeight v_noticedBy v_noticed v_orderDied v_orderLeast v_imaged v_shelves res.2.1 v_ran v_bodies v_tweight v_tfright v_tage v_tasked v_told v_bestRow v_weight_a1 v_fright_a1 v_age_a1 v_asked_a1 v_weight_a2 v_fright_a2 v_age_a2 v_asked_a2 v_weight_a3 v_fright_a3 v_age_a3 v_asked_a3 v_weight_a4 v_fright_a4 v_age_a4 v_asked_a4 v_many v_pets v_last v_seed res.2.2.1 res.2.2.2.1 res.2.2.2.2.1 res.2.2.2.2.2 v_homes v_marks v_had v_allergic v_deaths) H → va_S (tA sz (xWV ad) []) s.heap H locs → W p l e ({ frames := 5, cells := 1, slots := 7, locals := 122 } : Room) s m args below meth c H locs 1 7 Q (F0 m pc ls [(.int res.1)]) := by
    intro pc ls H locs hd hφ hP hS
    rw [hQ]
    exact t_iret C0 hr hlocks hd hφ hP P_nil hS
  clear hQ
  obtain ⟨H, hH⟩ : ∃ H, H = s.heap := ⟨_, rfl⟩
  obtain ⟨locs, hlo⟩ : ∃ locs : List Loc, locs = [] := ⟨_, rfl⟩
  have hP : va_P G.1 vwCl (xW G.2 ad v_latestFault v_died v_leastWeight v_noticedBy v_noticed v_orderDied v_orderLeast v_imaged v_shelves v_refusals v_ran v_bodies v_tweight v_tfright v_tage v_tasked v_told v_bestRow v_weight_a1 v_fright_a1 v_age_a1 v_asked_a1 v_weight_a2 v_fright_a2 v_age_a2 v_asked_a2 v_weight_a3 v_fright_a3 v_age_a3 v_asked_a3 v_weight_a4 v_fright_a4 v_age_a4 v_asked_a4 v_many v_pets v_last v_seed v_weight v_fright v_age v_asked v_homes v_marks v_had v_allergic v_deaths) H := by rw [hH]; exact hP
  have hS : va_S (tA sz (xWV ad) []) s.heap H locs := by rw [hH, hlo]; exact hS
  suffices hZ : W p l e ({ frames := 5, cells := 1, slots := 7, locals := 122 } : Room) s m args below meth c H locs 0 0 Q (F0 m 0 ls []) by rw [hH, hlo] at hZ; exact hZ
  clear hH hlo
  unfold sC_HW_ask at hE
  refine lv_iload_n C.1 C.2.1 dX0_ask_0 rfl (lv_at hl 1 rfl) ?_
  refine lv_iload_n C.1 C.2.1 dX0_ask_1 rfl (lv_at hl 2 rfl) ?_
  obtain ⟨r1, hr1, hE⟩ := it_b hE
  refine n_after [] C.2.2.2.2.2.1 C.2.2.2.2.2.2.2.1 hP hS (va_runS (As := [.int p1, .int p2]) (rest := []) ⟨C.1, C.2.1, hml, C.2.2.1, C.2.2.2.1⟩ (metC_HW_mayAsk l G ad pl  p1 p2  r1 hr1) (va_cwS 2 C.2.2.2.1 (lw_S q775 q776 q80 q777) rfl rfl rfl (by decide +kernel) ⟨Nat.le_of_ble_eq_true rfl, Nat.le_of_ble_eq_true rfl⟩) (n_preS C hP hS [] rfl (by decide) rfl) rfl rfl hl.1 rfl (lv_room (Nat.le_of_ble_eq_true rfl)) dX0_ask_2 ⟨Nat.le_of_ble_eq_true rfl, Nat.le_of_ble_eq_true rfl⟩) xW_av rfl rfl rfl (fun H locs hP hS => ?_)
  refine lv_bipush (v := (-6)) C.1 C.2.1 dX0_ask_5 (by decide) ?_
  refine t_after [] C0 D hP P_nil hS (vx_runS (As := [.int r1, .int (-6)]) (rest := []) ⟨C.1, C.2.1, hml, C.2.2.1, C.2.2.2.1⟩ (metC_HW_need l hfl G ad pl H.size r1 (-6) _ (need_eq _ _)) (va_cwS 2 C.2.2.2.1 (lw_S q397 q398 q80 q399) rfl rfl rfl (by decide +kernel) ⟨Nat.le_of_ble_eq_true rfl, Nat.le_of_ble_eq_true rfl⟩) (rr_preS C D hP hS [] rfl (by decide) rfl) rfl rfl hl.1 rfl (lv_room (Nat.le_of_ble_eq_true rfl)) dX0_ask_7 ⟨Nat.le_of_ble_eq_true rfl, Nat.le_of_ble_eq_true rfl⟩) xW_av rfl rfl rfl (fun hφ H locs hP _ hS => ?_) (fun w q H locs hw hq hc hP _ hS => ?_)
  · have hE := it_f (nd_n hφ) hE
    refine lv_aload_n C.1 C.2.1 dX0_ask_10 rfl (lv_at hl 0 rfl) ?_
    refine lv_iload_n C.1 C.2.1 dX0_ask_11 rfl (lv_at hl 1 rfl) ?_
    obtain ⟨r4, hr4, hE⟩ := it_b hE
    refine n_afterS C.2.2.2.2.2.2.2.1 hS (va_runV (As := [.int p1]) (rest := []) ⟨C.1, C.2.1, hml, C.2.2.1, C.2.2.2.1⟩ (metC_HW_asked l G ad pl _ _ _ _ _ _ _ _ _ _ _ _ _ _ _ _ _ _ _ _ _ _ _ _ _ _ _ _ _ _ _ _ _ _ _ _ _ _ _ _ _ _ _ _ _ _ _ p1  r4 hr4) (cwV (C := RX0) 1 C.2.2.2.1 (lw_V q782 q784 qs5 q80 q785) rfl rfl rfl (by decide +kernel) ⟨Nat.le_of_ble_eq_true rfl, Nat.le_of_ble_eq_true rfl⟩) (n_preV0 C hP hS (va_recv C.2.2.2.2.1 hP (ci := 16) (q0 := 0) rfl rfl)) rfl rfl hl.1 rfl (lv_room (Nat.le_of_ble_eq_true rfl)) dX0_ask_12 ⟨Nat.le_of_ble_eq_true rfl, Nat.le_of_ble_eq_true rfl⟩) (fun H locs hP hS => ?_)
    refine lv_istore_n (lv' := [(3, .int r4), (0, .ref (ad 0)), (1, .int p1), (2, .int p2)]) C.1 C.2.1 dX0_ask_15 rfl hl (by decide) rfl (fun ls hl => ?_)
    refine lv_iload_n C.1 C.2.1 dX0_ask_16 rfl (lv_at hl 2 rfl) ?_
    obtain ⟨u5, hR, hE⟩ := it_b hE
    have hJ101u5 : ∀ (H : Heap) (locs : List Loc) (ls : Array Slot), va_P G.1 vwCl (xW G.2 ad v_latestFault v_died v_leastWeight v_noticedBy v_noticed v_orderDied v_orderLeast v_imaged v_shelves v_refusals v_ran v_bodies v_tweight v_tfright v_tage v_tasked v_told v_bestRow v_weight_a1 v_fright_a1 v_age_a1 v_asked_a1 v_weight_a2 v_fright_a2 v_age_a2 v_asked_a2 v_weight_a3 v_fright_a3 v_age_a3 v_asked_a3 v_weight_a4 v_fright_a4 v_age_a4 v_asked_a4 v_many v_pets v_last v_seed u5.1 u5.2.1 u5.2.2.1 u5.2.2.2 v_homes v_marks v_had v_allergic v_deaths) H → va_S (tA sz (xWV ad) []) s.heap H locs → lv_has ls 4 [(0, .ref (ad 0)), (3, .int r4)] → W p l e ({ frames := 5, cells := 1, slots := 7, locals := 122 } : Room) s m args below meth c H locs 1 7 Q (F0 m 101 ls []) := by
      intro H locs ls hP hS hl
      refine lv_iload_n C.1 C.2.1 dX0_ask_101 rfl (lv_at hl 1 rfl) ?_
      obtain rfl := Option.some.inj hE
      exact hret _ _ _ _ dX0_ask_102 trivial hP hS
    have hE := hR
    by_cases c6 : p1 = 0
    · have hE := it_t c6 hE
      refine lv_tableIn (tgt := 44) C.1 C.2.1 dX0_ask_17 (by rw [c6]; decide) (by rw [c6]; decide) (by rw [c6]; rfl) (by decide) ?_
      refine lv_aload_n C.1 C.2.1 dX0_ask_44 rfl (lv_at hl 1 rfl) ?_
      refine xWg_0_6 q244 C hP dX0_ask_45 ?_
      refine xWg_18_4 q191 C hP dX0_ask_48 ?_
      refine lv_iload_n C.1 C.2.1 dX0_ask_51 rfl (lv_at hl 3 rfl) ?_
      refine xWp_19_0 q149 C hP hS dX0_ask_52 (fun H locs hP hS => ?_)
      refine lv_goto (tgt := 101) C.1 C.2.1 dX0_ask_55 (by decide) ?_
      obtain rfl := Option.some.inj hE
      exact hJ101u5 H locs ls hP hS (lv_sub hl [1, 0] rfl)
    have hE := it_f c6 hE
    by_cases c7 : p1 = 1
    · have hE := it_t c7 hE
      refine lv_tableIn (tgt := 58) C.1 C.2.1 dX0_ask_17 (by rw [c7]; decide) (by rw [c7]; decide) (by rw [c7]; rfl) (by decide) ?_
      refine lv_aload_n C.1 C.2.1 dX0_ask_58 rfl (lv_at hl 1 rfl) ?_
      refine xWg_0_6 q244 C hP dX0_ask_59 ?_
      refine xWg_18_4 q191 C hP dX0_ask_62 ?_
      refine lv_iload_n C.1 C.2.1 dX0_ask_65 rfl (lv_at hl 3 rfl) ?_
      refine xWp_19_1 q154 C hP hS dX0_ask_66 (fun H locs hP hS => ?_)
      refine lv_goto (tgt := 101) C.1 C.2.1 dX0_ask_69 (by decide) ?_
      obtain rfl := Option.some.inj hE
      exact hJ101u5 H locs ls hP hS (lv_sub hl [1, 0] rfl)
    have hE := it_f c7 hE
    by_cases c8 : p1 = 2
    · have hE := it_t c8 hE
      refine lv_tableIn (tgt := 72) C.1 C.2.1 dX0_ask_17 (by rw [c8]; decide) (by rw [c8]; decide) (by rw [c8]; rfl) (by decide) ?_
      refine lv_aload_n C.1 C.2.1 dX0_ask_72 rfl (lv_at hl 1 rfl) ?_
      refine xWg_0_6 q244 C hP dX0_ask_73 ?_
      refine xWg_18_4 q191 C hP dX0_ask_76 ?_
      refine lv_iload_n C.1 C.2.1 dX0_ask_79 rfl (lv_at hl 3 rfl) ?_
      refine xWp_19_2 q157 C hP hS dX0_ask_80 (fun H locs hP hS => ?_)
      refine lv_goto (tgt := 101) C.1 C.2.1 dX0_ask_83 (by decide) ?_
      obtain rfl := Option.some.inj hE
      exact hJ101u5 H locs ls hP hS (lv_sub hl [1, 0] rfl)
    have hE := it_f c8 hE
    refine lv_tableOut (tgt := 86) C.1 C.2.1 dX0_ask_17 (ts_e (ts_s (ts_s (ts_s (ts_0 0) c6 rfl rfl) c7 rfl rfl) c8 rfl rfl) rfl) (by decide) ?_
    refine lv_aload_n C.1 C.2.1 dX0_ask_86 rfl (lv_at hl 1 rfl) ?_
    refine xWg_0_6 q244 C hP dX0_ask_87 ?_
    refine xWg_18_4 q191 C hP dX0_ask_90 ?_
    refine xWg_19_3 q160 C hP dX0_ask_93 ?_
    refine lv_iload_n C.1 C.2.1 dX0_ask_96 rfl (lv_at hl 2 rfl) ?_
    refine lv_iconst (v := 3) C.1 C.2.1 dX0_ask_97 (by decide) ?_
    refine lv_isub C.1 C.2.1 dX0_ask_98 ?_
    refine lv_iload_n C.1 C.2.1 dX0_ask_99 rfl (lv_at hl 3 rfl) ?_
    obtain ⟨g9, hE⟩ := it_g hE
    refine xWs_20 C hP hS (gi_in g9) dX0_ask_100 (fun H locs hP hS => ?_)
    obtain rfl := Option.some.inj hE
    exact hJ101u5 H locs ls hP hS (lv_sub hl [1, 0] rfl)
  · obtain ⟨c2, rfl⟩ := nd_x hw
    obtain ⟨q3, rfl⟩ : ∃ z, z = q := ⟨_, rfl⟩
    have hE := it_t c2 hE
    obtain ⟨ce, g1, g2, g3⟩ := t_cell C0 hc rfl
    refine t_catch (name := "HamsterWeekends$Refused") (E := "HamsterWeekends$Refused") C0 D [] ⟨0, 102, 103, 21⟩ [] htab (fun z hz => nomatch hz) rfl (by decide) q291 (List.mem_of_getElem? (i := 1) rfl) g1 g2 g3 ?_
    refine W.eq (g2 := F0 m 103 ls [.ref q3]) rfl ?_
    refine lv_astore_n (lv' := [(3, .ref q3), (0, .ref (ad 0)), (1, .int p1), (2, .int p2)]) C.1 C.2.1 dX0_ask_103 rfl hl (by decide) rfl (fun ls hl => ?_)
    refine lv_aload_n C.1 C.2.1 dX0_ask_104 rfl (lv_at hl 1 rfl) ?_
    refine lv_aload_n C.1 C.2.1 dX0_ask_105 rfl (lv_at hl 0 rfl) ?_
    obtain ⟨r10, hr10, hE⟩ := it_b hE
    refine n_afterS C.2.2.2.2.2.2.2.1 hS (va_runV (As := [.ref q3]) (rest := []) ⟨C.1, C.2.1, hml, C.2.2.1, C.2.2.2.1⟩ (metC_HW_refused l G ad [(q3, .inr (18, xF (-6)))] _ _ _ _ _ _ _ _ _ _ _ _ _ _ _ _ _ _ _ _ _ _ _ _ _ _ _ _ _ _ _ _ _ _ _ _ _ _ _ _ _ _ _ _ _ _ _ q3 (-6) (List.mem_singleton.mpr rfl) r10 hr10) (cwV (C := RX0) 1 C.2.2.2.1 (lw_V q466 q468 qs2 q80 q469) rfl rfl rfl (by decide +kernel) ⟨Nat.le_of_ble_eq_true rfl, Nat.le_of_ble_eq_true rfl⟩) (t_preX C0 hP hc hq.1 (va_recv C.2.2.2.2.1 hP (ci := 16) (q0 := 0) rfl rfl)) rfl rfl hl.1 rfl (lv_room (Nat.le_of_ble_eq_true rfl)) dX0_ask_106 ⟨Nat.le_of_ble_eq_true rfl, Nat.le_of_ble_eq_true rfl⟩) (fun H locs hP hS => ?_)
    obtain rfl := Option.some.inj hE
    exact hret _ _ _ _ dX0_ask_109 trivial hP hS
def sC_HW_norm (v_refusals : Nat → Int32) (v_age : Int32) (v_asked : Nat → Int32) (p1 : Int32) : Option (Int32 × (Nat → Int32)) :=
  (sC_HW_in ((p1 : Int32).toInt64) 0 999).bind fun r1 =>
  if r1 = 0 then
    (sC_HW_refused v_refusals (-6)).bind fun r5 =>
    some (r5.1, r5.2)
  else
    (sC_Pet_norm v_age v_asked p1).bind fun r4 =>
    some (r4, v_refusals)
set_option maxHeartbeats 4000000 in
theorem metC_HW_norm (l : Launch) (hfl : l.stackTraces = false) (G : kG) (ad : Nat → Nat) (pl : va_W) (sz : Nat) (v_latestFault : Int32) (v_died : Int32) (v_leastWeight : Int32) (v_noticedBy : Int32) (v_noticed : Int32) (v_orderDied : Int32) (v_orderLeast : Int32) (v_imaged : Option Nat) (v_shelves : Nat → Option Nat) (v_refusals : Nat → Int32) (v_ran : Int32) (v_bodies : Nat → Int32) (v_tweight : Int32) (v_tfright : Int32) (v_tage : Int32) (v_tasked : Nat → Int32) (v_told : Nat → Int32) (v_bestRow : Nat → Int32) (v_weight_a1 : Int32) (v_fright_a1 : Int32) (v_age_a1 : Int32) (v_asked_a1 : Nat → Int32) (v_weight_a2 : Int32) (v_fright_a2 : Int32) (v_age_a2 : Int32) (v_asked_a2 : Nat → Int32) (v_weight_a3 : Int32) (v_fright_a3 : Int32) (v_age_a3 : Int32) (v_asked_a3 : Nat → Int32) (v_weight_a4 : Int32) (v_fright_a4 : Int32) (v_age_a4 : Int32) (v_asked_a4 : Nat → Int32) (v_many : Int32) (v_pets : Int32) (v_last : Int32) (v_seed : Int32) (v_weight : Int32) (v_fright : Int32) (v_age : Int32) (v_asked : Nat → Int32) (v_homes : Nat → Option Nat) (v_marks : Nat → Int32) (v_had : Nat → Int32) (v_allergic : Nat → Int32) (v_deaths : Nat → Int32) (p1 : Int32) (res : Int32 × (Nat → Int32)) (hE : sC_HW_norm v_refusals v_age v_asked p1 = some res) : vx_Met l yX0_norm (wsW_ yX0_norm cX0_norm 3 (some .int) [((0 : Nat), (25 : Nat), (26 : Nat), (21 : Nat))]) ({ frames := 5, cells := 1, slots := 7, locals := 122 } : Room) (rPc G (xW G.2 ad v_latestFault v_died v_leastWeight v_noticedBy v_noticed v_orderDied v_orderLeast v_imaged v_shelves v_refusals v_ran v_bodies v_tweight v_tfright v_tage v_tasked v_told v_bestRow v_weight_a1 v_fright_a1 v_age_a1 v_asked_a1 v_weight_a2 v_fright_a2 v_age_a2 v_asked_a2 v_weight_a3 v_fright_a3 v_age_a3 v_asked_a3 v_weight_a4 v_fright_a4 v_age_a4 v_asked_a4 v_many v_pets v_last v_seed v_weight v_fright v_age v_asked v_homes v_marks v_had v_allergic v_deaths) pl (xWV ad) sz [.ref (ad 0), .int p1]) (tQc G (xW G.2 ad v_latestFault v_died v_leastWeight v_noticedBy v_noticed v_orderDied v_orderLeast v_imaged v_shelves res.2 v_ran v_bodies v_tweight v_tfright v_tage v_tasked v_told v_bestRow v_weight_a1 v_fright_a1 v_age_a1 v_asked_a1 v_weight_a2 v_fright_a2 v_age_a2 v_asked_a2 v_weight_a3 v_fright_a3 v_age_a3 v_asked_a3 v_weight_a4 v_fright_a4 v_age_a4 v_asked_a4 v_many v_pets v_last v_seed v_weight v_fright v_age v_asked v_homes v_marks v_had v_allergic v_deaths) [] (tA sz (xWV ad) []) (True) (some (.int res.1))) (tXC G (xW G.2 ad v_latestFault v_died v_leastWeight v_noticedBy v_noticed v_orderDied v_orderLeast v_imaged v_shelves res.2 v_ran v_bodies v_tweight v_tfright v_tage v_tasked v_told v_bestRow v_weight_a1 v_fright_a1 v_age_a1 v_asked_a1 v_weight_a2 v_fright_a2 v_age_a2 v_asked_a2 v_weight_a3 v_fright_a3 v_age_a3 v_asked_a3 v_weight_a4 v_fright_a4 v_age_a4 v_asked_a4 v_many v_pets v_last v_seed v_weight v_fright v_age v_asked v_homes v_marks v_had v_allergic v_deaths) [] (tA sz (xWV ad) []) 18 RX6 none sz) 1 7 (tA sz (xWV ad) []) := by
  refine r_ofWH (own := RX0) (by decide) rfl (Nat.le_of_ble_eq_true rfl) ?_
  intro p e s m args below meth c ls C C0 D hml htab hP hS hl hr hlocks hsz
  have hl : lv_has ls 3 [(0, .ref (ad 0)), (1, .int p1)] := hl
  obtain ⟨Q, hQ⟩ : ∃ Q, Q = vx_MQ below (tQc G (xW G.2 ad v_latestFault v_died v_leastWeight v_noticedBy v_noticed v_orderDied v_orderLeast v_imaged v_shelves res.2 v_ran v_bodies v_tweight v_tfright v_tage v_tasked v_told v_bestRow v_weight_a1 v_fright_a1 v_age_a1 v_asked_a1 v_weight_a2 v_fright_a2 v_age_a2 v_asked_a2 v_weight_a3 v_fright_a3 v_age_a3 v_asked_a3 v_weight_a4 v_fright_a4 v_age_a4 v_asked_a4 v_many v_pets v_last v_seed v_weight v_fright v_age v_asked v_homes v_marks v_had v_allergic v_deaths) [] (tA sz (xWV ad) []) (True) (some (.int res.1))) (tXC G (xW G.2 ad v_latestFault v_died v_leastWeight v_noticedBy v_noticed v_orderDied v_orderLeast v_imaged v_shelves res.2 v_ran v_bodies v_tweight v_tfright v_tage v_tasked v_told v_bestRow v_weight_a1 v_fright_a1 v_age_a1 v_asked_a1 v_weight_a2 v_fright_a2 v_age_a2 v_asked_a2 v_weight_a3 v_fright_a3 v_age_a3 v_asked_a3 v_weight_a4 v_fright_a4 v_age_a4 v_asked_a4 v_many v_pets v_last v_seed v_weight v_fright v_age v_asked v_homes v_marks v_had v_allergic v_deaths) [] (tA sz (xWV ad) []) 18 RX6 none sz) args s 1 7 (tA sz (xWV ad) []) := ⟨_, rfl⟩
  rw [← hQ]
  have hret : ∀ (pc : Nat) (ls : Array Slot) (H : Heap) (locs : List Loc), decode cX0_norm pc = .ok (.ireturn, 1) → True → va_P G.1 vwCl (xW G.2 ad v_latestFault v_died v_leastWeight v_noticedBy v_noticed v_orderDied v_orderLeast v_imaged v_shelves res.2 v_ran v_bodies v_tweight v_tfright v_tage v_tasked v_told v_bestRow v_weight_a1 v_fright_a1 v_age_a1 v_asked_a1 v_weight_a2 v_fright_a2 v_age_a2 v_asked_a2 v_weight_a3 v_fright_a3 v_age_a3 v_asked_a3 v_weight_a4 v_fright_a4 v_age_a4 v_asked_a4 v_many v_pets v_last v_seed v_weight v_fright v_age v_asked v_homes v_marks v_had v_allergic v_deaths) H → va_S (tA sz (xWV ad) []) s.heap H locs → W p l e ({ frames := 5, cells := 1, slots := 7, locals := 122 } : Room) s m args below meth c H locs 1 7 Q (F0 m pc ls [(.int res.1)]) := by
    intro pc ls H locs hd hφ hP hS
    rw [hQ]
    exact t_iret C0 hr hlocks hd hφ hP P_nil hS
  clear hQ
  obtain ⟨H, hH⟩ : ∃ H, H = s.heap := ⟨_, rfl⟩
  obtain ⟨locs, hlo⟩ : ∃ locs : List Loc, locs = [] := ⟨_, rfl⟩
  have hP : va_P G.1 vwCl (xW G.2 ad v_latestFault v_died v_leastWeight v_noticedBy v_noticed v_orderDied v_orderLeast v_imaged v_shelves v_refusals v_ran v_bodies v_tweight v_tfright v_tage v_tasked v_told v_bestRow v_weight_a1 v_fright_a1 v_age_a1 v_asked_a1 v_weight_a2 v_fright_a2 v_age_a2 v_asked_a2 v_weight_a3 v_fright_a3 v_age_a3 v_asked_a3 v_weight_a4 v_fright_a4 v_age_a4 v_asked_a4 v_many v_pets v_last v_seed v_weight v_fright v_age v_asked v_homes v_marks v_had v_allergic v_deaths) H := by rw [hH]; exact hP
  have hS : va_S (tA sz (xWV ad) []) s.heap H locs := by rw [hH, hlo]; exact hS
  suffices hZ : W p l e ({ frames := 5, cells := 1, slots := 7, locals := 122 } : Room) s m args below meth c H locs 0 0 Q (F0 m 0 ls []) by rw [hH, hlo] at hZ; exact hZ
  clear hH hlo
  unfold sC_HW_norm at hE
  refine lv_iload_n C.1 C.2.1 dX0_norm_0 rfl (lv_at hl 1 rfl) ?_
  refine lv_i2l C.1 C.2.1 dX0_norm_1 rfl ?_
  refine lv_lconst (v := 0) C.1 C.2.1 dX0_norm_2 (by decide) ?_
  refine lv_ldc2 C.1 C.2.1 C.2.2.1 (C.2.2.2.1 _ q780) dX0_norm_3 ?_
  obtain ⟨r1, hr1, hE⟩ := it_b hE
  refine n_after [] C.2.2.2.2.2.1 C.2.2.2.2.2.2.2.1 hP hS (va_runS (As := [.long ((p1 : Int32).toInt64), .long 0, .long 999]) (rest := []) ⟨C.1, C.2.1, hml, C.2.2.1, C.2.2.2.1⟩ (metC_HW_in l G ad pl  ((p1 : Int32).toInt64) 0 999  r1 hr1) (va_cwS 3 C.2.2.2.1 (lw_S q401 q402 q80 q403) rfl rfl rfl (by decide +kernel) ⟨Nat.le_of_ble_eq_true rfl, Nat.le_of_ble_eq_true rfl⟩) (n_preS C hP hS [] rfl (by decide) rfl) rfl rfl hl.1 rfl (lv_room (Nat.le_of_ble_eq_true rfl)) dX0_norm_6 ⟨Nat.le_of_ble_eq_true rfl, Nat.le_of_ble_eq_true rfl⟩) xW_av rfl rfl rfl (fun H locs hP hS => ?_)
  refine lv_bipush (v := (-6)) C.1 C.2.1 dX0_norm_9 (by decide) ?_
  refine t_after [] C0 D hP P_nil hS (vx_runS (As := [.int r1, .int (-6)]) (rest := []) ⟨C.1, C.2.1, hml, C.2.2.1, C.2.2.2.1⟩ (metC_HW_need l hfl G ad pl H.size r1 (-6) _ (need_eq _ _)) (va_cwS 2 C.2.2.2.1 (lw_S q397 q398 q80 q399) rfl rfl rfl (by decide +kernel) ⟨Nat.le_of_ble_eq_true rfl, Nat.le_of_ble_eq_true rfl⟩) (rr_preS C D hP hS [] rfl (by decide) rfl) rfl rfl hl.1 rfl (lv_room (Nat.le_of_ble_eq_true rfl)) dX0_norm_11 ⟨Nat.le_of_ble_eq_true rfl, Nat.le_of_ble_eq_true rfl⟩) xW_av rfl rfl rfl (fun hφ H locs hP _ hS => ?_) (fun w q H locs hw hq hc hP _ hS => ?_)
  · have hE := it_f (nd_n hφ) hE
    refine lv_aload_n C.1 C.2.1 dX0_norm_14 rfl (lv_at hl 0 rfl) ?_
    refine xWg_0_6 q244 C hP dX0_norm_15 ?_
    refine xWg_18_4 q191 C hP dX0_norm_18 ?_
    refine lv_iload_n C.1 C.2.1 dX0_norm_21 rfl (lv_at hl 1 rfl) ?_
    obtain ⟨r4, hr4, hE⟩ := it_b hE
    refine n_after [19, 20] C.2.2.2.2.2.1 C.2.2.2.2.2.2.2.1 hP hS (va_runV (As := [.int p1]) (rest := []) ⟨C.1, C.2.1, hml, C.2.2.1, C.2.2.2.1⟩ (metC_Pet_norm l G (fun i => ad (19 + i)) pl _ _ _ _ p1  r4 hr4) (cwV (C := RX2) 1 C.2.2.2.1 (lw_V q1052 q989 q990 q82 q991) rfl rfl rfl (by decide +kernel) ⟨Nat.le_of_ble_eq_true rfl, Nat.le_of_ble_eq_true rfl⟩) (n_preV C hP hS [19, 20] sub_xW_pW_19 (by decide) rfl (va_recv C.2.2.2.2.1 hP (ci := 11) (q0 := 19) rfl rfl)) rfl rfl hl.1 rfl (lv_room (Nat.le_of_ble_eq_true rfl)) dX0_norm_22 ⟨Nat.le_of_ble_eq_true rfl, Nat.le_of_ble_eq_true rfl⟩) xW_av rfl rfl mg_xW_pW_19 (fun H locs hP hS => ?_)
    obtain rfl := Option.some.inj hE
    exact hret _ _ _ _ dX0_norm_25 trivial hP hS
  · obtain ⟨c2, rfl⟩ := nd_x hw
    obtain ⟨q3, rfl⟩ : ∃ z, z = q := ⟨_, rfl⟩
    have hE := it_t c2 hE
    obtain ⟨ce, g1, g2, g3⟩ := t_cell C0 hc rfl
    refine t_catch (name := "HamsterWeekends$Refused") (E := "HamsterWeekends$Refused") C0 D [] ⟨0, 25, 26, 21⟩ [] htab (fun z hz => nomatch hz) rfl (by decide) q291 (List.mem_of_getElem? (i := 1) rfl) g1 g2 g3 ?_
    refine W.eq (g2 := F0 m 26 ls [.ref q3]) rfl ?_
    refine lv_astore_n (lv' := [(2, .ref q3), (0, .ref (ad 0)), (1, .int p1)]) C.1 C.2.1 dX0_norm_26 rfl hl (by decide) rfl (fun ls hl => ?_)
    refine lv_aload_n C.1 C.2.1 dX0_norm_27 rfl (lv_at hl 1 rfl) ?_
    refine lv_aload_n C.1 C.2.1 dX0_norm_28 rfl (lv_at hl 0 rfl) ?_
    obtain ⟨r5, hr5, hE⟩ := it_b hE
    refine n_afterS C.2.2.2.2.2.2.2.1 hS (va_runV (As := [.ref q3]) (rest := []) ⟨C.1, C.2.1, hml, C.2.2.1, C.2.2.2.1⟩ (metC_HW_refused l G ad [(q3, .inr (18, xF (-6)))] _ _ _ _ _ _ _ _ _ _ _ _ _ _ _ _ _ _ _ _ _ _ _ _ _ _ _ _ _ _ _ _ _ _ _ _ _ _ _ _ _ _ _ _ _ _ _ q3 (-6) (List.mem_singleton.mpr rfl) r5 hr5) (cwV (C := RX0) 1 C.2.2.2.1 (lw_V q466 q468 qs2 q80 q469) rfl rfl rfl (by decide +kernel) ⟨Nat.le_of_ble_eq_true rfl, Nat.le_of_ble_eq_true rfl⟩) (t_preX C0 hP hc hq.1 (va_recv C.2.2.2.2.1 hP (ci := 16) (q0 := 0) rfl rfl)) rfl rfl hl.1 rfl (lv_room (Nat.le_of_ble_eq_true rfl)) dX0_norm_29 ⟨Nat.le_of_ble_eq_true rfl, Nat.le_of_ble_eq_true rfl⟩) (fun H locs hP hS => ?_)
    obtain rfl := Option.some.inj hE
    exact hret _ _ _ _ dX0_norm_32 trivial hP hS
def sC_HW_whose (v_refusals : Nat → Int32) (v_many : Int32) (v_marks : Nat → Int32) (v_had : Nat → Int32) (v_allergic : Nat → Int32) (p1 : Int32) : Option (Int32 × (Nat → Int32)) :=
  (sC_HW_in ((p1 : Int32).toInt64) 0 1).bind fun r1 =>
  if r1 = 0 then
    (sC_HW_refused v_refusals (-5)).bind fun r10 =>
    some (r10.1, r10.2)
  else
    (sC_HW_someMay v_many v_allergic).bind fun r4 =>
    if r4 = none then
      @Option.bind (Int32) _ (
        if p1 = 1 then
          some 1
        else
          some 0) fun u7 =>
      (sC_Room_whose v_many v_marks v_had v_allergic u7).bind fun r8 =>
      some (r8, v_refusals)
    else
      (sC_HW_refused v_refusals (r4.getD 0)).bind fun r9 =>
      some (r9.1, r9.2)
set_option maxHeartbeats 4000000 in
theorem metC_HW_whose (l : Launch) (hfl : l.stackTraces = false) (G : kG) (ad : Nat → Nat) (pl : va_W) (sz : Nat) (v_latestFault : Int32) (v_died : Int32) (v_leastWeight : Int32) (v_noticedBy : Int32) (v_noticed : Int32) (v_orderDied : Int32) (v_orderLeast : Int32) (v_imaged : Option Nat) (v_shelves : Nat → Option Nat) (v_refusals : Nat → Int32) (v_ran : Int32) (v_bodies : Nat → Int32) (v_tweight : Int32) (v_tfright : Int32) (v_tage : Int32) (v_tasked : Nat → Int32) (v_told : Nat → Int32) (v_bestRow : Nat → Int32) (v_weight_a1 : Int32) (v_fright_a1 : Int32) (v_age_a1 : Int32) (v_asked_a1 : Nat → Int32) (v_weight_a2 : Int32) (v_fright_a2 : Int32) (v_age_a2 : Int32) (v_asked_a2 : Nat → Int32) (v_weight_a3 : Int32) (v_fright_a3 : Int32) (v_age_a3 : Int32) (v_asked_a3 : Nat → Int32) (v_weight_a4 : Int32) (v_fright_a4 : Int32) (v_age_a4 : Int32) (v_asked_a4 : Nat → Int32) (v_many : Int32) (v_pets : Int32) (v_last : Int32) (v_seed : Int32) (v_weight : Int32) (v_fright : Int32) (v_age : Int32) (v_asked : Nat → Int32) (v_homes : Nat → Option Nat) (v_marks : Nat → Int32) (v_had : Nat → Int32) (v_allergic : Nat → Int32) (v_deaths : Nat → Int32) (p1 : Int32) (res : Int32 × (Nat → Int32)) (hE : sC_HW_whose v_refusals v_many v_marks v_had v_allergic p1 = some res) : vx_Met l yX0_whose (wsW_ yX0_whose cX0_whose 3 (some .int) [((0 : Nat), (33 : Nat), (34 : Nat), (21 : Nat))]) ({ frames := 6, cells := 2, slots := 14, locals := 142 } : Room) (rPc G (xW G.2 ad v_latestFault v_died v_leastWeight v_noticedBy v_noticed v_orderDied v_orderLeast v_imaged v_shelves v_refusals v_ran v_bodies v_tweight v_tfright v_tage v_tasked v_told v_bestRow v_weight_a1 v_fright_a1 v_age_a1 v_asked_a1 v_weight_a2 v_fright_a2 v_age_a2 v_asked_a2 v_weight_a3 v_fright_a3 v_age_a3 v_asked_a3 v_weight_a4 v_fright_a4 v_age_a4 v_asked_a4 v_many v_pets v_last v_seed v_weight v_fright v_age v_asked v_homes v_marks v_had v_allergic v_deaths) pl (xWV ad) sz [.ref (ad 0), .int p1]) (tQc G (xW G.2 ad v_latestFault v_died v_leastWeight v_noticedBy v_noticed v_orderDied v_orderLeast v_imaged v_shelves res.2 v_ran v_bodies v_tweight v_tfright v_tage v_tasked v_told v_bestRow v_weight_a1 v_fright_a1 v_age_a1 v_asked_a1 v_weight_a2 v_fright_a2 v_age_a2 v_asked_a2 v_weight_a3 v_fright_a3 v_age_a3 v_asked_a3 v_weight_a4 v_fright_a4 v_age_a4 v_asked_a4 v_many v_pets v_last v_seed v_weight v_fright v_age v_asked v_homes v_marks v_had v_allergic v_deaths) [] (tA sz (xWV ad) []) (True) (some (.int res.1))) (tXC G (xW G.2 ad v_latestFault v_died v_leastWeight v_noticedBy v_noticed v_orderDied v_orderLeast v_imaged v_shelves res.2 v_ran v_bodies v_tweight v_tfright v_tage v_tasked v_told v_bestRow v_weight_a1 v_fright_a1 v_age_a1 v_asked_a1 v_weight_a2 v_fright_a2 v_age_a2 v_asked_a2 v_weight_a3 v_fright_a3 v_age_a3 v_asked_a3 v_weight_a4 v_fright_a4 v_age_a4 v_asked_a4 v_many v_pets v_last v_seed v_weight v_fright v_age v_asked v_homes v_marks v_had v_allergic v_deaths) [] (tA sz (xWV ad) []) 18 RX6 none sz) 2 14 (tA sz (xWV ad) []) := by
  refine r_ofWH (own := RX0) (by decide) rfl (Nat.le_of_ble_eq_true rfl) ?_
  intro p e s m args below meth c ls C C0 D hml htab hP hS hl hr hlocks hsz
  have hl : lv_has ls 3 [(0, .ref (ad 0)), (1, .int p1)] := hl
  obtain ⟨Q, hQ⟩ : ∃ Q, Q = vx_MQ below (tQc G (xW G.2 ad v_latestFault v_died v_leastWeight v_noticedBy v_noticed v_orderDied v_orderLeast v_imaged v_shelves res.2 v_ran v_bodies v_tweight v_tfright v_tage v_tasked v_told v_bestRow v_weight_a1 v_fright_a1 v_age_a1 v_asked_a1 v_weight_a2 v_fright_a2 v_age_a2 v_asked_a2 v_weight_a3 v_fright_a3 v_age_a3 v_asked_a3 v_weight_a4 v_fright_a4 v_age_a4 v_asked_a4 v_many v_pets v_last v_seed v_weight v_fright v_age v_asked v_homes v_marks v_had v_allergic v_deaths) [] (tA sz (xWV ad) []) (True) (some (.int res.1))) (tXC G (xW G.2 ad v_latestFault v_died v_leastWeight v_noticedBy v_noticed v_orderDied v_orderLeast v_imaged v_shelves res.2 v_ran v_bodies v_tweight v_tfright v_tage v_tasked v_told v_bestRow v_weight_a1 v_fright_a1 v_age_a1 v_asked_a1 v_weight_a2 v_fright_a2 v_age_a2 v_asked_a2 v_weight_a3 v_fright_a3 v_age_a3 v_asked_a3 v_weight_a4 v_fright_a4 v_age_a4 v_asked_a4 v_many v_pets v_last v_seed v_weight v_fright v_age v_asked v_homes v_marks v_had v_allergic v_deaths) [] (tA sz (xWV ad) []) 18 RX6 none sz) args s 2 14 (tA sz (xWV ad) []) := ⟨_, rfl⟩
  rw [← hQ]
  have hret : ∀ (pc : Nat) (ls : Array Slot) (H : Heap) (locs : List Loc), decode cX0_whose pc = .ok (.ireturn, 1) → True → va_P G.1 vwCl (xW G.2 ad v_latestFault v_died v_leastWeight v_noticedBy v_noticed v_orderDied v_orderLeast v_imaged v_shelves res.2 v_ran v_bodies v_tweight v_tfright v_tage v_tasked v_told v_bestRow v_weight_a1 v_fright_a1 v_age_a1 v_asked_a1 v_weight_a2 v_fright_a2 v_age_a2 v_asked_a2 v_weight_a3 v_fright_a3 v_age_a3 v_asked_a3 v_weight_a4 v_fright_a4 v_age_a4 v_asked_a4 v_many v_pets v_last v_seed v_weight v_fright v_age v_asked v_homes v_marks v_had v_allergic v_deaths) H → va_S (tA sz (xWV ad) []) s.heap H locs → W p l e ({ frames := 6, cells := 2, slots := 14, locals := 142 } : Room) s m args below meth c H locs 2 14 Q (F0 m pc ls [(.int res.1)]) := by
    intro pc ls H locs hd hφ hP hS
    rw [hQ]
    exact t_iret C0 hr hlocks hd hφ hP P_nil hS
  clear hQ
  obtain ⟨H, hH⟩ : ∃ H, H = s.heap := ⟨_, rfl⟩
  obtain ⟨locs, hlo⟩ : ∃ locs : List Loc, locs = [] := ⟨_, rfl⟩
  have hP : va_P G.1 vwCl (xW G.2 ad v_latestFault v_died v_leastWeight v_noticedBy v_noticed v_orderDied v_orderLeast v_imaged v_shelves v_refusals v_ran v_bodies v_tweight v_tfright v_tage v_tasked v_told v_bestRow v_weight_a1 v_fright_a1 v_age_a1 v_asked_a1 v_weight_a2 v_fright_a2 v_age_a2 v_asked_a2 v_weight_a3 v_fright_a3 v_age_a3 v_asked_a3 v_weight_a4 v_fright_a4 v_age_a4 v_asked_a4 v_many v_pets v_last v_seed v_weight v_fright v_age v_asked v_homes v_marks v_had v_allergic v_deaths) H := by rw [hH]; exact hP
  have hS : va_S (tA sz (xWV ad) []) s.heap H locs := by rw [hH, hlo]; exact hS
  suffices hZ : W p l e ({ frames := 6, cells := 2, slots := 14, locals := 142 } : Room) s m args below meth c H locs 0 0 Q (F0 m 0 ls []) by rw [hH, hlo] at hZ; exact hZ
  clear hH hlo
  unfold sC_HW_whose at hE
  refine lv_iload_n C.1 C.2.1 dX0_whose_0 rfl (lv_at hl 1 rfl) ?_
  refine lv_i2l C.1 C.2.1 dX0_whose_1 rfl ?_
  refine lv_lconst (v := 0) C.1 C.2.1 dX0_whose_2 (by decide) ?_
  refine lv_lconst (v := 1) C.1 C.2.1 dX0_whose_3 (by decide) ?_
  obtain ⟨r1, hr1, hE⟩ := it_b hE
  refine n_after [] C.2.2.2.2.2.1 C.2.2.2.2.2.2.2.1 hP hS (va_runS (As := [.long ((p1 : Int32).toInt64), .long 0, .long 1]) (rest := []) ⟨C.1, C.2.1, hml, C.2.2.1, C.2.2.2.1⟩ (metC_HW_in l G ad pl  ((p1 : Int32).toInt64) 0 1  r1 hr1) (va_cwS 3 C.2.2.2.1 (lw_S q401 q402 q80 q403) rfl rfl rfl (by decide +kernel) ⟨Nat.le_of_ble_eq_true rfl, Nat.le_of_ble_eq_true rfl⟩) (n_preS C hP hS [] rfl (by decide) rfl) rfl rfl hl.1 rfl (lv_room (Nat.le_of_ble_eq_true rfl)) dX0_whose_4 ⟨Nat.le_of_ble_eq_true rfl, Nat.le_of_ble_eq_true rfl⟩) xW_av rfl rfl rfl (fun H locs hP hS => ?_)
  refine lv_bipush (v := (-5)) C.1 C.2.1 dX0_whose_7 (by decide) ?_
  refine t_after [] C0 D hP P_nil hS (vx_runS (As := [.int r1, .int (-5)]) (rest := []) ⟨C.1, C.2.1, hml, C.2.2.1, C.2.2.2.1⟩ (metC_HW_need l hfl G ad pl H.size r1 (-5) _ (need_eq _ _)) (va_cwS 2 C.2.2.2.1 (lw_S q397 q398 q80 q399) rfl rfl rfl (by decide +kernel) ⟨Nat.le_of_ble_eq_true rfl, Nat.le_of_ble_eq_true rfl⟩) (rr_preS C D hP hS [] rfl (by decide) rfl) rfl rfl hl.1 rfl (lv_room (Nat.le_of_ble_eq_true rfl)) dX0_whose_9 ⟨Nat.le_of_ble_eq_true rfl, Nat.le_of_ble_eq_true rfl⟩) xW_av rfl rfl rfl (fun hφ H locs hP _ hS => ?_) (fun w q H locs hw hq hc hP _ hS => ?_)
  · have hE := it_f (nd_n hφ) hE
    refine lv_aload_n C.1 C.2.1 dX0_whose_12 rfl (lv_at hl 0 rfl) ?_
    obtain ⟨r4, hr4, hE⟩ := it_b hE
    refine t_afterS C0 D hP P_nil hS (vx_runV (As := []) (rest := []) ⟨C.1, C.2.1, hml, C.2.2.1, C.2.2.2.1⟩ (metC_HW_someMay l hfl G ad pl H.size _ _ _ _ _ _ _ _ _ _ _ _ _ _ _ _ _ _ _ _ _ _ _ _ _ _ _ _ _ _ _ _ _ _ _ _ _ _ _ _ _ _ _ _ _ _ _  r4 hr4) (cwV (C := RX0) 0 C.2.2.2.1 (lw_V q1109 q1111 qs25 q80 q1112) rfl rfl rfl (by decide +kernel) ⟨Nat.le_of_ble_eq_true rfl, Nat.le_of_ble_eq_true rfl⟩) (rr_preV0 C D hP hS (va_recv C.2.2.2.2.1 hP (ci := 16) (q0 := 0) rfl rfl)) rfl rfl hl.1 rfl (lv_room (Nat.le_of_ble_eq_true rfl)) dX0_whose_13 ⟨Nat.le_of_ble_eq_true rfl, Nat.le_of_ble_eq_true rfl⟩) xW_av (fun hφ H locs hP _ hS => ?_) (fun w q H locs hw hq hc hP _ hS => ?_)
    · have hE := it_t hφ hE
      refine lv_aload_n C.1 C.2.1 dX0_whose_16 rfl (lv_at hl 0 rfl) ?_
      refine xWg_0_6 q244 C hP dX0_whose_17 ?_
      refine lv_iload_n C.1 C.2.1 dX0_whose_20 rfl (lv_at hl 1 rfl) ?_
      refine lv_iconst (v := 1) C.1 C.2.1 dX0_whose_21 (by decide) ?_
      obtain ⟨u7, hR, hE⟩ := it_b hE
      have hJ30u7 : ∀ (H : Heap) (locs : List Loc) (ls : Array Slot), va_P G.1 vwCl (xW G.2 ad v_latestFault v_died v_leastWeight v_noticedBy v_noticed v_orderDied v_orderLeast v_imaged v_shelves v_refusals v_ran v_bodies v_tweight v_tfright v_tage v_tasked v_told v_bestRow v_weight_a1 v_fright_a1 v_age_a1 v_asked_a1 v_weight_a2 v_fright_a2 v_age_a2 v_asked_a2 v_weight_a3 v_fright_a3 v_age_a3 v_asked_a3 v_weight_a4 v_fright_a4 v_age_a4 v_asked_a4 v_many v_pets v_last v_seed v_weight v_fright v_age v_asked v_homes v_marks v_had v_allergic v_deaths) H → va_S (tA sz (xWV ad) []) s.heap H locs → lv_has ls 3 [(0, .ref (ad 0))] → W p l e ({ frames := 6, cells := 2, slots := 14, locals := 142 } : Room) s m args below meth c H locs 2 14 Q (F0 m 30 ls [.int u7, .ref (ad 18)]) := by
        intro H locs ls hP hS hl
        obtain ⟨r8, hr8, hE⟩ := it_b hE
        refine n_after [18, 19, 20, 21, 22, 23, 24, 25] C.2.2.2.2.2.1 C.2.2.2.2.2.2.2.1 hP hS (va_runV (As := [.int u7]) (rest := []) ⟨C.1, C.2.1, hml, C.2.2.1, C.2.2.2.1⟩ (metC_Room_whose l G (fun i => ad (18 + i)) pl _ _ _ _ _ _ _ _ _ _ _ _ _ u7  r8 hr8) (cwV (C := RX3) 1 C.2.2.2.1 (lw_V q1118 q1119 q1120 q83 q1121) rfl rfl rfl (by decide +kernel) ⟨Nat.le_of_ble_eq_true rfl, Nat.le_of_ble_eq_true rfl⟩) (n_preV C hP hS [18, 19, 20, 21, 22, 23, 24, 25] sub_xW_rW_18 (by decide) rfl (va_recv C.2.2.2.2.1 hP (ci := 12) (q0 := 18) rfl rfl)) rfl rfl hl.1 rfl (lv_room (Nat.le_of_ble_eq_true rfl)) dX0_whose_30 ⟨Nat.le_of_ble_eq_true rfl, Nat.le_of_ble_eq_true rfl⟩) xW_av rfl rfl mg_xW_rW_18 (fun H locs hP hS => ?_)
        obtain rfl := Option.some.inj hE
        exact hret _ _ _ _ dX0_whose_33 trivial hP hS
      have hE := hR
      refine lv_icmp_ne (tgt := 29) C.1 C.2.1 dX0_whose_22 (by decide) (fun c6 => ?_) (fun c6 => ?_)
      · have hE := it_f c6 hE
        refine lv_iconst (v := 0) C.1 C.2.1 dX0_whose_29 (by decide) ?_
        obtain rfl := Option.some.inj hE
        exact hJ30u7 H locs ls hP hS (lv_sub hl [0] rfl)
      · have hE := it_t c6 hE
        refine lv_iconst (v := 1) C.1 C.2.1 dX0_whose_25 (by decide) ?_
        refine lv_goto (tgt := 30) C.1 C.2.1 dX0_whose_26 (by decide) ?_
        obtain rfl := Option.some.inj hE
        exact hJ30u7 H locs ls hP hS (lv_sub hl [0] rfl)
    · have hE := it_f (by rw [hw]; exact fun h => nomatch h) hE
      obtain ⟨q5, rfl⟩ : ∃ z, z = q := ⟨_, rfl⟩
      obtain rfl : w = (r4.getD 0) := by rw [hw]; rfl
      obtain ⟨ce, g1, g2, g3⟩ := t_cell C0 hc rfl
      refine t_catch (name := "HamsterWeekends$Refused") (E := "HamsterWeekends$Refused") C0 D [] ⟨0, 33, 34, 21⟩ [] htab (fun z hz => nomatch hz) rfl (by decide) q291 (List.mem_of_getElem? (i := 1) rfl) g1 g2 g3 ?_
      refine W.eq (g2 := F0 m 34 ls [.ref q5]) rfl ?_
      refine lv_astore_n (lv' := [(2, .ref q5), (0, .ref (ad 0)), (1, .int p1)]) C.1 C.2.1 dX0_whose_34 rfl hl (by decide) rfl (fun ls hl => ?_)
      refine lv_aload_n C.1 C.2.1 dX0_whose_35 rfl (lv_at hl 1 rfl) ?_
      refine lv_aload_n C.1 C.2.1 dX0_whose_36 rfl (lv_at hl 0 rfl) ?_
      obtain ⟨r9, hr9, hE⟩ := it_b hE
      refine n_afterS C.2.2.2.2.2.2.2.1 hS (va_runV (As := [.ref q5]) (rest := []) ⟨C.1, C.2.1, hml, C.2.2.1, C.2.2.2.1⟩ (metC_HW_refused l G ad [(q5, .inr (18, xF (r4.getD 0)))] _ _ _ _ _ _ _ _ _ _ _ _ _ _ _ _ _ _ _ _ _ _ _ _ _ _ _ _ _ _ _ _ _ _ _ _ _ _ _ _ _ _ _ _ _ _ _ q5 (r4.getD 0) (List.mem_singleton.mpr rfl) r9 hr9) (cwV (C := RX0) 1 C.2.2.2.1 (lw_V q466 q468 qs2 q80 q469) rfl rfl rfl (by decide +kernel) ⟨Nat.le_of_ble_eq_true rfl, Nat.le_of_ble_eq_true rfl⟩) (t_preX C0 hP hc hq.1 (va_recv C.2.2.2.2.1 hP (ci := 16) (q0 := 0) rfl rfl)) rfl rfl hl.1 rfl (lv_room (Nat.le_of_ble_eq_true rfl)) dX0_whose_37 ⟨Nat.le_of_ble_eq_true rfl, Nat.le_of_ble_eq_true rfl⟩) (fun H locs hP hS => ?_)
      obtain rfl := Option.some.inj hE
      exact hret _ _ _ _ dX0_whose_40 trivial hP hS
  · obtain ⟨c2, rfl⟩ := nd_x hw
    obtain ⟨q3, rfl⟩ : ∃ z, z = q := ⟨_, rfl⟩
    have hE := it_t c2 hE
    obtain ⟨ce, g1, g2, g3⟩ := t_cell C0 hc rfl
    refine t_catch (name := "HamsterWeekends$Refused") (E := "HamsterWeekends$Refused") C0 D [] ⟨0, 33, 34, 21⟩ [] htab (fun z hz => nomatch hz) rfl (by decide) q291 (List.mem_of_getElem? (i := 1) rfl) g1 g2 g3 ?_
    refine W.eq (g2 := F0 m 34 ls [.ref q3]) rfl ?_
    refine lv_astore_n (lv' := [(2, .ref q3), (0, .ref (ad 0)), (1, .int p1)]) C.1 C.2.1 dX0_whose_34 rfl hl (by decide) rfl (fun ls hl => ?_)
    refine lv_aload_n C.1 C.2.1 dX0_whose_35 rfl (lv_at hl 1 rfl) ?_
    refine lv_aload_n C.1 C.2.1 dX0_whose_36 rfl (lv_at hl 0 rfl) ?_
    obtain ⟨r10, hr10, hE⟩ := it_b hE
    refine n_afterS C.2.2.2.2.2.2.2.1 hS (va_runV (As := [.ref q3]) (rest := []) ⟨C.1, C.2.1, hml, C.2.2.1, C.2.2.2.1⟩ (metC_HW_refused l G ad [(q3, .inr (18, xF (-5)))] _ _ _ _ _ _ _ _ _ _ _ _ _ _ _ _ _ _ _ _ _ _ _ _ _ _ _ _ _ _ _ _ _ _ _ _ _ _ _ _ _ _ _ _ _ _ _ q3 (-5) (List.mem_singleton.mpr rfl) r10 hr10) (cwV (C := RX0) 1 C.2.2.2.1 (lw_V q466 q468 qs2 q80 q469) rfl rfl rfl (by decide +kernel) ⟨Nat.le_of_ble_eq_true rfl, Nat.le_of_ble_eq_true rfl⟩) (t_preX C0 hP hc hq.1 (va_recv C.2.2.2.2.1 hP (ci := 16) (q0 := 0) rfl rfl)) rfl rfl hl.1 rfl (lv_room (Nat.le_of_ble_eq_true rfl)) dX0_whose_37 ⟨Nat.le_of_ble_eq_true rfl, Nat.le_of_ble_eq_true rfl⟩) (fun H locs hP hS => ?_)
    obtain rfl := Option.some.inj hE
    refine W.widen (k := 2) (n := 14) (Nat.le_of_ble_eq_true rfl) (Nat.le_of_ble_eq_true rfl) ?_
    exact hret _ _ _ _ dX0_whose_40 trivial hP hS
def sC_HW_order (v_died : Int32) (v_leastWeight : Int32) (v_noticedBy : Int32) (v_noticed : Int32) (v_orderDied : Int32) (v_orderLeast : Int32) (v_refusals : Nat → Int32) (v_tweight : Int32) (v_tfright : Int32) (v_tage : Int32) (v_tasked : Nat → Int32) (v_told : Nat → Int32) (v_bestRow : Nat → Int32) (v_many : Int32) (v_weight : Int32) (v_fright : Int32) (v_age : Int32) (v_asked : Nat → Int32) (v_homes : Nat → Option Nat) (v_allergic : Nat → Int32) (hk : Nat → Nat) (hb : Nat → Int32) (p1 : Int32) : Option (Int32 × Int32 × Int32 × Int32 × Int32 × Int32 × (Nat → Int32) × Int32 × Int32 × Int32 × (Nat → Int32) × (Nat → Int32) × (Nat → Int32)) :=
  (sC_Room_mayMany v_many v_allergic).bind fun r1 =>
  (sC_HW_in ((p1 : Int32).toInt64) (-1) (((r1 - 1) : Int32).toInt64)).bind fun r2 =>
  if r2 = 0 then
    (sC_HW_refused v_refusals (-5)).bind fun r10 =>
    some (r10.1, v_died, v_leastWeight, v_noticed, v_orderDied, v_orderLeast, r10.2, v_tweight, v_tfright, v_tage, v_tasked, v_told, v_bestRow)
  else
    (sC_HW_findOrder v_died v_leastWeight v_noticedBy v_noticed v_orderDied v_orderLeast v_tweight v_tfright v_tage v_tasked v_told v_bestRow v_many v_weight v_fright v_age v_asked v_homes v_allergic hk hb).bind fun r5 =>
    if r5.1 = none then
      if p1 = (-1) then
        some (r5.2.2.2.2.2.1, r5.2.2.1, r5.2.2.2.1, r5.2.2.2.2.1, r5.2.2.2.2.2.1, r5.2.2.2.2.2.2.1, v_refusals, r5.2.2.2.2.2.2.2.1, r5.2.2.2.2.2.2.2.2.1, r5.2.2.2.2.2.2.2.2.2.1, r5.2.2.2.2.2.2.2.2.2.2.1, r5.2.2.2.2.2.2.2.2.2.2.2.1, r5.2.2.2.2.2.2.2.2.2.2.2.2)
      else
        if gi p1 6 then
        some ((r5.2.2.2.2.2.2.2.2.2.2.2.2 (p1).toNatClampNeg), r5.2.2.1, r5.2.2.2.1, r5.2.2.2.2.1, r5.2.2.2.2.2.1, r5.2.2.2.2.2.2.1, v_refusals, r5.2.2.2.2.2.2.2.1, r5.2.2.2.2.2.2.2.2.1, r5.2.2.2.2.2.2.2.2.2.1, r5.2.2.2.2.2.2.2.2.2.2.1, r5.2.2.2.2.2.2.2.2.2.2.2.1, r5.2.2.2.2.2.2.2.2.2.2.2.2)
        else none
    else
      (sC_HW_refused v_refusals (r5.1.getD 0)).bind fun r9 =>
      some (r9.1, r5.2.2.1, r5.2.2.2.1, r5.2.2.2.2.1, r5.2.2.2.2.2.1, r5.2.2.2.2.2.2.1, r9.2, r5.2.2.2.2.2.2.2.1, r5.2.2.2.2.2.2.2.2.1, r5.2.2.2.2.2.2.2.2.2.1, r5.2.2.2.2.2.2.2.2.2.2.1, r5.2.2.2.2.2.2.2.2.2.2.2.1, r5.2.2.2.2.2.2.2.2.2.2.2.2)
set_option maxHeartbeats 4000000 in
theorem metC_HW_order (l : Launch) (hfl : l.stackTraces = false) (G : kG) (ad : Nat → Nat) (pl : va_W) (hk : Nat → Nat) (hb : Nat → Int32) (sz : Nat) (v_latestFault : Int32) (v_died : Int32) (v_leastWeight : Int32) (v_noticedBy : Int32) (v_noticed : Int32) (v_orderDied : Int32) (v_orderLeast : Int32) (v_imaged : Option Nat) (v_shelves : Nat → Option Nat) (v_refusals : Nat → Int32) (v_ran : Int32) (v_bodies : Nat → Int32) (v_tweight : Int32) (v_tfright : Int32) (v_tage : Int32) (v_tasked : Nat → Int32) (v_told : Nat → Int32) (v_bestRow : Nat → Int32) (v_weight_a1 : Int32) (v_fright_a1 : Int32) (v_age_a1 : Int32) (v_asked_a1 : Nat → Int32) (v_weight_a2 : Int32) (v_fright_a2 : Int32) (v_age_a2 : Int32) (v_asked_a2 : Nat → Int32) (v_weight_a3 : Int32) (v_fright_a3 : Int32) (v_age_a3 : Int32) (v_asked_a3 : Nat → Int32) (v_weight_a4 : Int32) (v_fright_a4 : Int32) (v_age_a4 : Int32) (v_asked_a4 : Nat → Int32) (v_many : Int32) (v_pets : Int32) (v_last : Int32) (v_seed : Int32) (v_weight : Int32) (v_fright : Int32) (v_age : Int32) (v_asked : Nat → Int32) (v_homes : Nat → Option Nat) (v_marks : Nat → Int32) (v_had : Nat → Int32) (v_allergic : Nat → Int32) (v_deaths : Nat → Int32) (hom : homOK v_homes v_many hk hb pl) (p1 : Int32) (res : Int32 × Int32 × Int32 × Int32 × Int32 × Int32 × (Nat → Int32) × Int32 × Int32 × Int32 × (Nat → Int32) × (Nat → Int32) × (Nat → Int32)) (hE : sC_HW_order v_died v_leastWeight v_noticedBy v_noticed v_orderDied v_orderLeast v_refusals v_tweight v_tfright v_tage v_tasked v_told v_bestRow v_many v_weight v_fright v_age v_asked v_homes v_allergic hk hb p1 = some res) : vx_Met l yX0_order (wsW_ yX0_order cX0_order 3 (some .int) [((0 : Nat), (46 : Nat), (47 : Nat), (21 : Nat))]) ({ frames := 15, cells := 2, slots := 14, locals := 342 } : Room) (rPc G (xW G.2 ad v_latestFault v_died v_leastWeight v_noticedBy v_noticed v_orderDied v_orderLeast v_imaged v_shelves v_refusals v_ran v_bodies v_tweight v_tfright v_tage v_tasked v_told v_bestRow v_weight_a1 v_fright_a1 v_age_a1 v_asked_a1 v_weight_a2 v_fright_a2 v_age_a2 v_asked_a2 v_weight_a3 v_fright_a3 v_age_a3 v_asked_a3 v_weight_a4 v_fright_a4 v_age_a4 v_asked_a4 v_many v_pets v_last v_seed v_weight v_fright v_age v_asked v_homes v_marks v_had v_allergic v_deaths) pl (xWV ad) sz [.ref (ad 0), .int p1]) (tQc G (xW G.2 ad v_latestFault res.2.1 res.2.2.1 v_noticedBy res.2.2.2.1 res.2.2.2.2.1 res.2.2.2.2.2.1 v_imaged v_shelves res.2.2.2.2.2.2.1 v_ran v_bodies res.2.2.2.2.2.2.2.1 res.2.2.2.2.2.2.2.2.1 res.2.2.2.2.2.2.2.2.2.1 res.2.2.2.2.2.2.2.2.2.2.1 res.2.2.2.2.2.2.2.2.2.2.2.1 res.2.2.2.2.2.2.2.2.2.2.2.2 v_weight_a1 v_fright_a1 v_age_a1 v_asked_a1 v_weight_a2 v_fright_a2 v_age_a2 v_asked_a2 v_weight_a3 v_fright_a3 v_age_a3 v_asked_a3 v_weight_a4 v_fright_a4 v_age_a4 v_asked_a4 v_many v_pets v_last v_seed v_weight v_fright v_age v_asked v_homes v_marks v_had v_allergic v_deaths) [] (tA sz (xWV ad) []) (True) (some (.int res.1))) (tXC G (xW G.2 ad v_latestFault res.2.1 res.2.2.1 v_noticedBy res.2.2.2.1 res.2.2.2.2.1 res.2.2.2.2.2.1 v_imaged v_shelves res.2.2.2.2.2.2.1 v_ran v_bodies res.2.2.2.2.2.2.2.1 res.2.2.2.2.2.2.2.2.1 res.2.2.2.2.2.2.2.2.2.1 res.2.2.2.2.2.2.2.2.2.2.1 res.2.2.2.2.2.2.2.2.2.2.2.1 res.2.2.2.2.2.2.2.2.2.2.2.2 v_weight_a1 v_fright_a1 v_age_a1 v_asked_a1 v_weight_a2 v_fright_a2 v_age_a2 v_asked_a2 v_weight_a3 v_fright_a3 v_age_a3 v_asked_a3 v_weight_a4 v_fright_a4 v_age_a4 v_asked_a4 v_many v_pets v_last v_seed v_weight v_fright v_age v_asked v_homes v_marks v_had v_allergic v_deaths) [] (tA sz (xWV ad) []) 18 RX6 none sz) 2 14 (tA sz (xWV ad) []) := by
  refine r_ofWH (own := RX0) (by decide) rfl (Nat.le_of_ble_eq_true rfl) ?_
  intro p e s m args below meth c ls C C0 D hml htab hP hS hl hr hlocks hsz
  have hl : lv_has ls 3 [(0, .ref (ad 0)), (1, .int p1)] := hl
  obtain ⟨Q, hQ⟩ : ∃ Q, Q = vx_MQ below (tQc G (xW G.2 ad v_latestFault res.2.1 res.2.2.1 v_noticedBy res.2.2.2.1 res.2.2.2.2.1 res.2.2.2.2.2.1 v_imaged v_shelves res.2.2.2.2.2.2.1 v_ran v_bodies res.2.2.2.2.2.2.2.1 res.2.2.2.2.2.2.2.2.1 res.2.2.2.2.2.2.2.2.2.1 res.2.2.2.2.2.2.2.2.2.2.1 res.2.2.2.2.2.2.2.2.2.2.2.1 res.2.2.2.2.2.2.2.2.2.2.2.2 v_weight_a1 v_fright_a1 v_age_a1 v_asked_a1 v_weight_a2 v_fright_a2 v_age_a2 v_asked_a2 v_weight_a3 v_fright_a3 v_age_a3 v_asked_a3 v_weight_a4 v_fright_a4 v_age_a4 v_asked_a4 v_many v_pets v_last v_seed v_weight v_fright v_age v_asked v_homes v_marks v_had v_allergic v_deaths) [] (tA sz (xWV ad) []) (True) (some (.int res.1))) (tXC G (xW G.2 ad v_latestFault res.2.1 res.2.2.1 v_noticedBy res.2.2.2.1 res.2.2.2.2.1 res.2.2.2.2.2.1 v_imaged v_shelves res.2.2.2.2.2.2.1 v_ran v_bodies res.2.2.2.2.2.2.2.1 res.2.2.2.2.2.2.2.2.1 res.2.2.2.2.2.2.2.2.2.1 res.2.2.2.2.2.2.2.2.2.2.1 res.2.2.2.2.2.2.2.2.2.2.2.1 res.2.2.2.2.2.2.2.2.2.2.2.2 v_weight_a1 v_fright_a1 v_age_a1 v_asked_a1 v_weight_a2 v_fright_a2 v_age_a2 v_asked_a2 v_weight_a3 v_fright_a3 v_age_a3 v_asked_a3 v_weight_a4 v_fright_a4 v_age_a4 v_asked_a4 v_many v_pets v_last v_seed v_weight v_fright v_age v_asked v_homes v_marks v_had v_allergic v_deaths) [] (tA sz (xWV ad) []) 18 RX6 none sz) args s 2 14 (tA sz (xWV ad) []) := ⟨_, rfl⟩
  rw [← hQ]
  have hret : ∀ (pc : Nat) (ls : Array Slot) (H : Heap) (locs : List Loc), decode cX0_order pc = .ok (.ireturn, 1) → True → va_P G.1 vwCl (xW G.2 ad v_latestFault res.2.1 res.2.2.1 v_noticedBy res.2.2.2.1 res.2.2.2.2.1 res.2.2.2.2.2.1 v_imaged v_shelves res.2.2.2.2.2.2.1 v_ran v_bodies res.2.2.2.2.2.2.2.1 res.2.2.2.2.2.2.2.2.1 res.2.2.2.2.2.2.2.2.2.1 res.2.2.2.2.2.2.2.2.2.2.1 res.2.2.2.2.2.2.2.2.2.2.2.1 res.2.2.2.2.2.2.2.2.2.2.2.2 v_weight_a1 v_fright_a1 v_age_a1 v_asked_a1 v_weight_a2 v_fright_a2 v_age_a2 v_asked_a2 v_weight_a3 v_fright_a3 v_age_a3 v_asked_a3 v_weight_a4 v_fright_a4 v_age_a4 v_asked_a4 v_many v_pets v_last v_seed v_weight v_fright v_age v_asked v_homes v_marks v_had v_allergic v_deaths) H → va_S (tA sz (xWV ad) []) s.heap H locs → W p l e ({ frames := 15, cells := 2, slots := 14, locals := 342 } : Room) s m args below meth c H locs 2 14 Q (F0 m pc ls [(.int res.1)]) := by
    intro pc ls H locs hd hφ hP hS
    rw [hQ]
    exact t_iret C0 hr hlocks hd hφ hP P_nil hS
  clear hQ
  obtain ⟨H, hH⟩ : ∃ H, H = s.heap := ⟨_, rfl⟩
  obtain ⟨locs, hlo⟩ : ∃ locs : List Loc, locs = [] := ⟨_, rfl⟩
  have hP : va_P G.1 vwCl (xW G.2 ad v_latestFault v_died v_leastWeight v_noticedBy v_noticed v_orderDied v_orderLeast v_imaged v_shelves v_refusals v_ran v_bodies v_tweight v_tfright v_tage v_tasked v_told v_bestRow v_weight_a1 v_fright_a1 v_age_a1 v_asked_a1 v_weight_a2 v_fright_a2 v_age_a2 v_asked_a2 v_weight_a3 v_fright_a3 v_age_a3 v_asked_a3 v_weight_a4 v_fright_a4 v_age_a4 v_asked_a4 v_many v_pets v_last v_seed v_weight v_fright v_age v_asked v_homes v_marks v_had v_allergic v_deaths) H := by rw [hH]; exact hP
  have hS : va_S (tA sz (xWV ad) []) s.heap H locs := by rw [hH, hlo]; exact hS
  suffices hZ : W p l e ({ frames := 15, cells := 2, slots := 14, locals := 342 } : Room) s m args below meth c H locs 0 0 Q (F0 m 0 ls []) by rw [hH, hlo] at hZ; exact hZ
  clear hH hlo
  unfold sC_HW_order at hE
  refine lv_iload_n C.1 C.2.1 dX0_order_0 rfl (lv_at hl 1 rfl) ?_
  refine lv_i2l C.1 C.2.1 dX0_order_1 rfl ?_
  refine lv_ldc2 C.1 C.2.1 C.2.2.1 (C.2.2.2.1 _ q1126) dX0_order_2 ?_
  refine lv_aload_n C.1 C.2.1 dX0_order_5 rfl (lv_at hl 0 rfl) ?_
  refine xWg_0_6 q244 C hP dX0_order_6 ?_
  obtain ⟨r1, hr1, hE⟩ := it_b hE
  refine n_after [18, 19, 20, 21, 22, 23, 24, 25] C.2.2.2.2.2.1 C.2.2.2.2.2.2.2.1 hP hS (va_runV (As := []) (rest := [.long (-1), .long ((p1 : Int32).toInt64)]) ⟨C.1, C.2.1, hml, C.2.2.1, C.2.2.2.1⟩ (metC_Room_mayMany l G (fun i => ad (18 + i)) pl _ _ _ _ _ _ _ _ _ _ _ _ _   r1 hr1) (cwV (C := RX3) 0 C.2.2.2.1 (lw_V q1113 q1114 q1115 q83 q1116) rfl rfl rfl (by decide +kernel) ⟨Nat.le_of_ble_eq_true rfl, Nat.le_of_ble_eq_true rfl⟩) (n_preV C hP hS [18, 19, 20, 21, 22, 23, 24, 25] sub_xW_rW_18 (by decide) rfl (va_recv C.2.2.2.2.1 hP (ci := 12) (q0 := 18) rfl rfl)) rfl rfl hl.1 rfl (lv_room (Nat.le_of_ble_eq_true rfl)) dX0_order_9 ⟨Nat.le_of_ble_eq_true rfl, Nat.le_of_ble_eq_true rfl⟩) xW_av rfl rfl mg_xW_rW_18 (fun H locs hP hS => ?_)
  refine lv_iconst (v := 1) C.1 C.2.1 dX0_order_12 (by decide) ?_
  refine lv_isub C.1 C.2.1 dX0_order_13 ?_
  refine lv_i2l C.1 C.2.1 dX0_order_14 rfl ?_
  obtain ⟨r2, hr2, hE⟩ := it_b hE
  refine n_after [] C.2.2.2.2.2.1 C.2.2.2.2.2.2.2.1 hP hS (va_runS (As := [.long ((p1 : Int32).toInt64), .long (-1), .long (((r1 - 1) : Int32).toInt64)]) (rest := []) ⟨C.1, C.2.1, hml, C.2.2.1, C.2.2.2.1⟩ (metC_HW_in l G ad pl  ((p1 : Int32).toInt64) (-1) (((r1 - 1) : Int32).toInt64)  r2 hr2) (va_cwS 3 C.2.2.2.1 (lw_S q401 q402 q80 q403) rfl rfl rfl (by decide +kernel) ⟨Nat.le_of_ble_eq_true rfl, Nat.le_of_ble_eq_true rfl⟩) (n_preS C hP hS [] rfl (by decide) rfl) rfl rfl hl.1 rfl (lv_room (Nat.le_of_ble_eq_true rfl)) dX0_order_15 ⟨Nat.le_of_ble_eq_true rfl, Nat.le_of_ble_eq_true rfl⟩) xW_av rfl rfl rfl (fun H locs hP hS => ?_)
  refine lv_bipush (v := (-5)) C.1 C.2.1 dX0_order_18 (by decide) ?_
  refine t_after [] C0 D hP P_nil hS (vx_runS (As := [.int r2, .int (-5)]) (rest := []) ⟨C.1, C.2.1, hml, C.2.2.1, C.2.2.2.1⟩ (metC_HW_need l hfl G ad pl H.size r2 (-5) _ (need_eq _ _)) (va_cwS 2 C.2.2.2.1 (lw_S q397 q398 q80 q399) rfl rfl rfl (by decide +kernel) ⟨Nat.le_of_ble_eq_true rfl, Nat.le_of_ble_eq_true rfl⟩) (rr_preS C D hP hS [] rfl (by decide) rfl) rfl rfl hl.1 rfl (lv_room (Nat.le_of_ble_eq_true rfl)) dX0_order_20 ⟨Nat.le_of_ble_eq_true rfl, Nat.le_of_ble_eq_true rfl⟩) xW_av rfl rfl rfl (fun hφ H locs hP _ hS => ?_) (fun w q H locs hw hq hc hP _ hS => ?_)
  · have hE := it_f (nd_n hφ) hE
    refine lv_aload_n C.1 C.2.1 dX0_order_23 rfl (lv_at hl 0 rfl) ?_
    obtain ⟨r5, hr5, hE⟩ := it_b hE
    refine t_afterS C0 D hP P_nil hS (vx_runV (As := []) (rest := []) ⟨C.1, C.2.1, hml, C.2.2.1, C.2.2.2.1⟩ (metC_HW_findOrder l hfl G ad pl hk hb H.size _ _ _ _ _ _ _ _ _ _ _ _ _ _ _ _ _ _ _ _ _ _ _ _ _ _ _ _ _ _ _ _ _ _ _ _ _ _ _ _ _ _ _ _ _ _ _ hom  r5 hr5) (cwV (C := RX0) 0 C.2.2.2.1 (lw_V q1127 q1129 qs26 q80 q1130) rfl rfl rfl (by decide +kernel) ⟨Nat.le_of_ble_eq_true rfl, Nat.le_of_ble_eq_true rfl⟩) (rr_preV0 C D hP hS (va_recv C.2.2.2.2.1 hP (ci := 16) (q0 := 0) rfl rfl)) rfl rfl hl.1 rfl (lv_room (Nat.le_of_ble_eq_true rfl)) dX0_order_24 ⟨Nat.le_of_ble_eq_true rfl, Nat.le_of_ble_eq_true rfl⟩) xW_av (fun hφ H locs hP _ hS => ?_) (fun w q H locs hw hq hc hP _ hS => ?_)
    · have hE := it_t hφ hE
      refine lv_pop C.1 C.2.1 dX0_order_27 rfl ?_
      refine lv_iload_n C.1 C.2.1 dX0_order_28 rfl (lv_at hl 1 rfl) ?_
      refine lv_iconst (v := (-1)) C.1 C.2.1 dX0_order_29 (by decide) ?_
      refine lv_icmp_ne (tgt := 40) C.1 C.2.1 dX0_order_30 (by decide) (fun c7 => ?_) (fun c7 => ?_)
      · have hE := it_f c7 hE
        refine lv_aload_n C.1 C.2.1 dX0_order_40 rfl (lv_at hl 0 rfl) ?_
        refine xWg_0_5 q243 C hP dX0_order_41 ?_
        refine lv_iload_n C.1 C.2.1 dX0_order_44 rfl (lv_at hl 1 rfl) ?_
        obtain ⟨g8, hE⟩ := it_g hE
        refine xWl_8 (v := (r5.2.2.2.2.2.2.2.2.2.2.2.2 (p1).toNatClampNeg)) C hP (gi_in g8) rfl dX0_order_45 ?_
        obtain rfl := Option.some.inj hE
        exact hret _ _ _ _ dX0_order_46 trivial hP hS
      · have hE := it_t c7 hE
        refine lv_aload_n C.1 C.2.1 dX0_order_33 rfl (lv_at hl 0 rfl) ?_
        refine xWg_0_13 q251 C hP dX0_order_34 ?_
        refine lv_goto (tgt := 46) C.1 C.2.1 dX0_order_37 (by decide) ?_
        obtain rfl := Option.some.inj hE
        exact hret _ _ _ _ dX0_order_46 trivial hP hS
    · have hE := it_f (by rw [hw]; exact fun h => nomatch h) hE
      obtain ⟨q6, rfl⟩ : ∃ z, z = q := ⟨_, rfl⟩
      obtain rfl : w = (r5.1.getD 0) := by rw [hw]; rfl
      obtain ⟨ce, g1, g2, g3⟩ := t_cell C0 hc rfl
      refine t_catch (name := "HamsterWeekends$Refused") (E := "HamsterWeekends$Refused") C0 D [] ⟨0, 46, 47, 21⟩ [] htab (fun z hz => nomatch hz) rfl (by decide) q291 (List.mem_of_getElem? (i := 1) rfl) g1 g2 g3 ?_
      refine W.eq (g2 := F0 m 47 ls [.ref q6]) rfl ?_
      refine lv_astore_n (lv' := [(2, .ref q6), (0, .ref (ad 0)), (1, .int p1)]) C.1 C.2.1 dX0_order_47 rfl hl (by decide) rfl (fun ls hl => ?_)
      refine lv_aload_n C.1 C.2.1 dX0_order_48 rfl (lv_at hl 1 rfl) ?_
      refine lv_aload_n C.1 C.2.1 dX0_order_49 rfl (lv_at hl 0 rfl) ?_
      obtain ⟨r9, hr9, hE⟩ := it_b hE
      refine n_afterS C.2.2.2.2.2.2.2.1 hS (va_runV (As := [.ref q6]) (rest := []) ⟨C.1, C.2.1, hml, C.2.2.1, C.2.2.2.1⟩ (metC_HW_refused l G ad [(q6, .inr (18, xF (r5.1.getD 0)))] _ _ _ _ _ _ _ _ _ _ _ _ _ _ _ _ _ _ _ _ _ _ _ _ _ _ _ _ _ _ _ _ _ _ _ _ _ _ _ _ _ _ _ _ _ _ _ q6 (r5.1.getD 0) (List.mem_singleton.mpr rfl) r9 hr9) (cwV (C := RX0) 1 C.2.2.2.1 (lw_V q466 q468 qs2 q80 q469) rfl rfl rfl (by decide +kernel) ⟨Nat.le_of_ble_eq_true rfl, Nat.le_of_ble_eq_true rfl⟩) (t_preX C0 hP hc hq.1 (va_recv C.2.2.2.2.1 hP (ci := 16) (q0 := 0) rfl rfl)) rfl rfl hl.1 rfl (lv_room (Nat.le_of_ble_eq_true rfl)) dX0_order_50 ⟨Nat.le_of_ble_eq_true rfl, Nat.le_of_ble_eq_true rfl⟩) (fun H locs hP hS => ?_)
      obtain rfl := Option.some.inj hE
      exact hret _ _ _ _ dX0_order_53 trivial hP hS
  · obtain ⟨c3, rfl⟩ := nd_x hw
    obtain ⟨q4, rfl⟩ : ∃ z, z = q := ⟨_, rfl⟩
    have hE := it_t c3 hE
    obtain ⟨ce, g1, g2, g3⟩ := t_cell C0 hc rfl
    refine t_catch (name := "HamsterWeekends$Refused") (E := "HamsterWeekends$Refused") C0 D [] ⟨0, 46, 47, 21⟩ [] htab (fun z hz => nomatch hz) rfl (by decide) q291 (List.mem_of_getElem? (i := 1) rfl) g1 g2 g3 ?_
    refine W.eq (g2 := F0 m 47 ls [.ref q4]) rfl ?_
    refine lv_astore_n (lv' := [(2, .ref q4), (0, .ref (ad 0)), (1, .int p1)]) C.1 C.2.1 dX0_order_47 rfl hl (by decide) rfl (fun ls hl => ?_)
    refine lv_aload_n C.1 C.2.1 dX0_order_48 rfl (lv_at hl 1 rfl) ?_
    refine lv_aload_n C.1 C.2.1 dX0_order_49 rfl (lv_at hl 0 rfl) ?_
    obtain ⟨r10, hr10, hE⟩ := it_b hE
    refine n_afterS C.2.2.2.2.2.2.2.1 hS (va_runV (As := [.ref q4]) (rest := []) ⟨C.1, C.2.1, hml, C.2.2.1, C.2.2.2.1⟩ (metC_HW_refused l G ad [(q4, .inr (18, xF (-5)))] _ _ _ _ _ _ _ _ _ _ _ _ _ _ _ _ _ _ _ _ _ _ _ _ _ _ _ _ _ _ _ _ _ _ _ _ _ _ _ _ _ _ _ _ _ _ _ q4 (-5) (List.mem_singleton.mpr rfl) r10 hr10) (cwV (C := RX0) 1 C.2.2.2.1 (lw_V q466 q468 qs2 q80 q469) rfl rfl rfl (by decide +kernel) ⟨Nat.le_of_ble_eq_true rfl, Nat.le_of_ble_eq_true rfl⟩) (t_preX C0 hP hc hq.1 (va_recv C.2.2.2.2.1 hP (ci := 16) (q0 := 0) rfl rfl)) rfl rfl hl.1 rfl (lv_room (Nat.le_of_ble_eq_true rfl)) dX0_order_50 ⟨Nat.le_of_ble_eq_true rfl, Nat.le_of_ble_eq_true rfl⟩) (fun H locs hP hS => ?_)
    obtain rfl := Option.some.inj hE
    refine W.widen (k := 2) (n := 14) (Nat.le_of_ble_eq_true rfl) (Nat.le_of_ble_eq_true rfl) ?_
    exact hret _ _ _ _ dX0_order_53 trivial hP hS
def sC_HW_least (v_died : Int32) (v_leastWeight : Int32) (v_noticedBy : Int32) (v_noticed : Int32) (v_orderDied : Int32) (v_orderLeast : Int32) (v_refusals : Nat → Int32) (v_tweight : Int32) (v_tfright : Int32) (v_tage : Int32) (v_tasked : Nat → Int32) (v_told : Nat → Int32) (v_bestRow : Nat → Int32) (v_many : Int32) (v_weight : Int32) (v_fright : Int32) (v_age : Int32) (v_asked : Nat → Int32) (v_homes : Nat → Option Nat) (v_allergic : Nat → Int32) (hk : Nat → Nat) (hb : Nat → Int32) : Option (Int32 × Int32 × Int32 × Int32 × Int32 × Int32 × (Nat → Int32) × Int32 × Int32 × Int32 × (Nat → Int32) × (Nat → Int32) × (Nat → Int32)) :=
  (sC_HW_findOrder v_died v_leastWeight v_noticedBy v_noticed v_orderDied v_orderLeast v_tweight v_tfright v_tage v_tasked v_told v_bestRow v_many v_weight v_fright v_age v_asked v_homes v_allergic hk hb).bind fun r1 =>
  if r1.1 = none then
    some (r1.2.2.2.2.2.2.1, r1.2.2.1, r1.2.2.2.1, r1.2.2.2.2.1, r1.2.2.2.2.2.1, r1.2.2.2.2.2.2.1, v_refusals, r1.2.2.2.2.2.2.2.1, r1.2.2.2.2.2.2.2.2.1, r1.2.2.2.2.2.2.2.2.2.1, r1.2.2.2.2.2.2.2.2.2.2.1, r1.2.2.2.2.2.2.2.2.2.2.2.1, r1.2.2.2.2.2.2.2.2.2.2.2.2)
  else
    (sC_HW_refused v_refusals (r1.1.getD 0)).bind fun r3 =>
    some (r3.1, r1.2.2.1, r1.2.2.2.1, r1.2.2.2.2.1, r1.2.2.2.2.2.1, r1.2.2.2.2.2.2.1, r3.2, r1.2.2.2.2.2.2.2.1, r1.2.2.2.2.2.2.2.2.1, r1.2.2.2.2.2.2.2.2.2.1, r1.2.2.2.2.2.2.2.2.2.2.1, r1.2.2.2.2.2.2.2.2.2.2.2.1, r1.2.2.2.2.2.2.2.2.2.2.2.2)
set_option maxHeartbeats 4000000 in
theorem metC_HW_least (l : Launch) (hfl : l.stackTraces = false) (G : kG) (ad : Nat → Nat) (pl : va_W) (hk : Nat → Nat) (hb : Nat → Int32) (sz : Nat) (v_latestFault : Int32) (v_died : Int32) (v_leastWeight : Int32) (v_noticedBy : Int32) (v_noticed : Int32) (v_orderDied : Int32) (v_orderLeast : Int32) (v_imaged : Option Nat) (v_shelves : Nat → Option Nat) (v_refusals : Nat → Int32) (v_ran : Int32) (v_bodies : Nat → Int32) (v_tweight : Int32) (v_tfright : Int32) (v_tage : Int32) (v_tasked : Nat → Int32) (v_told : Nat → Int32) (v_bestRow : Nat → Int32) (v_weight_a1 : Int32) (v_fright_a1 : Int32) (v_age_a1 : Int32) (v_asked_a1 : Nat → Int32) (v_weight_a2 : Int32) (v_fright_a2 : Int32) (v_age_a2 : Int32) (v_asked_a2 : Nat → Int32) (v_weight_a3 : Int32) (v_fright_a3 : Int32) (v_age_a3 : Int32) (v_asked_a3 : Nat → Int32) (v_weight_a4 : Int32) (v_fright_a4 : Int32) (v_age_a4 : Int32) (v_asked_a4 : Nat → Int32) (v_many : Int32) (v_pets : Int32) (v_last : Int32) (v_seed : Int32) (v_weight : Int32) (v_fright : Int32) (v_age : Int32) (v_asked : Nat → Int32) (v_homes : Nat → Option Nat) (v_marks : Nat → Int32) (v_had : Nat → Int32) (v_allergic : Nat → Int32) (v_deaths : Nat → Int32) (hom : homOK v_homes v_many hk hb pl)  (res : Int32 × Int32 × Int32 × Int32 × Int32 × Int32 × (Nat → Int32) × Int32 × Int32 × Int32 × (Nat → Int32) × (Nat → Int32) × (Nat → Int32)) (hE : sC_HW_least v_died v_leastWeight v_noticedBy v_noticed v_orderDied v_orderLeast v_refusals v_tweight v_tfright v_tage v_tasked v_told v_bestRow v_many v_weight v_fright v_age v_asked v_homes v_allergic hk hb = some res) : vx_Met l yX0_least (wsW_ yX0_least cX0_least 2 (some .int) [((0 : Nat), (9 : Nat), (10 : Nat), (21 : Nat))]) ({ frames := 15, cells := 1, slots := 7, locals := 342 } : Room) (rPc G (xW G.2 ad v_latestFault v_died v_leastWeight v_noticedBy v_noticed v_orderDied v_orderLeast v_imaged v_shelves v_refusals v_ran v_bodies v_tweight v_tfright v_tage v_tasked v_told v_bestRow v_weight_a1 v_fright_a1 v_age_a1 v_asked_a1 v_weight_a2 v_fright_a2 v_age_a2 v_asked_a2 v_weight_a3 v_fright_a3 v_age_a3 v_asked_a3 v_weight_a4 v_fright_a4 v_age_a4 v_asked_a4 v_many v_pets v_last v_seed v_weight v_fright v_age v_asked v_homes v_marks v_had v_allergic v_deaths) pl (xWV ad) sz [.ref (ad 0)]) (tQc G (xW G.2 ad v_latestFault res.2.1 res.2.2.1 v_noticedBy res.2.2.2.1 res.2.2.2.2.1 res.2.2.2.2.2.1 v_imaged v_shelves res.2.2.2.2.2.2.1 v_ran v_bodies res.2.2.2.2.2.2.2.1 res.2.2.2.2.2.2.2.2.1 res.2.2.2.2.2.2.2.2.2.1 res.2.2.2.2.2.2.2.2.2.2.1 res.2.2.2.2.2.2.2.2.2.2.2.1 res.2.2.2.2.2.2.2.2.2.2.2.2 v_weight_a1 v_fright_a1 v_age_a1 v_asked_a1 v_weight_a2 v_fright_a2 v_age_a2 v_asked_a2 v_weight_a3 v_fright_a3 v_age_a3 v_asked_a3 v_weight_a4 v_fright_a4 v_age_a4 v_asked_a4 v_many v_pets v_last v_seed v_weight v_fright v_age v_asked v_homes v_marks v_had v_allergic v_deaths) [] (tA sz (xWV ad) []) (True) (some (.int res.1))) (tXC G (xW G.2 ad v_latestFault res.2.1 res.2.2.1 v_noticedBy res.2.2.2.1 res.2.2.2.2.1 res.2.2.2.2.2.1 v_imaged v_shelves res.2.2.2.2.2.2.1 v_ran v_bodies res.2.2.2.2.2.2.2.1 res.2.2.2.2.2.2.2.2.1 res.2.2.2.2.2.2.2.2.2.1 res.2.2.2.2.2.2.2.2.2.2.1 res.2.2.2.2.2.2.2.2.2.2.2.1 res.2.2.2.2.2.2.2.2.2.2.2.2 v_weight_a1 v_fright_a1 v_age_a1 v_asked_a1 v_weight_a2 v_fright_a2 v_age_a2 v_asked_a2 v_weight_a3 v_fright_a3 v_age_a3 v_asked_a3 v_weight_a4 v_fright_a4 v_age_a4 v_asked_a4 v_many v_pets v_last v_seed v_weight v_fright v_age v_asked v_homes v_marks v_had v_allergic v_deaths) [] (tA sz (xWV ad) []) 18 RX6 none sz) 1 7 (tA sz (xWV ad) []) := by
  refine r_ofWH (own := RX0) (by decide) rfl (Nat.le_of_ble_eq_true rfl) ?_
  intro p e s m args below meth c ls C C0 D hml htab hP hS hl hr hlocks hsz
  have hl : lv_has ls 2 [(0, .ref (ad 0))] := hl
  obtain ⟨Q, hQ⟩ : ∃ Q, Q = vx_MQ below (tQc G (xW G.2 ad v_latestFault res.2.1 res.2.2.1 v_noticedBy res.2.2.2.1 res.2.2.2.2.1 res.2.2.2.2.2.1 v_imaged v_shelves res.2.2.2.2.2.2.1 v_ran v_bodies res.2.2.2.2.2.2.2.1 res.2.2.2.2.2.2.2.2.1 res.2.2.2.2.2.2.2.2.2.1 res.2.2.2.2.2.2.2.2.2.2.1 res.2.2.2.2.2.2.2.2.2.2.2.1 res.2.2.2.2.2.2.2.2.2.2.2.2 v_weight_a1 v_fright_a1 v_age_a1 v_asked_a1 v_weight_a2 v_fright_a2 v_age_a2 v_asked_a2 v_weight_a3 v_fright_a3 v_age_a3 v_asked_a3 v_weight_a4 v_fright_a4 v_age_a4 v_asked_a4 v_many v_pets v_last v_seed v_weight v_fright v_age v_asked v_homes v_marks v_had v_allergic v_deaths) [] (tA sz (xWV ad) []) (True) (some (.int res.1))) (tXC G (xW G.2 ad v_latestFault res.2.1 res.2.2.1 v_noticedBy res.2.2.2.1 res.2.2.2.2.1 res.2.2.2.2.2.1 v_imaged v_shelves res.2.2.2.2.2.2.1 v_ran v_bodies res.2.2.2.2.2.2.2.1 res.2.2.2.2.2.2.2.2.1 res.2.2.2.2.2.2.2.2.2.1 res.2.2.2.2.2.2.2.2.2.2.1 res.2.2.2.2.2.2.2.2.2.2.2.1 res.2.2.2.2.2.2.2.2.2.2.2.2 v_weight_a1 v_fright_a1 v_age_a1 v_asked_a1 v_weight_a2 v_fright_a2 v_age_a2 v_asked_a2 v_weight_a3 v_fright_a3 v_age_a3 v_asked_a3 v_weight_a4 v_fright_a4 v_age_a4 v_asked_a4 v_many v_pets v_last v_seed v_weight v_fright v_age v_asked v_homes v_marks v_had v_allergic v_deaths) [] (tA sz (xWV ad) []) 18 RX6 none sz) args s 1 7 (tA sz (xWV ad) []) := ⟨_, rfl⟩
  rw [← hQ]
  have hret : ∀ (pc : Nat) (ls : Array Slot) (H : Heap) (locs : List Loc), decode cX0_least pc = .ok (.ireturn, 1) → True → va_P G.1 vwCl (xW G.2 ad v_latestFault res.2.1 res.2.2.1 v_noticedBy res.2.2.2.1 res.2.2.2.2.1 res.2.2.2.2.2.1 v_imaged v_shelves res.2.2.2.2.2.2.1 v_ran v_bodies res.2.2.2.2.2.2.2.1 res.2.2.2.2.2.2.2.2.1 res.2.2.2.2.2.2.2.2.2.1 res.2.2.2.2.2.2.2.2.2.2.1 res.2.2.2.2.2.2.2.2.2.2.2.1 res.2.2.2.2.2.2.2.2.2.2.2.2 v_weight_a1 v_fright_a1 v_age_a1 v_asked_a1 v_weight_a2 v_fright_a2 v_age_a2 v_asked_a2 v_weight_a3 v_fright_a3 v_age_a3 v_asked_a3 v_weight_a4 v_fright_a4 v_age_a4 v_asked_a4 v_many v_pets v_last v_seed v_weight v_fright v_age v_asked v_homes v_marks v_had v_allergic v_deaths) H → va_S (tA sz (xWV ad) []) s.heap H locs → W p l e ({ frames := 15, cells := 1, slots := 7, locals := 342 } : Room) s m args below meth c H locs 1 7 Q (F0 m pc ls [(.int res.1)]) := by
    intro pc ls H locs hd hφ hP hS
    rw [hQ]
    exact t_iret C0 hr hlocks hd hφ hP P_nil hS
  clear hQ
  obtain ⟨H, hH⟩ : ∃ H, H = s.heap := ⟨_, rfl⟩
  obtain ⟨locs, hlo⟩ : ∃ locs : List Loc, locs = [] := ⟨_, rfl⟩
  have hP : va_P G.1 vwCl (xW G.2 ad v_latestFault v_died v_leastWeight v_noticedBy v_noticed v_orderDied v_orderLeast v_imaged v_shelves v_refusals v_ran v_bodies v_tweight v_tfright v_tage v_tasked v_told v_bestRow v_weight_a1 v_fright_a1 v_age_a1 v_asked_a1 v_weight_a2 v_fright_a2 v_age_a2 v_asked_a2 v_weight_a3 v_fright_a3 v_age_a3 v_asked_a3 v_weight_a4 v_fright_a4 v_age_a4 v_asked_a4 v_many v_pets v_last v_seed v_weight v_fright v_age v_asked v_homes v_marks v_had v_allergic v_deaths) H := by rw [hH]; exact hP
  have hS : va_S (tA sz (xWV ad) []) s.heap H locs := by rw [hH, hlo]; exact hS
  suffices hZ : W p l e ({ frames := 15, cells := 1, slots := 7, locals := 342 } : Room) s m args below meth c H locs 0 0 Q (F0 m 0 ls []) by rw [hH, hlo] at hZ; exact hZ
  clear hH hlo
  unfold sC_HW_least at hE
  refine lv_aload_n C.1 C.2.1 dX0_least_0 rfl (lv_at hl 0 rfl) ?_
  obtain ⟨r1, hr1, hE⟩ := it_b hE
  refine t_afterS C0 D hP P_nil hS (vx_runV (As := []) (rest := []) ⟨C.1, C.2.1, hml, C.2.2.1, C.2.2.2.1⟩ (metC_HW_findOrder l hfl G ad pl hk hb H.size _ _ _ _ _ _ _ _ _ _ _ _ _ _ _ _ _ _ _ _ _ _ _ _ _ _ _ _ _ _ _ _ _ _ _ _ _ _ _ _ _ _ _ _ _ _ _ hom  r1 hr1) (cwV (C := RX0) 0 C.2.2.2.1 (lw_V q1127 q1129 qs26 q80 q1130) rfl rfl rfl (by decide +kernel) ⟨Nat.le_of_ble_eq_true rfl, Nat.le_of_ble_eq_true rfl⟩) (rr_preV0 C D hP hS (va_recv C.2.2.2.2.1 hP (ci := 16) (q0 := 0) rfl rfl)) rfl rfl hl.1 rfl (lv_room (Nat.le_of_ble_eq_true rfl)) dX0_least_1 ⟨Nat.le_of_ble_eq_true rfl, Nat.le_of_ble_eq_true rfl⟩) xW_av (fun hφ H locs hP _ hS => ?_) (fun w q H locs hw hq hc hP _ hS => ?_)
  · have hE := it_t hφ hE
    refine lv_pop C.1 C.2.1 dX0_least_4 rfl ?_
    refine lv_aload_n C.1 C.2.1 dX0_least_5 rfl (lv_at hl 0 rfl) ?_
    refine xWg_0_14 q252 C hP dX0_least_6 ?_
    obtain rfl := Option.some.inj hE
    exact hret _ _ _ _ dX0_least_9 trivial hP hS
  · have hE := it_f (by rw [hw]; exact fun h => nomatch h) hE
    obtain ⟨q2, rfl⟩ : ∃ z, z = q := ⟨_, rfl⟩
    obtain rfl : w = (r1.1.getD 0) := by rw [hw]; rfl
    obtain ⟨ce, g1, g2, g3⟩ := t_cell C0 hc rfl
    refine t_catch (name := "HamsterWeekends$Refused") (E := "HamsterWeekends$Refused") C0 D [] ⟨0, 9, 10, 21⟩ [] htab (fun z hz => nomatch hz) rfl (by decide) q291 (List.mem_of_getElem? (i := 1) rfl) g1 g2 g3 ?_
    refine W.eq (g2 := F0 m 10 ls [.ref q2]) rfl ?_
    refine lv_astore_n (lv' := [(1, .ref q2), (0, .ref (ad 0))]) C.1 C.2.1 dX0_least_10 rfl hl (by decide) rfl (fun ls hl => ?_)
    refine lv_aload_n C.1 C.2.1 dX0_least_11 rfl (lv_at hl 1 rfl) ?_
    refine lv_aload_n C.1 C.2.1 dX0_least_12 rfl (lv_at hl 0 rfl) ?_
    obtain ⟨r3, hr3, hE⟩ := it_b hE
    refine n_afterS C.2.2.2.2.2.2.2.1 hS (va_runV (As := [.ref q2]) (rest := []) ⟨C.1, C.2.1, hml, C.2.2.1, C.2.2.2.1⟩ (metC_HW_refused l G ad [(q2, .inr (18, xF (r1.1.getD 0)))] _ _ _ _ _ _ _ _ _ _ _ _ _ _ _ _ _ _ _ _ _ _ _ _ _ _ _ _ _ _ _ _ _ _ _ _ _ _ _ _ _ _ _ _ _ _ _ q2 (r1.1.getD 0) (List.mem_singleton.mpr rfl) r3 hr3) (cwV (C := RX0) 1 C.2.2.2.1 (lw_V q466 q468 qs2 q80 q469) rfl rfl rfl (by decide +kernel) ⟨Nat.le_of_ble_eq_true rfl, Nat.le_of_ble_eq_true rfl⟩) (t_preX C0 hP hc hq.1 (va_recv C.2.2.2.2.1 hP (ci := 16) (q0 := 0) rfl rfl)) rfl rfl hl.1 rfl (lv_room (Nat.le_of_ble_eq_true rfl)) dX0_least_13 ⟨Nat.le_of_ble_eq_true rfl, Nat.le_of_ble_eq_true rfl⟩) (fun H locs hP hS => ?_)
    obtain rfl := Option.some.inj hE
    exact hret _ _ _ _ dX0_least_16 trivial hP hS
