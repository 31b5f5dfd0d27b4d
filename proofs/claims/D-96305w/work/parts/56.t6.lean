set_option maxRecDepth 100000
def sC_HW_element (hd : Nat → Nat) (rs : Nat → Nat) (rn : Nat → Nat) (rc : Nat → Nat → Int64) (sk : Nat → Nat) (si : Nat → Int32) (sb : Nat → Int32) (p1 : Int32) (p2 : Int32) : Option (Int64) :=
  if gi p1 8 then
    if hd (p1).toNatClampNeg = 1 then
      if gi p2 (rn (p1).toNatClampNeg) then
        some (((rc (p1).toNatClampNeg) (p2).toNatClampNeg))
      else
        some (0)
    else
      some (0)
  else
    some (0)
set_option maxHeartbeats 4000000 in
theorem metC_HW_element (l : Launch) (hfl : l.stackTraces = false) (G : kG) (ad : Nat → Nat) (pl : va_W) (sa ra rb hd rs rn : Nat → Nat) (rc : Nat → Nat → Int64) (sk : Nat → Nat) (si sb : Nat → Int32) (sz : Nat) (v_latestFault : Int32) (v_died : Int32) (v_leastWeight : Int32) (v_noticedBy : Int32) (v_noticed : Int32) (v_orderDied : Int32) (v_orderLeast : Int32) (v_imaged : Option Nat) (v_shelves : Nat → Option Nat) (v_refusals : Nat → Int32) (v_ran : Int32) (v_bodies : Nat → Int32) (v_tweight : Int32) (v_tfright : Int32) (v_tage : Int32) (v_tasked : Nat → Int32) (v_told : Nat → Int32) (v_bestRow : Nat → Int32) (v_weight_a1 : Int32) (v_fright_a1 : Int32) (v_age_a1 : Int32) (v_asked_a1 : Nat → Int32) (v_weight_a2 : Int32) (v_fright_a2 : Int32) (v_age_a2 : Int32) (v_asked_a2 : Nat → Int32) (v_weight_a3 : Int32) (v_fright_a3 : Int32) (v_age_a3 : Int32) (v_asked_a3 : Nat → Int32) (v_weight_a4 : Int32) (v_fright_a4 : Int32) (v_age_a4 : Int32) (v_asked_a4 : Nat → Int32) (v_many : Int32) (v_pets : Int32) (v_last : Int32) (v_seed : Int32) (v_weight : Int32) (v_fright : Int32) (v_age : Int32) (v_asked : Nat → Int32) (v_homes : Nat → Option Nat) (v_marks : Nat → Int32) (v_had : Nat → Int32) (v_allergic : Nat → Int32) (v_deaths : Nat → Int32) (shok : shOK G v_shelves sa hd ra rb rs rn rc sk si sb pl) (p1 : Int32) (p2 : Int32) (res : Int64) (hE : sC_HW_element hd rs rn rc sk si sb p1 p2 = some res) : vx_Met l yX0_element (wsW_ yX0_element cX0_element 4 (some .long) [((0 : Nat), (12 : Nat), (13 : Nat), (21 : Nat)), ((0 : Nat), (12 : Nat), (16 : Nat), (106 : Nat))]) ({ frames := 9, cells := 12, slots := 1435, locals := 10281 } : Room) (rPc G (xW G.2 ad v_latestFault v_died v_leastWeight v_noticedBy v_noticed v_orderDied v_orderLeast v_imaged v_shelves v_refusals v_ran v_bodies v_tweight v_tfright v_tage v_tasked v_told v_bestRow v_weight_a1 v_fright_a1 v_age_a1 v_asked_a1 v_weight_a2 v_fright_a2 v_age_a2 v_asked_a2 v_weight_a3 v_fright_a3 v_age_a3 v_asked_a3 v_weight_a4 v_fright_a4 v_age_a4 v_asked_a4 v_many v_pets v_last v_seed v_weight v_fright v_age v_asked v_homes v_marks v_had v_allergic v_deaths) pl (xWV ad) sz [.ref (ad 0), .int p1, .int p2]) (tQc G (xW G.2 ad v_latestFault v_died v_leastWeight v_noticedBy v_noticed v_orderDied v_orderLeast v_imaged v_shelves v_refusals v_ran v_bodies v_tweight v_tfright v_tage v_tasked v_told v_bestRow v_weight_a1 v_fright_a1 v_age_a1 v_asked_a1 v_weight_a2 v_fright_a2 v_age_a2 v_asked_a2 v_weight_a3 v_fright_a3 v_age_a3 v_asked_a3 v_weight_a4 v_fright_a4 v_age_a4 v_asked_a4 v_many v_pets v_last v_seed v_weight v_fright v_age v_asked v_homes v_marks v_had v_allergic v_deaths) [] (tA sz (xWV ad) []) (True) (some (.long res))) (tXC G (xW G.2 ad v_latestFault v_died v_leastWeight v_noticedBy v_noticed v_orderDied v_orderLeast v_imaged v_shelves v_refusals v_ran v_bodies v_tweight v_tfright v_tage v_tasked v_told v_bestRow v_weight_a1 v_fright_a1 v_age_a1 v_asked_a1 v_weight_a2 v_fright_a2 v_age_a2 v_asked_a2 v_weight_a3 v_fright_a3 v_age_a3 v_asked_a3 v_weight_a4 v_fright_a4 v_age_a4 v_asked_a4 v_many v_pets v_last v_seed v_weight v_fright v_age v_asked v_homes v_marks v_had v_allergic v_deaths) [] (tA sz (xWV ad) []) 18 RX6 none sz) 12 1435 (tA sz (xWV ad) []) := by
  refine r_ofWH (own := RX0) (by decide) rfl (Nat.le_of_ble_eq_true rfl) ?_
  intro p e s m args below meth c ls C C0 D hml htab hP hS hl hr hlocks hsz
  have hl : lv_has ls 4 [(0, .ref (ad 0)), (1, .int p1), (2, .int p2)] := hl
  obtain ⟨Q, hQ⟩ : ∃ Q, Q = vx_MQ below (tQc G (xW G.2 ad v_latestFault v_died v_leastWeight v_noticedBy v_noticed v_orderDied v_orderLeast v_imaged v_shelves v_refusals v_ran v_bodies v_tweight v_tfright v_tage v_tasked v_told v_bestRow v_weight_a1 v_fright_a1 v_age_a1 v_asked_a1 v_weight_a2 v_fright_a2 v_age_a2 v_asked_a2 v_weight_a3 v_fright_a3 v_age_a3 v_asked_a3 v_weight_a4 v_fright_a4 v_age_a4 v_asked_a4 v_many v_pets v_last v_seed v_weight v_fright v_age v_asked v_homes v_marks v_had v_allergic v_deaths) [] (tA sz (xWV ad) []) (True) (some (.long res))) (tXC G (xW G.2 ad v_latestFault v_died v_leastWeight v_noticedBy v_noticed v_orderDied v_orderLeast v_imaged v_shelves v_refusals v_ran v_bodies v_tweight v_tfright v_tage v_tasked v_told v_bestRow v_weight_a1 v_fright_a1 v_age_a1 v_asked_a1 v_weight_a2 v_fright_a2 v_age_a2 v_asked_a2 v_weight_a3 v_fright_a3 v_age_a3 v_asked_a3 v_weight_a4 v_fright_a4 v_age_a4 v_asked_a4 v_many v_pets v_last v_seed v_weight v_fright v_age v_asked v_homes v_marks v_had v_allergic v_deaths) [] (tA sz (xWV ad) []) 18 RX6 none sz) args s 12 1435 (tA sz (xWV ad) []) := ⟨_, rfl⟩
  rw [← hQ]
  have hret : ∀ (pc : Nat) (ls : Array Slot) (H : Heap) (locs : List Loc), decode cX0_element pc = .ok (.lreturn, 1) → True → va_P G.1 vwCl (xW G.2 ad v_latestFault v_died v_leastWeight v_noticedBy v_noticed v_orderDied v_orderLeast v_imaged v_shelves v_refusals v_ran v_bodies v_tweight v_tfright v_tage v_tasked v_told v_bestRow v_weight_a1 v_fright_a1 v_age_a1 v_asked_a1 v_weight_a2 v_fright_a2 v_age_a2 v_asked_a2 v_weight_a3 v_fright_a3 v_age_a3 v_asked_a3 v_weight_a4 v_fright_a4 v_age_a4 v_asked_a4 v_many v_pets v_last v_seed v_weight v_fright v_age v_asked v_homes v_marks v_had v_allergic v_deaths) H → va_S (tA sz (xWV ad) []) s.heap H locs → W p l e ({ frames := 9, cells := 12, slots := 1435, locals := 10281 } : Room) s m args below meth c H locs 12 1435 Q (F0 m pc ls [(.long res)]) := by
    intro pc ls H locs hd hφ hP hS
    rw [hQ]
    exact t_lret C0 hr hlocks hd hφ hP P_nil hS
  clear hQ
  obtain ⟨H, hH⟩ : ∃ H, H = s.heap := ⟨_, rfl⟩
  obtain ⟨locs, hlo⟩ : ∃ locs : List Loc, locs = [] := ⟨_, rfl⟩
  have hP : va_P G.1 vwCl (xW G.2 ad v_latestFault v_died v_leastWeight v_noticedBy v_noticed v_orderDied v_orderLeast v_imaged v_shelves v_refusals v_ran v_bodies v_tweight v_tfright v_tage v_tasked v_told v_bestRow v_weight_a1 v_fright_a1 v_age_a1 v_asked_a1 v_weight_a2 v_fright_a2 v_age_a2 v_asked_a2 v_weight_a3 v_fright_a3 v_age_a3 v_asked_a3 v_weight_a4 v_fright_a4 v_age_a4 v_asked_a4 v_many v_pets v_last v_seed v_weight v_fright v_age v_asked v_homes v_marks v_had v_allergic v_deaths) H := by rw [hH]; exact hP
  have hS : va_S (tA sz (xWV ad) []) s.heap H locs := by rw [hH, hlo]; exact hS
  suffices hZ : W p l e ({ frames := 9, cells := 12, slots := 1435, locals := 10281 } : Room) s m args below meth c H locs 0 0 Q (F0 m 0 ls []) by rw [hH, hlo] at hZ; exact hZ
  clear hH hlo
  unfold sC_HW_element at hE
  refine lv_aload_n C.1 C.2.1 dX0_element_0 rfl (lv_at hl 0 rfl) ?_
  refine lv_iload_n C.1 C.2.1 dX0_element_1 rfl (lv_at hl 1 rfl) ?_
  refine t_afterS C0 D hP P_nil hS (vx_runVX (As := [.int p1]) (rest := []) ⟨C.1, C.2.1, hml, C.2.2.1, C.2.2.2.1⟩ (metC_HW_shelf l hfl G ad pl H.size _ _ _ _ _ _ _ _ _ _ _ _ _ _ _ _ _ _ _ _ _ _ _ _ _ _ _ _ _ _ _ _ _ _ _ _ _ _ _ _ _ _ _ _ _ _ _ p1) (vx_cwVW (C := RX0) 1 C.2.2.2.1 (lw_VW q292 q294 qs0 q80 q295) rfl rfl rfl (by decide +kernel) ⟨Nat.le_of_ble_eq_true rfl, Nat.le_of_ble_eq_true rfl⟩) (rr_preV0 C D hP hS (va_recv C.2.2.2.2.1 hP (ci := 16) (q0 := 0) rfl rfl)) rfl rfl hl.1 rfl (lv_room (Nat.le_of_ble_eq_true rfl)) dX0_element_2 ⟨Nat.le_of_ble_eq_true rfl, Nat.le_of_ble_eq_true rfl⟩) xW_av (fun hφ H locs hP _ hS => ?_) (fun w q H locs hw hq hc hP _ hS => ?_)
  · have hE := it_t hφ hE
    obtain ⟨hsag1, hshg1⟩ := shok _ (gi_lt hφ)
    rw [hsag1]
    refine t_after [] C0 D hP P_nil hS (vx_runVX (As := []) (rest := []) ⟨C.1, C.2.1, hml, C.2.2.1, C.2.2.2.1⟩ (metC_Shelf_row l hfl G pl H.size _ _ _ _ _ _ _ _ _ _ hshg1) (vx_cwVW (C := RX4) 0 C.2.2.2.1 (lw_VW q474 q475 q476 q84 q477) rfl rfl rfl (by decide +kernel) ⟨Nat.le_of_ble_eq_true rfl, Nat.le_of_ble_eq_true rfl⟩) (rr_preV C D hP hS [] rfl (by decide) rfl (sh_recv C hS hshg1)) rfl rfl hl.1 rfl (lv_room (Nat.le_of_ble_eq_true rfl)) dX0_element_5 ⟨Nat.le_of_ble_eq_true rfl, Nat.le_of_ble_eq_true rfl⟩) xW_av rfl rfl rfl (fun hφ H locs hP _ hS => ?_) (fun w q H locs hw hq hc hP _ hS => ?_)
    · have hE := it_t hφ hE
      have hrwg4 := (shAt_1 hshg1 hφ).2
      refine lv_iload_n C.1 C.2.1 dX0_element_8 rfl (lv_at hl 2 rfl) ?_
      by_cases g7 : gi p2 (rn (p1).toNatClampNeg)
      · have hE := it_t g7 hE
        refine rw_get C D.2.2.2.2 hml hl.1 hP xW_av hS hrwg4 g7 q558 ⟨Nat.le_of_ble_eq_true rfl, Nat.le_of_ble_eq_true rfl, Nat.le_of_ble_eq_true rfl, Nat.le_of_ble_eq_true rfl⟩ (Nat.le_of_ble_eq_true rfl) dX0_element_9 (fun H locs hP hS => ?_)
        obtain rfl := Option.some.inj hE
        refine W.widen (k := 12) (n := 1435) (Nat.le_of_ble_eq_true rfl) (Nat.le_of_ble_eq_true rfl) ?_
        exact hret _ _ _ _ dX0_element_12 trivial hP hS
      · have hE := it_f g7 hE
        refine rw_getX hfl C D hml hl.1 hP hS hrwg4 g7 q558 ⟨Nat.le_of_ble_eq_true rfl, Nat.le_of_ble_eq_true rfl, Nat.le_of_ble_eq_true rfl, Nat.le_of_ble_eq_true rfl⟩ (Nat.le_of_ble_eq_true rfl) dX0_element_9 (fun H locs z8 ce hP hS g1 g2 g3 => ?_)
        refine t_catch (name := "java/lang/ArrayIndexOutOfBoundsException") (E := "java/lang/ArrayIndexOutOfBoundsException") C0 D [⟨0, 12, 13, 21⟩] ⟨0, 12, 16, 106⟩ [] htab (fun z hz => by
      simp only [List.mem_cons, List.not_mem_nil, or_false] at hz
      rcases hz with rfl
      · exact Or.inr ⟨by decide, _, C.2.2.2.1 _ q291, D.2.2.2.2.2.2.1 _ (List.mem_of_getElem? (i := 68) rfl)⟩) rfl (by decide) q296 (List.mem_of_getElem? (i := 0) rfl) g1 g2 g3 ?_
        refine W.eq (g2 := F0 m 16 ls [.ref z8]) rfl ?_
        refine lv_astore_n (lv' := [(3, .ref z8), (0, .ref (ad 0)), (1, .int p1), (2, .int p2)]) C.1 C.2.1 dX0_element_16 rfl hl (by decide) rfl (fun ls hl => ?_)
        refine lv_lconst (v := 0) C.1 C.2.1 dX0_element_17 (by decide) ?_
        obtain rfl := Option.some.inj hE
        exact hret _ _ _ _ dX0_element_18 trivial hP hS
    · obtain ⟨c5, rfl⟩ := shR_x hw
      have hE := it_f c5 hE
      obtain ⟨q6, rfl⟩ : ∃ z, z = q := ⟨_, rfl⟩
      obtain ⟨ce, g1, g2, g3⟩ := t_cell C0 hc rfl
      refine t_catch (name := "HamsterWeekends$Refused") (E := "HamsterWeekends$Refused") C0 D [] ⟨0, 12, 13, 21⟩ [⟨0, 12, 16, 106⟩] htab (fun z hz => nomatch hz) rfl (by decide) q291 (List.mem_of_getElem? (i := 1) rfl) g1 g2 g3 ?_
      refine W.eq (g2 := F0 m 13 ls [.ref q6]) rfl ?_
      refine lv_astore_n (lv' := [(3, .ref q6), (0, .ref (ad 0)), (1, .int p1), (2, .int p2)]) C.1 C.2.1 dX0_element_13 rfl hl (by decide) rfl (fun ls hl => ?_)
      refine lv_lconst (v := 0) C.1 C.2.1 dX0_element_14 (by decide) ?_
      obtain rfl := Option.some.inj hE
      refine W.widen (k := 12) (n := 1435) (Nat.le_of_ble_eq_true rfl) (Nat.le_of_ble_eq_true rfl) ?_
      exact hret _ _ _ _ dX0_element_15 trivial hP hS
  · obtain ⟨c2, rfl⟩ := shO_x hw
    have hE := it_f c2 hE
    obtain ⟨q3, rfl⟩ : ∃ z, z = q := ⟨_, rfl⟩
    obtain ⟨ce, g1, g2, g3⟩ := t_cell C0 hc rfl
    refine t_catch (name := "HamsterWeekends$Refused") (E := "HamsterWeekends$Refused") C0 D [] ⟨0, 12, 13, 21⟩ [⟨0, 12, 16, 106⟩] htab (fun z hz => nomatch hz) rfl (by decide) q291 (List.mem_of_getElem? (i := 1) rfl) g1 g2 g3 ?_
    refine W.eq (g2 := F0 m 13 ls [.ref q3]) rfl ?_
    refine lv_astore_n (lv' := [(3, .ref q3), (0, .ref (ad 0)), (1, .int p1), (2, .int p2)]) C.1 C.2.1 dX0_element_13 rfl hl (by decide) rfl (fun ls hl => ?_)
    refine lv_lconst (v := 0) C.1 C.2.1 dX0_element_14 (by decide) ?_
    obtain rfl := Option.some.inj hE
    refine W.widen (k := 12) (n := 1435) (Nat.le_of_ble_eq_true rfl) (Nat.le_of_ble_eq_true rfl) ?_
    exact hret _ _ _ _ dX0_element_15 trivial hP hS
def sC_HW_holds (hd : Nat → Nat) (rs : Nat → Nat) (rn : Nat → Nat) (rc : Nat → Nat → Int64) (sk : Nat → Nat) (si : Nat → Int32) (sb : Nat → Int32) (p1 : Int32) : Option (Int32) :=
  if p1 < 0 then
    some ((-1))
  else
    if 8 ≤ p1 then
      some ((-1))
    else
      if gi p1 8 then
      if hd (p1).toNatClampNeg = 0 then
        some ((-1))
      else
      if hd (p1).toNatClampNeg = 1 then
        if gi p1 8 then
        some ((100 + (Int32.ofNat (rs (p1).toNatClampNeg))))
        else none
      else
      if hd (p1).toNatClampNeg = 2 then
        if gi p1 8 then
        some ((si (p1).toNatClampNeg))
        else none
      else
      none
      else none
set_option maxHeartbeats 4000000 in
theorem metC_HW_holds (l : Launch) (hfl : l.stackTraces = false) (G : kG) (ad : Nat → Nat) (pl : va_W) (sa ra rb hd rs rn : Nat → Nat) (rc : Nat → Nat → Int64) (sk : Nat → Nat) (si sb : Nat → Int32) (sz : Nat) (v_latestFault : Int32) (v_died : Int32) (v_leastWeight : Int32) (v_noticedBy : Int32) (v_noticed : Int32) (v_orderDied : Int32) (v_orderLeast : Int32) (v_imaged : Option Nat) (v_shelves : Nat → Option Nat) (v_refusals : Nat → Int32) (v_ran : Int32) (v_bodies : Nat → Int32) (v_tweight : Int32) (v_tfright : Int32) (v_tage : Int32) (v_tasked : Nat → Int32) (v_told : Nat → Int32) (v_bestRow : Nat → Int32) (v_weight_a1 : Int32) (v_fright_a1 : Int32) (v_age_a1 : Int32) (v_asked_a1 : Nat → Int32) (v_weight_a2 : Int32) (v_fright_a2 : Int32) (v_age_a2 : Int32) (v_asked_a2 : Nat → Int32) (v_weight_a3 : Int32) (v_fright_a3 : Int32) (v_age_a3 : Int32) (v_asked_a3 : Nat → Int32) (v_weight_a4 : Int32) (v_fright_a4 : Int32) (v_age_a4 : Int32) (v_asked_a4 : Nat → Int32) (v_many : Int32) (v_pets : Int32) (v_last : Int32) (v_seed : Int32) (v_weight : Int32) (v_fright : Int32) (v_age : Int32) (v_asked : Nat → Int32) (v_homes : Nat → Option Nat) (v_marks : Nat → Int32) (v_had : Nat → Int32) (v_allergic : Nat → Int32) (v_deaths : Nat → Int32) (shok : shOK G v_shelves sa hd ra rb rs rn rc sk si sb pl) (p1 : Int32) (res : Int32) (hE : sC_HW_holds hd rs rn rc sk si sb p1 = some res) : vx_Met l yX0_holds (ws_ yX0_holds cX0_holds 3 (some .int)) ({ frames := 1, cells := 0, slots := 0, locals := 20 } : Room) (rPc G (xW G.2 ad v_latestFault v_died v_leastWeight v_noticedBy v_noticed v_orderDied v_orderLeast v_imaged v_shelves v_refusals v_ran v_bodies v_tweight v_tfright v_tage v_tasked v_told v_bestRow v_weight_a1 v_fright_a1 v_age_a1 v_asked_a1 v_weight_a2 v_fright_a2 v_age_a2 v_asked_a2 v_weight_a3 v_fright_a3 v_age_a3 v_asked_a3 v_weight_a4 v_fright_a4 v_age_a4 v_asked_a4 v_many v_pets v_last v_seed v_weight v_fright v_age v_asked v_homes v_marks v_had v_allergic v_deaths) pl (xWV ad) sz [.ref (ad 0), .int p1]) (tQc G (xW G.2 ad v_latestFault v_died v_leastWeight v_noticedBy v_noticed v_orderDied v_orderLeast v_imaged v_shelves v_refusals v_ran v_bodies v_tweight v_tfright v_tage v_tasked v_told v_bestRow v_weight_a1 v_fright_a1 v_age_a1 v_asked_a1 v_weight_a2 v_fright_a2 v_age_a2 v_asked_a2 v_weight_a3 v_fright_a3 v_age_a3 v_asked_a3 v_weight_a4 v_fright_a4 v_age_a4 v_asked_a4 v_many v_pets v_last v_seed v_weight v_fright v_age v_asked v_homes v_marks v_had v_allergic v_deaths) [] (tA sz (xWV ad) []) (True) (some (.int res))) (tXC G (xW G.2 ad v_latestFault v_died v_leastWeight v_noticedBy v_noticed v_orderDied v_orderLeast v_imaged v_shelves v_refusals v_ran v_bodies v_tweight v_tfright v_tage v_tasked v_told v_bestRow v_weight_a1 v_fright_a1 v_age_a1 v_asked_a1 v_weight_a2 v_fright_a2 v_age_a2 v_asked_a2 v_weight_a3 v_fright_a3 v_age_a3 v_asked_a3 v_weight_a4 v_fright_a4 v_age_a4 v_asked_a4 v_many v_pets v_last v_seed v_weight v_fright v_age v_asked v_homes v_marks v_had v_allergic v_deaths) [] (tA sz (xWV ad) []) 18 RX6 none sz) 0 0 (tA sz (xWV ad) []) := by
  refine r_ofW (own := RX0) (by decide) rfl (Nat.le_of_ble_eq_true rfl) ?_
  intro p e s m args below meth c ls C C0 D hml htab hP hS hl hr hlocks hsz
  have hl : lv_has ls 3 [(0, .ref (ad 0)), (1, .int p1)] := hl
  obtain ⟨Q, hQ⟩ : ∃ Q, Q = vx_MQ below (tQc G (xW G.2 ad v_latestFault v_died v_leastWeight v_noticedBy v_noticed v_orderDied v_orderLeast v_imaged v_shelves v_refusals v_ran v_bodies v_tweight v_tfright v_tage v_tasked v_told v_bestRow v_weight_a1 v_fright_a1 v_age_a1 v_asked_a1 v_weight_a2 v_fright_a2 v_age_a2 v_asked_a2 v_weight_a3 v_fright_a3 v_age_a3 v_asked_a3 v_weight_a4 v_fright_a4 v_age_a4 v_asked_a4 v_many v_pets v_last v_seed v_weight v_fright v_age v_asked v_homes v_marks v_had v_allergic v_deaths) [] (tA sz (xWV ad) []) (True) (some (.int res))) (tXC G (xW G.2 ad v_latestFault v_died v_leastWeight v_noticedBy v_noticed v_orderDied v_orderLeast v_imaged v_shelves v_refusals v_ran v_bodies v_tweight v_tfright v_tage v_tasked v_told v_bestRow v_weight_a1 v_fright_a1 v_age_a1 v_asked_a1 v_weight_a2 v_fright_a2 v_age_a2 v_asked_a2 v_weight_a3 v_fright_a3 v_age_a3 v_asked_a3 v_weight_a4 v_fright_a4 v_age_a4 v_asked_a4 v_many v_pets v_last v_seed v_weight v_fright v_age v_asked v_homes v_marks v_had v_allergic v_deaths) [] (tA sz (xWV ad) []) 18 RX6 none sz) args s 0 0 (tA sz (xWV ad) []) := ⟨_, rfl⟩
  rw [← hQ]
  have hret : ∀ (pc : Nat) (ls : Array Slot) (H : Heap) (locs : List Loc), decode cX0_holds pc = .ok (.ireturn, 1) → True → va_P G.1 vwCl (xW G.2 ad v_latestFault v_died v_leastWeight v_noticedBy v_noticed v_orderDied v_orderLeast v_imaged v_shelves v_refusals v_ran v_bodies v_tweight v_tfright v_tage v_tasked v_told v_bestRow v_weight_a1 v_fright_a1 v_age_a1 v_asked_a1 v_weight_a2 v_fright_a2 v_age_a2 v_asked_a2 v_weight_a3 v_fright_a3 v_age_a3 v_asked_a3 v_weight_a4 v_fright_a4 v_age_a4 v_asked_a4 v_many v_pets v_last v_seed v_weight v_fright v_age v_asked v_homes v_marks v_had v_allergic v_deaths) H → va_S (tA sz (xWV ad) []) s.heap H locs → W p l e ({ frames := 1, cells := 0, slots := 0, locals := 20 } : Room) s m args below meth c H locs 0 0 Q (F0 m pc ls [(.int res)]) := by
    intro pc ls H locs hd hφ hP hS
    rw [hQ]
    exact t_iret C0 hr hlocks hd hφ hP P_nil hS
  clear hQ
  obtain ⟨H, hH⟩ : ∃ H, H = s.heap := ⟨_, rfl⟩
  obtain ⟨locs, hlo⟩ : ∃ locs : List Loc, locs = [] := ⟨_, rfl⟩
  have hP : va_P G.1 vwCl (xW G.2 ad v_latestFault v_died v_leastWeight v_noticedBy v_noticed v_orderDied v_orderLeast v_imaged v_shelves v_refusals v_ran v_bodies v_tweight v_tfright v_tage v_tasked v_told v_bestRow v_weight_a1 v_fright_a1 v_age_a1 v_asked_a1 v_weight_a2 v_fright_a2 v_age_a2 v_asked_a2 v_weight_a3 v_fright_a3 v_age_a3 v_asked_a3 v_weight_a4 v_fright_a4 v_age_a4 v_asked_a4 v_many v_pets v_last v_seed v_weight v_fright v_age v_asked v_homes v_marks v_had v_allergic v_deaths) H := by rw [hH]; exact hP
  have hS : va_S (tA sz (xWV ad) []) s.heap H locs := by rw [hH, hlo]; exact hS
  suffices hZ : W p l e ({ frames := 1, cells := 0, slots := 0, locals := 20 } : Room) s m args below meth c H locs 0 0 Q (F0 m 0 ls []) by rw [hH, hlo] at hZ; exact hZ
  clear hH hlo
  unfold sC_HW_holds at hE
  refine lv_iload_n C.1 C.2.1 dX0_holds_0 rfl (lv_at hl 1 rfl) ?_
  refine lv_if_lt (tgt := 22) C.1 C.2.1 dX0_holds_1 (by decide) (fun c1 => ?_) (fun c1 => ?_)
  · have hE := it_t c1 hE
    refine lv_iconst (v := (-1)) C.1 C.2.1 dX0_holds_22 (by decide) ?_
    obtain rfl := Option.some.inj hE
    exact hret _ _ _ _ dX0_holds_23 trivial hP hS
  · have hE := it_f c1 hE
    refine lv_iload_n C.1 C.2.1 dX0_holds_4 rfl (lv_at hl 1 rfl) ?_
    refine lv_bipush (v := 8) C.1 C.2.1 dX0_holds_5 (by decide) ?_
    refine lv_icmp_ge (tgt := 22) C.1 C.2.1 dX0_holds_7 (by decide) (fun c2 => ?_) (fun c2 => ?_)
    · have hE := it_t c2 hE
      refine lv_iconst (v := (-1)) C.1 C.2.1 dX0_holds_22 (by decide) ?_
      obtain rfl := Option.some.inj hE
      exact hret _ _ _ _ dX0_holds_23 trivial hP hS
    · have hE := it_f c2 hE
      refine lv_aload_n C.1 C.2.1 dX0_holds_10 rfl (lv_at hl 0 rfl) ?_
      refine xWg_0_0 q238 C hP dX0_holds_11 ?_
      refine lv_iload_n C.1 C.2.1 dX0_holds_14 rfl (lv_at hl 1 rfl) ?_
      obtain ⟨g3, hE⟩ := it_g hE
      obtain ⟨hsag3, hshg3⟩ := shok _ (gi_lt g3)
      refine xWl_1 (v := some (sa (p1).toNatClampNeg)) C hP (gi_in g3) hsag3 dX0_holds_15 ?_
      by_cases c4 : hd (p1).toNatClampNeg = 0
      · have hE := it_t c4 hE
        refine p_get (j := 0) C hS (shAt_0 hshg3 c4) (show vwCl[13]? = some (RX4, TX4, 1) from rfl) in_X4 (by decide) q234 rfl dX0_holds_16 ?_
        refine lv_ifnonnullN C.1 C.2.1 dX0_holds_19 ?_
        refine lv_iconst (v := (-1)) C.1 C.2.1 dX0_holds_22 (by decide) ?_
        obtain rfl := Option.some.inj hE
        exact hret _ _ _ _ dX0_holds_23 trivial hP hS
      have hE := it_f c4 hE
      by_cases c5 : hd (p1).toNatClampNeg = 1
      · have hE := it_t c5 hE
        have hrws6 := (shAt_1 hshg3 c5).2
        refine p_get (j := 0) C hS (shAt_1 hshg3 c5).1 (show vwCl[13]? = some (RX4, TX4, 1) from rfl) in_X4 (by decide) q234 rfl dX0_holds_16 ?_
        refine lv_ifnonnull (tgt := 24) C.1 C.2.1 dX0_holds_19 (by decide) ?_
        refine lv_aload_n C.1 C.2.1 dX0_holds_24 rfl (lv_at hl 0 rfl) ?_
        refine xWg_0_0 q238 C hP dX0_holds_25 ?_
        refine lv_iload_n C.1 C.2.1 dX0_holds_28 rfl (lv_at hl 1 rfl) ?_
        obtain ⟨g7, hE⟩ := it_g hE
        obtain ⟨hsag7, hshg7⟩ := shok _ (gi_lt g7)
        refine xWl_1 (v := some (sa (p1).toNatClampNeg)) C hP (gi_in g7) hsag7 dX0_holds_29 ?_
        have hrws8 := (shAt_1 hshg7 c5).2
        refine p_get (j := 0) C hS (shAt_1 hshg7 c5).1 (show vwCl[13]? = some (RX4, TX4, 1) from rfl) in_X4 (by decide) q234 rfl dX0_holds_30 ?_
        refine lv_astore_n (lv' := [(2, .ref (ra (p1).toNatClampNeg)), (0, .ref (ad 0)), (1, .int p1)]) C.1 C.2.1 dX0_holds_33 rfl hl (by decide) rfl (fun ls hl => ?_)
        refine lv_aload_n C.1 C.2.1 dX0_holds_34 rfl (lv_at hl 0 rfl) ?_
        refine rw_instH C D.2.2.2.2 hS hrws8 q590 dX0_holds_35 ?_
        refine lv_if_eq (tgt := 51) C.1 C.2.1 dX0_holds_38 (by decide) (fun c9 => ?_) (fun c9 => absurd c9 (by decide))
        refine lv_bipush (v := 100) C.1 C.2.1 dX0_holds_51 (by decide) ?_
        refine lv_aload_n C.1 C.2.1 dX0_holds_53 rfl (lv_at hl 0 rfl) ?_
        refine rw_cast C D.2.2.2.2 hS hrws8 q591 dX0_holds_54 ?_
        refine rw_sort C D.2.2.2.2 hml hl.1 hP xW_av hS hrws8 q521 ⟨Nat.le_of_ble_eq_true rfl, Nat.le_of_ble_eq_true rfl, Nat.le_of_ble_eq_true rfl, Nat.le_of_ble_eq_true rfl⟩ (Nat.le_of_ble_eq_true rfl) dX0_holds_57 (fun H locs hP hS => ?_)
        refine lv_iadd C.1 C.2.1 dX0_holds_60 ?_
        obtain rfl := Option.some.inj hE
        exact hret _ _ _ _ dX0_holds_61 trivial hP hS
      have hE := it_f c5 hE
      by_cases c10 : hd (p1).toNatClampNeg = 2
      · have hE := it_t c10 hE
        have hhos11 := (shAt_2 hshg3 c10).2
        refine p_get (j := 0) C hS (shAt_2 hshg3 c10).1 (show vwCl[13]? = some (RX4, TX4, 1) from rfl) in_X4 (by decide) q234 rfl dX0_holds_16 ?_
        refine lv_ifnonnull (tgt := 24) C.1 C.2.1 dX0_holds_19 (by decide) ?_
        refine lv_aload_n C.1 C.2.1 dX0_holds_24 rfl (lv_at hl 0 rfl) ?_
        refine xWg_0_0 q238 C hP dX0_holds_25 ?_
        refine lv_iload_n C.1 C.2.1 dX0_holds_28 rfl (lv_at hl 1 rfl) ?_
        obtain ⟨g12, hE⟩ := it_g hE
        obtain ⟨hsag12, hshg12⟩ := shok _ (gi_lt g12)
        refine xWl_1 (v := some (sa (p1).toNatClampNeg)) C hP (gi_in g12) hsag12 dX0_holds_29 ?_
        have hhos13 := (shAt_2 hshg12 c10).2
        refine p_get (j := 0) C hS (shAt_2 hshg12 c10).1 (show vwCl[13]? = some (RX4, TX4, 1) from rfl) in_X4 (by decide) q234 rfl dX0_holds_30 ?_
        refine lv_astore_n (lv' := [(2, .ref (ra (p1).toNatClampNeg)), (0, .ref (ad 0)), (1, .int p1)]) C.1 C.2.1 dX0_holds_33 rfl hl (by decide) rfl (fun ls hl => ?_)
        refine lv_aload_n C.1 C.2.1 dX0_holds_34 rfl (lv_at hl 0 rfl) ?_
        refine h_instH C D.2.2.2.2 hS hhos13.1 hhos13.2 q590 dX0_holds_35 ?_
        refine lv_if_eq (tgt := 51) C.1 C.2.1 dX0_holds_38 (by decide) (fun c14 => absurd c14 (by decide)) (fun c14 => ?_)
        refine lv_aload_n C.1 C.2.1 dX0_holds_41 rfl (lv_at hl 0 rfl) ?_
        refine h_castH C D.2.2.2.2 hS hhos13.1 hhos13.2 q590 dX0_holds_42 ?_
        refine h_ix7 C hS hhos13.1 hhos13.2 q669 dX0_holds_45 ?_
        refine lv_goto (tgt := 61) C.1 C.2.1 dX0_holds_48 (by decide) ?_
        obtain rfl := Option.some.inj hE
        exact hret _ _ _ _ dX0_holds_61 trivial hP hS
      have hE := it_f c10 hE
      exact it_n hE
def sC_HW_set (v_refusals : Nat → Int32) (hd : Nat → Nat) (rs : Nat → Nat) (rn : Nat → Nat) (rc : Nat → Nat → Int64) (sk : Nat → Nat) (si : Nat → Int32) (sb : Nat → Int32) (p1 : Int32) (p2 : Int32) (p3 : Int64) : Option (Int32 × (Nat → Int32)) :=
  if gi p1 8 then
    if hd (p1).toNatClampNeg = 1 then
      if gi p2 (rn (p1).toNatClampNeg) then
        none
      else
        (sC_HW_refused v_refusals (-5)).bind fun r10 =>
        some (r10.1, r10.2)
    else
      (sC_HW_refused v_refusals (shRw (hd (p1).toNatClampNeg))).bind fun r11 =>
      some (r11.1, r11.2)
  else
    (sC_HW_refused v_refusals (-1)).bind fun r12 =>
    some (r12.1, r12.2)
set_option maxHeartbeats 4000000 in
theorem metC_HW_set (l : Launch) (hfl : l.stackTraces = false) (G : kG) (ad : Nat → Nat) (pl : va_W) (sa ra rb hd rs rn : Nat → Nat) (rc : Nat → Nat → Int64) (sk : Nat → Nat) (si sb : Nat → Int32) (sz : Nat) (v_latestFault : Int32) (v_died : Int32) (v_leastWeight : Int32) (v_noticedBy : Int32) (v_noticed : Int32) (v_orderDied : Int32) (v_orderLeast : Int32) (v_imaged : Option Nat) (v_shelves : Nat → Option Nat) (v_refusals : Nat → Int32) (v_ran : Int32) (v_bodies : Nat → Int32) (v_tweight : Int32) (v_tfright : Int32) (v_tage : Int32) (v_tasked : Nat → Int32) (v_told : Nat → Int32) (v_bestRow : Nat → Int32) (v_weight_a1 : Int32) (v_fright_a1 : Int32) (v_age_a1 : Int32) (v_asked_a1 : Nat → Int32) (v_weight_a2 : Int32) (v_fright_a2 : Int32) (v_age_a2 : Int32) (v_asked_a2 : Nat → Int32) (v_weight_a3 : Int32) (v_fright_a3 : Int32) (v_age_a3 : Int32) (v_asked_a3 : Nat → Int32) (v_weight_a4 : Int32) (v_fright_a4 : Int32) (v_age_a4 : Int32) (v_asked_a4 : Nat → Int32) (v_many : Int32) (v_pets : Int32) (v_last : Int32) (v_seed : Int32) (v_weight : Int32) (v_fright : Int32) (v_age : Int32) (v_asked : Nat → Int32) (v_homes : Nat → Option Nat) (v_marks : Nat → Int32) (v_had : Nat → Int32) (v_allergic : Nat → Int32) (v_deaths : Nat → Int32) (shok : shOK G v_shelves sa hd ra rb rs rn rc sk si sb pl) (p1 : Int32) (p2 : Int32) (p3 : Int64) (res : Int32 × (Nat → Int32)) (hE : sC_HW_set v_refusals hd rs rn rc sk si sb p1 p2 p3 = some res) : vx_Met l yX0_set (wsW_ yX0_set cX0_set 7 (some .int) [((10 : Nat), (17 : Nat), (20 : Nat), (106 : Nat)), ((0 : Nat), (33 : Nat), (34 : Nat), (21 : Nat))]) ({ frames := 9, cells := 13, slots := 1442, locals := 10281 } : Room) (rPc G (xW G.2 ad v_latestFault v_died v_leastWeight v_noticedBy v_noticed v_orderDied v_orderLeast v_imaged v_shelves v_refusals v_ran v_bodies v_tweight v_tfright v_tage v_tasked v_told v_bestRow v_weight_a1 v_fright_a1 v_age_a1 v_asked_a1 v_weight_a2 v_fright_a2 v_age_a2 v_asked_a2 v_weight_a3 v_fright_a3 v_age_a3 v_asked_a3 v_weight_a4 v_fright_a4 v_age_a4 v_asked_a4 v_many v_pets v_last v_seed v_weight v_fright v_age v_asked v_homes v_marks v_had v_allergic v_deaths) pl (xWV ad) sz [.ref (ad 0), .int p1, .int p2, .long p3]) (tQc G (xW G.2 ad v_latestFault v_died v_leastWeight v_noticedBy v_noticed v_orderDied v_orderLeast v_imaged v_shelves res.2 v_ran v_bodies v_tweight v_tfright v_tage v_tasked v_told v_bestRow v_weight_a1 v_fright_a1 v_age_a1 v_asked_a1 v_weight_a2 v_fright_a2 v_age_a2 v_asked_a2 v_weight_a3 v_fright_a3 v_age_a3 v_asked_a3 v_weight_a4 v_fright_a4 v_age_a4 v_asked_a4 v_many v_pets v_last v_seed v_weight v_fright v_age v_asked v_homes v_marks v_had v_allergic v_deaths) [] (tA sz (xWV ad) []) (True) (some (.int res.1))) (tXC G (xW G.2 ad v_latestFault v_died v_leastWeight v_noticedBy v_noticed v_orderDied v_orderLeast v_imaged v_shelves res.2 v_ran v_bodies v_tweight v_tfright v_tage v_tasked v_told v_bestRow v_weight_a1 v_fright_a1 v_age_a1 v_asked_a1 v_weight_a2 v_fright_a2 v_age_a2 v_asked_a2 v_weight_a3 v_fright_a3 v_age_a3 v_asked_a3 v_weight_a4 v_fright_a4 v_age_a4 v_asked_a4 v_many v_pets v_last v_seed v_weight v_fright v_age v_asked v_homes v_marks v_had v_allergic v_deaths) [] (tA sz (xWV ad) []) 18 RX6 none sz) 13 1442 (tA sz (xWV ad) []) := by
  refine r_ofWH (own := RX0) (by decide) rfl (Nat.le_of_ble_eq_true rfl) ?_
  intro p e s m args below meth c ls C C0 D hml htab hP hS hl hr hlocks hsz
  have hl : lv_has ls 7 [(0, .ref (ad 0)), (1, .int p1), (2, .int p2), (3, .long p3)] := hl
  obtain ⟨Q, hQ⟩ : ∃ Q, Q = vx_MQ below (tQc G (xW G.2 ad v_latestFault v_died v_leastWeight v_noticedBy v_noticed v_orderDied v_orderLeast v_imaged v_shelves res.2 v_ran v_bodies v_tweight v_tfright v_tage v_tasked v_told v_bestRow v_weight_a1 v_fright_a1 v_age_a1 v_asked_a1 v_weight_a2 v_fright_a2 v_age_a2 v_asked_a2 v_weight_a3 v_fright_a3 v_age_a3 v_asked_a3 v_weight_a4 v_fright_a4 v_age_a4 v_asked_a4 v_many v_pets v_last v_seed v_weight v_fright v_age v_asked v_homes v_marks v_had v_allergic v_deaths) [] (tA sz (xWV ad) []) (True) (some (.int res.1))) (tXC G (xW G.2 ad v_latestFault v_died v_leastWeight v_noticedBy v_noticed v_orderDied v_orderLeast v_imaged v_shelves res.2 v_ran v_bodies v_tweight v_tfright v_tage v_tasked v_told v_bestRow v_weight_a1 v_fright_a1 v_age_a1 v_asked_a1 v_weight_a2 v_fright_a2 v_age_a2 v_asked_a2 v_weight_a3 v_fright_a3 v_age_a3 v_asked_a3 v_weight_a4 v_fright_a4 v_age_a4 v_asked_a4 v_many v_pets v_last v_seed v_weight v_fright v_age v_asked v_homes v_marks v_had v_allergic v_deaths) [] (tA sz (xWV ad) []) 18 RX6 none sz) args s 13 1442 (tA sz (xWV ad) []) := ⟨_, rfl⟩
  rw [← hQ]
  have hret : ∀ (pc : Nat) (ls : Array Slot) (H : Heap) (locs : List Loc), decode cX0_set pc = .ok (.ireturn, 1) → True → va_P G.1 vwCl (xW G.2 ad v_latestFault v_died v_leastWeight v_noticedBy v_noticed v_orderDied v_orderLeast v_imaged v_shelves res.2 v_ran v_bodies v_tweight v_tfright v_tage v_tasked v_told v_bestRow v_weight_a1 v_fright_a1 v_age_a1 v_asked_a1 v_weight_a2 v_fright_a2 v_age_a2 v_asked_a2 v_weight_a3 v_fright_a3 v_age_a3 v_asked_a3 v_weight_a4 v_fright_a4 v_age_a4 v_asked_a4 v_many v_pets v_last v_seed v_weight v_fright v_age v_asked v_homes v_marks v_had v_allergic v_deaths) H → va_S (tA sz (xWV ad) []) s.heap H locs → W p l e ({ frames := 9, cells := 13, slots := 1442, locals := 10281 } : Room) s m args below meth c H locs 13 1442 Q (F0 m pc ls [(.int res.1)]) := by
    intro pc ls H locs hd hφ hP hS
    rw [hQ]
    exact t_iret C0 hr hlocks hd hφ hP P_nil hS
  clear hQ
  obtain ⟨H, hH⟩ : ∃ H, H = s.heap := ⟨_, rfl⟩
  obtain ⟨locs, hlo⟩ : ∃ locs : List Loc, locs = [] := ⟨_, rfl⟩
  have hP : va_P G.1 vwCl (xW G.2 ad v_latestFault v_died v_leastWeight v_noticedBy v_noticed v_orderDied v_orderLeast v_imaged v_shelves v_refusals v_ran v_bodies v_tweight v_tfright v_tage v_tasked v_told v_bestRow v_weight_a1 v_fright_a1 v_age_a1 v_asked_a1 v_weight_a2 v_fright_a2 v_age_a2 v_asked_a2 v_weight_a3 v_fright_a3 v_age_a3 v_asked_a3 v_weight_a4 v_fright_a4 v_age_a4 v_asked_a4 v_many v_pets v_last v_seed v_weight v_fright v_age v_asked v_homes v_marks v_had v_allergic v_deaths) H := by rw [hH]; exact hP
  have hS : va_S (tA sz (xWV ad) []) s.heap H locs := by rw [hH, hlo]; exact hS
  suffices hZ : W p l e ({ frames := 9, cells := 13, slots := 1442, locals := 10281 } : Room) s m args below meth c H locs 0 0 Q (F0 m 0 ls []) by rw [hH, hlo] at hZ; exact hZ
  clear hH hlo
  unfold sC_HW_set at hE
  refine lv_aload_n C.1 C.2.1 dX0_set_0 rfl (lv_at hl 0 rfl) ?_
  refine lv_iload_n C.1 C.2.1 dX0_set_1 rfl (lv_at hl 1 rfl) ?_
  refine t_afterS C0 D hP P_nil hS (vx_runVX (As := [.int p1]) (rest := []) ⟨C.1, C.2.1, hml, C.2.2.1, C.2.2.2.1⟩ (metC_HW_shelf l hfl G ad pl H.size _ _ _ _ _ _ _ _ _ _ _ _ _ _ _ _ _ _ _ _ _ _ _ _ _ _ _ _ _ _ _ _ _ _ _ _ _ _ _ _ _ _ _ _ _ _ _ p1) (vx_cwVW (C := RX0) 1 C.2.2.2.1 (lw_VW q292 q294 qs0 q80 q295) rfl rfl rfl (by decide +kernel) ⟨Nat.le_of_ble_eq_true rfl, Nat.le_of_ble_eq_true rfl⟩) (rr_preV0 C D hP hS (va_recv C.2.2.2.2.1 hP (ci := 16) (q0 := 0) rfl rfl)) rfl rfl hl.1 rfl (lv_room (Nat.le_of_ble_eq_true rfl)) dX0_set_2 ⟨Nat.le_of_ble_eq_true rfl, Nat.le_of_ble_eq_true rfl⟩) xW_av (fun hφ H locs hP _ hS => ?_) (fun w q H locs hw hq hc hP _ hS => ?_)
  · have hE := it_t hφ hE
    obtain ⟨hsag1, hshg1⟩ := shok _ (gi_lt hφ)
    rw [hsag1]
    refine t_after [] C0 D hP P_nil hS (vx_runVX (As := []) (rest := []) ⟨C.1, C.2.1, hml, C.2.2.1, C.2.2.2.1⟩ (metC_Shelf_row l hfl G pl H.size _ _ _ _ _ _ _ _ _ _ hshg1) (vx_cwVW (C := RX4) 0 C.2.2.2.1 (lw_VW q474 q475 q476 q84 q477) rfl rfl rfl (by decide +kernel) ⟨Nat.le_of_ble_eq_true rfl, Nat.le_of_ble_eq_true rfl⟩) (rr_preV C D hP hS [] rfl (by decide) rfl (sh_recv C hS hshg1)) rfl rfl hl.1 rfl (lv_room (Nat.le_of_ble_eq_true rfl)) dX0_set_5 ⟨Nat.le_of_ble_eq_true rfl, Nat.le_of_ble_eq_true rfl⟩) xW_av rfl rfl rfl (fun hφ H locs hP _ hS => ?_) (fun w q H locs hw hq hc hP _ hS => ?_)
    · have hE := it_t hφ hE
      have hrwg4 := (shAt_1 hshg1 hφ).2
      refine lv_astore (lv' := [(5, .ref (ra (p1).toNatClampNeg)), (0, .ref (ad 0)), (1, .int p1), (2, .int p2), (3, .long p3)]) C.1 C.2.1 dX0_set_8 hl (by decide) rfl (fun ls hl => ?_)
      refine lv_aload C.1 C.2.1 dX0_set_10 (lv_at hl 0 rfl) ?_
      refine lv_iload_n C.1 C.2.1 dX0_set_12 rfl (lv_at hl 3 rfl) ?_
      refine lv_lload_n C.1 C.2.1 dX0_set_13 rfl (lv_at hl 4 rfl) ?_
      by_cases g7 : gi p2 (rn (p1).toNatClampNeg)
      · have hE := it_t g7 hE
        exact it_n hE
      · have hE := it_f g7 hE
        refine rw_putX hfl C D hml hl.1 hP hS hrwg4 g7 q496 ⟨Nat.le_of_ble_eq_true rfl, Nat.le_of_ble_eq_true rfl, Nat.le_of_ble_eq_true rfl, Nat.le_of_ble_eq_true rfl⟩ (Nat.le_of_ble_eq_true rfl) dX0_set_14 (fun H locs z8 ce hP hS g1 g2 g3 => ?_)
        refine t_catch (name := "java/lang/ArrayIndexOutOfBoundsException") (E := "java/lang/ArrayIndexOutOfBoundsException") C0 D [] ⟨10, 17, 20, 106⟩ [⟨0, 33, 34, 21⟩] htab (fun z hz => nomatch hz) rfl (by decide) q296 (List.mem_of_getElem? (i := 0) rfl) g1 g2 g3 ?_
        refine W.eq (g2 := F0 m 20 ls [.ref z8]) rfl ?_
        refine lv_astore (lv' := [(6, .ref z8), (5, .ref (ra (p1).toNatClampNeg)), (0, .ref (ad 0)), (1, .int p1), (2, .int p2), (3, .long p3)]) C.1 C.2.1 dX0_set_20 hl (by decide) rfl (fun ls hl => ?_)
        obtain ⟨q9, hq9e⟩ : ∃ q, q = H.size := ⟨_, rfl⟩
        refine t_refuse18 (w := (-5)) (kp := 2) C0 D hml hl.1 hP xW_av P_nil hS q291 q382 dX0_set_22 dX0_set_25 (fun kk => lv_bipush (v := (-5)) C.1 C.2.1 dX0_set_26 (by decide) kk) dX0_set_28 dX0_set_31 ⟨Nat.le_of_ble_eq_true rfl, Nat.le_of_ble_eq_true rfl, Nat.le_of_ble_eq_true rfl, Nat.le_of_ble_eq_true rfl⟩ (fun H locs hq hc hP _ hS => ?_)
        rw [← hq9e] at hq hc ⊢
        obtain ⟨ce, g1, g2, g3⟩ := t_cell C0 hc rfl
        refine t_catch (name := "HamsterWeekends$Refused") (E := "HamsterWeekends$Refused") C0 D [⟨10, 17, 20, 106⟩] ⟨0, 33, 34, 21⟩ [] htab (fun z hz => by
      simp only [List.mem_cons, List.not_mem_nil, or_false] at hz
      rcases hz with rfl
      · exact Or.inl rfl) rfl (by decide) q291 (List.mem_of_getElem? (i := 1) rfl) g1 g2 g3 ?_
        refine W.eq (g2 := F0 m 34 ls [.ref q9]) rfl ?_
        refine lv_astore (lv' := [(5, .ref q9), (6, .ref z8), (0, .ref (ad 0)), (1, .int p1), (2, .int p2), (3, .long p3)]) C.1 C.2.1 dX0_set_34 hl (by decide) rfl (fun ls hl => ?_)
        refine lv_aload_n C.1 C.2.1 dX0_set_36 rfl (lv_at hl 2 rfl) ?_
        refine lv_aload C.1 C.2.1 dX0_set_37 (lv_at hl 0 rfl) ?_
        obtain ⟨r10, hr10, hE⟩ := it_b hE
        refine n_afterS C.2.2.2.2.2.2.2.1 hS (va_runV (As := [.ref q9]) (rest := []) ⟨C.1, C.2.1, hml, C.2.2.1, C.2.2.2.1⟩ (metC_HW_refused l G ad [(q9, .inr (18, xF (-5)))] _ _ _ _ _ _ _ _ _ _ _ _ _ _ _ _ _ _ _ _ _ _ _ _ _ _ _ _ _ _ _ _ _ _ _ _ _ _ _ _ _ _ _ _ _ _ _ q9 (-5) (List.mem_singleton.mpr rfl) r10 hr10) (cwV (C := RX0) 1 C.2.2.2.1 (lw_V q466 q468 qs2 q80 q469) rfl rfl rfl (by decide +kernel) ⟨Nat.le_of_ble_eq_true rfl, Nat.le_of_ble_eq_true rfl⟩) (t_preX C0 hP hc hq.1 (va_recv C.2.2.2.2.1 hP (ci := 16) (q0 := 0) rfl rfl)) rfl rfl hl.1 rfl (lv_room (Nat.le_of_ble_eq_true rfl)) dX0_set_39 ⟨Nat.le_of_ble_eq_true rfl, Nat.le_of_ble_eq_true rfl⟩) (fun H locs hP hS => ?_)
        obtain rfl := Option.some.inj hE
        exact hret _ _ _ _ dX0_set_42 trivial hP hS
    · obtain ⟨c5, rfl⟩ := shR_x hw
      have hE := it_f c5 hE
      obtain ⟨q6, rfl⟩ : ∃ z, z = q := ⟨_, rfl⟩
      obtain ⟨ce, g1, g2, g3⟩ := t_cell C0 hc rfl
      refine t_catch (name := "HamsterWeekends$Refused") (E := "HamsterWeekends$Refused") C0 D [⟨10, 17, 20, 106⟩] ⟨0, 33, 34, 21⟩ [] htab (fun z hz => by
      simp only [List.mem_cons, List.not_mem_nil, or_false] at hz
      rcases hz with rfl
      · exact Or.inl rfl) rfl (by decide) q291 (List.mem_of_getElem? (i := 1) rfl) g1 g2 g3 ?_
      refine W.eq (g2 := F0 m 34 ls [.ref q6]) rfl ?_
      refine lv_astore (lv' := [(5, .ref q6), (0, .ref (ad 0)), (1, .int p1), (2, .int p2), (3, .long p3)]) C.1 C.2.1 dX0_set_34 hl (by decide) rfl (fun ls hl => ?_)
      refine lv_aload_n C.1 C.2.1 dX0_set_36 rfl (lv_at hl 1 rfl) ?_
      refine lv_aload C.1 C.2.1 dX0_set_37 (lv_at hl 0 rfl) ?_
      obtain ⟨r11, hr11, hE⟩ := it_b hE
      refine n_afterS C.2.2.2.2.2.2.2.1 hS (va_runV (As := [.ref q6]) (rest := []) ⟨C.1, C.2.1, hml, C.2.2.1, C.2.2.2.1⟩ (metC_HW_refused l G ad [(q6, .inr (18, xF (shRw (hd (p1).toNatClampNeg))))] _ _ _ _ _ _ _ _ _ _ _ _ _ _ _ _ _ _ _ _ _ _ _ _ _ _ _ _ _ _ _ _ _ _ _ _ _ _ _ _ _ _ _ _ _ _ _ q6 (shRw (hd (p1).toNatClampNeg)) (List.mem_singleton.mpr rfl) r11 hr11) (cwV (C := RX0) 1 C.2.2.2.1 (lw_V q466 q468 qs2 q80 q469) rfl rfl rfl (by decide +kernel) ⟨Nat.le_of_ble_eq_true rfl, Nat.le_of_ble_eq_true rfl⟩) (t_preX C0 hP hc hq.1 (va_recv C.2.2.2.2.1 hP (ci := 16) (q0 := 0) rfl rfl)) rfl rfl hl.1 rfl (lv_room (Nat.le_of_ble_eq_true rfl)) dX0_set_39 ⟨Nat.le_of_ble_eq_true rfl, Nat.le_of_ble_eq_true rfl⟩) (fun H locs hP hS => ?_)
      obtain rfl := Option.some.inj hE
      refine W.widen (k := 13) (n := 1442) (Nat.le_of_ble_eq_true rfl) (Nat.le_of_ble_eq_true rfl) ?_
      exact hret _ _ _ _ dX0_set_42 trivial hP hS
  · obtain ⟨c2, rfl⟩ := shO_x hw
    have hE := it_f c2 hE
    obtain ⟨q3, rfl⟩ : ∃ z, z = q := ⟨_, rfl⟩
    obtain ⟨ce, g1, g2, g3⟩ := t_cell C0 hc rfl
    refine t_catch (name := "HamsterWeekends$Refused") (E := "HamsterWeekends$Refused") C0 D [⟨10, 17, 20, 106⟩] ⟨0, 33, 34, 21⟩ [] htab (fun z hz => by
      simp only [List.mem_cons, List.not_mem_nil, or_false] at hz
      rcases hz with rfl
      · exact Or.inl rfl) rfl (by decide) q291 (List.mem_of_getElem? (i := 1) rfl) g1 g2 g3 ?_
    refine W.eq (g2 := F0 m 34 ls [.ref q3]) rfl ?_
    refine lv_astore (lv' := [(5, .ref q3), (0, .ref (ad 0)), (1, .int p1), (2, .int p2), (3, .long p3)]) C.1 C.2.1 dX0_set_34 hl (by decide) rfl (fun ls hl => ?_)
    refine lv_aload_n C.1 C.2.1 dX0_set_36 rfl (lv_at hl 1 rfl) ?_
    refine lv_aload C.1 C.2.1 dX0_set_37 (lv_at hl 0 rfl) ?_
    obtain ⟨r12, hr12, hE⟩ := it_b hE
    refine n_afterS C.2.2.2.2.2.2.2.1 hS (va_runV (As := [.ref q3]) (rest := []) ⟨C.1, C.2.1, hml, C.2.2.1, C.2.2.2.1⟩ (metC_HW_refused l G ad [(q3, .inr (18, xF (-1)))] _ _ _ _ _ _ _ _ _ _ _ _ _ _ _ _ _ _ _ _ _ _ _ _ _ _ _ _ _ _ _ _ _ _ _ _ _ _ _ _ _ _ _ _ _ _ _ q3 (-1) (List.mem_singleton.mpr rfl) r12 hr12) (cwV (C := RX0) 1 C.2.2.2.1 (lw_V q466 q468 qs2 q80 q469) rfl rfl rfl (by decide +kernel) ⟨Nat.le_of_ble_eq_true rfl, Nat.le_of_ble_eq_true rfl⟩) (t_preX C0 hP hc hq.1 (va_recv C.2.2.2.2.1 hP (ci := 16) (q0 := 0) rfl rfl)) rfl rfl hl.1 rfl (lv_room (Nat.le_of_ble_eq_true rfl)) dX0_set_39 ⟨Nat.le_of_ble_eq_true rfl, Nat.le_of_ble_eq_true rfl⟩) (fun H locs hP hS => ?_)
    obtain rfl := Option.some.inj hE
    refine W.widen (k := 13) (n := 1442) (Nat.le_of_ble_eq_true rfl) (Nat.le_of_ble_eq_true rfl) ?_
    exact hret _ _ _ _ dX0_set_42 trivial hP hS
def sC_HW_row (v_refusals : Nat → Int32) (hd : Nat → Nat) (rs : Nat → Nat) (rn : Nat → Nat) (rc : Nat → Nat → Int64) (sk : Nat → Nat) (si : Nat → Int32) (sb : Nat → Int32) (p1 : Int32) (p2 : Int32) (p3 : Int32) : Option (Int32 × (Nat → Int32)) :=
  if gi p1 8 then
    @Option.bind (Int32) _ (
      if p3 < 0 then
        some 0
      else
        some 1) fun u5 =>
    if u5 = 0 then
      (sC_HW_refused v_refusals (-4)).bind fun r17 =>
      some (r17.1, r17.2)
    else
      (sC_HW_in ((p2 : Int32).toInt64) 0 3).bind fun r8 =>
      if r8 = 0 then
        (sC_HW_refused v_refusals (-6)).bind fun r16 =>
        some (r16.1, r16.2)
      else
        @Option.bind (Int32) _ (
          if 160 < p3 then
            some 0
          else
            some 1) fun u12 =>
        if u12 = 0 then
          (sC_HW_refused v_refusals (-7)).bind fun r15 =>
          some (r15.1, r15.2)
        else
          none
  else
    (sC_HW_refused v_refusals (-1)).bind fun r18 =>
    some (r18.1, r18.2)
set_option maxHeartbeats 4000000 in
theorem metC_HW_row (l : Launch) (hfl : l.stackTraces = false) (G : kG) (ad : Nat → Nat) (pl : va_W) (sa ra rb hd rs rn : Nat → Nat) (rc : Nat → Nat → Int64) (sk : Nat → Nat) (si sb : Nat → Int32) (sz : Nat) (v_latestFault : Int32) (v_died : Int32) (v_leastWeight : Int32) (v_noticedBy : Int32) (v_noticed : Int32) (v_orderDied : Int32) (v_orderLeast : Int32) (v_imaged : Option Nat) (v_shelves : Nat → Option Nat) (v_refusals : Nat → Int32) (v_ran : Int32) (v_bodies : Nat → Int32) (v_tweight : Int32) (v_tfright : Int32) (v_tage : Int32) (v_tasked : Nat → Int32) (v_told : Nat → Int32) (v_bestRow : Nat → Int32) (v_weight_a1 : Int32) (v_fright_a1 : Int32) (v_age_a1 : Int32) (v_asked_a1 : Nat → Int32) (v_weight_a2 : Int32) (v_fright_a2 : Int32) (v_age_a2 : Int32) (v_asked_a2 : Nat → Int32) (v_weight_a3 : Int32) (v_fright_a3 : Int32) (v_age_a3 : Int32) (v_asked_a3 : Nat → Int32) (v_weight_a4 : Int32) (v_fright_a4 : Int32) (v_age_a4 : Int32) (v_asked_a4 : Nat → Int32) (v_many : Int32) (v_pets : Int32) (v_last : Int32) (v_seed : Int32) (v_weight : Int32) (v_fright : Int32) (v_age : Int32) (v_asked : Nat → Int32) (v_homes : Nat → Option Nat) (v_marks : Nat → Int32) (v_had : Nat → Int32) (v_allergic : Nat → Int32) (v_deaths : Nat → Int32) (shok : shOK G v_shelves sa hd ra rb rs rn rc sk si sb pl) (p1 : Int32) (p2 : Int32) (p3 : Int32) (res : Int32 × (Nat → Int32)) (hE : sC_HW_row v_refusals hd rs rn rc sk si sb p1 p2 p3 = some res) : vx_Met l yX0_row (wsW_ yX0_row cX0_row 5 (some .int) [((0 : Nat), (63 : Nat), (64 : Nat), (21 : Nat))]) ({ frames := 9, cells := 7, slots := 250, locals := 10272 } : Room) (rPc G (xW G.2 ad v_latestFault v_died v_leastWeight v_noticedBy v_noticed v_orderDied v_orderLeast v_imaged v_shelves v_refusals v_ran v_bodies v_tweight v_tfright v_tage v_tasked v_told v_bestRow v_weight_a1 v_fright_a1 v_age_a1 v_asked_a1 v_weight_a2 v_fright_a2 v_age_a2 v_asked_a2 v_weight_a3 v_fright_a3 v_age_a3 v_asked_a3 v_weight_a4 v_fright_a4 v_age_a4 v_asked_a4 v_many v_pets v_last v_seed v_weight v_fright v_age v_asked v_homes v_marks v_had v_allergic v_deaths) pl (xWV ad) sz [.ref (ad 0), .int p1, .int p2, .int p3]) (tQc G (xW G.2 ad v_latestFault v_died v_leastWeight v_noticedBy v_noticed v_orderDied v_orderLeast v_imaged v_shelves res.2 v_ran v_bodies v_tweight v_tfright v_tage v_tasked v_told v_bestRow v_weight_a1 v_fright_a1 v_age_a1 v_asked_a1 v_weight_a2 v_fright_a2 v_age_a2 v_asked_a2 v_weight_a3 v_fright_a3 v_age_a3 v_asked_a3 v_weight_a4 v_fright_a4 v_age_a4 v_asked_a4 v_many v_pets v_last v_seed v_weight v_fright v_age v_asked v_homes v_marks v_had v_allergic v_deaths) [] (tA sz (xWV ad) []) (True) (some (.int res.1))) (tXC G (xW G.2 ad v_latestFault v_died v_leastWeight v_noticedBy v_noticed v_orderDied v_orderLeast v_imaged v_shelves res.2 v_ran v_bodies v_tweight v_tfright v_tage v_tasked v_told v_bestRow v_weight_a1 v_fright_a1 v_age_a1 v_asked_a1 v_weight_a2 v_fright_a2 v_age_a2 v_asked_a2 v_weight_a3 v_fright_a3 v_age_a3 v_asked_a3 v_weight_a4 v_fright_a4 v_age_a4 v_asked_a4 v_many v_pets v_last v_seed v_weight v_fright v_age v_asked v_homes v_marks v_had v_allergic v_deaths) [] (tA sz (xWV ad) []) 18 RX6 none sz) 7 250 (tA sz (xWV ad) []) := by
  refine r_ofWH (own := RX0) (by decide) rfl (Nat.le_of_ble_eq_true rfl) ?_
  intro p e s m args below meth c ls C C0 D hml htab hP hS hl hr hlocks hsz
  have hl : lv_has ls 5 [(0, .ref (ad 0)), (1, .int p1), (2, .int p2), (3, .int p3)] := hl
  obtain ⟨Q, hQ⟩ : ∃ Q, Q = vx_MQ below (tQc G (xW G.2 ad v_latestFault v_died v_leastWeight v_noticedBy v_noticed v_orderDied v_orderLeast v_imaged v_shelves res.2 v_ran v_bodies v_tweight v_tfright v_tage v_tasked v_told v_bestRow v_weight_a1 v_fright_a1 v_age_a1 v_asked_a1 v_weight_a2 v_fright_a2 v_age_a2 v_asked_a2 v_weight_a3 v_fright_a3 v_age_a3 v_asked_a3 v_weight_a4 v_fright_a4 v_age_a4 v_asked_a4 v_many v_pets v_last v_seed v_weight v_fright v_age v_asked v_homes v_marks v_had v_allergic v_deaths) [] (tA sz (xWV ad) []) (True) (some (.int res.1))) (tXC G (xW G.2 ad v_latestFault v_died v_leastWeight v_noticedBy v_noticed v_orderDied v_orderLeast v_imaged v_shelves res.2 v_ran v_bodies v_tweight v_tfright v_tage v_tasked v_told v_bestRow v_weight_a1 v_fright_a1 v_age_a1 v_asked_a1 v_weight_a2 v_fright_a2 v_age_a2 v_asked_a2 v_weight_a3 v_fright_a3 v_age_a3 v_asked_a3 v_weight_a4 v_fright_a4 v_age_a4 v_asked_a4 v_many v_pets v_last v_seed v_weight v_fright v_age v_asked v_homes v_marks v_had v_allergic v_deaths) [] (tA sz (xWV ad) []) 18 RX6 none sz) args s 7 250 (tA sz (xWV ad) []) := ⟨_, rfl⟩
  rw [← hQ]
  have hret : ∀ (pc : Nat) (ls : Array Slot) (H : Heap) (locs : List Loc), decode cX0_row pc = .ok (.ireturn, 1) → True → va_P G.1 vwCl (xW G.2 ad v_latestFault v_died v_leastWeight v_noticedBy v_noticed v_orderDied v_orderLeast v_imaged v_shelves res.2 v_ran v_bodies v_tweight v_tfright v_tage v_tasked v_told v_bestRow v_weight_a1 v_fright_a1 v_age_a1 v_asked_a1 v_weight_a2 v_fright_a2 v_age_a2 v_asked_a2 v_weight_a3 v_fright_a3 v_age_a3 v_asked_a3 v_weight_a4 v_fright_a4 v_age_a4 v_asked_a4 v_many v_pets v_last v_seed v_weight v_fright v_age v_asked v_homes v_marks v_had v_allergic v_deaths) H → va_S (tA sz (xWV ad) []) s.heap H locs → W p l e ({ frames := 9, cells := 7, slots := 250, locals := 10272 } : Room) s m args below meth c H locs 7 250 Q (F0 m pc ls [(.int res.1)]) := by
    intro pc ls H locs hd hφ hP hS
    rw [hQ]
    exact t_iret C0 hr hlocks hd hφ hP P_nil hS
  clear hQ
  obtain ⟨H, hH⟩ : ∃ H, H = s.heap := ⟨_, rfl⟩
  obtain ⟨locs, hlo⟩ : ∃ locs : List Loc, locs = [] := ⟨_, rfl⟩
  have hP : va_P G.1 vwCl (xW G.2 ad v_latestFault v_died v_leastWeight v_noticedBy v_noticed v_orderDied v_orderLeast v_imaged v_shelves v_refusals v_ran v_bodies v_tweight v_tfright v_tage v_tasked v_told v_bestRow v_weight_a1 v_fright_a1 v_age_a1 v_asked_a1 v_weight_a2 v_fright_a2 v_age_a2 v_asked_a2 v_weight_a3 v_fright_a3 v_age_a3 v_asked_a3 v_weight_a4 v_fright_a4 v_age_a4 v_asked_a4 v_many v_pets v_last v_seed v_weight v_fright v_age v_asked v_homes v_marks v_had v_allergic v_deaths) H := by rw [hH]; exact hP
  have hS : va_S (tA sz (xWV ad) []) s.heap H locs := by rw [hH, hlo]; exact hS
  suffices hZ : W p l e ({ frames := 9, cells := 7, slots := 250, locals := 10272 } : Room) s m args below meth c H locs 0 0 Q (F0 m 0 ls []) by rw [hH, hlo] at hZ; exact hZ
  clear hH hlo
  unfold sC_HW_row at hE
  refine lv_aload_n C.1 C.2.1 dX0_row_0 rfl (lv_at hl 0 rfl) ?_
  refine lv_iload_n C.1 C.2.1 dX0_row_1 rfl (lv_at hl 1 rfl) ?_
  refine t_afterS C0 D hP P_nil hS (vx_runVX (As := [.int p1]) (rest := []) ⟨C.1, C.2.1, hml, C.2.2.1, C.2.2.2.1⟩ (metC_HW_shelf l hfl G ad pl H.size _ _ _ _ _ _ _ _ _ _ _ _ _ _ _ _ _ _ _ _ _ _ _ _ _ _ _ _ _ _ _ _ _ _ _ _ _ _ _ _ _ _ _ _ _ _ _ p1) (vx_cwVW (C := RX0) 1 C.2.2.2.1 (lw_VW q292 q294 qs0 q80 q295) rfl rfl rfl (by decide +kernel) ⟨Nat.le_of_ble_eq_true rfl, Nat.le_of_ble_eq_true rfl⟩) (rr_preV0 C D hP hS (va_recv C.2.2.2.2.1 hP (ci := 16) (q0 := 0) rfl rfl)) rfl rfl hl.1 rfl (lv_room (Nat.le_of_ble_eq_true rfl)) dX0_row_2 ⟨Nat.le_of_ble_eq_true rfl, Nat.le_of_ble_eq_true rfl⟩) xW_av (fun hφ H locs hP _ hS => ?_) (fun w q H locs hw hq hc hP _ hS => ?_)
  · have hE := it_t hφ hE
    obtain ⟨hsag1, hshg1⟩ := shok _ (gi_lt hφ)
    rw [hsag1]
    refine lv_astore (lv' := [(4, .ref (sa (p1).toNatClampNeg)), (0, .ref (ad 0)), (1, .int p1), (2, .int p2), (3, .int p3)]) C.1 C.2.1 dX0_row_5 hl (by decide) rfl (fun ls hl => ?_)
    refine lv_iload_n C.1 C.2.1 dX0_row_7 rfl (lv_at hl 4 rfl) ?_
    obtain ⟨u5, hR, hE⟩ := it_b hE
    have hJ16u5 : ∀ (H : Heap) (locs : List Loc) (ls : Array Slot), va_P G.1 vwCl (xW G.2 ad v_latestFault v_died v_leastWeight v_noticedBy v_noticed v_orderDied v_orderLeast v_imaged v_shelves v_refusals v_ran v_bodies v_tweight v_tfright v_tage v_tasked v_told v_bestRow v_weight_a1 v_fright_a1 v_age_a1 v_asked_a1 v_weight_a2 v_fright_a2 v_age_a2 v_asked_a2 v_weight_a3 v_fright_a3 v_age_a3 v_asked_a3 v_weight_a4 v_fright_a4 v_age_a4 v_asked_a4 v_many v_pets v_last v_seed v_weight v_fright v_age v_asked v_homes v_marks v_had v_allergic v_deaths) H → va_S (tA sz (xWV ad) []) s.heap H locs → lv_has ls 5 [(0, .ref (ad 0)), (2, .int p2), (3, .int p3), (4, .ref (sa (p1).toNatClampNeg))] → W p l e ({ frames := 9, cells := 7, slots := 250, locals := 10272 } : Room) s m args below meth c H locs 4 229 Q (F0 m 16 ls [.int u5]) := by
      intro H locs ls hP hS hl
      refine lv_bipush (v := (-4)) C.1 C.2.1 dX0_row_16 (by decide) ?_
      refine t_after [] C0 D hP P_nil hS (vx_runS (As := [.int u5, .int (-4)]) (rest := []) ⟨C.1, C.2.1, hml, C.2.2.1, C.2.2.2.1⟩ (metC_HW_need l hfl G ad pl H.size u5 (-4) _ (need_eq _ _)) (va_cwS 2 C.2.2.2.1 (lw_S q397 q398 q80 q399) rfl rfl rfl (by decide +kernel) ⟨Nat.le_of_ble_eq_true rfl, Nat.le_of_ble_eq_true rfl⟩) (rr_preS C D hP hS [] rfl (by decide) rfl) rfl rfl hl.1 rfl (lv_room (Nat.le_of_ble_eq_true rfl)) dX0_row_18 ⟨Nat.le_of_ble_eq_true rfl, Nat.le_of_ble_eq_true rfl⟩) xW_av rfl rfl rfl (fun hφ H locs hP _ hS => ?_) (fun w q H locs hw hq hc hP _ hS => ?_)
      · have hE := it_f (nd_n hφ) hE
        refine lv_iload_n C.1 C.2.1 dX0_row_21 rfl (lv_at hl 1 rfl) ?_
        refine lv_i2l C.1 C.2.1 dX0_row_22 rfl ?_
        refine lv_lconst (v := 0) C.1 C.2.1 dX0_row_23 (by decide) ?_
        refine lv_ldc2 C.1 C.2.1 C.2.2.1 (C.2.2.2.1 _ q400) dX0_row_24 ?_
        obtain ⟨r8, hr8, hE⟩ := it_b hE
        refine n_after [] C.2.2.2.2.2.1 C.2.2.2.2.2.2.2.1 hP hS (va_runS (As := [.long ((p2 : Int32).toInt64), .long 0, .long 3]) (rest := []) ⟨C.1, C.2.1, hml, C.2.2.1, C.2.2.2.1⟩ (metC_HW_in l G ad pl  ((p2 : Int32).toInt64) 0 3  r8 hr8) (va_cwS 3 C.2.2.2.1 (lw_S q401 q402 q80 q403) rfl rfl rfl (by decide +kernel) ⟨Nat.le_of_ble_eq_true rfl, Nat.le_of_ble_eq_true rfl⟩) (n_preS C hP hS [] rfl (by decide) rfl) rfl rfl hl.1 rfl (lv_room (Nat.le_of_ble_eq_true rfl)) dX0_row_27 ⟨Nat.le_of_ble_eq_true rfl, Nat.le_of_ble_eq_true rfl⟩) xW_av rfl rfl rfl (fun H locs hP hS => ?_)
        refine lv_bipush (v := (-6)) C.1 C.2.1 dX0_row_30 (by decide) ?_
        refine t_after [] C0 D hP P_nil hS (vx_runS (As := [.int r8, .int (-6)]) (rest := []) ⟨C.1, C.2.1, hml, C.2.2.1, C.2.2.2.1⟩ (metC_HW_need l hfl G ad pl H.size r8 (-6) _ (need_eq _ _)) (va_cwS 2 C.2.2.2.1 (lw_S q397 q398 q80 q399) rfl rfl rfl (by decide +kernel) ⟨Nat.le_of_ble_eq_true rfl, Nat.le_of_ble_eq_true rfl⟩) (rr_preS C D hP hS [] rfl (by decide) rfl) rfl rfl hl.1 rfl (lv_room (Nat.le_of_ble_eq_true rfl)) dX0_row_32 ⟨Nat.le_of_ble_eq_true rfl, Nat.le_of_ble_eq_true rfl⟩) xW_av rfl rfl rfl (fun hφ H locs hP _ hS => ?_) (fun w q H locs hw hq hc hP _ hS => ?_)
        · have hE := it_f (nd_n hφ) hE
          refine lv_iload_n C.1 C.2.1 dX0_row_35 rfl (lv_at hl 2 rfl) ?_
          refine lv_sipush (v := 160) C.1 C.2.1 dX0_row_36 (by decide) ?_
          obtain ⟨u12, hR, hE⟩ := it_b hE
          have hJ47u12 : ∀ (H : Heap) (locs : List Loc) (ls : Array Slot), va_P G.1 vwCl (xW G.2 ad v_latestFault v_died v_leastWeight v_noticedBy v_noticed v_orderDied v_orderLeast v_imaged v_shelves v_refusals v_ran v_bodies v_tweight v_tfright v_tage v_tasked v_told v_bestRow v_weight_a1 v_fright_a1 v_age_a1 v_asked_a1 v_weight_a2 v_fright_a2 v_age_a2 v_asked_a2 v_weight_a3 v_fright_a3 v_age_a3 v_asked_a3 v_weight_a4 v_fright_a4 v_age_a4 v_asked_a4 v_many v_pets v_last v_seed v_weight v_fright v_age v_asked v_homes v_marks v_had v_allergic v_deaths) H → va_S (tA sz (xWV ad) []) s.heap H locs → lv_has ls 5 [(0, .ref (ad 0)), (2, .int p2), (3, .int p3), (4, .ref (sa (p1).toNatClampNeg))] → W p l e ({ frames := 9, cells := 7, slots := 250, locals := 10272 } : Room) s m args below meth c H locs 6 243 Q (F0 m 47 ls [.int u12]) := by
            intro H locs ls hP hS hl
            refine lv_bipush (v := (-7)) C.1 C.2.1 dX0_row_47 (by decide) ?_
            refine t_after [] C0 D hP P_nil hS (vx_runS (As := [.int u12, .int (-7)]) (rest := []) ⟨C.1, C.2.1, hml, C.2.2.1, C.2.2.2.1⟩ (metC_HW_need l hfl G ad pl H.size u12 (-7) _ (need_eq _ _)) (va_cwS 2 C.2.2.2.1 (lw_S q397 q398 q80 q399) rfl rfl rfl (by decide +kernel) ⟨Nat.le_of_ble_eq_true rfl, Nat.le_of_ble_eq_true rfl⟩) (rr_preS C D hP hS [] rfl (by decide) rfl) rfl rfl hl.1 rfl (lv_room (Nat.le_of_ble_eq_true rfl)) dX0_row_49 ⟨Nat.le_of_ble_eq_true rfl, Nat.le_of_ble_eq_true rfl⟩) xW_av rfl rfl rfl (fun hφ H locs hP _ hS => ?_) (fun w q H locs hw hq hc hP _ hS => ?_)
            · have hE := it_f (nd_n hφ) hE
              refine lv_aload C.1 C.2.1 dX0_row_52 (lv_at hl 3 rfl) ?_
              refine lv_iload_n C.1 C.2.1 dX0_row_54 rfl (lv_at hl 1 rfl) ?_
              refine lv_iload_n C.1 C.2.1 dX0_row_55 rfl (lv_at hl 2 rfl) ?_
              exact it_n hE
            · obtain ⟨c13, rfl⟩ := nd_x hw
              obtain ⟨q14, rfl⟩ : ∃ z, z = q := ⟨_, rfl⟩
              have hE := it_t c13 hE
              obtain ⟨ce, g1, g2, g3⟩ := t_cell C0 hc rfl
              refine t_catch (name := "HamsterWeekends$Refused") (E := "HamsterWeekends$Refused") C0 D [] ⟨0, 63, 64, 21⟩ [] htab (fun z hz => nomatch hz) rfl (by decide) q291 (List.mem_of_getElem? (i := 1) rfl) g1 g2 g3 ?_
              refine W.eq (g2 := F0 m 64 ls [.ref q14]) rfl ?_
              refine lv_astore (lv' := [(4, .ref q14), (0, .ref (ad 0)), (2, .int p2), (3, .int p3)]) C.1 C.2.1 dX0_row_64 hl (by decide) rfl (fun ls hl => ?_)
              refine lv_aload_n C.1 C.2.1 dX0_row_66 rfl (lv_at hl 1 rfl) ?_
              refine lv_aload C.1 C.2.1 dX0_row_67 (lv_at hl 0 rfl) ?_
              obtain ⟨r15, hr15, hE⟩ := it_b hE
              refine n_afterS C.2.2.2.2.2.2.2.1 hS (va_runV (As := [.ref q14]) (rest := []) ⟨C.1, C.2.1, hml, C.2.2.1, C.2.2.2.1⟩ (metC_HW_refused l G ad [(q14, .inr (18, xF (-7)))] _ _ _ _ _ _ _ _ _ _ _ _ _ _ _ _ _ _ _ _ _ _ _ _ _ _ _ _ _ _ _ _ _ _ _ _ _ _ _ _ _ _ _ _ _ _ _ q14 (-7) (List.mem_singleton.mpr rfl) r15 hr15) (cwV (C := RX0) 1 C.2.2.2.1 (lw_V q466 q468 qs2 q80 q469) rfl rfl rfl (by decide +kernel) ⟨Nat.le_of_ble_eq_true rfl, Nat.le_of_ble_eq_true rfl⟩) (t_preX C0 hP hc hq.1 (va_recv C.2.2.2.2.1 hP (ci := 16) (q0 := 0) rfl rfl)) rfl rfl hl.1 rfl (lv_room (Nat.le_of_ble_eq_true rfl)) dX0_row_69 ⟨Nat.le_of_ble_eq_true rfl, Nat.le_of_ble_eq_true rfl⟩) (fun H locs hP hS => ?_)
              obtain rfl := Option.some.inj hE
              exact hret _ _ _ _ dX0_row_72 trivial hP hS
          have hE := hR
          refine lv_icmp_gt (tgt := 46) C.1 C.2.1 dX0_row_39 (by decide) (fun c11 => ?_) (fun c11 => ?_)
          · have hE := it_t c11 hE
            refine lv_iconst (v := 0) C.1 C.2.1 dX0_row_46 (by decide) ?_
            obtain rfl := Option.some.inj hE
            exact hJ47u12 H locs ls hP hS (lv_sub hl [0, 1, 2, 3] rfl)
          · have hE := it_f c11 hE
            refine lv_iconst (v := 1) C.1 C.2.1 dX0_row_42 (by decide) ?_
            refine lv_goto (tgt := 47) C.1 C.2.1 dX0_row_43 (by decide) ?_
            obtain rfl := Option.some.inj hE
            exact hJ47u12 H locs ls hP hS (lv_sub hl [0, 1, 2, 3] rfl)
        · obtain ⟨c9, rfl⟩ := nd_x hw
          obtain ⟨q10, rfl⟩ : ∃ z, z = q := ⟨_, rfl⟩
          have hE := it_t c9 hE
          obtain ⟨ce, g1, g2, g3⟩ := t_cell C0 hc rfl
          refine t_catch (name := "HamsterWeekends$Refused") (E := "HamsterWeekends$Refused") C0 D [] ⟨0, 63, 64, 21⟩ [] htab (fun z hz => nomatch hz) rfl (by decide) q291 (List.mem_of_getElem? (i := 1) rfl) g1 g2 g3 ?_
          refine W.eq (g2 := F0 m 64 ls [.ref q10]) rfl ?_
          refine lv_astore (lv' := [(4, .ref q10), (0, .ref (ad 0)), (2, .int p2), (3, .int p3)]) C.1 C.2.1 dX0_row_64 hl (by decide) rfl (fun ls hl => ?_)
          refine lv_aload_n C.1 C.2.1 dX0_row_66 rfl (lv_at hl 1 rfl) ?_
          refine lv_aload C.1 C.2.1 dX0_row_67 (lv_at hl 0 rfl) ?_
          obtain ⟨r16, hr16, hE⟩ := it_b hE
          refine n_afterS C.2.2.2.2.2.2.2.1 hS (va_runV (As := [.ref q10]) (rest := []) ⟨C.1, C.2.1, hml, C.2.2.1, C.2.2.2.1⟩ (metC_HW_refused l G ad [(q10, .inr (18, xF (-6)))] _ _ _ _ _ _ _ _ _ _ _ _ _ _ _ _ _ _ _ _ _ _ _ _ _ _ _ _ _ _ _ _ _ _ _ _ _ _ _ _ _ _ _ _ _ _ _ q10 (-6) (List.mem_singleton.mpr rfl) r16 hr16) (cwV (C := RX0) 1 C.2.2.2.1 (lw_V q466 q468 qs2 q80 q469) rfl rfl rfl (by decide +kernel) ⟨Nat.le_of_ble_eq_true rfl, Nat.le_of_ble_eq_true rfl⟩) (t_preX C0 hP hc hq.1 (va_recv C.2.2.2.2.1 hP (ci := 16) (q0 := 0) rfl rfl)) rfl rfl hl.1 rfl (lv_room (Nat.le_of_ble_eq_true rfl)) dX0_row_69 ⟨Nat.le_of_ble_eq_true rfl, Nat.le_of_ble_eq_true rfl⟩) (fun H locs hP hS => ?_)
          obtain rfl := Option.some.inj hE
          refine W.widen (k := 7) (n := 250) (Nat.le_of_ble_eq_true rfl) (Nat.le_of_ble_eq_true rfl) ?_
          exact hret _ _ _ _ dX0_row_72 trivial hP hS
      · obtain ⟨c6, rfl⟩ := nd_x hw
        obtain ⟨q7, rfl⟩ : ∃ z, z = q := ⟨_, rfl⟩
        have hE := it_t c6 hE
        obtain ⟨ce, g1, g2, g3⟩ := t_cell C0 hc rfl
        refine t_catch (name := "HamsterWeekends$Refused") (E := "HamsterWeekends$Refused") C0 D [] ⟨0, 63, 64, 21⟩ [] htab (fun z hz => nomatch hz) rfl (by decide) q291 (List.mem_of_getElem? (i := 1) rfl) g1 g2 g3 ?_
        refine W.eq (g2 := F0 m 64 ls [.ref q7]) rfl ?_
        refine lv_astore (lv' := [(4, .ref q7), (0, .ref (ad 0)), (2, .int p2), (3, .int p3)]) C.1 C.2.1 dX0_row_64 hl (by decide) rfl (fun ls hl => ?_)
        refine lv_aload_n C.1 C.2.1 dX0_row_66 rfl (lv_at hl 1 rfl) ?_
        refine lv_aload C.1 C.2.1 dX0_row_67 (lv_at hl 0 rfl) ?_
        obtain ⟨r17, hr17, hE⟩ := it_b hE
        refine n_afterS C.2.2.2.2.2.2.2.1 hS (va_runV (As := [.ref q7]) (rest := []) ⟨C.1, C.2.1, hml, C.2.2.1, C.2.2.2.1⟩ (metC_HW_refused l G ad [(q7, .inr (18, xF (-4)))] _ _ _ _ _ _ _ _ _ _ _ _ _ _ _ _ _ _ _ _ _ _ _ _ _ _ _ _ _ _ _ _ _ _ _ _ _ _ _ _ _ _ _ _ _ _ _ q7 (-4) (List.mem_singleton.mpr rfl) r17 hr17) (cwV (C := RX0) 1 C.2.2.2.1 (lw_V q466 q468 qs2 q80 q469) rfl rfl rfl (by decide +kernel) ⟨Nat.le_of_ble_eq_true rfl, Nat.le_of_ble_eq_true rfl⟩) (t_preX C0 hP hc hq.1 (va_recv C.2.2.2.2.1 hP (ci := 16) (q0 := 0) rfl rfl)) rfl rfl hl.1 rfl (lv_room (Nat.le_of_ble_eq_true rfl)) dX0_row_69 ⟨Nat.le_of_ble_eq_true rfl, Nat.le_of_ble_eq_true rfl⟩) (fun H locs hP hS => ?_)
        obtain rfl := Option.some.inj hE
        refine W.widen (k := 7) (n := 250) (Nat.le_of_ble_eq_true rfl) (Nat.le_of_ble_eq_true rfl) ?_
        exact hret _ _ _ _ dX0_row_72 trivial hP hS
    have hE := hR
    refine lv_if_lt (tgt := 15) C.1 C.2.1 dX0_row_8 (by decide) (fun c4 => ?_) (fun c4 => ?_)
    · have hE := it_t c4 hE
      refine lv_iconst (v := 0) C.1 C.2.1 dX0_row_15 (by decide) ?_
      obtain rfl := Option.some.inj hE
      exact hJ16u5 H locs ls hP hS (lv_sub hl [1, 3, 4, 0] rfl)
    · have hE := it_f c4 hE
      refine lv_iconst (v := 1) C.1 C.2.1 dX0_row_11 (by decide) ?_
      refine lv_goto (tgt := 16) C.1 C.2.1 dX0_row_12 (by decide) ?_
      obtain rfl := Option.some.inj hE
      exact hJ16u5 H locs ls hP hS (lv_sub hl [1, 3, 4, 0] rfl)
  · obtain ⟨c2, rfl⟩ := shO_x hw
    have hE := it_f c2 hE
    obtain ⟨q3, rfl⟩ : ∃ z, z = q := ⟨_, rfl⟩
    obtain ⟨ce, g1, g2, g3⟩ := t_cell C0 hc rfl
    refine t_catch (name := "HamsterWeekends$Refused") (E := "HamsterWeekends$Refused") C0 D [] ⟨0, 63, 64, 21⟩ [] htab (fun z hz => nomatch hz) rfl (by decide) q291 (List.mem_of_getElem? (i := 1) rfl) g1 g2 g3 ?_
    refine W.eq (g2 := F0 m 64 ls [.ref q3]) rfl ?_
    refine lv_astore (lv' := [(4, .ref q3), (0, .ref (ad 0)), (1, .int p1), (2, .int p2), (3, .int p3)]) C.1 C.2.1 dX0_row_64 hl (by decide) rfl (fun ls hl => ?_)
    refine lv_aload_n C.1 C.2.1 dX0_row_66 rfl (lv_at hl 1 rfl) ?_
    refine lv_aload C.1 C.2.1 dX0_row_67 (lv_at hl 0 rfl) ?_
    obtain ⟨r18, hr18, hE⟩ := it_b hE
    refine n_afterS C.2.2.2.2.2.2.2.1 hS (va_runV (As := [.ref q3]) (rest := []) ⟨C.1, C.2.1, hml, C.2.2.1, C.2.2.2.1⟩ (metC_HW_refused l G ad [(q3, .inr (18, xF (-1)))] _ _ _ _ _ _ _ _ _ _ _ _ _ _ _ _ _ _ _ _ _ _ _ _ _ _ _ _ _ _ _ _ _ _ _ _ _ _ _ _ _ _ _ _ _ _ _ q3 (-1) (List.mem_singleton.mpr rfl) r18 hr18) (cwV (C := RX0) 1 C.2.2.2.1 (lw_V q466 q468 qs2 q80 q469) rfl rfl rfl (by decide +kernel) ⟨Nat.le_of_ble_eq_true rfl, Nat.le_of_ble_eq_true rfl⟩) (t_preX C0 hP hc hq.1 (va_recv C.2.2.2.2.1 hP (ci := 16) (q0 := 0) rfl rfl)) rfl rfl hl.1 rfl (lv_room (Nat.le_of_ble_eq_true rfl)) dX0_row_69 ⟨Nat.le_of_ble_eq_true rfl, Nat.le_of_ble_eq_true rfl⟩) (fun H locs hP hS => ?_)
    obtain rfl := Option.some.inj hE
    refine W.widen (k := 7) (n := 250) (Nat.le_of_ble_eq_true rfl) (Nat.le_of_ble_eq_true rfl) ?_
    exact hret _ _ _ _ dX0_row_72 trivial hP hS
def sC_HW_show (v_refusals : Nat → Int32) (v_many : Int32) (v_homes : Nat → Option Nat) (hk : Nat → Nat) (hb : Nat → Int32) (hd : Nat → Nat) (rs : Nat → Nat) (rn : Nat → Nat) (rc : Nat → Nat → Int64) (sk : Nat → Nat) (si : Nat → Int32) (sb : Nat → Int32) (p1 : Int32) (p2 : Int32) : Option (Int32 × (Nat → Int32)) :=
  if gi p1 8 then
    if p2 = (-1) then
      none
    else
      (sC_HW_mustHome v_many p2).bind fun r5 =>
      if r5 = none then
        if gi p2 8 then
        if gm p2 v_many then
        none
        else none
        else none
      else
        (sC_HW_refused v_refusals (r5.getD 0)).bind fun r10 =>
        some (r10.1, r10.2)
  else
    (sC_HW_refused v_refusals (-1)).bind fun r11 =>
    some (r11.1, r11.2)
set_option maxHeartbeats 4000000 in
theorem metC_HW_show (l : Launch) (hfl : l.stackTraces = false) (G : kG) (ad : Nat → Nat) (pl : va_W) (hk : Nat → Nat) (hb : Nat → Int32) (sa ra rb hd rs rn : Nat → Nat) (rc : Nat → Nat → Int64) (sk : Nat → Nat) (si sb : Nat → Int32) (sz : Nat) (v_latestFault : Int32) (v_died : Int32) (v_leastWeight : Int32) (v_noticedBy : Int32) (v_noticed : Int32) (v_orderDied : Int32) (v_orderLeast : Int32) (v_imaged : Option Nat) (v_shelves : Nat → Option Nat) (v_refusals : Nat → Int32) (v_ran : Int32) (v_bodies : Nat → Int32) (v_tweight : Int32) (v_tfright : Int32) (v_tage : Int32) (v_tasked : Nat → Int32) (v_told : Nat → Int32) (v_bestRow : Nat → Int32) (v_weight_a1 : Int32) (v_fright_a1 : Int32) (v_age_a1 : Int32) (v_asked_a1 : Nat → Int32) (v_weight_a2 : Int32) (v_fright_a2 : Int32) (v_age_a2 : Int32) (v_asked_a2 : Nat → Int32) (v_weight_a3 : Int32) (v_fright_a3 : Int32) (v_age_a3 : Int32) (v_asked_a3 : Nat → Int32) (v_weight_a4 : Int32) (v_fright_a4 : Int32) (v_age_a4 : Int32) (v_asked_a4 : Nat → Int32) (v_many : Int32) (v_pets : Int32) (v_last : Int32) (v_seed : Int32) (v_weight : Int32) (v_fright : Int32) (v_age : Int32) (v_asked : Nat → Int32) (v_homes : Nat → Option Nat) (v_marks : Nat → Int32) (v_had : Nat → Int32) (v_allergic : Nat → Int32) (v_deaths : Nat → Int32) (hom : homOK v_homes v_many hk hb pl) (shok : shOK G v_shelves sa hd ra rb rs rn rc sk si sb pl) (p1 : Int32) (p2 : Int32) (res : Int32 × (Nat → Int32)) (hE : sC_HW_show v_refusals v_many v_homes hk hb hd rs rn rc sk si sb p1 p2 = some res) : vx_Met l yX0_show (wsW_ yX0_show cX0_show 4 (some .int) [((0 : Nat), (17 : Nat), (38 : Nat), (21 : Nat)), ((18 : Nat), (37 : Nat), (38 : Nat), (21 : Nat))]) ({ frames := 9, cells := 5, slots := 236, locals := 10272 } : Room) (rPc G (xW G.2 ad v_latestFault v_died v_leastWeight v_noticedBy v_noticed v_orderDied v_orderLeast v_imaged v_shelves v_refusals v_ran v_bodies v_tweight v_tfright v_tage v_tasked v_told v_bestRow v_weight_a1 v_fright_a1 v_age_a1 v_asked_a1 v_weight_a2 v_fright_a2 v_age_a2 v_asked_a2 v_weight_a3 v_fright_a3 v_age_a3 v_asked_a3 v_weight_a4 v_fright_a4 v_age_a4 v_asked_a4 v_many v_pets v_last v_seed v_weight v_fright v_age v_asked v_homes v_marks v_had v_allergic v_deaths) pl (xWV ad) sz [.ref (ad 0), .int p1, .int p2]) (tQc G (xW G.2 ad v_latestFault v_died v_leastWeight v_noticedBy v_noticed v_orderDied v_orderLeast v_imaged v_shelves res.2 v_ran v_bodies v_tweight v_tfright v_tage v_tasked v_told v_bestRow v_weight_a1 v_fright_a1 v_age_a1 v_asked_a1 v_weight_a2 v_fright_a2 v_age_a2 v_asked_a2 v_weight_a3 v_fright_a3 v_age_a3 v_asked_a3 v_weight_a4 v_fright_a4 v_age_a4 v_asked_a4 v_many v_pets v_last v_seed v_weight v_fright v_age v_asked v_homes v_marks v_had v_allergic v_deaths) [] (tA sz (xWV ad) []) (True) (some (.int res.1))) (tXC G (xW G.2 ad v_latestFault v_died v_leastWeight v_noticedBy v_noticed v_orderDied v_orderLeast v_imaged v_shelves res.2 v_ran v_bodies v_tweight v_tfright v_tage v_tasked v_told v_bestRow v_weight_a1 v_fright_a1 v_age_a1 v_asked_a1 v_weight_a2 v_fright_a2 v_age_a2 v_asked_a2 v_weight_a3 v_fright_a3 v_age_a3 v_asked_a3 v_weight_a4 v_fright_a4 v_age_a4 v_asked_a4 v_many v_pets v_last v_seed v_weight v_fright v_age v_asked v_homes v_marks v_had v_allergic v_deaths) [] (tA sz (xWV ad) []) 18 RX6 none sz) 5 236 (tA sz (xWV ad) []) := by
  refine r_ofWH (own := RX0) (by decide) rfl (Nat.le_of_ble_eq_true rfl) ?_
  intro p e s m args below meth c ls C C0 D hml htab hP hS hl hr hlocks hsz
  have hl : lv_has ls 4 [(0, .ref (ad 0)), (1, .int p1), (2, .int p2)] := hl
  obtain ⟨Q, hQ⟩ : ∃ Q, Q = vx_MQ below (tQc G (xW G.2 ad v_latestFault v_died v_leastWeight v_noticedBy v_noticed v_orderDied v_orderLeast v_imaged v_shelves res.2 v_ran v_bodies v_tweight v_tfright v_tage v_tasked v_told v_bestRow v_weight_a1 v_fright_a1 v_age_a1 v_asked_a1 v_weight_a2 v_fright_a2 v_age_a2 v_asked_a2 v_weight_a3 v_fright_a3 v_age_a3 v_asked_a3 v_weight_a4 v_fright_a4 v_age_a4 v_asked_a4 v_many v_pets v_last v_seed v_weight v_fright v_age v_asked v_homes v_marks v_had v_allergic v_deaths) [] (tA sz (xWV ad) []) (True) (some (.int res.1))) (tXC G (xW G.2 ad v_latestFault v_died v_leastWeight v_noticedBy v_noticed v_orderDied v_orderLeast v_imaged v_shelves res.2 v_ran v_bodies v_tweight v_tfright v_tage v_tasked v_told v_bestRow v_weight_a1 v_fright_a1 v_age_a1 v_asked_a1 v_weight_a2 v_fright_a2 v_age_a2 v_asked_a2 v_weight_a3 v_fright_a3 v_age_a3 v_asked_a3 v_weight_a4 v_fright_a4 v_age_a4 v_asked_a4 v_many v_pets v_last v_seed v_weight v_fright v_age v_asked v_homes v_marks v_had v_allergic v_deaths) [] (tA sz (xWV ad) []) 18 RX6 none sz) args s 5 236 (tA sz (xWV ad) []) := ⟨_, rfl⟩
  rw [← hQ]
  have hret : ∀ (pc : Nat) (ls : Array Slot) (H : Heap) (locs : List Loc), decode cX0_show pc = .ok (.ireturn, 1) → True → va_P G.1 vwCl (xW G.2 ad v_latestFault v_died v_leastWeight v_noticedBy v_noticed v_orderDied v_orderLeast v_imaged v_shelves res.2 v_ran v_bodies v_tweight v_tfright v_tage v_tasked v_told v_bestRow v_weight_a1 v_fright_a1 v_age_a1 v_asked_a1 v_weight_a2 v_fright_a2 v_age_a2 v_asked_a2 v_weight_a3 v_fright_a3 v_age_a3 v_asked_a3 v_weight_a4 v_fright_a4 v_age_a4 v_asked_a4 v_many v_pets v_last v_seed v_weight v_fright v_age v_asked v_homes v_marks v_had v_allergic v_deaths) H → va_S (tA sz (xWV ad) []) s.heap H locs → W p l e ({ frames := 9, cells := 5, slots := 236, locals := 10272 } : Room) s m args below meth c H locs 5 236 Q (F0 m pc ls [(.int res.1)]) := by
    intro pc ls H locs hd hφ hP hS
    rw [hQ]
    exact t_iret C0 hr hlocks hd hφ hP P_nil hS
  clear hQ
  obtain ⟨H, hH⟩ : ∃ H, H = s.heap := ⟨_, rfl⟩
  obtain ⟨locs, hlo⟩ : ∃ locs : List Loc, locs = [] := ⟨_, rfl⟩
  have hP : va_P G.1 vwCl (xW G.2 ad v_latestFault v_died v_leastWeight v_noticedBy v_noticed v_orderDied v_orderLeast v_imaged v_shelves v_refusals v_ran v_bodies v_tweight v_tfright v_tage v_tasked v_told v_bestRow v_weight_a1 v_fright_a1 v_age_a1 v_asked_a1 v_weight_a2 v_fright_a2 v_age_a2 v_asked_a2 v_weight_a3 v_fright_a3 v_age_a3 v_asked_a3 v_weight_a4 v_fright_a4 v_age_a4 v_asked_a4 v_many v_pets v_last v_seed v_weight v_fright v_age v_asked v_homes v_marks v_had v_allergic v_deaths) H := by rw [hH]; exact hP
  have hS : va_S (tA sz (xWV ad) []) s.heap H locs := by rw [hH, hlo]; exact hS
  suffices hZ : W p l e ({ frames := 9, cells := 5, slots := 236, locals := 10272 } : Room) s m args below meth c H locs 0 0 Q (F0 m 0 ls []) by rw [hH, hlo] at hZ; exact hZ
  clear hH hlo
  unfold sC_HW_show at hE
  refine lv_aload_n C.1 C.2.1 dX0_show_0 rfl (lv_at hl 0 rfl) ?_
  refine lv_iload_n C.1 C.2.1 dX0_show_1 rfl (lv_at hl 1 rfl) ?_
  refine t_afterS C0 D hP P_nil hS (vx_runVX (As := [.int p1]) (rest := []) ⟨C.1, C.2.1, hml, C.2.2.1, C.2.2.2.1⟩ (metC_HW_shelf l hfl G ad pl H.size _ _ _ _ _ _ _ _ _ _ _ _ _ _ _ _ _ _ _ _ _ _ _ _ _ _ _ _ _ _ _ _ _ _ _ _ _ _ _ _ _ _ _ _ _ _ _ p1) (vx_cwVW (C := RX0) 1 C.2.2.2.1 (lw_VW q292 q294 qs0 q80 q295) rfl rfl rfl (by decide +kernel) ⟨Nat.le_of_ble_eq_true rfl, Nat.le_of_ble_eq_true rfl⟩) (rr_preV0 C D hP hS (va_recv C.2.2.2.2.1 hP (ci := 16) (q0 := 0) rfl rfl)) rfl rfl hl.1 rfl (lv_room (Nat.le_of_ble_eq_true rfl)) dX0_show_2 ⟨Nat.le_of_ble_eq_true rfl, Nat.le_of_ble_eq_true rfl⟩) xW_av (fun hφ H locs hP _ hS => ?_) (fun w q H locs hw hq hc hP _ hS => ?_)
  · have hE := it_t hφ hE
    obtain ⟨hsag1, hshg1⟩ := shok _ (gi_lt hφ)
    rw [hsag1]
    refine lv_astore_n (lv' := [(3, .ref (sa (p1).toNatClampNeg)), (0, .ref (ad 0)), (1, .int p1), (2, .int p2)]) C.1 C.2.1 dX0_show_5 rfl hl (by decide) rfl (fun ls hl => ?_)
    refine lv_iload_n C.1 C.2.1 dX0_show_6 rfl (lv_at hl 3 rfl) ?_
    refine lv_iconst (v := (-1)) C.1 C.2.1 dX0_show_7 (by decide) ?_
    refine lv_icmp_ne (tgt := 18) C.1 C.2.1 dX0_show_8 (by decide) (fun c4 => ?_) (fun c4 => ?_)
    · have hE := it_f c4 hE
      refine lv_aload_n C.1 C.2.1 dX0_show_18 rfl (lv_at hl 1 rfl) ?_
      refine lv_iload_n C.1 C.2.1 dX0_show_19 rfl (lv_at hl 3 rfl) ?_
      obtain ⟨r5, hr5, hE⟩ := it_b hE
      refine t_afterS C0 D hP P_nil hS (vx_runV (As := [.int p2]) (rest := []) ⟨C.1, C.2.1, hml, C.2.2.1, C.2.2.2.1⟩ (metC_HW_mustHome l hfl G ad pl H.size _ _ _ _ _ _ _ _ _ _ _ _ _ _ _ _ _ _ _ _ _ _ _ _ _ _ _ _ _ _ _ _ _ _ _ _ _ _ _ _ _ _ _ _ _ _ _ p2 r5 hr5) (cwV (C := RX0) 1 C.2.2.2.1 (lw_V q577 q579 qs3 q80 q580) rfl rfl rfl (by decide +kernel) ⟨Nat.le_of_ble_eq_true rfl, Nat.le_of_ble_eq_true rfl⟩) (rr_preV0 C D hP hS (va_recv C.2.2.2.2.1 hP (ci := 16) (q0 := 0) rfl rfl)) rfl rfl hl.1 rfl (lv_room (Nat.le_of_ble_eq_true rfl)) dX0_show_20 ⟨Nat.le_of_ble_eq_true rfl, Nat.le_of_ble_eq_true rfl⟩) xW_av (fun hφ H locs hP _ hS => ?_) (fun w q H locs hw hq hc hP _ hS => ?_)
      · have hE := it_t hφ hE
        refine lv_aload_n C.1 C.2.1 dX0_show_23 rfl (lv_at hl 0 rfl) ?_
        refine lv_aload_n C.1 C.2.1 dX0_show_24 rfl (lv_at hl 1 rfl) ?_
        refine xWg_0_6 q244 C hP dX0_show_25 ?_
        refine xWg_18_5 q193 C hP dX0_show_28 ?_
        refine lv_iload_n C.1 C.2.1 dX0_show_31 rfl (lv_at hl 3 rfl) ?_
        obtain ⟨g7, hE⟩ := it_g hE
        obtain ⟨g8, hE⟩ := it_g hE
        obtain ⟨q9, hq90, hq9, hq97⟩ := hom _ g8
        refine xWl_21 (v := some q9) C hP (gi_in g7) hq90 dX0_show_32 ?_
        exact it_n hE
      · have hE := it_f (by rw [hw]; exact fun h => nomatch h) hE
        obtain ⟨q6, rfl⟩ : ∃ z, z = q := ⟨_, rfl⟩
        obtain rfl : w = (r5.getD 0) := by rw [hw]; rfl
        obtain ⟨ce, g1, g2, g3⟩ := t_cell C0 hc rfl
        refine t_catch (name := "HamsterWeekends$Refused") (E := "HamsterWeekends$Refused") C0 D [⟨0, 17, 38, 21⟩] ⟨18, 37, 38, 21⟩ [] htab (fun z hz => by
      simp only [List.mem_cons, List.not_mem_nil, or_false] at hz
      rcases hz with rfl
      · exact Or.inl rfl) rfl (by decide) q291 (List.mem_of_getElem? (i := 1) rfl) g1 g2 g3 ?_
        refine W.eq (g2 := F0 m 38 ls [.ref q6]) rfl ?_
        refine lv_astore_n (lv' := [(3, .ref q6), (0, .ref (ad 0)), (1, .int p1), (2, .int p2)]) C.1 C.2.1 dX0_show_38 rfl hl (by decide) rfl (fun ls hl => ?_)
        refine lv_aload_n C.1 C.2.1 dX0_show_39 rfl (lv_at hl 1 rfl) ?_
        refine lv_aload_n C.1 C.2.1 dX0_show_40 rfl (lv_at hl 0 rfl) ?_
        obtain ⟨r10, hr10, hE⟩ := it_b hE
        refine n_afterS C.2.2.2.2.2.2.2.1 hS (va_runV (As := [.ref q6]) (rest := []) ⟨C.1, C.2.1, hml, C.2.2.1, C.2.2.2.1⟩ (metC_HW_refused l G ad [(q6, .inr (18, xF (r5.getD 0)))] _ _ _ _ _ _ _ _ _ _ _ _ _ _ _ _ _ _ _ _ _ _ _ _ _ _ _ _ _ _ _ _ _ _ _ _ _ _ _ _ _ _ _ _ _ _ _ q6 (r5.getD 0) (List.mem_singleton.mpr rfl) r10 hr10) (cwV (C := RX0) 1 C.2.2.2.1 (lw_V q466 q468 qs2 q80 q469) rfl rfl rfl (by decide +kernel) ⟨Nat.le_of_ble_eq_true rfl, Nat.le_of_ble_eq_true rfl⟩) (t_preX C0 hP hc hq.1 (va_recv C.2.2.2.2.1 hP (ci := 16) (q0 := 0) rfl rfl)) rfl rfl hl.1 rfl (lv_room (Nat.le_of_ble_eq_true rfl)) dX0_show_41 ⟨Nat.le_of_ble_eq_true rfl, Nat.le_of_ble_eq_true rfl⟩) (fun H locs hP hS => ?_)
        obtain rfl := Option.some.inj hE
        exact hret _ _ _ _ dX0_show_44 trivial hP hS
    · have hE := it_t c4 hE
      refine lv_aload_n C.1 C.2.1 dX0_show_11 rfl (lv_at hl 0 rfl) ?_
      refine lv_null C.1 C.2.1 dX0_show_12 ?_
      exact it_n hE
  · obtain ⟨c2, rfl⟩ := shO_x hw
    have hE := it_f c2 hE
    obtain ⟨q3, rfl⟩ : ∃ z, z = q := ⟨_, rfl⟩
    obtain ⟨ce, g1, g2, g3⟩ := t_cell C0 hc rfl
    refine t_catch (name := "HamsterWeekends$Refused") (E := "HamsterWeekends$Refused") C0 D [] ⟨0, 17, 38, 21⟩ [⟨18, 37, 38, 21⟩] htab (fun z hz => nomatch hz) rfl (by decide) q291 (List.mem_of_getElem? (i := 1) rfl) g1 g2 g3 ?_
    refine W.eq (g2 := F0 m 38 ls [.ref q3]) rfl ?_
    refine lv_astore_n (lv' := [(3, .ref q3), (0, .ref (ad 0)), (1, .int p1), (2, .int p2)]) C.1 C.2.1 dX0_show_38 rfl hl (by decide) rfl (fun ls hl => ?_)
    refine lv_aload_n C.1 C.2.1 dX0_show_39 rfl (lv_at hl 1 rfl) ?_
    refine lv_aload_n C.1 C.2.1 dX0_show_40 rfl (lv_at hl 0 rfl) ?_
    obtain ⟨r11, hr11, hE⟩ := it_b hE
    refine n_afterS C.2.2.2.2.2.2.2.1 hS (va_runV (As := [.ref q3]) (rest := []) ⟨C.1, C.2.1, hml, C.2.2.1, C.2.2.2.1⟩ (metC_HW_refused l G ad [(q3, .inr (18, xF (-1)))] _ _ _ _ _ _ _ _ _ _ _ _ _ _ _ _ _ _ _ _ _ _ _ _ _ _ _ _ _ _ _ _ _ _ _ _ _ _ _ _ _ _ _ _ _ _ _ q3 (-1) (List.mem_singleton.mpr rfl) r11 hr11) (cwV (C := RX0) 1 C.2.2.2.1 (lw_V q466 q468 qs2 q80 q469) rfl rfl rfl (by decide +kernel) ⟨Nat.le_of_ble_eq_true rfl, Nat.le_of_ble_eq_true rfl⟩) (t_preX C0 hP hc hq.1 (va_recv C.2.2.2.2.1 hP (ci := 16) (q0 := 0) rfl rfl)) rfl rfl hl.1 rfl (lv_room (Nat.le_of_ble_eq_true rfl)) dX0_show_41 ⟨Nat.le_of_ble_eq_true rfl, Nat.le_of_ble_eq_true rfl⟩) (fun H locs hP hS => ?_)
    obtain rfl := Option.some.inj hE
    refine W.widen (k := 5) (n := 236) (Nat.le_of_ble_eq_true rfl) (Nat.le_of_ble_eq_true rfl) ?_
    exact hret _ _ _ _ dX0_show_44 trivial hP hS
def sC_HW_home (v_refusals : Nat → Int32) (v_many : Int32) (p1 : Int32) (p2 : Int32) : Option (Int32 × (Nat → Int32)) :=
  (sC_HW_in ((p1 : Int32).toInt64) 0 6).bind fun r1 =>
  if r1 = 0 then
    (sC_HW_refused v_refusals (-1)).bind fun r13 =>
    some (r13.1, r13.2)
  else
    (sC_HW_in ((p2 : Int32).toInt64) 0 9).bind fun r4 =>
    if r4 = 0 then
      (sC_HW_refused v_refusals (-6)).bind fun r12 =>
      some (r12.1, r12.2)
    else
      @Option.bind (Int32) _ (
        if 8 ≤ v_many then
          some 0
        else
          some 1) fun u8 =>
      if u8 = 0 then
        (sC_HW_refused v_refusals (-7)).bind fun r11 =>
        some (r11.1, r11.2)
      else
        none
set_option maxHeartbeats 4000000 in
theorem metC_HW_home (l : Launch) (hfl : l.stackTraces = false) (G : kG) (ad : Nat → Nat) (pl : va_W) (sz : Nat) (v_latestFault : Int32) (v_died : Int32) (v_leastWeight : Int32) (v_noticedBy : Int32) (v_noticed : Int32) (v_orderDied : Int32) (v_orderLeast : Int32) (v_imaged : Option Nat) (v_shelves : Nat → Option Nat) (v_refusals : Nat → Int32) (v_ran : Int32) (v_bodies : Nat → Int32) (v_tweight : Int32) (v_tfright : Int32) (v_tage : Int32) (v_tasked : Nat → Int32) (v_told : Nat → Int32) (v_bestRow : Nat → Int32) (v_weight_a1 : Int32) (v_fright_a1 : Int32) (v_age_a1 : Int32) (v_asked_a1 : Nat → Int32) (v_weight_a2 : Int32) (v_fright_a2 : Int32) (v_age_a2 : Int32) (v_asked_a2 : Nat → Int32) (v_weight_a3 : Int32) (v_fright_a3 : Int32) (v_age_a3 : Int32) (v_asked_a3 : Nat → Int32) (v_weight_a4 : Int32) (v_fright_a4 : Int32) (v_age_a4 : Int32) (v_asked_a4 : Nat → Int32) (v_many : Int32) (v_pets : Int32) (v_last : Int32) (v_seed : Int32) (v_weight : Int32) (v_fright : Int32) (v_age : Int32) (v_asked : Nat → Int32) (v_homes : Nat → Option Nat) (v_marks : Nat → Int32) (v_had : Nat → Int32) (v_allergic : Nat → Int32) (v_deaths : Nat → Int32) (p1 : Int32) (p2 : Int32) (res : Int32 × (Nat → Int32)) (hE : sC_HW_home v_refusals v_many p1 p2 = some res) : vx_Met l yX0_home (wsW_ yX0_home cX0_home 4 (some .int) [((0 : Nat), (67 : Nat), (68 : Nat), (21 : Nat))]) ({ frames := 5, cells := 3, slots := 21, locals := 122 } : Room) (rPc G (xW G.2 ad v_latestFault v_died v_leastWeight v_noticedBy v_noticed v_orderDied v_orderLeast v_imaged v_shelves v_refusals v_ran v_bodies v_tweight v_tfright v_tage v_tasked v_told v_bestRow v_weight_a1 v_fright_a1 v_age_a1 v_asked_a1 v_weight_a2 v_fright_a2 v_age_a2 v_asked_a2 v_weight_a3 v_fright_a3 v_age_a3 v_asked_a3 v_weight_a4 v_fright_a4 v_age_a4 v_asked_a4 v_many v_pets v_last v_seed v_weight v_fright v_age v_asked v_homes v_marks v_had v_allergic v_deaths) pl (xWV ad) sz [.ref (ad 0), .int p1, .int p2]) (tQc G (xW G.2 ad v_latestFault v_died v_leastWeight v_noticedBy v_noticed v_orderDied v_orderLeast v_imaged v_shelves res.2 v_ran v_bodies v_tweight v_tfright v_tage v_tasked v_told v_bestRow v_weight_a1 v_fright_a1 v_age_a1 v_asked_a1 v_weight_a2 v_fright_a2 v_age_a2 v_asked_a2 v_weight_a3 v_fright_a3 v_age_a3 v_asked_a3 v_weight_a4 v_fright_a4 v_age_a4 v_asked_a4 v_many v_pets v_last v_seed v_weight v_fright v_age v_asked v_homes v_marks v_had v_allergic v_deaths) [] (tA sz (xWV ad) []) (True) (some (.int res.1))) (tXC G (xW G.2 ad v_latestFault v_died v_leastWeight v_noticedBy v_noticed v_orderDied v_orderLeast v_imaged v_shelves res.2 v_ran v_bodies v_tweight v_tfright v_tage v_tasked v_told v_bestRow v_weight_a1 v_fright_a1 v_age_a1 v_asked_a1 v_weight_a2 v_fright_a2 v_age_a2 v_asked_a2 v_weight_a3 v_fright_a3 v_age_a3 v_asked_a3 v_weight_a4 v_fright_a4 v_age_a4 v_asked_a4 v_many v_pets v_last v_seed v_weight v_fright v_age v_asked v_homes v_marks v_had v_allergic v_deaths) [] (tA sz (xWV ad) []) 18 RX6 none sz) 3 21 (tA sz (xWV ad) []) := by
  refine r_ofWH (own := RX0) (by decide) rfl (Nat.le_of_ble_eq_true rfl) ?_
  intro p e s m args below meth c ls C C0 D hml htab hP hS hl hr hlocks hsz
  have hl : lv_has ls 4 [(0, .ref (ad 0)), (1, .int p1), (2, .int p2)] := hl
  obtain ⟨Q, hQ⟩ : ∃ Q, Q = vx_MQ below (tQc G (xW G.2 ad v_latestFault v_died v_leastWeight v_noticedBy v_noticed v_orderDied v_orderLeast v_imaged v_shelves res.2 v_ran v_bodies v_tweight v_tfright v_tage v_tasked v_told v_bestRow v_weight_a1 v_fright_a1 v_age_a1 v_asked_a1 v_weight_a2 v_fright_a2 v_age_a2 v_asked_a2 v_weight_a3 v_fright_a3 v_age_a3 v_asked_a3 v_weight_a4 v_fright_a4 v_age_a4 v_asked_a4 v_many v_pets v_last v_seed v_weight v_fright v_age v_asked v_homes v_marks v_had v_allergic v_deaths) [] (tA sz (xWV ad) []) (True) (some (.int res.1))) (tXC G (xW G.2 ad v_latestFault v_died v_leastWeight v_noticedBy v_noticed v_orderDied v_orderLeast v_imaged v_shelves res.2 v_ran v_bodies v_tweight v_tfright v_tage v_tasked v_told v_bestRow v_weight_a1 v_fright_a1 v_age_a1 v_asked_a1 v_weight_a2 v_fright_a2 v_age_a2 v_asked_a2 v_weight_a3 v_fright_a3 v_age_a3 v_asked_a3 v_weight_a4 v_fright_a4 v_age_a4 v_asked_a4 v_many v_pets v_last v_seed v_weight v_fright v_age v_asked v_homes v_marks v_had v_allergic v_deaths) [] (tA sz (xWV ad) []) 18 RX6 none sz) args s 3 21 (tA sz (xWV ad) []) := ⟨_, rfl⟩
  rw [← hQ]
  have hret : ∀ (pc : Nat) (ls : Array Slot) (H : Heap) (locs : List Loc), decode cX0_home pc = .ok (.ireturn, 1) → True → va_P G.1 vwCl (xW G.2 ad v_latestFault v_died v_leastWeight v_noticedBy v_noticed v_orderDied v_orderLeast v_imaged v_shelves res.2 v_ran v_bodies v_tweight v_tfright v_tage v_tasked v_told v_bestRow v_weight_a1 v_fright_a1 v_age_a1 v_asked_a1 v_weight_a2 v_fright_a2 v_age_a2 v_asked_a2 v_weight_a3 v_fright_a3 v_age_a3 v_asked_a3 v_weight_a4 v_fright_a4 v_age_a4 v_asked_a4 v_many v_pets v_last v_seed v_weight v_fright v_age v_asked v_homes v_marks v_had v_allergic v_deaths) H → va_S (tA sz (xWV ad) []) s.heap H locs → W p l e ({ frames := 5, cells := 3, slots := 21, locals := 122 } : Room) s m args below meth c H locs 3 21 Q (F0 m pc ls [(.int res.1)]) := by
    intro pc ls H locs hd hφ hP hS
    rw [hQ]
    exact t_iret C0 hr hlocks hd hφ hP P_nil hS
  clear hQ
  obtain ⟨H, hH⟩ : ∃ H, H = s.heap := ⟨_, rfl⟩
  obtain ⟨locs, hlo⟩ : ∃ locs : List Loc, locs = [] := ⟨_, rfl⟩
  have hP : va_P G.1 vwCl (xW G.2 ad v_latestFault v_died v_leastWeight v_noticedBy v_noticed v_orderDied v_orderLeast v_imaged v_shelves v_refusals v_ran v_bodies v_tweight v_tfright v_tage v_tasked v_told v_bestRow v_weight_a1 v_fright_a1 v_age_a1 v_asked_a1 v_weight_a2 v_fright_a2 v_age_a2 v_asked_a2 v_weight_a3 v_fright_a3 v_age_a3 v_asked_a3 v_weight_a4 v_fright_a4 v_age_a4 v_asked_a4 v_many v_pets v_last v_seed v_weight v_fright v_age v_asked v_homes v_marks v_had v_allergic v_deaths) H := by rw [hH]; exact hP
  have hS : va_S (tA sz (xWV ad) []) s.heap H locs := by rw [hH, hlo]; exact hS
  suffices hZ : W p l e ({ frames := 5, cells := 3, slots := 21, locals := 122 } : Room) s m args below meth c H locs 0 0 Q (F0 m 0 ls []) by rw [hH, hlo] at hZ; exact hZ
  clear hH hlo
  unfold sC_HW_home at hE
  refine lv_iload_n C.1 C.2.1 dX0_home_0 rfl (lv_at hl 1 rfl) ?_
  refine lv_i2l C.1 C.2.1 dX0_home_1 rfl ?_
  refine lv_lconst (v := 0) C.1 C.2.1 dX0_home_2 (by decide) ?_
  refine lv_ldc2 C.1 C.2.1 C.2.2.1 (C.2.2.2.1 _ q596) dX0_home_3 ?_
  obtain ⟨r1, hr1, hE⟩ := it_b hE
  refine n_after [] C.2.2.2.2.2.1 C.2.2.2.2.2.2.2.1 hP hS (va_runS (As := [.long ((p1 : Int32).toInt64), .long 0, .long 6]) (rest := []) ⟨C.1, C.2.1, hml, C.2.2.1, C.2.2.2.1⟩ (metC_HW_in l G ad pl  ((p1 : Int32).toInt64) 0 6  r1 hr1) (va_cwS 3 C.2.2.2.1 (lw_S q401 q402 q80 q403) rfl rfl rfl (by decide +kernel) ⟨Nat.le_of_ble_eq_true rfl, Nat.le_of_ble_eq_true rfl⟩) (n_preS C hP hS [] rfl (by decide) rfl) rfl rfl hl.1 rfl (lv_room (Nat.le_of_ble_eq_true rfl)) dX0_home_6 ⟨Nat.le_of_ble_eq_true rfl, Nat.le_of_ble_eq_true rfl⟩) xW_av rfl rfl rfl (fun H locs hP hS => ?_)
  refine lv_iconst (v := (-1)) C.1 C.2.1 dX0_home_9 (by decide) ?_
  refine t_after [] C0 D hP P_nil hS (vx_runS (As := [.int r1, .int (-1)]) (rest := []) ⟨C.1, C.2.1, hml, C.2.2.1, C.2.2.2.1⟩ (metC_HW_need l hfl G ad pl H.size r1 (-1) _ (need_eq _ _)) (va_cwS 2 C.2.2.2.1 (lw_S q397 q398 q80 q399) rfl rfl rfl (by decide +kernel) ⟨Nat.le_of_ble_eq_true rfl, Nat.le_of_ble_eq_true rfl⟩) (rr_preS C D hP hS [] rfl (by decide) rfl) rfl rfl hl.1 rfl (lv_room (Nat.le_of_ble_eq_true rfl)) dX0_home_10 ⟨Nat.le_of_ble_eq_true rfl, Nat.le_of_ble_eq_true rfl⟩) xW_av rfl rfl rfl (fun hφ H locs hP _ hS => ?_) (fun w q H locs hw hq hc hP _ hS => ?_)
  · have hE := it_f (nd_n hφ) hE
    refine lv_iload_n C.1 C.2.1 dX0_home_13 rfl (lv_at hl 2 rfl) ?_
    refine lv_i2l C.1 C.2.1 dX0_home_14 rfl ?_
    refine lv_lconst (v := 0) C.1 C.2.1 dX0_home_15 (by decide) ?_
    refine lv_ldc2 C.1 C.2.1 C.2.2.1 (C.2.2.2.1 _ q648) dX0_home_16 ?_
    obtain ⟨r4, hr4, hE⟩ := it_b hE
    refine n_after [] C.2.2.2.2.2.1 C.2.2.2.2.2.2.2.1 hP hS (va_runS (As := [.long ((p2 : Int32).toInt64), .long 0, .long 9]) (rest := []) ⟨C.1, C.2.1, hml, C.2.2.1, C.2.2.2.1⟩ (metC_HW_in l G ad pl  ((p2 : Int32).toInt64) 0 9  r4 hr4) (va_cwS 3 C.2.2.2.1 (lw_S q401 q402 q80 q403) rfl rfl rfl (by decide +kernel) ⟨Nat.le_of_ble_eq_true rfl, Nat.le_of_ble_eq_true rfl⟩) (n_preS C hP hS [] rfl (by decide) rfl) rfl rfl hl.1 rfl (lv_room (Nat.le_of_ble_eq_true rfl)) dX0_home_19 ⟨Nat.le_of_ble_eq_true rfl, Nat.le_of_ble_eq_true rfl⟩) xW_av rfl rfl rfl (fun H locs hP hS => ?_)
    refine lv_bipush (v := (-6)) C.1 C.2.1 dX0_home_22 (by decide) ?_
    refine t_after [] C0 D hP P_nil hS (vx_runS (As := [.int r4, .int (-6)]) (rest := []) ⟨C.1, C.2.1, hml, C.2.2.1, C.2.2.2.1⟩ (metC_HW_need l hfl G ad pl H.size r4 (-6) _ (need_eq _ _)) (va_cwS 2 C.2.2.2.1 (lw_S q397 q398 q80 q399) rfl rfl rfl (by decide +kernel) ⟨Nat.le_of_ble_eq_true rfl, Nat.le_of_ble_eq_true rfl⟩) (rr_preS C D hP hS [] rfl (by decide) rfl) rfl rfl hl.1 rfl (lv_room (Nat.le_of_ble_eq_true rfl)) dX0_home_24 ⟨Nat.le_of_ble_eq_true rfl, Nat.le_of_ble_eq_true rfl⟩) xW_av rfl rfl rfl (fun hφ H locs hP _ hS => ?_) (fun w q H locs hw hq hc hP _ hS => ?_)
    · have hE := it_f (nd_n hφ) hE
      refine lv_aload_n C.1 C.2.1 dX0_home_27 rfl (lv_at hl 0 rfl) ?_
      refine xWg_0_6 q244 C hP dX0_home_28 ?_
      refine xWg_18_0 q182 C hP dX0_home_31 ?_
      refine lv_bipush (v := 8) C.1 C.2.1 dX0_home_34 (by decide) ?_
      obtain ⟨u8, hR, hE⟩ := it_b hE
      have hJ44u8 : ∀ (H : Heap) (locs : List Loc) (ls : Array Slot), va_P G.1 vwCl (xW G.2 ad v_latestFault v_died v_leastWeight v_noticedBy v_noticed v_orderDied v_orderLeast v_imaged v_shelves v_refusals v_ran v_bodies v_tweight v_tfright v_tage v_tasked v_told v_bestRow v_weight_a1 v_fright_a1 v_age_a1 v_asked_a1 v_weight_a2 v_fright_a2 v_age_a2 v_asked_a2 v_weight_a3 v_fright_a3 v_age_a3 v_asked_a3 v_weight_a4 v_fright_a4 v_age_a4 v_asked_a4 v_many v_pets v_last v_seed v_weight v_fright v_age v_asked v_homes v_marks v_had v_allergic v_deaths) H → va_S (tA sz (xWV ad) []) s.heap H locs → lv_has ls 4 [(0, .ref (ad 0)), (1, .int p1), (2, .int p2)] → W p l e ({ frames := 5, cells := 3, slots := 21, locals := 122 } : Room) s m args below meth c H locs 2 14 Q (F0 m 44 ls [.int u8]) := by
        intro H locs ls hP hS hl
        refine lv_bipush (v := (-7)) C.1 C.2.1 dX0_home_44 (by decide) ?_
        refine t_after [] C0 D hP P_nil hS (vx_runS (As := [.int u8, .int (-7)]) (rest := []) ⟨C.1, C.2.1, hml, C.2.2.1, C.2.2.2.1⟩ (metC_HW_need l hfl G ad pl H.size u8 (-7) _ (need_eq _ _)) (va_cwS 2 C.2.2.2.1 (lw_S q397 q398 q80 q399) rfl rfl rfl (by decide +kernel) ⟨Nat.le_of_ble_eq_true rfl, Nat.le_of_ble_eq_true rfl⟩) (rr_preS C D hP hS [] rfl (by decide) rfl) rfl rfl hl.1 rfl (lv_room (Nat.le_of_ble_eq_true rfl)) dX0_home_46 ⟨Nat.le_of_ble_eq_true rfl, Nat.le_of_ble_eq_true rfl⟩) xW_av rfl rfl rfl (fun hφ H locs hP _ hS => ?_) (fun w q H locs hw hq hc hP _ hS => ?_)
        · have hE := it_f (nd_n hφ) hE
          refine lv_aload_n C.1 C.2.1 dX0_home_49 rfl (lv_at hl 0 rfl) ?_
          refine xWg_0_6 q244 C hP dX0_home_50 ?_
          refine lv_iload_n C.1 C.2.1 dX0_home_53 rfl (lv_at hl 1 rfl) ?_
          refine lv_iload_n C.1 C.2.1 dX0_home_54 rfl (lv_at hl 2 rfl) ?_
          exact it_n hE
        · obtain ⟨c9, rfl⟩ := nd_x hw
          obtain ⟨q10, rfl⟩ : ∃ z, z = q := ⟨_, rfl⟩
          have hE := it_t c9 hE
          obtain ⟨ce, g1, g2, g3⟩ := t_cell C0 hc rfl
          refine t_catch (name := "HamsterWeekends$Refused") (E := "HamsterWeekends$Refused") C0 D [] ⟨0, 67, 68, 21⟩ [] htab (fun z hz => nomatch hz) rfl (by decide) q291 (List.mem_of_getElem? (i := 1) rfl) g1 g2 g3 ?_
          refine W.eq (g2 := F0 m 68 ls [.ref q10]) rfl ?_
          refine lv_astore_n (lv' := [(3, .ref q10), (0, .ref (ad 0)), (1, .int p1), (2, .int p2)]) C.1 C.2.1 dX0_home_68 rfl hl (by decide) rfl (fun ls hl => ?_)
          refine lv_aload_n C.1 C.2.1 dX0_home_69 rfl (lv_at hl 1 rfl) ?_
          refine lv_aload_n C.1 C.2.1 dX0_home_70 rfl (lv_at hl 0 rfl) ?_
          obtain ⟨r11, hr11, hE⟩ := it_b hE
          refine n_afterS C.2.2.2.2.2.2.2.1 hS (va_runV (As := [.ref q10]) (rest := []) ⟨C.1, C.2.1, hml, C.2.2.1, C.2.2.2.1⟩ (metC_HW_refused l G ad [(q10, .inr (18, xF (-7)))] _ _ _ _ _ _ _ _ _ _ _ _ _ _ _ _ _ _ _ _ _ _ _ _ _ _ _ _ _ _ _ _ _ _ _ _ _ _ _ _ _ _ _ _ _ _ _ q10 (-7) (List.mem_singleton.mpr rfl) r11 hr11) (cwV (C := RX0) 1 C.2.2.2.1 (lw_V q466 q468 qs2 q80 q469) rfl rfl rfl (by decide +kernel) ⟨Nat.le_of_ble_eq_true rfl, Nat.le_of_ble_eq_true rfl⟩) (t_preX C0 hP hc hq.1 (va_recv C.2.2.2.2.1 hP (ci := 16) (q0 := 0) rfl rfl)) rfl rfl hl.1 rfl (lv_room (Nat.le_of_ble_eq_true rfl)) dX0_home_71 ⟨Nat.le_of_ble_eq_true rfl, Nat.le_of_ble_eq_true rfl⟩) (fun H locs hP hS => ?_)
          obtain rfl := Option.some.inj hE
          exact hret _ _ _ _ dX0_home_74 trivial hP hS
      have hE := hR
      refine lv_icmp_ge (tgt := 43) C.1 C.2.1 dX0_home_36 (by decide) (fun c7 => ?_) (fun c7 => ?_)
      · have hE := it_t c7 hE
        refine lv_iconst (v := 0) C.1 C.2.1 dX0_home_43 (by decide) ?_
        obtain rfl := Option.some.inj hE
        exact hJ44u8 H locs ls hP hS (lv_sub hl [0, 1, 2] rfl)
      · have hE := it_f c7 hE
        refine lv_iconst (v := 1) C.1 C.2.1 dX0_home_39 (by decide) ?_
        refine lv_goto (tgt := 44) C.1 C.2.1 dX0_home_40 (by decide) ?_
        obtain rfl := Option.some.inj hE
        exact hJ44u8 H locs ls hP hS (lv_sub hl [0, 1, 2] rfl)
    · obtain ⟨c5, rfl⟩ := nd_x hw
      obtain ⟨q6, rfl⟩ : ∃ z, z = q := ⟨_, rfl⟩
      have hE := it_t c5 hE
      obtain ⟨ce, g1, g2, g3⟩ := t_cell C0 hc rfl
      refine t_catch (name := "HamsterWeekends$Refused") (E := "HamsterWeekends$Refused") C0 D [] ⟨0, 67, 68, 21⟩ [] htab (fun z hz => nomatch hz) rfl (by decide) q291 (List.mem_of_getElem? (i := 1) rfl) g1 g2 g3 ?_
      refine W.eq (g2 := F0 m 68 ls [.ref q6]) rfl ?_
      refine lv_astore_n (lv' := [(3, .ref q6), (0, .ref (ad 0)), (1, .int p1), (2, .int p2)]) C.1 C.2.1 dX0_home_68 rfl hl (by decide) rfl (fun ls hl => ?_)
      refine lv_aload_n C.1 C.2.1 dX0_home_69 rfl (lv_at hl 1 rfl) ?_
      refine lv_aload_n C.1 C.2.1 dX0_home_70 rfl (lv_at hl 0 rfl) ?_
      obtain ⟨r12, hr12, hE⟩ := it_b hE
      refine n_afterS C.2.2.2.2.2.2.2.1 hS (va_runV (As := [.ref q6]) (rest := []) ⟨C.1, C.2.1, hml, C.2.2.1, C.2.2.2.1⟩ (metC_HW_refused l G ad [(q6, .inr (18, xF (-6)))] _ _ _ _ _ _ _ _ _ _ _ _ _ _ _ _ _ _ _ _ _ _ _ _ _ _ _ _ _ _ _ _ _ _ _ _ _ _ _ _ _ _ _ _ _ _ _ q6 (-6) (List.mem_singleton.mpr rfl) r12 hr12) (cwV (C := RX0) 1 C.2.2.2.1 (lw_V q466 q468 qs2 q80 q469) rfl rfl rfl (by decide +kernel) ⟨Nat.le_of_ble_eq_true rfl, Nat.le_of_ble_eq_true rfl⟩) (t_preX C0 hP hc hq.1 (va_recv C.2.2.2.2.1 hP (ci := 16) (q0 := 0) rfl rfl)) rfl rfl hl.1 rfl (lv_room (Nat.le_of_ble_eq_true rfl)) dX0_home_71 ⟨Nat.le_of_ble_eq_true rfl, Nat.le_of_ble_eq_true rfl⟩) (fun H locs hP hS => ?_)
      obtain rfl := Option.some.inj hE
      refine W.widen (k := 3) (n := 21) (Nat.le_of_ble_eq_true rfl) (Nat.le_of_ble_eq_true rfl) ?_
      exact hret _ _ _ _ dX0_home_74 trivial hP hS
  · obtain ⟨c2, rfl⟩ := nd_x hw
    obtain ⟨q3, rfl⟩ : ∃ z, z = q := ⟨_, rfl⟩
    have hE := it_t c2 hE
    obtain ⟨ce, g1, g2, g3⟩ := t_cell C0 hc rfl
    refine t_catch (name := "HamsterWeekends$Refused") (E := "HamsterWeekends$Refused") C0 D [] ⟨0, 67, 68, 21⟩ [] htab (fun z hz => nomatch hz) rfl (by decide) q291 (List.mem_of_getElem? (i := 1) rfl) g1 g2 g3 ?_
    refine W.eq (g2 := F0 m 68 ls [.ref q3]) rfl ?_
    refine lv_astore_n (lv' := [(3, .ref q3), (0, .ref (ad 0)), (1, .int p1), (2, .int p2)]) C.1 C.2.1 dX0_home_68 rfl hl (by decide) rfl (fun ls hl => ?_)
    refine lv_aload_n C.1 C.2.1 dX0_home_69 rfl (lv_at hl 1 rfl) ?_
    refine lv_aload_n C.1 C.2.1 dX0_home_70 rfl (lv_at hl 0 rfl) ?_
    obtain ⟨r13, hr13, hE⟩ := it_b hE
    refine n_afterS C.2.2.2.2.2.2.2.1 hS (va_runV (As := [.ref q3]) (rest := []) ⟨C.1, C.2.1, hml, C.2.2.1, C.2.2.2.1⟩ (metC_HW_refused l G ad [(q3, .inr (18, xF (-1)))] _ _ _ _ _ _ _ _ _ _ _ _ _ _ _ _ _ _ _ _ _ _ _ _ _ _ _ _ _ _ _ _ _ _ _ _ _ _ _ _ _ _ _ _ _ _ _ q3 (-1) (List.mem_singleton.mpr rfl) r13 hr13) (cwV (C := RX0) 1 C.2.2.2.1 (lw_V q466 q468 qs2 q80 q469) rfl rfl rfl (by decide +kernel) ⟨Nat.le_of_ble_eq_true rfl, Nat.le_of_ble_eq_true rfl⟩) (t_preX C0 hP hc hq.1 (va_recv C.2.2.2.2.1 hP (ci := 16) (q0 := 0) rfl rfl)) rfl rfl hl.1 rfl (lv_room (Nat.le_of_ble_eq_true rfl)) dX0_home_71 ⟨Nat.le_of_ble_eq_true rfl, Nat.le_of_ble_eq_true rfl⟩) (fun H locs hP hS => ?_)
    obtain rfl := Option.some.inj hE
    refine W.widen (k := 3) (n := 21) (Nat.le_of_ble_eq_true rfl) (Nat.le_of_ble_eq_true rfl) ?_
    exact hret _ _ _ _ dX0_home_74 trivial hP hS
