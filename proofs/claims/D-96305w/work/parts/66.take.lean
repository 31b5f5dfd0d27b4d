set_option maxRecDepth 100000
theorem mg_rrW_ppW_1_9 {aT : Nat → ClassId} {ad : Nat → Nat} {v_many : Int32} {v_pets : Int32} {v_last : Int32} {v_seed : Int32} {v_weight : Int32} {v_fright : Int32} {v_age : Int32} {v_asked : Nat → Int32} {v_homes : Nat → Option Nat} {v_marks : Nat → Int32} {v_had : Nat → Int32} {v_allergic : Nat → Int32} {v_deaths : Nat → Int32} {v_many2 : Int32} {v_pets2 : Int32} {v_last2 : Int32} {v_seed2 : Int32} {v_weight2 : Int32} {v_fright2 : Int32} {v_age2 : Int32} {v_asked2 : Nat → Int32} {v_homes2 : Nat → Option Nat} {v_marks2 : Nat → Int32} {v_had2 : Nat → Int32} {v_allergic2 : Nat → Int32} {v_deaths2 : Nat → Int32} {u_weight : Int32} {u_fright : Int32} {u_age : Int32} {u_asked : Nat → Int32} {u_weight2 : Int32} {u_fright2 : Int32} {u_age2 : Int32} {u_asked2 : Nat → Int32} : mergeAt (rrW aT ad v_many v_pets v_last v_seed v_weight v_fright v_age v_asked v_homes v_marks v_had v_allergic v_deaths v_many2 v_pets2 v_last2 v_seed2 v_weight2 v_fright2 v_age2 v_asked2 v_homes2 v_marks2 v_had2 v_allergic2 v_deaths2) [1, 2, 9, 10] (ppW aT (fun i => ad (if i < 2 then 1 + i else 9 + (i - 2))) u_weight u_fright u_age u_asked u_weight2 u_fright2 u_age2 u_asked2) = (rrW aT ad v_many v_pets v_last v_seed u_weight u_fright u_age u_asked v_homes v_marks v_had v_allergic v_deaths v_many2 v_pets2 v_last2 v_seed2 u_weight2 u_fright2 u_age2 u_asked2 v_homes2 v_marks2 v_had2 v_allergic2 v_deaths2) := rfl
theorem sub_rrW_ppW_1_9 {aT : Nat → ClassId} {ad : Nat → Nat} {v_many : Int32} {v_pets : Int32} {v_last : Int32} {v_seed : Int32} {v_weight : Int32} {v_fright : Int32} {v_age : Int32} {v_asked : Nat → Int32} {v_homes : Nat → Option Nat} {v_marks : Nat → Int32} {v_had : Nat → Int32} {v_allergic : Nat → Int32} {v_deaths : Nat → Int32} {v_many2 : Int32} {v_pets2 : Int32} {v_last2 : Int32} {v_seed2 : Int32} {v_weight2 : Int32} {v_fright2 : Int32} {v_age2 : Int32} {v_asked2 : Nat → Int32} {v_homes2 : Nat → Option Nat} {v_marks2 : Nat → Int32} {v_had2 : Nat → Int32} {v_allergic2 : Nat → Int32} {v_deaths2 : Nat → Int32} : ([1, 2, 9, 10] : List Nat).filterMap (fun i => (rrW aT ad v_many v_pets v_last v_seed v_weight v_fright v_age v_asked v_homes v_marks v_had v_allergic v_deaths v_many2 v_pets2 v_last2 v_seed2 v_weight2 v_fright2 v_age2 v_asked2 v_homes2 v_marks2 v_had2 v_allergic2 v_deaths2)[i]?) = (ppW aT (fun i => ad (if i < 2 then 1 + i else 9 + (i - 2))) v_weight v_fright v_age v_asked v_weight2 v_fright2 v_age2 v_asked2) := rfl
def sC_Room_take (v_many : Int32) (v_pets : Int32) (v_last : Int32) (v_seed : Int32) (v_weight : Int32) (v_fright : Int32) (v_age : Int32) (v_asked : Nat → Int32) (v_homes : Nat → Option Nat) (v_marks : Nat → Int32) (v_had : Nat → Int32) (v_allergic : Nat → Int32) (v_deaths : Nat → Int32) (v_many2 : Int32) (v_pets2 : Int32) (v_last2 : Int32) (v_seed2 : Int32) (v_weight2 : Int32) (v_fright2 : Int32) (v_age2 : Int32) (v_asked2 : Nat → Int32) (v_homes2 : Nat → Option Nat) (v_marks2 : Nat → Int32) (v_had2 : Nat → Int32) (v_allergic2 : Nat → Int32) (v_deaths2 : Nat → Int32) (hk : Nat → Nat) (hb : Nat → Int32) : Option (Int32 × Int32 × Int32 × Int32 × Int32 × Int32 × Int32 × (Nat → Int32) × (Nat → Option Nat) × (Nat → Int32) × (Nat → Int32) × (Nat → Int32) × (Nat → Int32)) :=
  (sC_Pet_take v_weight v_fright v_age v_asked v_weight2 v_fright2 v_age2 v_asked2).bind fun r1 =>
  if ¬ v_many2 < 0 then
  if 0 + (v_many2).toNatClampNeg ≤ 8 then
  if 0 + (v_many2).toNatClampNeg ≤ 8 then
  if ¬ v_many2 < 0 then
  if 0 + (v_many2).toNatClampNeg ≤ 8 then
  if 0 + (v_many2).toNatClampNeg ≤ 8 then
  if ¬ v_many2 < 0 then
  if 0 + (v_many2).toNatClampNeg ≤ 8 then
  if 0 + (v_many2).toNatClampNeg ≤ 8 then
  if ¬ v_many2 < 0 then
  if 0 + (v_many2).toNatClampNeg ≤ 8 then
  if 0 + (v_many2).toNatClampNeg ≤ 8 then
  if ∀ i, i < (v_many2).toNatClampNeg → (v_allergic2 i = 0 ∨ v_allergic2 i = 1) then
  some (v_many2, v_pets2, v_last2, v_seed2, r1.1, r1.2.1, r1.2.2.1, r1.2.2.2, (va_cpy v_homes2 v_homes 0 0 (v_many2).toNatClampNeg), (va_cpy v_marks2 v_marks 0 0 (v_many2).toNatClampNeg), (va_cpy v_had2 v_had 0 0 (v_many2).toNatClampNeg), (va_cpy v_allergic2 v_allergic 0 0 (v_many2).toNatClampNeg), (va_cpy v_deaths2 v_deaths 0 0 3))
  else none
  else none
  else none
  else none
  else none
  else none
  else none
  else none
  else none
  else none
  else none
  else none
  else none
set_option maxHeartbeats 4000000 in
theorem metC_Room_take (l : Launch) (hfl : l.stackTraces = false) (G : kG) (ad : Nat → Nat) (pl : va_W) (hk : Nat → Nat) (hb : Nat → Int32) (sz : Nat) (v_many : Int32) (v_pets : Int32) (v_last : Int32) (v_seed : Int32) (v_weight : Int32) (v_fright : Int32) (v_age : Int32) (v_asked : Nat → Int32) (v_homes : Nat → Option Nat) (v_marks : Nat → Int32) (v_had : Nat → Int32) (v_allergic : Nat → Int32) (v_deaths : Nat → Int32) (v_many2 : Int32) (v_pets2 : Int32) (v_last2 : Int32) (v_seed2 : Int32) (v_weight2 : Int32) (v_fright2 : Int32) (v_age2 : Int32) (v_asked2 : Nat → Int32) (v_homes2 : Nat → Option Nat) (v_marks2 : Nat → Int32) (v_had2 : Nat → Int32) (v_allergic2 : Nat → Int32) (v_deaths2 : Nat → Int32) (hom : homOK v_homes2 v_many2 hk hb pl)  (res : Int32 × Int32 × Int32 × Int32 × Int32 × Int32 × Int32 × (Nat → Int32) × (Nat → Option Nat) × (Nat → Int32) × (Nat → Int32) × (Nat → Int32) × (Nat → Int32)) (hE : sC_Room_take v_many v_pets v_last v_seed v_weight v_fright v_age v_asked v_homes v_marks v_had v_allergic v_deaths v_many2 v_pets2 v_last2 v_seed2 v_weight2 v_fright2 v_age2 v_asked2 v_homes2 v_marks2 v_had2 v_allergic2 v_deaths2 hk hb = some res) : vx_Met l yX3_take (ws_ yX3_take cX3_take 2 (some (.object "HamsterWeekends$Room"))) ({ frames := 2, cells := 0, slots := 0, locals := 61 } : Room) (rPc G (rrW G.2 ad v_many v_pets v_last v_seed v_weight v_fright v_age v_asked v_homes v_marks v_had v_allergic v_deaths v_many2 v_pets2 v_last2 v_seed2 v_weight2 v_fright2 v_age2 v_asked2 v_homes2 v_marks2 v_had2 v_allergic2 v_deaths2) pl (rrWV ad) sz [.ref (ad 0), .ref (ad 8)]) (tQc G (rrW G.2 ad res.1 res.2.1 res.2.2.1 res.2.2.2.1 res.2.2.2.2.1 res.2.2.2.2.2.1 res.2.2.2.2.2.2.1 res.2.2.2.2.2.2.2.1 res.2.2.2.2.2.2.2.2.1 res.2.2.2.2.2.2.2.2.2.1 res.2.2.2.2.2.2.2.2.2.2.1 res.2.2.2.2.2.2.2.2.2.2.2.1 res.2.2.2.2.2.2.2.2.2.2.2.2 v_many2 v_pets2 v_last2 v_seed2 v_weight2 v_fright2 v_age2 v_asked2 v_homes2 v_marks2 v_had2 v_allergic2 v_deaths2) [] (tA sz (rrWV ad) []) (True) (some (.ref (ad 0)))) (tXC G (rrW G.2 ad res.1 res.2.1 res.2.2.1 res.2.2.2.1 res.2.2.2.2.1 res.2.2.2.2.2.1 res.2.2.2.2.2.2.1 res.2.2.2.2.2.2.2.1 res.2.2.2.2.2.2.2.2.1 res.2.2.2.2.2.2.2.2.2.1 res.2.2.2.2.2.2.2.2.2.2.1 res.2.2.2.2.2.2.2.2.2.2.2.1 res.2.2.2.2.2.2.2.2.2.2.2.2 v_many2 v_pets2 v_last2 v_seed2 v_weight2 v_fright2 v_age2 v_asked2 v_homes2 v_marks2 v_had2 v_allergic2 v_deaths2) [] (tA sz (rrWV ad) []) 18 RX6 none sz) 0 0 (tA sz (rrWV ad) []) := by
  refine r_ofW (own := RX3) (by decide) rfl (Nat.le_of_ble_eq_true rfl) ?_
  intro p e s m args below meth c ls C C0 D hml htab hP hS hl hr hlocks hsz
  have hl : lv_has ls 2 [(0, .ref (ad 0)), (1, .ref (ad 8))] := hl
  obtain ⟨Q, hQ⟩ : ∃ Q, Q = vx_MQ below (tQc G (rrW G.2 ad res.1 res.2.1 res.2.2.1 res.2.2.2.1 res.2.2.2.2.1 res.2.2.2.2.2.1 res.2.2.2.2.2.2.1 res.2.2.2.2.2.2.2.1 res.2.2.2.2.2.2.2.2.1 res.2.2.2.2.2.2.2.2.2.1 res.2.2.2.2.2.2.2.2.2.2.1 res.2.2.2.2.2.2.2.2.2.2.2.1 res.2.2.2.2.2.2.2.2.2.2.2.2 v_many2 v_pets2 v_last2 v_seed2 v_weight2 v_fright2 v_age2 v_asked2 v_homes2 v_marks2 v_had2 v_allergic2 v_deaths2) [] (tA sz (rrWV ad) []) (True) (some (.ref (ad 0)))) (tXC G (rrW G.2 ad res.1 res.2.1 res.2.2.1 res.2.2.2.1 res.2.2.2.2.1 res.2.2.2.2.2.1 res.2.2.2.2.2.2.1 res.2.2.2.2.2.2.2.1 res.2.2.2.2.2.2.2.2.1 res.2.2.2.2.2.2.2.2.2.1 res.2.2.2.2.2.2.2.2.2.2.1 res.2.2.2.2.2.2.2.2.2.2.2.1 res.2.2.2.2.2.2.2.2.2.2.2.2 v_many2 v_pets2 v_last2 v_seed2 v_weight2 v_fright2 v_age2 v_asked2 v_homes2 v_marks2 v_had2 v_allergic2 v_deaths2) [] (tA sz (rrWV ad) []) 18 RX6 none sz) args s 0 0 (tA sz (rrWV ad) []) := ⟨_, rfl⟩
  rw [← hQ]
  have hret : ∀ (pc : Nat) (ls : Array Slot) (H : Heap) (locs : List Loc), decode cX3_take pc = .ok (.areturn, 1) → True → va_P G.1 vwCl (rrW G.2 ad res.1 res.2.1 res.2.2.1 res.2.2.2.1 res.2.2.2.2.1 res.2.2.2.2.2.1 res.2.2.2.2.2.2.1 res.2.2.2.2.2.2.2.1 res.2.2.2.2.2.2.2.2.1 res.2.2.2.2.2.2.2.2.2.1 res.2.2.2.2.2.2.2.2.2.2.1 res.2.2.2.2.2.2.2.2.2.2.2.1 res.2.2.2.2.2.2.2.2.2.2.2.2 v_many2 v_pets2 v_last2 v_seed2 v_weight2 v_fright2 v_age2 v_asked2 v_homes2 v_marks2 v_had2 v_allergic2 v_deaths2) H → va_S (tA sz (rrWV ad) []) s.heap H locs → W p l e ({ frames := 2, cells := 0, slots := 0, locals := 61 } : Room) s m args below meth c H locs 0 0 Q (F0 m pc ls [(.ref (ad 0))]) := by
    intro pc ls H locs hd hφ hP hS
    rw [hQ]
    exact t_aret C0 hr (Or.inl ⟨_, rfl⟩) (Or.inr ⟨_, rfl⟩) hlocks hd hφ hP P_nil hS
  clear hQ
  obtain ⟨H, hH⟩ : ∃ H, H = s.heap := ⟨_, rfl⟩
  obtain ⟨locs, hlo⟩ : ∃ locs : List Loc, locs = [] := ⟨_, rfl⟩
  have hP : va_P G.1 vwCl (rrW G.2 ad v_many v_pets v_last v_seed v_weight v_fright v_age v_asked v_homes v_marks v_had v_allergic v_deaths v_many2 v_pets2 v_last2 v_seed2 v_weight2 v_fright2 v_age2 v_asked2 v_homes2 v_marks2 v_had2 v_allergic2 v_deaths2) H := by rw [hH]; exact hP
  have hS : va_S (tA sz (rrWV ad) []) s.heap H locs := by rw [hH, hlo]; exact hS
  suffices hZ : W p l e ({ frames := 2, cells := 0, slots := 0, locals := 61 } : Room) s m args below meth c H locs 0 0 Q (F0 m 0 ls []) by rw [hH, hlo] at hZ; exact hZ
  clear hH hlo
  unfold sC_Room_take at hE
  refine lv_aload_n C.1 C.2.1 dX3_take_0 rfl (lv_at hl 0 rfl) ?_
  refine lv_aload_n C.1 C.2.1 dX3_take_1 rfl (lv_at hl 1 rfl) ?_
  refine rrWg_8_0 q180 C hP dX3_take_2 ?_
  refine rrWp_0_0 q180 C hP hS dX3_take_5 (fun H locs hP hS => ?_)
  refine lv_aload_n C.1 C.2.1 dX3_take_8 rfl (lv_at hl 0 rfl) ?_
  refine lv_aload_n C.1 C.2.1 dX3_take_9 rfl (lv_at hl 1 rfl) ?_
  refine rrWg_8_1 q183 C hP dX3_take_10 ?_
  refine rrWp_0_1 q183 C hP hS dX3_take_13 (fun H locs hP hS => ?_)
  refine lv_aload_n C.1 C.2.1 dX3_take_16 rfl (lv_at hl 0 rfl) ?_
  refine lv_aload_n C.1 C.2.1 dX3_take_17 rfl (lv_at hl 1 rfl) ?_
  refine rrWg_8_2 q185 C hP dX3_take_18 ?_
  refine rrWp_0_2 q185 C hP hS dX3_take_21 (fun H locs hP hS => ?_)
  refine lv_aload_n C.1 C.2.1 dX3_take_24 rfl (lv_at hl 0 rfl) ?_
  refine lv_aload_n C.1 C.2.1 dX3_take_25 rfl (lv_at hl 1 rfl) ?_
  refine rrWg_8_3 q187 C hP dX3_take_26 ?_
  refine rrWp_0_3 q187 C hP hS dX3_take_29 (fun H locs hP hS => ?_)
  refine lv_aload_n C.1 C.2.1 dX3_take_32 rfl (lv_at hl 0 rfl) ?_
  refine rrWg_0_4 q189 C hP dX3_take_33 ?_
  refine lv_aload_n C.1 C.2.1 dX3_take_36 rfl (lv_at hl 1 rfl) ?_
  refine rrWg_8_4 q189 C hP dX3_take_37 ?_
  obtain ⟨r1, hr1, hE⟩ := it_b hE
  refine n_after [1, 2, 9, 10] C.2.2.2.2.2.1 C.2.2.2.2.2.2.2.1 hP hS (va_runV (As := [.ref (ad 9)]) (rest := []) ⟨C.1, C.2.1, hml, C.2.2.1, C.2.2.2.1⟩ (metC_Pet_take l G (fun i => ad (if i < 2 then 1 + i else 9 + (i - 2))) pl _ _ _ _ _ _ _ _   r1 hr1) (cwV (C := RX2) 1 C.2.2.2.1 (lw_V q795 q796 q797 q82 q798) rfl rfl rfl (by decide +kernel) ⟨Nat.le_of_ble_eq_true rfl, Nat.le_of_ble_eq_true rfl⟩) (n_preV C hP hS [1, 2, 9, 10] sub_rrW_ppW_1_9 (by decide) rfl (va_recv C.2.2.2.2.1 hP (ci := 11) (q0 := 1) rfl rfl)) rfl rfl hl.1 rfl (lv_room (Nat.le_of_ble_eq_true rfl)) dX3_take_40 ⟨Nat.le_of_ble_eq_true rfl, Nat.le_of_ble_eq_true rfl⟩) rrW_av rfl rfl mg_rrW_ppW_1_9 (fun H locs hP hS => ?_)
  refine lv_pop C.1 C.2.1 dX3_take_43 rfl ?_
  refine lv_aload_n C.1 C.2.1 dX3_take_44 rfl (lv_at hl 1 rfl) ?_
  refine rrWg_8_5 q192 C hP dX3_take_45 ?_
  refine lv_iconst (v := 0) C.1 C.2.1 dX3_take_48 (by decide) ?_
  refine lv_aload_n C.1 C.2.1 dX3_take_49 rfl (lv_at hl 0 rfl) ?_
  refine rrWg_0_5 q192 C hP dX3_take_50 ?_
  refine lv_iconst (v := 0) C.1 C.2.1 dX3_take_53 (by decide) ?_
  refine lv_aload_n C.1 C.2.1 dX3_take_54 rfl (lv_at hl 0 rfl) ?_
  refine rrWg_0_0 q180 C hP dX3_take_55 ?_
  obtain ⟨g2, hE⟩ := it_g hE
  obtain ⟨g3, hE⟩ := it_g hE
  obtain ⟨g4, hE⟩ := it_g hE
  refine va_copyM C.1 C.2.1 (by rw [hml]; exact hl.1.symm) C.2.2.1 (C.2.2.2.1 _ q800) (C.2.2.2.1 _ q553) (C.2.2.2.1 _ q552) (C.2.2.2.1 _ q100) C.2.2.2.2.1 hP (nD_of (nd_left C.2.2.2.2.2.1) C.2.2.2.2.2.2.2.1 rrW_av) hS 11 3 6 6 rfl rfl rfl rfl (by decide) (by decide) g2 g3 g4 (fun i hi y hy => by
    rw [show (0 : Int32).toNatClampNeg + i = i from Nat.zero_add i] at hy
    obtain ⟨q, e1, e2, e3⟩ := hom_nat hom hi
    cases (e1.symm.trans hy)
    exact any_home C.2.2.2.2.1 D.2.2.2.2 e3 (P_mem (pl_at C.2.2.2.2.2.2.2.2 C.2.2.2.2.2.2.1 hS) e2)) (Nat.le_of_ble_eq_true rfl) (Nat.le_of_ble_eq_true rfl) dX3_take_58 (fun H locs hP _ hS => ?_)
  refine lv_aload_n C.1 C.2.1 dX3_take_61 rfl (lv_at hl 1 rfl) ?_
  refine rrWg_8_6 q194 C hP dX3_take_62 ?_
  refine lv_iconst (v := 0) C.1 C.2.1 dX3_take_65 (by decide) ?_
  refine lv_aload_n C.1 C.2.1 dX3_take_66 rfl (lv_at hl 0 rfl) ?_
  refine rrWg_0_6 q194 C hP dX3_take_67 ?_
  refine lv_iconst (v := 0) C.1 C.2.1 dX3_take_70 (by decide) ?_
  refine lv_aload_n C.1 C.2.1 dX3_take_71 rfl (lv_at hl 0 rfl) ?_
  refine rrWg_0_0 q180 C hP dX3_take_72 ?_
  obtain ⟨g6, hE⟩ := it_g hE
  obtain ⟨g7, hE⟩ := it_g hE
  obtain ⟨g8, hE⟩ := it_g hE
  refine va_copyi C.1 C.2.1 (by rw [hml]; exact hl.1.symm) C.2.2.1 (C.2.2.2.1 _ q800) (C.2.2.2.1 _ q553) (C.2.2.2.1 _ q552) (C.2.2.2.1 _ q100) C.2.2.2.2.1 hP (nD_of (nd_left C.2.2.2.2.2.1) C.2.2.2.2.2.2.2.1 rrW_av) hS 12 4 0 0 rfl rfl rfl rfl rfl (by decide) (by decide) g6 g7 g8 (fun _ _ => rfl) (Nat.le_of_ble_eq_true rfl) (Nat.le_of_ble_eq_true rfl) dX3_take_75 (fun H locs hP _ hS => ?_)
  refine lv_aload_n C.1 C.2.1 dX3_take_78 rfl (lv_at hl 1 rfl) ?_
  refine rrWg_8_7 q197 C hP dX3_take_79 ?_
  refine lv_iconst (v := 0) C.1 C.2.1 dX3_take_82 (by decide) ?_
  refine lv_aload_n C.1 C.2.1 dX3_take_83 rfl (lv_at hl 0 rfl) ?_
  refine rrWg_0_7 q197 C hP dX3_take_84 ?_
  refine lv_iconst (v := 0) C.1 C.2.1 dX3_take_87 (by decide) ?_
  refine lv_aload_n C.1 C.2.1 dX3_take_88 rfl (lv_at hl 0 rfl) ?_
  refine rrWg_0_0 q180 C hP dX3_take_89 ?_
  obtain ⟨g9, hE⟩ := it_g hE
  obtain ⟨g10, hE⟩ := it_g hE
  obtain ⟨g11, hE⟩ := it_g hE
  refine va_copyi C.1 C.2.1 (by rw [hml]; exact hl.1.symm) C.2.2.1 (C.2.2.2.1 _ q800) (C.2.2.2.1 _ q553) (C.2.2.2.1 _ q552) (C.2.2.2.1 _ q100) C.2.2.2.2.1 hP (nD_of (nd_left C.2.2.2.2.2.1) C.2.2.2.2.2.2.2.1 rrW_av) hS 13 5 0 0 rfl rfl rfl rfl rfl (by decide) (by decide) g9 g10 g11 (fun _ _ => rfl) (Nat.le_of_ble_eq_true rfl) (Nat.le_of_ble_eq_true rfl) dX3_take_92 (fun H locs hP _ hS => ?_)
  refine lv_aload_n C.1 C.2.1 dX3_take_95 rfl (lv_at hl 1 rfl) ?_
  refine rrWg_8_8 q200 C hP dX3_take_96 ?_
  refine lv_iconst (v := 0) C.1 C.2.1 dX3_take_99 (by decide) ?_
  refine lv_aload_n C.1 C.2.1 dX3_take_100 rfl (lv_at hl 0 rfl) ?_
  refine rrWg_0_8 q200 C hP dX3_take_101 ?_
  refine lv_iconst (v := 0) C.1 C.2.1 dX3_take_104 (by decide) ?_
  refine lv_aload_n C.1 C.2.1 dX3_take_105 rfl (lv_at hl 0 rfl) ?_
  refine rrWg_0_0 q180 C hP dX3_take_106 ?_
  obtain ⟨g12, hE⟩ := it_g hE
  obtain ⟨g13, hE⟩ := it_g hE
  obtain ⟨g14, hE⟩ := it_g hE
  obtain ⟨g15, hE⟩ := it_g hE
  refine va_copyi C.1 C.2.1 (by rw [hml]; exact hl.1.symm) C.2.2.1 (C.2.2.2.1 _ q800) (C.2.2.2.1 _ q553) (C.2.2.2.1 _ q552) (C.2.2.2.1 _ q100) C.2.2.2.2.1 hP (nD_of (nd_left C.2.2.2.2.2.1) C.2.2.2.2.2.2.2.1 rrW_av) hS 14 6 2 2 rfl rfl rfl rfl rfl (by decide) (by decide) g12 g13 g14 (fun i hi => fitz (by
    rw [show (0 : Int32).toNatClampNeg + i = i from Nat.zero_add i]
    exact g15 i hi)) (Nat.le_of_ble_eq_true rfl) (Nat.le_of_ble_eq_true rfl) dX3_take_109 (fun H locs hP _ hS => ?_)
  refine lv_aload_n C.1 C.2.1 dX3_take_112 rfl (lv_at hl 1 rfl) ?_
  refine rrWg_8_9 q203 C hP dX3_take_113 ?_
  refine lv_iconst (v := 0) C.1 C.2.1 dX3_take_116 (by decide) ?_
  refine lv_aload_n C.1 C.2.1 dX3_take_117 rfl (lv_at hl 0 rfl) ?_
  refine rrWg_0_9 q203 C hP dX3_take_118 ?_
  refine lv_iconst (v := 0) C.1 C.2.1 dX3_take_121 (by decide) ?_
  refine lv_iconst (v := 3) C.1 C.2.1 dX3_take_122 (by decide) ?_
  refine va_copyi C.1 C.2.1 (by rw [hml]; exact hl.1.symm) C.2.2.1 (C.2.2.2.1 _ q800) (C.2.2.2.1 _ q553) (C.2.2.2.1 _ q552) (C.2.2.2.1 _ q100) C.2.2.2.2.1 hP (nD_of (nd_left C.2.2.2.2.2.1) C.2.2.2.2.2.2.2.1 rrW_av) hS 15 7 0 0 rfl rfl rfl rfl rfl (by decide) (by decide) (by decide) (by decide) (by decide) (fun _ _ => rfl) (Nat.le_of_ble_eq_true rfl) (Nat.le_of_ble_eq_true rfl) dX3_take_123 (fun H locs hP _ hS => ?_)
  refine lv_aload_n C.1 C.2.1 dX3_take_126 rfl (lv_at hl 0 rfl) ?_
  obtain rfl := Option.some.inj hE
  exact hret _ _ _ _ dX3_take_127 trivial hP hS
