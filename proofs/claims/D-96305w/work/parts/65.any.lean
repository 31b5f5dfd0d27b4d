set_option maxRecDepth 100000
theorem asg_self (vm : Vm) (c : ClassId) : vm.assignable c c = true := by
  show vm.assignableAux _ c c = true
  unfold Vm.assignableAux
  simp
theorem any_home {s : State} {G : kG} {H : Heap} {k q : Nat} {ix hby : Int32} (hK : mK G s) (hE : kE s) (h7 : k < 7) (ha : va_at G.1 vwCl (q, .inr (k, [.int ix, .int hby])) H) : va_Any "HamsterWeekends$Home" s H q := by
  match k, h7, ha with
  | 0, _, ha => exact va_rAny (q0 := 0) (r := (RX12, TX12, 2)) hK (P_one ha) rfl rfl (fun comp c0 h1 h2 => by cases Option.some.inj (h1.symm.trans h2); exact asg_self _ _)
  | 1, _, ha => exact va_rAny (q0 := 0) (r := (RX13, TX13, 2)) hK (P_one ha) rfl rfl (fun comp c0 h1 h2 => by
    obtain ⟨c3, c4, hc3, hc4, hasg⟩ := Cond.castable_spec (hE.1 _ (List.mem_of_getElem? (i := 14) rfl))
    cases Option.some.inj (hc3.symm.trans h2)
    cases Option.some.inj (hc4.symm.trans h1)
    exact hasg)
  | 2, _, ha => exact va_rAny (q0 := 0) (r := (RX14, TX14, 2)) hK (P_one ha) rfl rfl (fun comp c0 h1 h2 => by
    obtain ⟨c3, c4, hc3, hc4, hasg⟩ := Cond.castable_spec (hE.1 _ (List.mem_of_getElem? (i := 11) rfl))
    cases Option.some.inj (hc3.symm.trans h2)
    cases Option.some.inj (hc4.symm.trans h1)
    exact hasg)
  | 3, _, ha => exact va_rAny (q0 := 0) (r := (RX15, TX15, 2)) hK (P_one ha) rfl rfl (fun comp c0 h1 h2 => by
    obtain ⟨c3, c4, hc3, hc4, hasg⟩ := Cond.castable_spec (hE.1 _ (List.mem_of_getElem? (i := 15) rfl))
    cases Option.some.inj (hc3.symm.trans h2)
    cases Option.some.inj (hc4.symm.trans h1)
    exact hasg)
  | 4, _, ha => exact va_rAny (q0 := 0) (r := (RX16, TX16, 2)) hK (P_one ha) rfl rfl (fun comp c0 h1 h2 => by
    obtain ⟨c3, c4, hc3, hc4, hasg⟩ := Cond.castable_spec (hE.1 _ (List.mem_of_getElem? (i := 13) rfl))
    cases Option.some.inj (hc3.symm.trans h2)
    cases Option.some.inj (hc4.symm.trans h1)
    exact hasg)
  | 5, _, ha => exact va_rAny (q0 := 0) (r := (RX17, TX17, 2)) hK (P_one ha) rfl rfl (fun comp c0 h1 h2 => by
    obtain ⟨c3, c4, hc3, hc4, hasg⟩ := Cond.castable_spec (hE.1 _ (List.mem_of_getElem? (i := 12) rfl))
    cases Option.some.inj (hc3.symm.trans h2)
    cases Option.some.inj (hc4.symm.trans h1)
    exact hasg)
  | 6, _, ha => exact va_rAny (q0 := 0) (r := (RX18, TX18, 2)) hK (P_one ha) rfl rfl (fun comp c0 h1 h2 => by
    obtain ⟨c3, c4, hc3, hc4, hasg⟩ := Cond.castable_spec (hE.1 _ (List.mem_of_getElem? (i := 10) rfl))
    cases Option.some.inj (hc3.symm.trans h2)
    cases Option.some.inj (hc4.symm.trans h1)
    exact hasg)
  | k + 7, h7, _ => exact absurd h7 (by omega)
theorem hkd_lt (k : Int32) : hkd k < 7 := by
  unfold hkd
  repeat' split
  all_goals decide
theorem toNat_ofNat {i : Nat} (h : i < 2 ^ 31) : (Int32.ofNat i).toInt = (i : Int) ∧ (Int32.ofNat i).toNatClampNeg = i := by
  have h1 : (Int32.ofNat i).toInt = (i : Int) := Int32.toInt_ofNat_of_lt h
  refine ⟨h1, ?_⟩
  show (Int32.ofNat i).toInt.toNat = i
  rw [h1]
  rfl
theorem hom_nat {hs : Nat → Option Nat} {many : Int32} {hk : Nat → Nat} {hb : Nat → Int32} {pl : va_W} (hom : homOK hs many hk hb pl) {i : Nat} (hi : i < many.toNatClampNeg) : ∃ q, hs i = some q ∧ (q, .inr (hk i, [.int (Int32.ofNat i), .int (hb i)])) ∈ pl ∧ hk i < 7 := by
  have h0 : many.toNatClampNeg = many.toInt.toNat := rfl
  have h2 : many.toInt < 2 ^ 31 := many.toInt_lt
  have h31 : i < 2 ^ 31 := by omega
  have h3 := toNat_ofNat h31
  obtain ⟨q, e1, e2, e3⟩ := hom (Int32.ofNat i) ⟨by rw [h3.1]; omega, by rw [h3.1]; omega⟩
  rw [h3.2] at e1 e2 e3
  exact ⟨q, e1, e2, e3⟩
theorem fitz {x : Int32} (h : x = 0 ∨ x = 1) : fits .boolean (.int x) = true := by
  rcases h with h | h <;> subst h <;> rfl
set_option maxHeartbeats 4000000 in
theorem metC_Room_addHome (l : Launch) (G : kG) (ad : Nat → Nat) (pl : va_W) (sz : Nat) (v_many : Int32) (v_pets : Int32) (v_last : Int32) (v_seed : Int32) (v_weight : Int32) (v_fright : Int32) (v_age : Int32) (v_asked : Nat → Int32) (v_homes : Nat → Option Nat) (v_marks : Nat → Int32) (v_had : Nat → Int32) (v_allergic : Nat → Int32) (v_deaths : Nat → Int32) (p1 p2 : Int32) (h8 : gi v_many 8) : vx_Met l yX3_addHome (ws_ yX3_addHome cX3_addHome 3 none) ({ frames := 6, cells := 1, slots := 2, locals := 130 } : Room) (rPc G (rW G.2 ad v_many v_pets v_last v_seed v_weight v_fright v_age v_asked v_homes v_marks v_had v_allergic v_deaths) pl (rWV ad) sz [.ref (ad 0), .int p1, .int p2]) (uQ G (fun q => (rW G.2 ad (v_many + 1) v_pets v_last v_seed v_weight v_fright v_age v_asked (va_up v_homes v_many.toNatClampNeg (some q)) (upd v_marks v_many.toNatClampNeg 0) (upd v_had v_many.toNatClampNeg 0) (upd v_allergic v_many.toNatClampNeg 0) v_deaths) ++ [(q, .inr (hkd p1, [.int v_many, .int p2]))]) (tA sz (rWV ad) []) sz none) (fun _ _ _ _ => False) 1 2 (tA sz (rWV ad) []) := by
  refine r_ofW (own := RX3) (by decide) rfl (Nat.le_of_ble_eq_true rfl) ?_
  intro p e s m args below meth c ls C C0 D hml htab hP hS hl hr hlocks hsz
  have hl : lv_has ls 3 [(0, .ref (ad 0)), (1, .int p1), (2, .int p2)] := hl
  obtain ⟨H, hH⟩ : ∃ H, H = s.heap := ⟨_, rfl⟩
  have hold : ∀ a, a ∈ rWV ad → a < H.size := fun a ha => by rw [hH]; exact P_lt hP ha
  obtain ⟨locs, hlo⟩ : ∃ locs : List Loc, locs = [] := ⟨_, rfl⟩
  have hP : va_P G.1 vwCl (rW G.2 ad v_many v_pets v_last v_seed v_weight v_fright v_age v_asked v_homes v_marks v_had v_allergic v_deaths) H := by rw [hH]; exact hP
  have hS : va_S (tA sz (rWV ad) []) s.heap H locs := by rw [hH, hlo]; exact hS
  have hH0 : H.size = sz := by rw [hH]; exact hsz
  suffices hZ : W p l e ({ frames := 6, cells := 1, slots := 2, locals := 130 } : Room) s m args below meth c H locs 0 0 _ (F0 m 0 ls []) by rw [hH, hlo] at hZ; exact hZ
  clear hH hlo
  refine lv_aload_n C.1 C.2.1 dX3_addHome_0 rfl (lv_at hl 0 rfl) ?_
  refine rWg_0_5 q192 C hP dX3_addHome_1 ?_
  refine lv_aload_n C.1 C.2.1 dX3_addHome_4 rfl (lv_at hl 0 rfl) ?_
  refine rWg_0_0 q180 C hP dX3_addHome_5 ?_
  refine lv_iload_n C.1 C.2.1 dX3_addHome_8 rfl (lv_at hl 1 rfl) ?_
  refine lv_aload_n C.1 C.2.1 dX3_addHome_9 rfl (lv_at hl 0 rfl) ?_
  refine rWg_0_0 q180 C hP dX3_addHome_10 ?_
  refine lv_iload_n C.1 C.2.1 dX3_addHome_13 rfl (lv_at hl 2 rfl) ?_
  refine r_hok C D hml hl.1 hS q653 ⟨Nat.le_of_ble_eq_true rfl, Nat.le_of_ble_eq_true rfl, Nat.le_of_ble_eq_true rfl, Nat.le_of_ble_eq_true rfl⟩ (Nat.le_of_ble_eq_true rfl) dX3_addHome_14 (fun q H1 locs hq hc hk hS => ?_)
  have hP : va_P G.1 vwCl (rW G.2 ad v_many v_pets v_last v_seed v_weight v_fright v_age v_asked v_homes v_marks v_had v_allergic v_deaths) H1 := P_kept hP (fun a _ hlt => hk a hlt)
  have hqs : sz ≤ q := by omega
  have hPP : va_P G.1 vwCl ((rW G.2 ad v_many v_pets v_last v_seed v_weight v_fright v_age v_asked v_homes v_marks v_had v_allergic v_deaths) ++ [(q, .inr (hkd p1, [.int v_many, .int p2]))]) H1 := hP.app hc
  have hDD : va_D (tA sz (rWV ad) []) ((rW G.2 ad v_many v_pets v_last v_seed v_weight v_fright v_age v_asked v_homes v_marks v_had v_allergic v_deaths) ++ [(q, .inr (hkd p1, [.int v_many, .int p2]))]) := by
    refine va_D_of ?_ ?_
    · rw [List.map_append]
      refine List.nodup_append.mpr ⟨nd_left C.2.2.2.2.2.1, by simp, fun a ha b hb => ?_⟩
      have hb := List.mem_singleton.mp hb
      have hlt : a < H.size := by
        exact hold a ha
      intro e
      rw [hb] at e
      subst e
      exact absurd hlt (by omega)
    · intro z hz
      rw [List.map_append] at hz
      rcases List.mem_append.mp hz with h | h
      · exact Or.inl h
      · exact Or.inr (Or.inr (by rw [List.mem_singleton.mp h]; exact hqs))
  refine va_astqM C.1 C.2.1 C.2.2.2.2.1 hPP hDD hS 3 6 rfl rfl (any_home C.2.2.2.2.1 D.2.2.2.2 (hkd_lt p1) (hc 0 _ rfl)) (gi_in h8) dX3_addHome_17 (fun H locs hPP hDD hS => ?_)
  have hPP : va_P G.1 vwCl ((rW G.2 ad v_many v_pets v_last v_seed v_weight v_fright v_age v_asked (va_up v_homes v_many.toNatClampNeg (some q)) v_marks v_had v_allergic v_deaths) ++ [(q, .inr (hkd p1, [.int v_many, .int p2]))]) H := hPP
  have hDD : va_D (tA sz (rWV ad) []) ((rW G.2 ad v_many v_pets v_last v_seed v_weight v_fright v_age v_asked (va_up v_homes v_many.toNatClampNeg (some q)) v_marks v_had v_allergic v_deaths) ++ [(q, .inr (hkd p1, [.int v_many, .int p2]))]) := hDD
  refine lv_aload_n C.1 C.2.1 dX3_addHome_18 rfl (lv_at hl 0 rfl) ?_
  refine rWg_0_6 q194 C (P_left hPP) dX3_addHome_19 ?_
  refine lv_aload_n C.1 C.2.1 dX3_addHome_22 rfl (lv_at hl 0 rfl) ?_
  refine rWg_0_0 q180 C (P_left hPP) dX3_addHome_23 ?_
  refine lv_iconst (v := 0) C.1 C.2.1 dX3_addHome_26 (by decide) ?_
  refine va_iast C.1 C.2.1 C.2.2.2.2.1 hPP hDD hS 4 0 rfl rfl (gi_in h8) dX3_addHome_27 (fun H locs hPP hDD hS => ?_)
  have hPP : va_P G.1 vwCl ((rW G.2 ad v_many v_pets v_last v_seed v_weight v_fright v_age v_asked (va_up v_homes v_many.toNatClampNeg (some q)) (upd v_marks v_many.toNatClampNeg 0) v_had v_allergic v_deaths) ++ [(q, .inr (hkd p1, [.int v_many, .int p2]))]) H := hPP
  have hDD : va_D (tA sz (rWV ad) []) ((rW G.2 ad v_many v_pets v_last v_seed v_weight v_fright v_age v_asked (va_up v_homes v_many.toNatClampNeg (some q)) (upd v_marks v_many.toNatClampNeg 0) v_had v_allergic v_deaths) ++ [(q, .inr (hkd p1, [.int v_many, .int p2]))]) := hDD
  refine lv_aload_n C.1 C.2.1 dX3_addHome_28 rfl (lv_at hl 0 rfl) ?_
  refine rWg_0_7 q197 C (P_left hPP) dX3_addHome_29 ?_
  refine lv_aload_n C.1 C.2.1 dX3_addHome_32 rfl (lv_at hl 0 rfl) ?_
  refine rWg_0_0 q180 C (P_left hPP) dX3_addHome_33 ?_
  refine lv_iconst (v := 0) C.1 C.2.1 dX3_addHome_36 (by decide) ?_
  refine va_iast C.1 C.2.1 C.2.2.2.2.1 hPP hDD hS 5 0 rfl rfl (gi_in h8) dX3_addHome_37 (fun H locs hPP hDD hS => ?_)
  have hPP : va_P G.1 vwCl ((rW G.2 ad v_many v_pets v_last v_seed v_weight v_fright v_age v_asked (va_up v_homes v_many.toNatClampNeg (some q)) (upd v_marks v_many.toNatClampNeg 0) (upd v_had v_many.toNatClampNeg 0) v_allergic v_deaths) ++ [(q, .inr (hkd p1, [.int v_many, .int p2]))]) H := hPP
  have hDD : va_D (tA sz (rWV ad) []) ((rW G.2 ad v_many v_pets v_last v_seed v_weight v_fright v_age v_asked (va_up v_homes v_many.toNatClampNeg (some q)) (upd v_marks v_many.toNatClampNeg 0) (upd v_had v_many.toNatClampNeg 0) v_allergic v_deaths) ++ [(q, .inr (hkd p1, [.int v_many, .int p2]))]) := hDD
  refine lv_aload_n C.1 C.2.1 dX3_addHome_38 rfl (lv_at hl 0 rfl) ?_
  refine rWg_0_8 q200 C (P_left hPP) dX3_addHome_39 ?_
  refine lv_aload_n C.1 C.2.1 dX3_addHome_42 rfl (lv_at hl 0 rfl) ?_
  refine rWg_0_0 q180 C (P_left hPP) dX3_addHome_43 ?_
  refine lv_iconst (v := 0) C.1 C.2.1 dX3_addHome_46 (by decide) ?_
  refine va_zast C.1 C.2.1 C.2.2.2.2.1 hPP hDD hS 6 2 rfl rfl (gi_in h8) dX3_addHome_47 (fun H locs hPP hDD hS => ?_)
  have hPP : va_P G.1 vwCl ((rW G.2 ad v_many v_pets v_last v_seed v_weight v_fright v_age v_asked (va_up v_homes v_many.toNatClampNeg (some q)) (upd v_marks v_many.toNatClampNeg 0) (upd v_had v_many.toNatClampNeg 0) (upd v_allergic v_many.toNatClampNeg 0) v_deaths) ++ [(q, .inr (hkd p1, [.int v_many, .int p2]))]) H := hPP
  have hDD : va_D (tA sz (rWV ad) []) ((rW G.2 ad v_many v_pets v_last v_seed v_weight v_fright v_age v_asked (va_up v_homes v_many.toNatClampNeg (some q)) (upd v_marks v_many.toNatClampNeg 0) (upd v_had v_many.toNatClampNeg 0) (upd v_allergic v_many.toNatClampNeg 0) v_deaths) ++ [(q, .inr (hkd p1, [.int v_many, .int p2]))]) := hDD
  refine lv_aload_n C.1 C.2.1 dX3_addHome_48 rfl (lv_at hl 0 rfl) ?_
  refine lv_dup C.1 C.2.1 dX3_addHome_49 rfl ?_
  refine rWg_0_0 q180 C (P_left hPP) dX3_addHome_50 ?_
  refine lv_iconst (v := 1) C.1 C.2.1 dX3_addHome_53 (by decide) ?_
  refine lv_iadd C.1 C.2.1 dX3_addHome_54 ?_
  refine va_put (D := G.1) (ci := 12) (v := .int (v_many + 1)) (ty := .int) (C := RX3) (T := TX3) (N := 10) C.1 C.2.1 C.2.2.2.1 in_X3 tyX3 tyX3_ok nmX3 C.2.2.1 C.2.2.2.2.1 hPP hDD hS 0 rfl rfl 0 (by decide) (C.2.2.2.1 _ q180) (fun _ h => h) rfl (by decide +kernel) rfl rfl (Nat.le_of_ble_eq_true rfl) dX3_addHome_55 (fun H locs hPP hDD hS => ?_)
  exact vx_ret (W.vret C.1 C.2.1 hr (fun t ht hW => ⟨rfl, ⟨q, hqs, by rw [ht]; exact hPP⟩, hS.F ht⟩) hS.2.2 dX3_addHome_58 hlocks)
