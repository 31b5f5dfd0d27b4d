set_option maxRecDepth 100000
def sC_Good_more_1 (ix : Int32) (hby : Int32) : Option (Int32) :=
  some hby
set_option maxHeartbeats 4000000 in
theorem metC_Good_more_1 (l : Launch) (G : kG) (ad : Nat → Nat) (pl : va_W)  (q : Nat) (ix : Int32) (hby : Int32) (hq : (q, .inr (1, [.int ix, .int hby])) ∈ pl) (res : Int32) (hE : sC_Good_more_1 ix hby = some res) : Met l yX13_more (ws_ yX13_more cX13_more 1 (some .int)) ({ frames := 0, cells := 0, slots := 0, locals := 0 } : Room) (nPc G [] pl [] [.ref q]) (nQc G [] [] (some (.int res))) 0 0 (nA []) := by
  refine n_ofW (own := RX13) (by decide) rfl (Nat.le_of_ble_eq_true rfl) ?_
  intro p e s m args below meth c ls C hml hP hS hl hr hlocks
  have hl : lv_has ls 1 [(0, .ref q)] := hl
  obtain ⟨Q, hQ⟩ : ∃ Q, Q = MQ below (nQc G [] [] (some (.int res))) args s 0 0 (nA []) := ⟨_, rfl⟩
  rw [← hQ]
  have hret : ∀ (pc : Nat) (ls : Array Slot) (H : Heap) (locs : List Loc), decode cX13_more pc = .ok (.ireturn, 1) → va_P G.1 vwCl [] H → va_S (nA []) s.heap H locs → W p l e ({ frames := 0, cells := 0, slots := 0, locals := 0 } : Room) s m args below meth c H locs 0 0 Q (F0 m pc ls [(.int res)]) := by
    intro pc ls H locs hd hP hS
    rw [hQ]
    exact n_iret C hr hlocks hd hP hS
  clear hQ
  obtain ⟨H, hH⟩ : ∃ H, H = s.heap := ⟨_, rfl⟩
  obtain ⟨locs, hlo⟩ : ∃ locs : List Loc, locs = [] := ⟨_, rfl⟩
  have hP : va_P G.1 vwCl [] H := by rw [hH]; exact hP
  have hS : va_S (nA []) s.heap H locs := by rw [hH, hlo]; exact hS
  suffices hZ : W p l e ({ frames := 0, cells := 0, slots := 0, locals := 0 } : Room) s m args below meth c H locs 0 0 Q (F0 m 0 ls []) by rw [hH, hlo] at hZ; exact hZ
  clear hH hlo
  unfold sC_Good_more_1 at hE
  refine lv_aload_n C.1 C.2.1 dX13_more_0 rfl (lv_at hl 0 rfl) ?_
  refine h_get (j := 1) C hS hq (show vwCl[1]? = some (RX13, TX13, 2) from rfl) in_X13 (by decide) rfl rfl rfl q671 (Or.inr q672) rfl dX13_more_1 ?_
  obtain rfl := Option.some.inj hE
  exact hret _ _ _ _ dX13_more_4 hP hS
def sC_Good_more_3 (ix : Int32) (hby : Int32) : Option (Int32) :=
  some hby
set_option maxHeartbeats 4000000 in
theorem metC_Good_more_3 (l : Launch) (G : kG) (ad : Nat → Nat) (pl : va_W)  (q : Nat) (ix : Int32) (hby : Int32) (hq : (q, .inr (3, [.int ix, .int hby])) ∈ pl) (res : Int32) (hE : sC_Good_more_3 ix hby = some res) : Met l yX13_more (ws_ yX13_more cX13_more 1 (some .int)) ({ frames := 0, cells := 0, slots := 0, locals := 0 } : Room) (nPc G [] pl [] [.ref q]) (nQc G [] [] (some (.int res))) 0 0 (nA []) := by
  refine n_ofW (own := RX13) (by decide) rfl (Nat.le_of_ble_eq_true rfl) ?_
  intro p e s m args below meth c ls C hml hP hS hl hr hlocks
  have hl : lv_has ls 1 [(0, .ref q)] := hl
  obtain ⟨Q, hQ⟩ : ∃ Q, Q = MQ below (nQc G [] [] (some (.int res))) args s 0 0 (nA []) := ⟨_, rfl⟩
  rw [← hQ]
  have hret : ∀ (pc : Nat) (ls : Array Slot) (H : Heap) (locs : List Loc), decode cX13_more pc = .ok (.ireturn, 1) → va_P G.1 vwCl [] H → va_S (nA []) s.heap H locs → W p l e ({ frames := 0, cells := 0, slots := 0, locals := 0 } : Room) s m args below meth c H locs 0 0 Q (F0 m pc ls [(.int res)]) := by
    intro pc ls H locs hd hP hS
    rw [hQ]
    exact n_iret C hr hlocks hd hP hS
  clear hQ
  obtain ⟨H, hH⟩ : ∃ H, H = s.heap := ⟨_, rfl⟩
  obtain ⟨locs, hlo⟩ : ∃ locs : List Loc, locs = [] := ⟨_, rfl⟩
  have hP : va_P G.1 vwCl [] H := by rw [hH]; exact hP
  have hS : va_S (nA []) s.heap H locs := by rw [hH, hlo]; exact hS
  suffices hZ : W p l e ({ frames := 0, cells := 0, slots := 0, locals := 0 } : Room) s m args below meth c H locs 0 0 Q (F0 m 0 ls []) by rw [hH, hlo] at hZ; exact hZ
  clear hH hlo
  unfold sC_Good_more_3 at hE
  refine lv_aload_n C.1 C.2.1 dX13_more_0 rfl (lv_at hl 0 rfl) ?_
  refine h_get (j := 1) C hS hq (show vwCl[3]? = some (RX15, TX15, 2) from rfl) in_X15 (by decide) rfl rfl rfl q671 (Or.inr q672) rfl dX13_more_1 ?_
  obtain rfl := Option.some.inj hE
  exact hret _ _ _ _ dX13_more_4 hP hS
def sC_Overfed_more_3 (ix : Int32) (hby : Int32) : Option (Int32) :=
  (sC_Good_more_3 ix hby).bind fun r1 =>
  some ((2 * r1) + 3)
set_option maxHeartbeats 4000000 in
theorem metC_Overfed_more_3 (l : Launch) (G : kG) (ad : Nat → Nat) (pl : va_W)  (q : Nat) (ix : Int32) (hby : Int32) (hq : (q, .inr (3, [.int ix, .int hby])) ∈ pl) (res : Int32) (hE : sC_Overfed_more_3 ix hby = some res) : Met l yX15_more (ws_ yX15_more cX15_more 1 (some .int)) ({ frames := 1, cells := 0, slots := 0, locals := 20 } : Room) (nPc G [] pl [] [.ref q]) (nQc G [] [] (some (.int res))) 0 0 (nA []) := by
  refine n_ofW (own := RX15) (by decide) rfl (Nat.le_of_ble_eq_true rfl) ?_
  intro p e s m args below meth c ls C hml hP hS hl hr hlocks
  have hl : lv_has ls 1 [(0, .ref q)] := hl
  obtain ⟨Q, hQ⟩ : ∃ Q, Q = MQ below (nQc G [] [] (some (.int res))) args s 0 0 (nA []) := ⟨_, rfl⟩
  rw [← hQ]
  have hret : ∀ (pc : Nat) (ls : Array Slot) (H : Heap) (locs : List Loc), decode cX15_more pc = .ok (.ireturn, 1) → va_P G.1 vwCl [] H → va_S (nA []) s.heap H locs → W p l e ({ frames := 1, cells := 0, slots := 0, locals := 20 } : Room) s m args below meth c H locs 0 0 Q (F0 m pc ls [(.int res)]) := by
    intro pc ls H locs hd hP hS
    rw [hQ]
    exact n_iret C hr hlocks hd hP hS
  clear hQ
  obtain ⟨H, hH⟩ : ∃ H, H = s.heap := ⟨_, rfl⟩
  obtain ⟨locs, hlo⟩ : ∃ locs : List Loc, locs = [] := ⟨_, rfl⟩
  have hP : va_P G.1 vwCl [] H := by rw [hH]; exact hP
  have hS : va_S (nA []) s.heap H locs := by rw [hH, hlo]; exact hS
  suffices hZ : W p l e ({ frames := 1, cells := 0, slots := 0, locals := 20 } : Room) s m args below meth c H locs 0 0 Q (F0 m 0 ls []) by rw [hH, hlo] at hZ; exact hZ
  clear hH hlo
  unfold sC_Overfed_more_3 at hE
  refine lv_iconst (v := 2) C.1 C.2.1 dX15_more_0 (by decide) ?_
  refine lv_aload_n C.1 C.2.1 dX15_more_1 rfl (lv_at hl 0 rfl) ?_
  obtain ⟨r1, hr1, hE⟩ := it_b hE
  refine n_afterS C.2.2.2.2.2.2.2.1 hS (va_runSU (As := []) (rest := [.int 2]) (C.2.2.2.2.1.1 3 _ rfl).2 ⟨C.1, C.2.1, hml, C.2.2.1, C.2.2.2.1⟩ (metC_Good_more_3 l G ad pl  q ix hby hq r1 hr1) (va_cwSU 0 C.2.2.2.1 (lw_SU q609 q605 q610 q603 q103 q611) rfl rfl rfl (by decide +kernel) ⟨Nat.le_of_ble_eq_true rfl, Nat.le_of_ble_eq_true rfl⟩) (n_preV0 C hP hS (n_recvH C hS hq rfl)) rfl rfl hl.1 rfl (lv_room (Nat.le_of_ble_eq_true rfl)) dX15_more_2 ⟨Nat.le_refl _, Nat.le_refl _⟩) (fun H locs hP hS => ?_)
  refine lv_imul C.1 C.2.1 dX15_more_5 ?_
  refine lv_iconst (v := 3) C.1 C.2.1 dX15_more_6 (by decide) ?_
  refine lv_iadd C.1 C.2.1 dX15_more_7 ?_
  obtain rfl := Option.some.inj hE
  exact hret _ _ _ _ dX15_more_8 hP hS
def sC_Cat_frightens_2 (ix : Int32) (hby : Int32) (p1 : Int32) : Option (Int32) :=
  some (imin 99 ((p1 + 10) + hby))
set_option maxHeartbeats 4000000 in
theorem metC_Cat_frightens_2 (l : Launch) (G : kG) (ad : Nat → Nat) (pl : va_W)  (q : Nat) (ix : Int32) (hby : Int32) (p1 : Int32) (hq : (q, .inr (2, [.int ix, .int hby])) ∈ pl) (res : Int32) (hE : sC_Cat_frightens_2 ix hby p1 = some res) : Met l yX14_frightens (ws_ yX14_frightens cX14_frightens 2 (some .int)) ({ frames := 1, cells := 0, slots := 0, locals := 21 } : Room) (nPc G [] pl [] [.ref q, .int p1]) (nQc G [] [] (some (.int res))) 0 0 (nA []) := by
  refine n_ofW (own := RX14) (by decide) rfl (Nat.le_of_ble_eq_true rfl) ?_
  intro p e s m args below meth c ls C hml hP hS hl hr hlocks
  have hl : lv_has ls 2 [(0, .ref q), (1, .int p1)] := hl
  obtain ⟨Q, hQ⟩ : ∃ Q, Q = MQ below (nQc G [] [] (some (.int res))) args s 0 0 (nA []) := ⟨_, rfl⟩
  rw [← hQ]
  have hret : ∀ (pc : Nat) (ls : Array Slot) (H : Heap) (locs : List Loc), decode cX14_frightens pc = .ok (.ireturn, 1) → va_P G.1 vwCl [] H → va_S (nA []) s.heap H locs → W p l e ({ frames := 1, cells := 0, slots := 0, locals := 21 } : Room) s m args below meth c H locs 0 0 Q (F0 m pc ls [(.int res)]) := by
    intro pc ls H locs hd hP hS
    rw [hQ]
    exact n_iret C hr hlocks hd hP hS
  clear hQ
  obtain ⟨H, hH⟩ : ∃ H, H = s.heap := ⟨_, rfl⟩
  obtain ⟨locs, hlo⟩ : ∃ locs : List Loc, locs = [] := ⟨_, rfl⟩
  have hP : va_P G.1 vwCl [] H := by rw [hH]; exact hP
  have hS : va_S (nA []) s.heap H locs := by rw [hH, hlo]; exact hS
  suffices hZ : W p l e ({ frames := 1, cells := 0, slots := 0, locals := 21 } : Room) s m args below meth c H locs 0 0 Q (F0 m 0 ls []) by rw [hH, hlo] at hZ; exact hZ
  clear hH hlo
  unfold sC_Cat_frightens_2 at hE
  refine lv_bipush (v := 99) C.1 C.2.1 dX14_frightens_0 (by decide) ?_
  refine lv_iload_n C.1 C.2.1 dX14_frightens_2 rfl (lv_at hl 1 rfl) ?_
  refine lv_bipush (v := 10) C.1 C.2.1 dX14_frightens_3 (by decide) ?_
  refine lv_iadd C.1 C.2.1 dX14_frightens_5 ?_
  refine lv_aload_n C.1 C.2.1 dX14_frightens_6 rfl (lv_at hl 0 rfl) ?_
  refine h_get (j := 1) C hS hq (show vwCl[2]? = some (RX14, TX14, 2) from rfl) in_X14 (by decide) rfl rfl rfl q675 (Or.inr q676) rfl dX14_frightens_7 ?_
  refine lv_iadd C.1 C.2.1 dX14_frightens_10 ?_
  refine va_mmin C.1 C.2.1 (by rw [hml]; exact hl.1.symm) C.2.2.1 (C.2.2.2.1 _ q626) (C.2.2.2.1 _ q623) (C.2.2.2.1 _ q101) (C.2.2.2.1 _ q624) (Nat.le_of_ble_eq_true rfl) (Nat.le_of_ble_eq_true rfl) (Nat.zero_le _) (Nat.zero_le _) dX14_frightens_11 ?_
  obtain rfl := Option.some.inj hE
  exact hret _ _ _ _ dX14_frightens_14 hP hS
def sC_Cat_frightens_5 (ix : Int32) (hby : Int32) (p1 : Int32) : Option (Int32) :=
  some (imin 99 ((p1 + 10) + hby))
set_option maxHeartbeats 4000000 in
theorem metC_Cat_frightens_5 (l : Launch) (G : kG) (ad : Nat → Nat) (pl : va_W)  (q : Nat) (ix : Int32) (hby : Int32) (p1 : Int32) (hq : (q, .inr (5, [.int ix, .int hby])) ∈ pl) (res : Int32) (hE : sC_Cat_frightens_5 ix hby p1 = some res) : Met l yX14_frightens (ws_ yX14_frightens cX14_frightens 2 (some .int)) ({ frames := 1, cells := 0, slots := 0, locals := 21 } : Room) (nPc G [] pl [] [.ref q, .int p1]) (nQc G [] [] (some (.int res))) 0 0 (nA []) := by
  refine n_ofW (own := RX14) (by decide) rfl (Nat.le_of_ble_eq_true rfl) ?_
  intro p e s m args below meth c ls C hml hP hS hl hr hlocks
  have hl : lv_has ls 2 [(0, .ref q), (1, .int p1)] := hl
  obtain ⟨Q, hQ⟩ : ∃ Q, Q = MQ below (nQc G [] [] (some (.int res))) args s 0 0 (nA []) := ⟨_, rfl⟩
  rw [← hQ]
  have hret : ∀ (pc : Nat) (ls : Array Slot) (H : Heap) (locs : List Loc), decode cX14_frightens pc = .ok (.ireturn, 1) → va_P G.1 vwCl [] H → va_S (nA []) s.heap H locs → W p l e ({ frames := 1, cells := 0, slots := 0, locals := 21 } : Room) s m args below meth c H locs 0 0 Q (F0 m pc ls [(.int res)]) := by
    intro pc ls H locs hd hP hS
    rw [hQ]
    exact n_iret C hr hlocks hd hP hS
  clear hQ
  obtain ⟨H, hH⟩ : ∃ H, H = s.heap := ⟨_, rfl⟩
  obtain ⟨locs, hlo⟩ : ∃ locs : List Loc, locs = [] := ⟨_, rfl⟩
  have hP : va_P G.1 vwCl [] H := by rw [hH]; exact hP
  have hS : va_S (nA []) s.heap H locs := by rw [hH, hlo]; exact hS
  suffices hZ : W p l e ({ frames := 1, cells := 0, slots := 0, locals := 21 } : Room) s m args below meth c H locs 0 0 Q (F0 m 0 ls []) by rw [hH, hlo] at hZ; exact hZ
  clear hH hlo
  unfold sC_Cat_frightens_5 at hE
  refine lv_bipush (v := 99) C.1 C.2.1 dX14_frightens_0 (by decide) ?_
  refine lv_iload_n C.1 C.2.1 dX14_frightens_2 rfl (lv_at hl 1 rfl) ?_
  refine lv_bipush (v := 10) C.1 C.2.1 dX14_frightens_3 (by decide) ?_
  refine lv_iadd C.1 C.2.1 dX14_frightens_5 ?_
  refine lv_aload_n C.1 C.2.1 dX14_frightens_6 rfl (lv_at hl 0 rfl) ?_
  refine h_get (j := 1) C hS hq (show vwCl[5]? = some (RX17, TX17, 2) from rfl) in_X17 (by decide) rfl rfl rfl q675 (Or.inr q676) rfl dX14_frightens_7 ?_
  refine lv_iadd C.1 C.2.1 dX14_frightens_10 ?_
  refine va_mmin C.1 C.2.1 (by rw [hml]; exact hl.1.symm) C.2.2.1 (C.2.2.2.1 _ q626) (C.2.2.2.1 _ q623) (C.2.2.2.1 _ q101) (C.2.2.2.1 _ q624) (Nat.le_of_ble_eq_true rfl) (Nat.le_of_ble_eq_true rfl) (Nat.zero_le _) (Nat.zero_le _) dX14_frightens_11 ?_
  obtain rfl := Option.some.inj hE
  exact hret _ _ _ _ dX14_frightens_14 hP hS
def sC_Dog_frightens_5 (ix : Int32) (hby : Int32) (p1 : Int32) : Option (Int32) :=
  (sC_Cat_frightens_5 ix hby p1).bind fun r1 =>
  some (imin 99 (2 * r1))
set_option maxHeartbeats 4000000 in
theorem metC_Dog_frightens_5 (l : Launch) (G : kG) (ad : Nat → Nat) (pl : va_W)  (q : Nat) (ix : Int32) (hby : Int32) (p1 : Int32) (hq : (q, .inr (5, [.int ix, .int hby])) ∈ pl) (res : Int32) (hE : sC_Dog_frightens_5 ix hby p1 = some res) : Met l yX17_frightens (ws_ yX17_frightens cX17_frightens 2 (some .int)) ({ frames := 2, cells := 0, slots := 0, locals := 42 } : Room) (nPc G [] pl [] [.ref q, .int p1]) (nQc G [] [] (some (.int res))) 0 0 (nA []) := by
  refine n_ofW (own := RX17) (by decide) rfl (Nat.le_of_ble_eq_true rfl) ?_
  intro p e s m args below meth c ls C hml hP hS hl hr hlocks
  have hl : lv_has ls 2 [(0, .ref q), (1, .int p1)] := hl
  obtain ⟨Q, hQ⟩ : ∃ Q, Q = MQ below (nQc G [] [] (some (.int res))) args s 0 0 (nA []) := ⟨_, rfl⟩
  rw [← hQ]
  have hret : ∀ (pc : Nat) (ls : Array Slot) (H : Heap) (locs : List Loc), decode cX17_frightens pc = .ok (.ireturn, 1) → va_P G.1 vwCl [] H → va_S (nA []) s.heap H locs → W p l e ({ frames := 2, cells := 0, slots := 0, locals := 42 } : Room) s m args below meth c H locs 0 0 Q (F0 m pc ls [(.int res)]) := by
    intro pc ls H locs hd hP hS
    rw [hQ]
    exact n_iret C hr hlocks hd hP hS
  clear hQ
  obtain ⟨H, hH⟩ : ∃ H, H = s.heap := ⟨_, rfl⟩
  obtain ⟨locs, hlo⟩ : ∃ locs : List Loc, locs = [] := ⟨_, rfl⟩
  have hP : va_P G.1 vwCl [] H := by rw [hH]; exact hP
  have hS : va_S (nA []) s.heap H locs := by rw [hH, hlo]; exact hS
  suffices hZ : W p l e ({ frames := 2, cells := 0, slots := 0, locals := 42 } : Room) s m args below meth c H locs 0 0 Q (F0 m 0 ls []) by rw [hH, hlo] at hZ; exact hZ
  clear hH hlo
  unfold sC_Dog_frightens_5 at hE
  refine lv_bipush (v := 99) C.1 C.2.1 dX17_frightens_0 (by decide) ?_
  refine lv_iconst (v := 2) C.1 C.2.1 dX17_frightens_2 (by decide) ?_
  refine lv_aload_n C.1 C.2.1 dX17_frightens_3 rfl (lv_at hl 0 rfl) ?_
  refine lv_iload_n C.1 C.2.1 dX17_frightens_4 rfl (lv_at hl 1 rfl) ?_
  obtain ⟨r1, hr1, hE⟩ := it_b hE
  refine n_afterS C.2.2.2.2.2.2.2.1 hS (va_runSU (As := [.int p1]) (rest := [.int 2, .int 99]) (C.2.2.2.2.1.1 5 _ rfl).2 ⟨C.1, C.2.1, hml, C.2.2.1, C.2.2.2.1⟩ (metC_Cat_frightens_5 l G ad pl  q ix hby p1 hq r1 hr1) (va_cwSU 1 C.2.2.2.1 (lw_SU q620 q616 q621 q614 q104 q625) rfl rfl rfl (by decide +kernel) ⟨Nat.le_of_ble_eq_true rfl, Nat.le_of_ble_eq_true rfl⟩) (n_preV0 C hP hS (n_recvH C hS hq rfl)) rfl rfl hl.1 rfl (lv_room (Nat.le_of_ble_eq_true rfl)) dX17_frightens_5 ⟨Nat.le_refl _, Nat.le_refl _⟩) (fun H locs hP hS => ?_)
  refine lv_imul C.1 C.2.1 dX17_frightens_8 ?_
  refine va_mmin C.1 C.2.1 (by rw [hml]; exact hl.1.symm) C.2.2.1 (C.2.2.2.1 _ q622) (C.2.2.2.1 _ q623) (C.2.2.2.1 _ q101) (C.2.2.2.1 _ q624) (Nat.le_of_ble_eq_true rfl) (Nat.le_of_ble_eq_true rfl) (Nat.zero_le _) (Nat.zero_le _) dX17_frightens_9 ?_
  obtain rfl := Option.some.inj hE
  exact hret _ _ _ _ dX17_frightens_12 hP hS
def sC_Far_less_4 (ix : Int32) (hby : Int32) (p1 : Int32) : Option (Int32) :=
  some (2 * hby)
set_option maxHeartbeats 4000000 in
theorem metC_Far_less_4 (l : Launch) (G : kG) (ad : Nat → Nat) (pl : va_W)  (q : Nat) (ix : Int32) (hby : Int32) (p1 : Int32) (hq : (q, .inr (4, [.int ix, .int hby])) ∈ pl) (res : Int32) (hE : sC_Far_less_4 ix hby p1 = some res) : Met l yX16_less (ws_ yX16_less cX16_less 2 (some .int)) ({ frames := 0, cells := 0, slots := 0, locals := 0 } : Room) (nPc G [] pl [] [.ref q, .int p1]) (nQc G [] [] (some (.int res))) 0 0 (nA []) := by
  refine n_ofW (own := RX16) (by decide) rfl (Nat.le_of_ble_eq_true rfl) ?_
  intro p e s m args below meth c ls C hml hP hS hl hr hlocks
  have hl : lv_has ls 2 [(0, .ref q), (1, .int p1)] := hl
  obtain ⟨Q, hQ⟩ : ∃ Q, Q = MQ below (nQc G [] [] (some (.int res))) args s 0 0 (nA []) := ⟨_, rfl⟩
  rw [← hQ]
  have hret : ∀ (pc : Nat) (ls : Array Slot) (H : Heap) (locs : List Loc), decode cX16_less pc = .ok (.ireturn, 1) → va_P G.1 vwCl [] H → va_S (nA []) s.heap H locs → W p l e ({ frames := 0, cells := 0, slots := 0, locals := 0 } : Room) s m args below meth c H locs 0 0 Q (F0 m pc ls [(.int res)]) := by
    intro pc ls H locs hd hP hS
    rw [hQ]
    exact n_iret C hr hlocks hd hP hS
  clear hQ
  obtain ⟨H, hH⟩ : ∃ H, H = s.heap := ⟨_, rfl⟩
  obtain ⟨locs, hlo⟩ : ∃ locs : List Loc, locs = [] := ⟨_, rfl⟩
  have hP : va_P G.1 vwCl [] H := by rw [hH]; exact hP
  have hS : va_S (nA []) s.heap H locs := by rw [hH, hlo]; exact hS
  suffices hZ : W p l e ({ frames := 0, cells := 0, slots := 0, locals := 0 } : Room) s m args below meth c H locs 0 0 Q (F0 m 0 ls []) by rw [hH, hlo] at hZ; exact hZ
  clear hH hlo
  unfold sC_Far_less_4 at hE
  refine lv_iconst (v := 2) C.1 C.2.1 dX16_less_0 (by decide) ?_
  refine lv_aload_n C.1 C.2.1 dX16_less_1 rfl (lv_at hl 0 rfl) ?_
  refine h_get (j := 1) C hS hq (show vwCl[4]? = some (RX16, TX16, 2) from rfl) in_X16 (by decide) rfl rfl rfl q673 (Or.inr q674) rfl dX16_less_2 ?_
  refine lv_imul C.1 C.2.1 dX16_less_5 ?_
  obtain rfl := Option.some.inj hE
  exact hret _ _ _ _ dX16_less_6 hP hS
def sC_Far_less_6 (ix : Int32) (hby : Int32) (p1 : Int32) : Option (Int32) :=
  some (2 * hby)
set_option maxHeartbeats 4000000 in
theorem metC_Far_less_6 (l : Launch) (G : kG) (ad : Nat → Nat) (pl : va_W)  (q : Nat) (ix : Int32) (hby : Int32) (p1 : Int32) (hq : (q, .inr (6, [.int ix, .int hby])) ∈ pl) (res : Int32) (hE : sC_Far_less_6 ix hby p1 = some res) : Met l yX16_less (ws_ yX16_less cX16_less 2 (some .int)) ({ frames := 0, cells := 0, slots := 0, locals := 0 } : Room) (nPc G [] pl [] [.ref q, .int p1]) (nQc G [] [] (some (.int res))) 0 0 (nA []) := by
  refine n_ofW (own := RX16) (by decide) rfl (Nat.le_of_ble_eq_true rfl) ?_
  intro p e s m args below meth c ls C hml hP hS hl hr hlocks
  have hl : lv_has ls 2 [(0, .ref q), (1, .int p1)] := hl
  obtain ⟨Q, hQ⟩ : ∃ Q, Q = MQ below (nQc G [] [] (some (.int res))) args s 0 0 (nA []) := ⟨_, rfl⟩
  rw [← hQ]
  have hret : ∀ (pc : Nat) (ls : Array Slot) (H : Heap) (locs : List Loc), decode cX16_less pc = .ok (.ireturn, 1) → va_P G.1 vwCl [] H → va_S (nA []) s.heap H locs → W p l e ({ frames := 0, cells := 0, slots := 0, locals := 0 } : Room) s m args below meth c H locs 0 0 Q (F0 m pc ls [(.int res)]) := by
    intro pc ls H locs hd hP hS
    rw [hQ]
    exact n_iret C hr hlocks hd hP hS
  clear hQ
  obtain ⟨H, hH⟩ : ∃ H, H = s.heap := ⟨_, rfl⟩
  obtain ⟨locs, hlo⟩ : ∃ locs : List Loc, locs = [] := ⟨_, rfl⟩
  have hP : va_P G.1 vwCl [] H := by rw [hH]; exact hP
  have hS : va_S (nA []) s.heap H locs := by rw [hH, hlo]; exact hS
  suffices hZ : W p l e ({ frames := 0, cells := 0, slots := 0, locals := 0 } : Room) s m args below meth c H locs 0 0 Q (F0 m 0 ls []) by rw [hH, hlo] at hZ; exact hZ
  clear hH hlo
  unfold sC_Far_less_6 at hE
  refine lv_iconst (v := 2) C.1 C.2.1 dX16_less_0 (by decide) ?_
  refine lv_aload_n C.1 C.2.1 dX16_less_1 rfl (lv_at hl 0 rfl) ?_
  refine h_get (j := 1) C hS hq (show vwCl[6]? = some (RX18, TX18, 2) from rfl) in_X18 (by decide) rfl rfl rfl q673 (Or.inr q674) rfl dX16_less_2 ?_
  refine lv_imul C.1 C.2.1 dX16_less_5 ?_
  obtain rfl := Option.some.inj hE
  exact hret _ _ _ _ dX16_less_6 hP hS
def sC_Bus_less_6 (ix : Int32) (hby : Int32) (p1 : Int32) : Option (Int32) :=
  (sC_Far_less_6 ix hby p1).bind fun r1 =>
  @Option.bind (Int32) _ (
    if p1 ≤ 20 then
      some 0
    else
      some 10) fun u3 =>
  some (r1 + u3)
set_option maxHeartbeats 4000000 in
theorem metC_Bus_less_6 (l : Launch) (G : kG) (ad : Nat → Nat) (pl : va_W)  (q : Nat) (ix : Int32) (hby : Int32) (p1 : Int32) (hq : (q, .inr (6, [.int ix, .int hby])) ∈ pl) (res : Int32) (hE : sC_Bus_less_6 ix hby p1 = some res) : Met l yX18_less (ws_ yX18_less cX18_less 2 (some .int)) ({ frames := 1, cells := 0, slots := 0, locals := 21 } : Room) (nPc G [] pl [] [.ref q, .int p1]) (nQc G [] [] (some (.int res))) 0 0 (nA []) := by
  refine n_ofW (own := RX18) (by decide) rfl (Nat.le_of_ble_eq_true rfl) ?_
  intro p e s m args below meth c ls C hml hP hS hl hr hlocks
  have hl : lv_has ls 2 [(0, .ref q), (1, .int p1)] := hl
  obtain ⟨Q, hQ⟩ : ∃ Q, Q = MQ below (nQc G [] [] (some (.int res))) args s 0 0 (nA []) := ⟨_, rfl⟩
  rw [← hQ]
  have hret : ∀ (pc : Nat) (ls : Array Slot) (H : Heap) (locs : List Loc), decode cX18_less pc = .ok (.ireturn, 1) → va_P G.1 vwCl [] H → va_S (nA []) s.heap H locs → W p l e ({ frames := 1, cells := 0, slots := 0, locals := 21 } : Room) s m args below meth c H locs 0 0 Q (F0 m pc ls [(.int res)]) := by
    intro pc ls H locs hd hP hS
    rw [hQ]
    exact n_iret C hr hlocks hd hP hS
  clear hQ
  obtain ⟨H, hH⟩ : ∃ H, H = s.heap := ⟨_, rfl⟩
  obtain ⟨locs, hlo⟩ : ∃ locs : List Loc, locs = [] := ⟨_, rfl⟩
  have hP : va_P G.1 vwCl [] H := by rw [hH]; exact hP
  have hS : va_S (nA []) s.heap H locs := by rw [hH, hlo]; exact hS
  suffices hZ : W p l e ({ frames := 1, cells := 0, slots := 0, locals := 21 } : Room) s m args below meth c H locs 0 0 Q (F0 m 0 ls []) by rw [hH, hlo] at hZ; exact hZ
  clear hH hlo
  unfold sC_Bus_less_6 at hE
  refine lv_aload_n C.1 C.2.1 dX18_less_0 rfl (lv_at hl 0 rfl) ?_
  refine lv_iload_n C.1 C.2.1 dX18_less_1 rfl (lv_at hl 1 rfl) ?_
  obtain ⟨r1, hr1, hE⟩ := it_b hE
  refine n_afterS C.2.2.2.2.2.2.2.1 hS (va_runSU (As := [.int p1]) (rest := []) (C.2.2.2.2.1.1 6 _ rfl).2 ⟨C.1, C.2.1, hml, C.2.2.1, C.2.2.2.1⟩ (metC_Far_less_6 l G ad pl  q ix hby p1 hq r1 hr1) (va_cwSU 1 C.2.2.2.1 (lw_SU q637 q633 q638 q631 q106 q639) rfl rfl rfl (by decide +kernel) ⟨Nat.le_of_ble_eq_true rfl, Nat.le_of_ble_eq_true rfl⟩) (n_preV0 C hP hS (n_recvH C hS hq rfl)) rfl rfl hl.1 rfl (lv_room (Nat.le_of_ble_eq_true rfl)) dX18_less_2 ⟨Nat.le_refl _, Nat.le_refl _⟩) (fun H locs hP hS => ?_)
  refine lv_iload_n C.1 C.2.1 dX18_less_5 rfl (lv_at hl 1 rfl) ?_
  refine lv_bipush (v := 20) C.1 C.2.1 dX18_less_6 (by decide) ?_
  obtain ⟨u3, hR, hE⟩ := it_b hE
  have hJ17u3 : ∀ (H : Heap) (locs : List Loc) (ls : Array Slot), va_P G.1 vwCl [] H → va_S (nA []) s.heap H locs → lv_has ls 2 [] → W p l e ({ frames := 1, cells := 0, slots := 0, locals := 21 } : Room) s m args below meth c H locs 0 0 Q (F0 m 17 ls [.int u3, .int r1]) := by
    intro H locs ls hP hS hl
    refine lv_iadd C.1 C.2.1 dX18_less_17 ?_
    obtain rfl := Option.some.inj hE
    exact hret _ _ _ _ dX18_less_18 hP hS
  have hE := hR
  refine lv_icmp_le (tgt := 16) C.1 C.2.1 dX18_less_8 (by decide) (fun c2 => ?_) (fun c2 => ?_)
  · have hE := it_t c2 hE
    refine lv_iconst (v := 0) C.1 C.2.1 dX18_less_16 (by decide) ?_
    obtain rfl := Option.some.inj hE
    exact hJ17u3 H locs ls hP hS (lv_sub hl [] rfl)
  · have hE := it_f c2 hE
    refine lv_bipush (v := 10) C.1 C.2.1 dX18_less_11 (by decide) ?_
    refine lv_goto (tgt := 17) C.1 C.2.1 dX18_less_13 (by decide) ?_
    obtain rfl := Option.some.inj hE
    exact hJ17u3 H locs ls hP hS (lv_sub hl [] rfl)
def sC_Home_kind_0 (ix : Int32) (hby : Int32) : Option (Int32) :=
  some 0
set_option maxHeartbeats 4000000 in
theorem metC_Home_kind_0 (l : Launch) (G : kG) (ad : Nat → Nat) (pl : va_W)  (q : Nat) (ix : Int32) (hby : Int32) (hq : (q, .inr (0, [.int ix, .int hby])) ∈ pl) (res : Int32) (hE : sC_Home_kind_0 ix hby = some res) : Met l yX12_kind (ws_ yX12_kind cX12_kind 1 (some .int)) ({ frames := 0, cells := 0, slots := 0, locals := 0 } : Room) (nPc G [] pl [] [.ref q]) (nQc G [] [] (some (.int res))) 0 0 (nA []) := by
  refine n_ofW (own := RX12) (by decide) rfl (Nat.le_of_ble_eq_true rfl) ?_
  intro p e s m args below meth c ls C hml hP hS hl hr hlocks
  have hl : lv_has ls 1 [(0, .ref q)] := hl
  obtain ⟨Q, hQ⟩ : ∃ Q, Q = MQ below (nQc G [] [] (some (.int res))) args s 0 0 (nA []) := ⟨_, rfl⟩
  rw [← hQ]
  have hret : ∀ (pc : Nat) (ls : Array Slot) (H : Heap) (locs : List Loc), decode cX12_kind pc = .ok (.ireturn, 1) → va_P G.1 vwCl [] H → va_S (nA []) s.heap H locs → W p l e ({ frames := 0, cells := 0, slots := 0, locals := 0 } : Room) s m args below meth c H locs 0 0 Q (F0 m pc ls [(.int res)]) := by
    intro pc ls H locs hd hP hS
    rw [hQ]
    exact n_iret C hr hlocks hd hP hS
  clear hQ
  obtain ⟨H, hH⟩ : ∃ H, H = s.heap := ⟨_, rfl⟩
  obtain ⟨locs, hlo⟩ : ∃ locs : List Loc, locs = [] := ⟨_, rfl⟩
  have hP : va_P G.1 vwCl [] H := by rw [hH]; exact hP
  have hS : va_S (nA []) s.heap H locs := by rw [hH, hlo]; exact hS
  suffices hZ : W p l e ({ frames := 0, cells := 0, slots := 0, locals := 0 } : Room) s m args below meth c H locs 0 0 Q (F0 m 0 ls []) by rw [hH, hlo] at hZ; exact hZ
  clear hH hlo
  unfold sC_Home_kind_0 at hE
  refine lv_iconst (v := 0) C.1 C.2.1 dX12_kind_0 (by decide) ?_
  obtain rfl := Option.some.inj hE
  exact hret _ _ _ _ dX12_kind_1 hP hS
def sC_Home_weekend_0 (v_weight : Int32) (ix : Int32) (hby : Int32) : Option (Int32) :=
  (sC_Pet_gains v_weight (-hby)).bind fun r1 =>
  some r1
set_option maxHeartbeats 4000000 in
theorem metC_Home_weekend_0 (l : Launch) (G : kG) (ad : Nat → Nat) (pl : va_W) (v_weight : Int32) (v_fright : Int32) (v_age : Int32) (v_asked : Nat → Int32) (q : Nat) (ix : Int32) (hby : Int32) (hq : (q, .inr (0, [.int ix, .int hby])) ∈ pl) (res : Int32) (hE : sC_Home_weekend_0 v_weight ix hby = some res) : Met l yX12_weekend (ws_ yX12_weekend cX12_weekend 2 none) ({ frames := 2, cells := 0, slots := 0, locals := 42 } : Room) (nPc G (pW G.2 ad v_weight v_fright v_age v_asked) pl (pWV ad) [.ref q, .ref (ad 0)]) (nQc G (pW G.2 ad res v_fright v_age v_asked) (pWV ad) none) 0 0 (nA (pWV ad)) := by
  refine n_ofW (own := RX12) (by decide) rfl (Nat.le_of_ble_eq_true rfl) ?_
  intro p e s m args below meth c ls C hml hP hS hl hr hlocks
  have hl : lv_has ls 2 [(0, .ref q), (1, .ref (ad 0))] := hl
  obtain ⟨Q, hQ⟩ : ∃ Q, Q = MQ below (nQc G (pW G.2 ad res v_fright v_age v_asked) (pWV ad) none) args s 0 0 (nA (pWV ad)) := ⟨_, rfl⟩
  rw [← hQ]
  have hret : ∀ (pc : Nat) (ls : Array Slot) (H : Heap) (locs : List Loc), decode cX12_weekend pc = .ok (.return_, 1) → va_P G.1 vwCl (pW G.2 ad res v_fright v_age v_asked) H → va_S (nA (pWV ad)) s.heap H locs → W p l e ({ frames := 2, cells := 0, slots := 0, locals := 42 } : Room) s m args below meth c H locs 0 0 Q (F0 m pc ls []) := by
    intro pc ls H locs hd hP hS
    rw [hQ]
    exact n_vret C hr hlocks hd hP hS
  clear hQ
  obtain ⟨H, hH⟩ : ∃ H, H = s.heap := ⟨_, rfl⟩
  obtain ⟨locs, hlo⟩ : ∃ locs : List Loc, locs = [] := ⟨_, rfl⟩
  have hP : va_P G.1 vwCl (pW G.2 ad v_weight v_fright v_age v_asked) H := by rw [hH]; exact hP
  have hS : va_S (nA (pWV ad)) s.heap H locs := by rw [hH, hlo]; exact hS
  suffices hZ : W p l e ({ frames := 2, cells := 0, slots := 0, locals := 42 } : Room) s m args below meth c H locs 0 0 Q (F0 m 0 ls []) by rw [hH, hlo] at hZ; exact hZ
  clear hH hlo
  unfold sC_Home_weekend_0 at hE
  refine lv_aload_n C.1 C.2.1 dX12_weekend_0 rfl (lv_at hl 1 rfl) ?_
  refine lv_aload_n C.1 C.2.1 dX12_weekend_1 rfl (lv_at hl 0 rfl) ?_
  refine h_get (j := 1) C hS hq (show vwCl[0]? = some (RX12, TX12, 2) from rfl) in_X12 (by decide) rfl rfl rfl q670 (Or.inl rfl) rfl dX12_weekend_2 ?_
  refine lv_ineg C.1 C.2.1 dX12_weekend_5 ?_
  obtain ⟨r1, hr1, hE⟩ := it_b hE
  refine n_afterS C.2.2.2.2.2.2.2.1 hS (va_runV (As := [.int (-hby)]) (rest := []) ⟨C.1, C.2.1, hml, C.2.2.1, C.2.2.2.1⟩ (metC_Pet_gains l G ad pl _ _ _ _ (-hby)  r1 hr1) (cwV (C := RX2) 1 C.2.2.2.1 (lw_V q1022 q1005 q1006 q82 q1007) rfl rfl rfl (by decide +kernel) ⟨Nat.le_of_ble_eq_true rfl, Nat.le_of_ble_eq_true rfl⟩) (n_preV0 C hP hS (va_recv C.2.2.2.2.1 hP (ci := 11) (q0 := 0) rfl rfl)) rfl rfl hl.1 rfl (lv_room (Nat.le_of_ble_eq_true rfl)) dX12_weekend_6 ⟨Nat.le_refl _, Nat.le_refl _⟩) (fun H locs hP hS => ?_)
  obtain rfl := Option.some.inj hE
  exact hret _ _ _ _ dX12_weekend_9 hP hS
def sC_Home_feeding_0 (v_ran : Int32) (v_bodies : Nat → Int32) (ix : Int32) (hby : Int32) (p1 : Int32) : Option (Int32 × Int32 × (Nat → Int32)) :=
  (sC_Trace_runs v_ran v_bodies 10).bind fun r1 =>
  some ((p1 + ix), r1.1, r1.2)
set_option maxHeartbeats 4000000 in
theorem metC_Home_feeding_0 (l : Launch) (G : kG) (ad : Nat → Nat) (pl : va_W) (v_ran : Int32) (v_bodies : Nat → Int32) (q : Nat) (ix : Int32) (hby : Int32) (p1 : Int32) (hq : (q, .inr (0, [.int ix, .int hby])) ∈ pl) (res : Int32 × Int32 × (Nat → Int32)) (hE : sC_Home_feeding_0 v_ran v_bodies ix hby p1 = some res) : Met l yX12_feeding (ws_ yX12_feeding cX12_feeding 3 (some .int)) ({ frames := 1, cells := 0, slots := 0, locals := 21 } : Room) (nPc G (tW G.2 ad v_ran v_bodies) pl (tWV ad) [.ref q, .int p1, .ref (ad 0)]) (nQc G (tW G.2 ad res.2.1 res.2.2) (tWV ad) (some (.int res.1))) 0 0 (nA (tWV ad)) := by
  refine n_ofW (own := RX12) (by decide) rfl (Nat.le_of_ble_eq_true rfl) ?_
  intro p e s m args below meth c ls C hml hP hS hl hr hlocks
  have hl : lv_has ls 3 [(0, .ref q), (1, .int p1), (2, .ref (ad 0))] := hl
  obtain ⟨Q, hQ⟩ : ∃ Q, Q = MQ below (nQc G (tW G.2 ad res.2.1 res.2.2) (tWV ad) (some (.int res.1))) args s 0 0 (nA (tWV ad)) := ⟨_, rfl⟩
  rw [← hQ]
  have hret : ∀ (pc : Nat) (ls : Array Slot) (H : Heap) (locs : List Loc), decode cX12_feeding pc = .ok (.ireturn, 1) → va_P G.1 vwCl (tW G.2 ad res.2.1 res.2.2) H → va_S (nA (tWV ad)) s.heap H locs → W p l e ({ frames := 1, cells := 0, slots := 0, locals := 21 } : Room) s m args below meth c H locs 0 0 Q (F0 m pc ls [(.int res.1)]) := by
    intro pc ls H locs hd hP hS
    rw [hQ]
    exact n_iret C hr hlocks hd hP hS
  clear hQ
  obtain ⟨H, hH⟩ : ∃ H, H = s.heap := ⟨_, rfl⟩
  obtain ⟨locs, hlo⟩ : ∃ locs : List Loc, locs = [] := ⟨_, rfl⟩
  have hP : va_P G.1 vwCl (tW G.2 ad v_ran v_bodies) H := by rw [hH]; exact hP
  have hS : va_S (nA (tWV ad)) s.heap H locs := by rw [hH, hlo]; exact hS
  suffices hZ : W p l e ({ frames := 1, cells := 0, slots := 0, locals := 21 } : Room) s m args below meth c H locs 0 0 Q (F0 m 0 ls []) by rw [hH, hlo] at hZ; exact hZ
  clear hH hlo
  unfold sC_Home_feeding_0 at hE
  refine lv_aload_n C.1 C.2.1 dX12_feeding_0 rfl (lv_at hl 2 rfl) ?_
  refine lv_bipush (v := 10) C.1 C.2.1 dX12_feeding_1 (by decide) ?_
  obtain ⟨r1, hr1, hE⟩ := it_b hE
  refine n_afterS C.2.2.2.2.2.2.2.1 hS (va_runV (As := [.int 10]) (rest := []) ⟨C.1, C.2.1, hml, C.2.2.1, C.2.2.2.1⟩ (metC_Trace_runs l G ad pl _ _ 10  r1 hr1) (cwV (C := RX1) 1 C.2.2.2.1 (lw_V q1249 q1231 q1232 q81 q1233) rfl rfl rfl (by decide +kernel) ⟨Nat.le_of_ble_eq_true rfl, Nat.le_of_ble_eq_true rfl⟩) (n_preV0 C hP hS (va_recv C.2.2.2.2.1 hP (ci := 14) (q0 := 0) rfl rfl)) rfl rfl hl.1 rfl (lv_room (Nat.le_of_ble_eq_true rfl)) dX12_feeding_3 ⟨Nat.le_refl _, Nat.le_refl _⟩) (fun H locs hP hS => ?_)
  refine lv_iload_n C.1 C.2.1 dX12_feeding_6 rfl (lv_at hl 1 rfl) ?_
  refine lv_aload_n C.1 C.2.1 dX12_feeding_7 rfl (lv_at hl 0 rfl) ?_
  refine h_get (j := 0) C hS hq (show vwCl[0]? = some (RX12, TX12, 2) from rfl) in_X12 (by decide) rfl rfl rfl q665 (Or.inl rfl) rfl dX12_feeding_8 ?_
  refine lv_iadd C.1 C.2.1 dX12_feeding_11 ?_
  obtain rfl := Option.some.inj hE
  exact hret _ _ _ _ dX12_feeding_12 hP hS
def sC_Home_weighing_0 (v_ran : Int32) (v_bodies : Nat → Int32) (ix : Int32) (hby : Int32) (p1 : Int32) : Option (Int32 × Int32 × (Nat → Int32)) :=
  (sC_Trace_runs v_ran v_bodies 11).bind fun r1 =>
  (sC_Home_feeding_0 r1.1 r1.2 ix hby p1).bind fun r2 =>
  some ((r2.1 * 2), r2.2.1, r2.2.2)
set_option maxHeartbeats 4000000 in
theorem metC_Home_weighing_0 (l : Launch) (G : kG) (ad : Nat → Nat) (pl : va_W) (v_ran : Int32) (v_bodies : Nat → Int32) (q : Nat) (ix : Int32) (hby : Int32) (p1 : Int32) (hq : (q, .inr (0, [.int ix, .int hby])) ∈ pl) (res : Int32 × Int32 × (Nat → Int32)) (hE : sC_Home_weighing_0 v_ran v_bodies ix hby p1 = some res) : Met l yX12_weighing (ws_ yX12_weighing cX12_weighing 3 (some .int)) ({ frames := 2, cells := 0, slots := 0, locals := 43 } : Room) (nPc G (tW G.2 ad v_ran v_bodies) pl (tWV ad) [.ref q, .int p1, .ref (ad 0)]) (nQc G (tW G.2 ad res.2.1 res.2.2) (tWV ad) (some (.int res.1))) 0 0 (nA (tWV ad)) := by
  refine n_ofW (own := RX12) (by decide) rfl (Nat.le_of_ble_eq_true rfl) ?_
  intro p e s m args below meth c ls C hml hP hS hl hr hlocks
  have hl : lv_has ls 3 [(0, .ref q), (1, .int p1), (2, .ref (ad 0))] := hl
  obtain ⟨Q, hQ⟩ : ∃ Q, Q = MQ below (nQc G (tW G.2 ad res.2.1 res.2.2) (tWV ad) (some (.int res.1))) args s 0 0 (nA (tWV ad)) := ⟨_, rfl⟩
  rw [← hQ]
  have hret : ∀ (pc : Nat) (ls : Array Slot) (H : Heap) (locs : List Loc), decode cX12_weighing pc = .ok (.ireturn, 1) → va_P G.1 vwCl (tW G.2 ad res.2.1 res.2.2) H → va_S (nA (tWV ad)) s.heap H locs → W p l e ({ frames := 2, cells := 0, slots := 0, locals := 43 } : Room) s m args below meth c H locs 0 0 Q (F0 m pc ls [(.int res.1)]) := by
    intro pc ls H locs hd hP hS
    rw [hQ]
    exact n_iret C hr hlocks hd hP hS
  clear hQ
  obtain ⟨H, hH⟩ : ∃ H, H = s.heap := ⟨_, rfl⟩
  obtain ⟨locs, hlo⟩ : ∃ locs : List Loc, locs = [] := ⟨_, rfl⟩
  have hP : va_P G.1 vwCl (tW G.2 ad v_ran v_bodies) H := by rw [hH]; exact hP
  have hS : va_S (nA (tWV ad)) s.heap H locs := by rw [hH, hlo]; exact hS
  suffices hZ : W p l e ({ frames := 2, cells := 0, slots := 0, locals := 43 } : Room) s m args below meth c H locs 0 0 Q (F0 m 0 ls []) by rw [hH, hlo] at hZ; exact hZ
  clear hH hlo
  unfold sC_Home_weighing_0 at hE
  refine lv_aload_n C.1 C.2.1 dX12_weighing_0 rfl (lv_at hl 2 rfl) ?_
  refine lv_bipush (v := 11) C.1 C.2.1 dX12_weighing_1 (by decide) ?_
  obtain ⟨r1, hr1, hE⟩ := it_b hE
  refine n_afterS C.2.2.2.2.2.2.2.1 hS (va_runV (As := [.int 11]) (rest := []) ⟨C.1, C.2.1, hml, C.2.2.1, C.2.2.2.1⟩ (metC_Trace_runs l G ad pl _ _ 11  r1 hr1) (cwV (C := RX1) 1 C.2.2.2.1 (lw_V q1249 q1231 q1232 q81 q1233) rfl rfl rfl (by decide +kernel) ⟨Nat.le_of_ble_eq_true rfl, Nat.le_of_ble_eq_true rfl⟩) (n_preV0 C hP hS (va_recv C.2.2.2.2.1 hP (ci := 14) (q0 := 0) rfl rfl)) rfl rfl hl.1 rfl (lv_room (Nat.le_of_ble_eq_true rfl)) dX12_weighing_3 ⟨Nat.le_refl _, Nat.le_refl _⟩) (fun H locs hP hS => ?_)
  refine lv_aload_n C.1 C.2.1 dX12_weighing_6 rfl (lv_at hl 0 rfl) ?_
  refine lv_iload_n C.1 C.2.1 dX12_weighing_7 rfl (lv_at hl 1 rfl) ?_
  refine lv_aload_n C.1 C.2.1 dX12_weighing_8 rfl (lv_at hl 2 rfl) ?_
  obtain ⟨r2, hr2, hE⟩ := it_b hE
  refine n_afterS C.2.2.2.2.2.2.2.1 hS (va_runV (As := [.int p1, .ref (ad 0)]) (rest := []) ⟨C.1, C.2.1, hml, C.2.2.1, C.2.2.2.1⟩ (metC_Home_feeding_0 l G ad pl _ _ q ix hby p1 hq r2 hr2) (cwV (C := RX12) 2 C.2.2.2.1 (lw_V q1275 q1224 q1225 q102 q1248) rfl rfl rfl (by decide +kernel) ⟨Nat.le_of_ble_eq_true rfl, Nat.le_of_ble_eq_true rfl⟩) (n_preV0 C hP hS (n_recvH C hS hq rfl)) rfl rfl hl.1 rfl (lv_room (Nat.le_of_ble_eq_true rfl)) dX12_weighing_9 ⟨Nat.le_refl _, Nat.le_refl _⟩) (fun H locs hP hS => ?_)
  refine lv_iconst (v := 2) C.1 C.2.1 dX12_weighing_12 (by decide) ?_
  refine lv_imul C.1 C.2.1 dX12_weighing_13 ?_
  obtain rfl := Option.some.inj hE
  exact hret _ _ _ _ dX12_weighing_14 hP hS
def sC_Home_writing_0 (v_ran : Int32) (v_bodies : Nat → Int32) (ix : Int32) (hby : Int32) (p1 : Int32) : Option (Int32 × Int32 × (Nat → Int32)) :=
  (sC_Trace_runs v_ran v_bodies 12).bind fun r1 =>
  (sC_Home_weighing_0 r1.1 r1.2 ix hby p1).bind fun r2 =>
  (sC_Home_feeding_0 r2.2.1 r2.2.2 ix hby (p1 - hby)).bind fun r3 =>
  some ((r2.1 ^^^ r3.1), r3.2.1, r3.2.2)
set_option maxHeartbeats 4000000 in
theorem metC_Home_writing_0 (l : Launch) (G : kG) (ad : Nat → Nat) (pl : va_W) (v_ran : Int32) (v_bodies : Nat → Int32) (q : Nat) (ix : Int32) (hby : Int32) (p1 : Int32) (hq : (q, .inr (0, [.int ix, .int hby])) ∈ pl) (res : Int32 × Int32 × (Nat → Int32)) (hE : sC_Home_writing_0 v_ran v_bodies ix hby p1 = some res) : Met l yX12_writing (ws_ yX12_writing cX12_writing 4 (some .int)) ({ frames := 3, cells := 0, slots := 0, locals := 65 } : Room) (nPc G (tW G.2 ad v_ran v_bodies) pl (tWV ad) [.ref q, .int p1, .ref (ad 0)]) (nQc G (tW G.2 ad res.2.1 res.2.2) (tWV ad) (some (.int res.1))) 0 0 (nA (tWV ad)) := by
  refine n_ofW (own := RX12) (by decide) rfl (Nat.le_of_ble_eq_true rfl) ?_
  intro p e s m args below meth c ls C hml hP hS hl hr hlocks
  have hl : lv_has ls 4 [(0, .ref q), (1, .int p1), (2, .ref (ad 0))] := hl
  obtain ⟨Q, hQ⟩ : ∃ Q, Q = MQ below (nQc G (tW G.2 ad res.2.1 res.2.2) (tWV ad) (some (.int res.1))) args s 0 0 (nA (tWV ad)) := ⟨_, rfl⟩
  rw [← hQ]
  have hret : ∀ (pc : Nat) (ls : Array Slot) (H : Heap) (locs : List Loc), decode cX12_writing pc = .ok (.ireturn, 1) → va_P G.1 vwCl (tW G.2 ad res.2.1 res.2.2) H → va_S (nA (tWV ad)) s.heap H locs → W p l e ({ frames := 3, cells := 0, slots := 0, locals := 65 } : Room) s m args below meth c H locs 0 0 Q (F0 m pc ls [(.int res.1)]) := by
    intro pc ls H locs hd hP hS
    rw [hQ]
    exact n_iret C hr hlocks hd hP hS
  clear hQ
  obtain ⟨H, hH⟩ : ∃ H, H = s.heap := ⟨_, rfl⟩
  obtain ⟨locs, hlo⟩ : ∃ locs : List Loc, locs = [] := ⟨_, rfl⟩
  have hP : va_P G.1 vwCl (tW G.2 ad v_ran v_bodies) H := by rw [hH]; exact hP
  have hS : va_S (nA (tWV ad)) s.heap H locs := by rw [hH, hlo]; exact hS
  suffices hZ : W p l e ({ frames := 3, cells := 0, slots := 0, locals := 65 } : Room) s m args below meth c H locs 0 0 Q (F0 m 0 ls []) by rw [hH, hlo] at hZ; exact hZ
  clear hH hlo
  unfold sC_Home_writing_0 at hE
  refine lv_aload_n C.1 C.2.1 dX12_writing_0 rfl (lv_at hl 2 rfl) ?_
  refine lv_bipush (v := 12) C.1 C.2.1 dX12_writing_1 (by decide) ?_
  obtain ⟨r1, hr1, hE⟩ := it_b hE
  refine n_afterS C.2.2.2.2.2.2.2.1 hS (va_runV (As := [.int 12]) (rest := []) ⟨C.1, C.2.1, hml, C.2.2.1, C.2.2.2.1⟩ (metC_Trace_runs l G ad pl _ _ 12  r1 hr1) (cwV (C := RX1) 1 C.2.2.2.1 (lw_V q1249 q1231 q1232 q81 q1233) rfl rfl rfl (by decide +kernel) ⟨Nat.le_of_ble_eq_true rfl, Nat.le_of_ble_eq_true rfl⟩) (n_preV0 C hP hS (va_recv C.2.2.2.2.1 hP (ci := 14) (q0 := 0) rfl rfl)) rfl rfl hl.1 rfl (lv_room (Nat.le_of_ble_eq_true rfl)) dX12_writing_3 ⟨Nat.le_refl _, Nat.le_refl _⟩) (fun H locs hP hS => ?_)
  refine lv_aload_n C.1 C.2.1 dX12_writing_6 rfl (lv_at hl 0 rfl) ?_
  refine lv_iload_n C.1 C.2.1 dX12_writing_7 rfl (lv_at hl 1 rfl) ?_
  refine lv_aload_n C.1 C.2.1 dX12_writing_8 rfl (lv_at hl 2 rfl) ?_
  obtain ⟨r2, hr2, hE⟩ := it_b hE
  refine n_afterS C.2.2.2.2.2.2.2.1 hS (va_runV (As := [.int p1, .ref (ad 0)]) (rest := []) ⟨C.1, C.2.1, hml, C.2.2.1, C.2.2.2.1⟩ (metC_Home_weighing_0 l G ad pl _ _ q ix hby p1 hq r2 hr2) (cwV (C := RX12) 2 C.2.2.2.1 (lw_V q1296 q1251 q1252 q102 q1274) rfl rfl rfl (by decide +kernel) ⟨Nat.le_of_ble_eq_true rfl, Nat.le_of_ble_eq_true rfl⟩) (n_preV0 C hP hS (n_recvH C hS hq rfl)) rfl rfl hl.1 rfl (lv_room (Nat.le_of_ble_eq_true rfl)) dX12_writing_9 ⟨Nat.le_refl _, Nat.le_refl _⟩) (fun H locs hP hS => ?_)
  refine lv_istore_n (lv' := [(3, .int r2.1), (0, .ref q), (1, .int p1), (2, .ref (ad 0))]) C.1 C.2.1 dX12_writing_12 rfl hl (by decide) rfl (fun ls hl => ?_)
  refine lv_iload_n C.1 C.2.1 dX12_writing_13 rfl (lv_at hl 0 rfl) ?_
  refine lv_aload_n C.1 C.2.1 dX12_writing_14 rfl (lv_at hl 1 rfl) ?_
  refine lv_iload_n C.1 C.2.1 dX12_writing_15 rfl (lv_at hl 2 rfl) ?_
  refine lv_aload_n C.1 C.2.1 dX12_writing_16 rfl (lv_at hl 1 rfl) ?_
  refine h_get (j := 1) C hS hq (show vwCl[0]? = some (RX12, TX12, 2) from rfl) in_X12 (by decide) rfl rfl rfl q670 (Or.inl rfl) rfl dX12_writing_17 ?_
  refine lv_isub C.1 C.2.1 dX12_writing_20 ?_
  refine lv_aload_n C.1 C.2.1 dX12_writing_21 rfl (lv_at hl 3 rfl) ?_
  obtain ⟨r3, hr3, hE⟩ := it_b hE
  refine n_afterS C.2.2.2.2.2.2.2.1 hS (va_runV (As := [.int (p1 - hby), .ref (ad 0)]) (rest := [.int r2.1]) ⟨C.1, C.2.1, hml, C.2.2.1, C.2.2.2.1⟩ (metC_Home_feeding_0 l G ad pl _ _ q ix hby (p1 - hby) hq r3 hr3) (cwV (C := RX12) 2 C.2.2.2.1 (lw_V q1275 q1224 q1225 q102 q1248) rfl rfl rfl (by decide +kernel) ⟨Nat.le_of_ble_eq_true rfl, Nat.le_of_ble_eq_true rfl⟩) (n_preV0 C hP hS (n_recvH C hS hq rfl)) rfl rfl hl.1 rfl (lv_room (Nat.le_of_ble_eq_true rfl)) dX12_writing_22 ⟨Nat.le_refl _, Nat.le_refl _⟩) (fun H locs hP hS => ?_)
  refine lv_ixor C.1 C.2.1 dX12_writing_25 ?_
  obtain rfl := Option.some.inj hE
  exact hret _ _ _ _ dX12_writing_26 hP hS
def sC_Good_kind_1 (ix : Int32) (hby : Int32) : Option (Int32) :=
  some 1
set_option maxHeartbeats 4000000 in
theorem metC_Good_kind_1 (l : Launch) (G : kG) (ad : Nat → Nat) (pl : va_W)  (q : Nat) (ix : Int32) (hby : Int32) (hq : (q, .inr (1, [.int ix, .int hby])) ∈ pl) (res : Int32) (hE : sC_Good_kind_1 ix hby = some res) : Met l yX13_kind (ws_ yX13_kind cX13_kind 1 (some .int)) ({ frames := 0, cells := 0, slots := 0, locals := 0 } : Room) (nPc G [] pl [] [.ref q]) (nQc G [] [] (some (.int res))) 0 0 (nA []) := by
  refine n_ofW (own := RX13) (by decide) rfl (Nat.le_of_ble_eq_true rfl) ?_
  intro p e s m args below meth c ls C hml hP hS hl hr hlocks
  have hl : lv_has ls 1 [(0, .ref q)] := hl
  obtain ⟨Q, hQ⟩ : ∃ Q, Q = MQ below (nQc G [] [] (some (.int res))) args s 0 0 (nA []) := ⟨_, rfl⟩
  rw [← hQ]
  have hret : ∀ (pc : Nat) (ls : Array Slot) (H : Heap) (locs : List Loc), decode cX13_kind pc = .ok (.ireturn, 1) → va_P G.1 vwCl [] H → va_S (nA []) s.heap H locs → W p l e ({ frames := 0, cells := 0, slots := 0, locals := 0 } : Room) s m args below meth c H locs 0 0 Q (F0 m pc ls [(.int res)]) := by
    intro pc ls H locs hd hP hS
    rw [hQ]
    exact n_iret C hr hlocks hd hP hS
  clear hQ
  obtain ⟨H, hH⟩ : ∃ H, H = s.heap := ⟨_, rfl⟩
  obtain ⟨locs, hlo⟩ : ∃ locs : List Loc, locs = [] := ⟨_, rfl⟩
  have hP : va_P G.1 vwCl [] H := by rw [hH]; exact hP
  have hS : va_S (nA []) s.heap H locs := by rw [hH, hlo]; exact hS
  suffices hZ : W p l e ({ frames := 0, cells := 0, slots := 0, locals := 0 } : Room) s m args below meth c H locs 0 0 Q (F0 m 0 ls []) by rw [hH, hlo] at hZ; exact hZ
  clear hH hlo
  unfold sC_Good_kind_1 at hE
  refine lv_iconst (v := 1) C.1 C.2.1 dX13_kind_0 (by decide) ?_
  obtain rfl := Option.some.inj hE
  exact hret _ _ _ _ dX13_kind_1 hP hS
def sC_Good_weekend_1 (v_weight : Int32) (ix : Int32) (hby : Int32) : Option (Int32) :=
  (sC_Good_more_1 ix hby).bind fun r1 =>
  (sC_Pet_gains v_weight r1).bind fun r2 =>
  some r2
set_option maxHeartbeats 4000000 in
theorem metC_Good_weekend_1 (l : Launch) (G : kG) (ad : Nat → Nat) (pl : va_W) (v_weight : Int32) (v_fright : Int32) (v_age : Int32) (v_asked : Nat → Int32) (q : Nat) (ix : Int32) (hby : Int32) (hq : (q, .inr (1, [.int ix, .int hby])) ∈ pl) (res : Int32) (hE : sC_Good_weekend_1 v_weight ix hby = some res) : Met l yX13_weekend (ws_ yX13_weekend cX13_weekend 2 none) ({ frames := 2, cells := 0, slots := 0, locals := 42 } : Room) (nPc G (pW G.2 ad v_weight v_fright v_age v_asked) pl (pWV ad) [.ref q, .ref (ad 0)]) (nQc G (pW G.2 ad res v_fright v_age v_asked) (pWV ad) none) 0 0 (nA (pWV ad)) := by
  refine n_ofW (own := RX13) (by decide) rfl (Nat.le_of_ble_eq_true rfl) ?_
  intro p e s m args below meth c ls C hml hP hS hl hr hlocks
  have hl : lv_has ls 2 [(0, .ref q), (1, .ref (ad 0))] := hl
  obtain ⟨Q, hQ⟩ : ∃ Q, Q = MQ below (nQc G (pW G.2 ad res v_fright v_age v_asked) (pWV ad) none) args s 0 0 (nA (pWV ad)) := ⟨_, rfl⟩
  rw [← hQ]
  have hret : ∀ (pc : Nat) (ls : Array Slot) (H : Heap) (locs : List Loc), decode cX13_weekend pc = .ok (.return_, 1) → va_P G.1 vwCl (pW G.2 ad res v_fright v_age v_asked) H → va_S (nA (pWV ad)) s.heap H locs → W p l e ({ frames := 2, cells := 0, slots := 0, locals := 42 } : Room) s m args below meth c H locs 0 0 Q (F0 m pc ls []) := by
    intro pc ls H locs hd hP hS
    rw [hQ]
    exact n_vret C hr hlocks hd hP hS
  clear hQ
  obtain ⟨H, hH⟩ : ∃ H, H = s.heap := ⟨_, rfl⟩
  obtain ⟨locs, hlo⟩ : ∃ locs : List Loc, locs = [] := ⟨_, rfl⟩
  have hP : va_P G.1 vwCl (pW G.2 ad v_weight v_fright v_age v_asked) H := by rw [hH]; exact hP
  have hS : va_S (nA (pWV ad)) s.heap H locs := by rw [hH, hlo]; exact hS
  suffices hZ : W p l e ({ frames := 2, cells := 0, slots := 0, locals := 42 } : Room) s m args below meth c H locs 0 0 Q (F0 m 0 ls []) by rw [hH, hlo] at hZ; exact hZ
  clear hH hlo
  unfold sC_Good_weekend_1 at hE
  refine lv_aload_n C.1 C.2.1 dX13_weekend_0 rfl (lv_at hl 1 rfl) ?_
  refine lv_aload_n C.1 C.2.1 dX13_weekend_1 rfl (lv_at hl 0 rfl) ?_
  obtain ⟨r1, hr1, hE⟩ := it_b hE
  refine n_after [] C.2.2.2.2.2.1 C.2.2.2.2.2.2.2.1 hP hS (va_runV (As := []) (rest := [.ref (ad 0)]) ⟨C.1, C.2.1, hml, C.2.2.1, C.2.2.2.1⟩ (metC_Good_more_1 l G ad pl  q ix hby hq r1 hr1) (cwV (C := RX13) 0 C.2.2.2.1 (lw_V q1018 q603 q604 q103 q611) rfl rfl rfl (by decide +kernel) ⟨Nat.le_of_ble_eq_true rfl, Nat.le_of_ble_eq_true rfl⟩) (n_preV C hP hS [] rfl (by decide) rfl (n_recvH C hS hq rfl)) rfl rfl hl.1 rfl (lv_room (Nat.le_of_ble_eq_true rfl)) dX13_weekend_2 ⟨Nat.le_refl _, Nat.le_refl _⟩) pW_av rfl rfl rfl (fun H locs hP hS => ?_)
  obtain ⟨r2, hr2, hE⟩ := it_b hE
  refine n_afterS C.2.2.2.2.2.2.2.1 hS (va_runV (As := [.int r1]) (rest := []) ⟨C.1, C.2.1, hml, C.2.2.1, C.2.2.2.1⟩ (metC_Pet_gains l G ad pl _ _ _ _ r1  r2 hr2) (cwV (C := RX2) 1 C.2.2.2.1 (lw_V q1019 q1005 q1006 q82 q1007) rfl rfl rfl (by decide +kernel) ⟨Nat.le_of_ble_eq_true rfl, Nat.le_of_ble_eq_true rfl⟩) (n_preV0 C hP hS (va_recv C.2.2.2.2.1 hP (ci := 11) (q0 := 0) rfl rfl)) rfl rfl hl.1 rfl (lv_room (Nat.le_of_ble_eq_true rfl)) dX13_weekend_5 ⟨Nat.le_refl _, Nat.le_refl _⟩) (fun H locs hP hS => ?_)
  obtain rfl := Option.some.inj hE
  exact hret _ _ _ _ dX13_weekend_8 hP hS
def sC_Home_feeding_1 (v_ran : Int32) (v_bodies : Nat → Int32) (ix : Int32) (hby : Int32) (p1 : Int32) : Option (Int32 × Int32 × (Nat → Int32)) :=
  (sC_Trace_runs v_ran v_bodies 10).bind fun r1 =>
  some ((p1 + ix), r1.1, r1.2)
set_option maxHeartbeats 4000000 in
theorem metC_Home_feeding_1 (l : Launch) (G : kG) (ad : Nat → Nat) (pl : va_W) (v_ran : Int32) (v_bodies : Nat → Int32) (q : Nat) (ix : Int32) (hby : Int32) (p1 : Int32) (hq : (q, .inr (1, [.int ix, .int hby])) ∈ pl) (res : Int32 × Int32 × (Nat → Int32)) (hE : sC_Home_feeding_1 v_ran v_bodies ix hby p1 = some res) : Met l yX12_feeding (ws_ yX12_feeding cX12_feeding 3 (some .int)) ({ frames := 1, cells := 0, slots := 0, locals := 21 } : Room) (nPc G (tW G.2 ad v_ran v_bodies) pl (tWV ad) [.ref q, .int p1, .ref (ad 0)]) (nQc G (tW G.2 ad res.2.1 res.2.2) (tWV ad) (some (.int res.1))) 0 0 (nA (tWV ad)) := by
  refine n_ofW (own := RX12) (by decide) rfl (Nat.le_of_ble_eq_true rfl) ?_
  intro p e s m args below meth c ls C hml hP hS hl hr hlocks
  have hl : lv_has ls 3 [(0, .ref q), (1, .int p1), (2, .ref (ad 0))] := hl
  obtain ⟨Q, hQ⟩ : ∃ Q, Q = MQ below (nQc G (tW G.2 ad res.2.1 res.2.2) (tWV ad) (some (.int res.1))) args s 0 0 (nA (tWV ad)) := ⟨_, rfl⟩
  rw [← hQ]
  have hret : ∀ (pc : Nat) (ls : Array Slot) (H : Heap) (locs : List Loc), decode cX12_feeding pc = .ok (.ireturn, 1) → va_P G.1 vwCl (tW G.2 ad res.2.1 res.2.2) H → va_S (nA (tWV ad)) s.heap H locs → W p l e ({ frames := 1, cells := 0, slots := 0, locals := 21 } : Room) s m args below meth c H locs 0 0 Q (F0 m pc ls [(.int res.1)]) := by
    intro pc ls H locs hd hP hS
    rw [hQ]
    exact n_iret C hr hlocks hd hP hS
  clear hQ
  obtain ⟨H, hH⟩ : ∃ H, H = s.heap := ⟨_, rfl⟩
  obtain ⟨locs, hlo⟩ : ∃ locs : List Loc, locs = [] := ⟨_, rfl⟩
  have hP : va_P G.1 vwCl (tW G.2 ad v_ran v_bodies) H := by rw [hH]; exact hP
  have hS : va_S (nA (tWV ad)) s.heap H locs := by rw [hH, hlo]; exact hS
  suffices hZ : W p l e ({ frames := 1, cells := 0, slots := 0, locals := 21 } : Room) s m args below meth c H locs 0 0 Q (F0 m 0 ls []) by rw [hH, hlo] at hZ; exact hZ
  clear hH hlo
  unfold sC_Home_feeding_1 at hE
  refine lv_aload_n C.1 C.2.1 dX12_feeding_0 rfl (lv_at hl 2 rfl) ?_
  refine lv_bipush (v := 10) C.1 C.2.1 dX12_feeding_1 (by decide) ?_
  obtain ⟨r1, hr1, hE⟩ := it_b hE
  refine n_afterS C.2.2.2.2.2.2.2.1 hS (va_runV (As := [.int 10]) (rest := []) ⟨C.1, C.2.1, hml, C.2.2.1, C.2.2.2.1⟩ (metC_Trace_runs l G ad pl _ _ 10  r1 hr1) (cwV (C := RX1) 1 C.2.2.2.1 (lw_V q1249 q1231 q1232 q81 q1233) rfl rfl rfl (by decide +kernel) ⟨Nat.le_of_ble_eq_true rfl, Nat.le_of_ble_eq_true rfl⟩) (n_preV0 C hP hS (va_recv C.2.2.2.2.1 hP (ci := 14) (q0 := 0) rfl rfl)) rfl rfl hl.1 rfl (lv_room (Nat.le_of_ble_eq_true rfl)) dX12_feeding_3 ⟨Nat.le_refl _, Nat.le_refl _⟩) (fun H locs hP hS => ?_)
  refine lv_iload_n C.1 C.2.1 dX12_feeding_6 rfl (lv_at hl 1 rfl) ?_
  refine lv_aload_n C.1 C.2.1 dX12_feeding_7 rfl (lv_at hl 0 rfl) ?_
  refine h_get (j := 0) C hS hq (show vwCl[1]? = some (RX13, TX13, 2) from rfl) in_X13 (by decide) rfl rfl rfl q665 (Or.inl rfl) rfl dX12_feeding_8 ?_
  refine lv_iadd C.1 C.2.1 dX12_feeding_11 ?_
  obtain rfl := Option.some.inj hE
  exact hret _ _ _ _ dX12_feeding_12 hP hS
def sC_Good_feeding_1 (v_ran : Int32) (v_bodies : Nat → Int32) (ix : Int32) (hby : Int32) (p1 : Int32) : Option (Int32 × Int32 × (Nat → Int32)) :=
  (sC_Trace_runs v_ran v_bodies 20).bind fun r1 =>
  (sC_Home_feeding_1 r1.1 r1.2 ix hby p1).bind fun r2 =>
  some ((r2.1 + hby), r2.2.1, r2.2.2)
set_option maxHeartbeats 4000000 in
theorem metC_Good_feeding_1 (l : Launch) (G : kG) (ad : Nat → Nat) (pl : va_W) (v_ran : Int32) (v_bodies : Nat → Int32) (q : Nat) (ix : Int32) (hby : Int32) (p1 : Int32) (hq : (q, .inr (1, [.int ix, .int hby])) ∈ pl) (res : Int32 × Int32 × (Nat → Int32)) (hE : sC_Good_feeding_1 v_ran v_bodies ix hby p1 = some res) : Met l yX13_feeding (ws_ yX13_feeding cX13_feeding 3 (some .int)) ({ frames := 2, cells := 0, slots := 0, locals := 43 } : Room) (nPc G (tW G.2 ad v_ran v_bodies) pl (tWV ad) [.ref q, .int p1, .ref (ad 0)]) (nQc G (tW G.2 ad res.2.1 res.2.2) (tWV ad) (some (.int res.1))) 0 0 (nA (tWV ad)) := by
  refine n_ofW (own := RX13) (by decide) rfl (Nat.le_of_ble_eq_true rfl) ?_
  intro p e s m args below meth c ls C hml hP hS hl hr hlocks
  have hl : lv_has ls 3 [(0, .ref q), (1, .int p1), (2, .ref (ad 0))] := hl
  obtain ⟨Q, hQ⟩ : ∃ Q, Q = MQ below (nQc G (tW G.2 ad res.2.1 res.2.2) (tWV ad) (some (.int res.1))) args s 0 0 (nA (tWV ad)) := ⟨_, rfl⟩
  rw [← hQ]
  have hret : ∀ (pc : Nat) (ls : Array Slot) (H : Heap) (locs : List Loc), decode cX13_feeding pc = .ok (.ireturn, 1) → va_P G.1 vwCl (tW G.2 ad res.2.1 res.2.2) H → va_S (nA (tWV ad)) s.heap H locs → W p l e ({ frames := 2, cells := 0, slots := 0, locals := 43 } : Room) s m args below meth c H locs 0 0 Q (F0 m pc ls [(.int res.1)]) := by
    intro pc ls H locs hd hP hS
    rw [hQ]
    exact n_iret C hr hlocks hd hP hS
  clear hQ
  obtain ⟨H, hH⟩ : ∃ H, H = s.heap := ⟨_, rfl⟩
  obtain ⟨locs, hlo⟩ : ∃ locs : List Loc, locs = [] := ⟨_, rfl⟩
  have hP : va_P G.1 vwCl (tW G.2 ad v_ran v_bodies) H := by rw [hH]; exact hP
  have hS : va_S (nA (tWV ad)) s.heap H locs := by rw [hH, hlo]; exact hS
  suffices hZ : W p l e ({ frames := 2, cells := 0, slots := 0, locals := 43 } : Room) s m args below meth c H locs 0 0 Q (F0 m 0 ls []) by rw [hH, hlo] at hZ; exact hZ
  clear hH hlo
  unfold sC_Good_feeding_1 at hE
  refine lv_aload_n C.1 C.2.1 dX13_feeding_0 rfl (lv_at hl 2 rfl) ?_
  refine lv_bipush (v := 20) C.1 C.2.1 dX13_feeding_1 (by decide) ?_
  obtain ⟨r1, hr1, hE⟩ := it_b hE
  refine n_afterS C.2.2.2.2.2.2.2.1 hS (va_runV (As := [.int 20]) (rest := []) ⟨C.1, C.2.1, hml, C.2.2.1, C.2.2.2.1⟩ (metC_Trace_runs l G ad pl _ _ 20  r1 hr1) (cwV (C := RX1) 1 C.2.2.2.1 (lw_V q1245 q1231 q1232 q81 q1233) rfl rfl rfl (by decide +kernel) ⟨Nat.le_of_ble_eq_true rfl, Nat.le_of_ble_eq_true rfl⟩) (n_preV0 C hP hS (va_recv C.2.2.2.2.1 hP (ci := 14) (q0 := 0) rfl rfl)) rfl rfl hl.1 rfl (lv_room (Nat.le_of_ble_eq_true rfl)) dX13_feeding_3 ⟨Nat.le_refl _, Nat.le_refl _⟩) (fun H locs hP hS => ?_)
  refine lv_aload_n C.1 C.2.1 dX13_feeding_6 rfl (lv_at hl 0 rfl) ?_
  refine lv_iload_n C.1 C.2.1 dX13_feeding_7 rfl (lv_at hl 1 rfl) ?_
  refine lv_aload_n C.1 C.2.1 dX13_feeding_8 rfl (lv_at hl 2 rfl) ?_
  obtain ⟨r2, hr2, hE⟩ := it_b hE
  refine n_afterS C.2.2.2.2.2.2.2.1 hS (va_runSU (As := [.int p1, .ref (ad 0)]) (rest := []) (C.2.2.2.2.1.1 1 _ rfl).2 ⟨C.1, C.2.1, hml, C.2.2.1, C.2.2.2.1⟩ (metC_Home_feeding_1 l G ad pl _ _ q ix hby p1 hq r2 hr2) (va_cwSU 2 C.2.2.2.1 (lw_SU q1246 q1226 q684 q1224 q102 q1248) rfl rfl rfl (by decide +kernel) ⟨Nat.le_of_ble_eq_true rfl, Nat.le_of_ble_eq_true rfl⟩) (n_preV0 C hP hS (n_recvH C hS hq rfl)) rfl rfl hl.1 rfl (lv_room (Nat.le_of_ble_eq_true rfl)) dX13_feeding_9 ⟨Nat.le_refl _, Nat.le_refl _⟩) (fun H locs hP hS => ?_)
  refine lv_aload_n C.1 C.2.1 dX13_feeding_12 rfl (lv_at hl 0 rfl) ?_
  refine h_get (j := 1) C hS hq (show vwCl[1]? = some (RX13, TX13, 2) from rfl) in_X13 (by decide) rfl rfl rfl q671 (Or.inr q672) rfl dX13_feeding_13 ?_
  refine lv_iadd C.1 C.2.1 dX13_feeding_16 ?_
  obtain rfl := Option.some.inj hE
  exact hret _ _ _ _ dX13_feeding_17 hP hS
def sC_Home_weighing_1 (v_ran : Int32) (v_bodies : Nat → Int32) (ix : Int32) (hby : Int32) (p1 : Int32) : Option (Int32 × Int32 × (Nat → Int32)) :=
  (sC_Trace_runs v_ran v_bodies 11).bind fun r1 =>
  (sC_Good_feeding_1 r1.1 r1.2 ix hby p1).bind fun r2 =>
  some ((r2.1 * 2), r2.2.1, r2.2.2)
set_option maxHeartbeats 4000000 in
theorem metC_Home_weighing_1 (l : Launch) (G : kG) (ad : Nat → Nat) (pl : va_W) (v_ran : Int32) (v_bodies : Nat → Int32) (q : Nat) (ix : Int32) (hby : Int32) (p1 : Int32) (hq : (q, .inr (1, [.int ix, .int hby])) ∈ pl) (res : Int32 × Int32 × (Nat → Int32)) (hE : sC_Home_weighing_1 v_ran v_bodies ix hby p1 = some res) : Met l yX12_weighing (ws_ yX12_weighing cX12_weighing 3 (some .int)) ({ frames := 3, cells := 0, slots := 0, locals := 65 } : Room) (nPc G (tW G.2 ad v_ran v_bodies) pl (tWV ad) [.ref q, .int p1, .ref (ad 0)]) (nQc G (tW G.2 ad res.2.1 res.2.2) (tWV ad) (some (.int res.1))) 0 0 (nA (tWV ad)) := by
  refine n_ofW (own := RX12) (by decide) rfl (Nat.le_of_ble_eq_true rfl) ?_
  intro p e s m args below meth c ls C hml hP hS hl hr hlocks
  have hl : lv_has ls 3 [(0, .ref q), (1, .int p1), (2, .ref (ad 0))] := hl
  obtain ⟨Q, hQ⟩ : ∃ Q, Q = MQ below (nQc G (tW G.2 ad res.2.1 res.2.2) (tWV ad) (some (.int res.1))) args s 0 0 (nA (tWV ad)) := ⟨_, rfl⟩
  rw [← hQ]
  have hret : ∀ (pc : Nat) (ls : Array Slot) (H : Heap) (locs : List Loc), decode cX12_weighing pc = .ok (.ireturn, 1) → va_P G.1 vwCl (tW G.2 ad res.2.1 res.2.2) H → va_S (nA (tWV ad)) s.heap H locs → W p l e ({ frames := 3, cells := 0, slots := 0, locals := 65 } : Room) s m args below meth c H locs 0 0 Q (F0 m pc ls [(.int res.1)]) := by
    intro pc ls H locs hd hP hS
    rw [hQ]
    exact n_iret C hr hlocks hd hP hS
  clear hQ
  obtain ⟨H, hH⟩ : ∃ H, H = s.heap := ⟨_, rfl⟩
  obtain ⟨locs, hlo⟩ : ∃ locs : List Loc, locs = [] := ⟨_, rfl⟩
  have hP : va_P G.1 vwCl (tW G.2 ad v_ran v_bodies) H := by rw [hH]; exact hP
  have hS : va_S (nA (tWV ad)) s.heap H locs := by rw [hH, hlo]; exact hS
  suffices hZ : W p l e ({ frames := 3, cells := 0, slots := 0, locals := 65 } : Room) s m args below meth c H locs 0 0 Q (F0 m 0 ls []) by rw [hH, hlo] at hZ; exact hZ
  clear hH hlo
  unfold sC_Home_weighing_1 at hE
  refine lv_aload_n C.1 C.2.1 dX12_weighing_0 rfl (lv_at hl 2 rfl) ?_
  refine lv_bipush (v := 11) C.1 C.2.1 dX12_weighing_1 (by decide) ?_
  obtain ⟨r1, hr1, hE⟩ := it_b hE
  refine n_afterS C.2.2.2.2.2.2.2.1 hS (va_runV (As := [.int 11]) (rest := []) ⟨C.1, C.2.1, hml, C.2.2.1, C.2.2.2.1⟩ (metC_Trace_runs l G ad pl _ _ 11  r1 hr1) (cwV (C := RX1) 1 C.2.2.2.1 (lw_V q1249 q1231 q1232 q81 q1233) rfl rfl rfl (by decide +kernel) ⟨Nat.le_of_ble_eq_true rfl, Nat.le_of_ble_eq_true rfl⟩) (n_preV0 C hP hS (va_recv C.2.2.2.2.1 hP (ci := 14) (q0 := 0) rfl rfl)) rfl rfl hl.1 rfl (lv_room (Nat.le_of_ble_eq_true rfl)) dX12_weighing_3 ⟨Nat.le_refl _, Nat.le_refl _⟩) (fun H locs hP hS => ?_)
  refine lv_aload_n C.1 C.2.1 dX12_weighing_6 rfl (lv_at hl 0 rfl) ?_
  refine lv_iload_n C.1 C.2.1 dX12_weighing_7 rfl (lv_at hl 1 rfl) ?_
  refine lv_aload_n C.1 C.2.1 dX12_weighing_8 rfl (lv_at hl 2 rfl) ?_
  obtain ⟨r2, hr2, hE⟩ := it_b hE
  refine n_afterS C.2.2.2.2.2.2.2.1 hS (va_runU (As := [.int p1, .ref (ad 0)]) (rest := []) ⟨C.1, C.2.1, hml, C.2.2.1, C.2.2.2.1⟩ (metC_Good_feeding_1 l G ad pl _ _ q ix hby p1 hq r2 hr2) (va_cwO (C := RX13) (owner := "HamsterWeekends$Home") 2 C.2.2.2.1 (lw_O q1275 q1226 q1224 q1242 q1243 q103 q1244) rfl rfl rfl q1248 (by decide +kernel) ⟨Nat.le_of_ble_eq_true rfl, Nat.le_of_ble_eq_true rfl⟩) (n_preV0 C hP hS (n_recvH C hS hq rfl)) rfl rfl hl.1 rfl (lv_room (Nat.le_of_ble_eq_true rfl)) dX12_weighing_9 ⟨Nat.le_refl _, Nat.le_refl _⟩) (fun H locs hP hS => ?_)
  refine lv_iconst (v := 2) C.1 C.2.1 dX12_weighing_12 (by decide) ?_
  refine lv_imul C.1 C.2.1 dX12_weighing_13 ?_
  obtain rfl := Option.some.inj hE
  exact hret _ _ _ _ dX12_weighing_14 hP hS
def sC_Home_writing_1 (v_ran : Int32) (v_bodies : Nat → Int32) (ix : Int32) (hby : Int32) (p1 : Int32) : Option (Int32 × Int32 × (Nat → Int32)) :=
  (sC_Trace_runs v_ran v_bodies 12).bind fun r1 =>
  (sC_Home_weighing_1 r1.1 r1.2 ix hby p1).bind fun r2 =>
  (sC_Good_feeding_1 r2.2.1 r2.2.2 ix hby (p1 - hby)).bind fun r3 =>
  some ((r2.1 ^^^ r3.1), r3.2.1, r3.2.2)
set_option maxHeartbeats 4000000 in
theorem metC_Home_writing_1 (l : Launch) (G : kG) (ad : Nat → Nat) (pl : va_W) (v_ran : Int32) (v_bodies : Nat → Int32) (q : Nat) (ix : Int32) (hby : Int32) (p1 : Int32) (hq : (q, .inr (1, [.int ix, .int hby])) ∈ pl) (res : Int32 × Int32 × (Nat → Int32)) (hE : sC_Home_writing_1 v_ran v_bodies ix hby p1 = some res) : Met l yX12_writing (ws_ yX12_writing cX12_writing 4 (some .int)) ({ frames := 4, cells := 0, slots := 0, locals := 87 } : Room) (nPc G (tW G.2 ad v_ran v_bodies) pl (tWV ad) [.ref q, .int p1, .ref (ad 0)]) (nQc G (tW G.2 ad res.2.1 res.2.2) (tWV ad) (some (.int res.1))) 0 0 (nA (tWV ad)) := by
  refine n_ofW (own := RX12) (by decide) rfl (Nat.le_of_ble_eq_true rfl) ?_
  intro p e s m args below meth c ls C hml hP hS hl hr hlocks
  have hl : lv_has ls 4 [(0, .ref q), (1, .int p1), (2, .ref (ad 0))] := hl
  obtain ⟨Q, hQ⟩ : ∃ Q, Q = MQ below (nQc G (tW G.2 ad res.2.1 res.2.2) (tWV ad) (some (.int res.1))) args s 0 0 (nA (tWV ad)) := ⟨_, rfl⟩
  rw [← hQ]
  have hret : ∀ (pc : Nat) (ls : Array Slot) (H : Heap) (locs : List Loc), decode cX12_writing pc = .ok (.ireturn, 1) → va_P G.1 vwCl (tW G.2 ad res.2.1 res.2.2) H → va_S (nA (tWV ad)) s.heap H locs → W p l e ({ frames := 4, cells := 0, slots := 0, locals := 87 } : Room) s m args below meth c H locs 0 0 Q (F0 m pc ls [(.int res.1)]) := by
    intro pc ls H locs hd hP hS
    rw [hQ]
    exact n_iret C hr hlocks hd hP hS
  clear hQ
  obtain ⟨H, hH⟩ : ∃ H, H = s.heap := ⟨_, rfl⟩
  obtain ⟨locs, hlo⟩ : ∃ locs : List Loc, locs = [] := ⟨_, rfl⟩
  have hP : va_P G.1 vwCl (tW G.2 ad v_ran v_bodies) H := by rw [hH]; exact hP
  have hS : va_S (nA (tWV ad)) s.heap H locs := by rw [hH, hlo]; exact hS
  suffices hZ : W p l e ({ frames := 4, cells := 0, slots := 0, locals := 87 } : Room) s m args below meth c H locs 0 0 Q (F0 m 0 ls []) by rw [hH, hlo] at hZ; exact hZ
  clear hH hlo
  unfold sC_Home_writing_1 at hE
  refine lv_aload_n C.1 C.2.1 dX12_writing_0 rfl (lv_at hl 2 rfl) ?_
  refine lv_bipush (v := 12) C.1 C.2.1 dX12_writing_1 (by decide) ?_
  obtain ⟨r1, hr1, hE⟩ := it_b hE
  refine n_afterS C.2.2.2.2.2.2.2.1 hS (va_runV (As := [.int 12]) (rest := []) ⟨C.1, C.2.1, hml, C.2.2.1, C.2.2.2.1⟩ (metC_Trace_runs l G ad pl _ _ 12  r1 hr1) (cwV (C := RX1) 1 C.2.2.2.1 (lw_V q1249 q1231 q1232 q81 q1233) rfl rfl rfl (by decide +kernel) ⟨Nat.le_of_ble_eq_true rfl, Nat.le_of_ble_eq_true rfl⟩) (n_preV0 C hP hS (va_recv C.2.2.2.2.1 hP (ci := 14) (q0 := 0) rfl rfl)) rfl rfl hl.1 rfl (lv_room (Nat.le_of_ble_eq_true rfl)) dX12_writing_3 ⟨Nat.le_refl _, Nat.le_refl _⟩) (fun H locs hP hS => ?_)
  refine lv_aload_n C.1 C.2.1 dX12_writing_6 rfl (lv_at hl 0 rfl) ?_
  refine lv_iload_n C.1 C.2.1 dX12_writing_7 rfl (lv_at hl 1 rfl) ?_
  refine lv_aload_n C.1 C.2.1 dX12_writing_8 rfl (lv_at hl 2 rfl) ?_
  obtain ⟨r2, hr2, hE⟩ := it_b hE
  refine n_afterS C.2.2.2.2.2.2.2.1 hS (va_runU (As := [.int p1, .ref (ad 0)]) (rest := []) ⟨C.1, C.2.1, hml, C.2.2.1, C.2.2.2.1⟩ (metC_Home_weighing_1 l G ad pl _ _ q ix hby p1 hq r2 hr2) (va_cwU (C := RX13) (owner := "HamsterWeekends$Home") 2 C.2.2.2.1 (lw_U q1296 q1253 q1267 q1251 q102 q1274) rfl rfl rfl rfl (by decide +kernel) ⟨Nat.le_of_ble_eq_true rfl, Nat.le_of_ble_eq_true rfl⟩) (n_preV0 C hP hS (n_recvH C hS hq rfl)) rfl rfl hl.1 rfl (lv_room (Nat.le_of_ble_eq_true rfl)) dX12_writing_9 ⟨Nat.le_refl _, Nat.le_refl _⟩) (fun H locs hP hS => ?_)
  refine lv_istore_n (lv' := [(3, .int r2.1), (0, .ref q), (1, .int p1), (2, .ref (ad 0))]) C.1 C.2.1 dX12_writing_12 rfl hl (by decide) rfl (fun ls hl => ?_)
  refine lv_iload_n C.1 C.2.1 dX12_writing_13 rfl (lv_at hl 0 rfl) ?_
  refine lv_aload_n C.1 C.2.1 dX12_writing_14 rfl (lv_at hl 1 rfl) ?_
  refine lv_iload_n C.1 C.2.1 dX12_writing_15 rfl (lv_at hl 2 rfl) ?_
  refine lv_aload_n C.1 C.2.1 dX12_writing_16 rfl (lv_at hl 1 rfl) ?_
  refine h_get (j := 1) C hS hq (show vwCl[1]? = some (RX13, TX13, 2) from rfl) in_X13 (by decide) rfl rfl rfl q670 (Or.inl rfl) rfl dX12_writing_17 ?_
  refine lv_isub C.1 C.2.1 dX12_writing_20 ?_
  refine lv_aload_n C.1 C.2.1 dX12_writing_21 rfl (lv_at hl 3 rfl) ?_
  obtain ⟨r3, hr3, hE⟩ := it_b hE
  refine n_afterS C.2.2.2.2.2.2.2.1 hS (va_runU (As := [.int (p1 - hby), .ref (ad 0)]) (rest := [.int r2.1]) ⟨C.1, C.2.1, hml, C.2.2.1, C.2.2.2.1⟩ (metC_Good_feeding_1 l G ad pl _ _ q ix hby (p1 - hby) hq r3 hr3) (va_cwO (C := RX13) (owner := "HamsterWeekends$Home") 2 C.2.2.2.1 (lw_O q1275 q1226 q1224 q1242 q1243 q103 q1244) rfl rfl rfl q1248 (by decide +kernel) ⟨Nat.le_of_ble_eq_true rfl, Nat.le_of_ble_eq_true rfl⟩) (n_preV0 C hP hS (n_recvH C hS hq rfl)) rfl rfl hl.1 rfl (lv_room (Nat.le_of_ble_eq_true rfl)) dX12_writing_22 ⟨Nat.le_refl _, Nat.le_refl _⟩) (fun H locs hP hS => ?_)
  refine lv_ixor C.1 C.2.1 dX12_writing_25 ?_
  obtain rfl := Option.some.inj hE
  exact hret _ _ _ _ dX12_writing_26 hP hS
def sC_Cat_kind_2 (ix : Int32) (hby : Int32) : Option (Int32) :=
  some 2
set_option maxHeartbeats 4000000 in
theorem metC_Cat_kind_2 (l : Launch) (G : kG) (ad : Nat → Nat) (pl : va_W)  (q : Nat) (ix : Int32) (hby : Int32) (hq : (q, .inr (2, [.int ix, .int hby])) ∈ pl) (res : Int32) (hE : sC_Cat_kind_2 ix hby = some res) : Met l yX14_kind (ws_ yX14_kind cX14_kind 1 (some .int)) ({ frames := 0, cells := 0, slots := 0, locals := 0 } : Room) (nPc G [] pl [] [.ref q]) (nQc G [] [] (some (.int res))) 0 0 (nA []) := by
  refine n_ofW (own := RX14) (by decide) rfl (Nat.le_of_ble_eq_true rfl) ?_
  intro p e s m args below meth c ls C hml hP hS hl hr hlocks
  have hl : lv_has ls 1 [(0, .ref q)] := hl
  obtain ⟨Q, hQ⟩ : ∃ Q, Q = MQ below (nQc G [] [] (some (.int res))) args s 0 0 (nA []) := ⟨_, rfl⟩
  rw [← hQ]
  have hret : ∀ (pc : Nat) (ls : Array Slot) (H : Heap) (locs : List Loc), decode cX14_kind pc = .ok (.ireturn, 1) → va_P G.1 vwCl [] H → va_S (nA []) s.heap H locs → W p l e ({ frames := 0, cells := 0, slots := 0, locals := 0 } : Room) s m args below meth c H locs 0 0 Q (F0 m pc ls [(.int res)]) := by
    intro pc ls H locs hd hP hS
    rw [hQ]
    exact n_iret C hr hlocks hd hP hS
  clear hQ
  obtain ⟨H, hH⟩ : ∃ H, H = s.heap := ⟨_, rfl⟩
  obtain ⟨locs, hlo⟩ : ∃ locs : List Loc, locs = [] := ⟨_, rfl⟩
  have hP : va_P G.1 vwCl [] H := by rw [hH]; exact hP
  have hS : va_S (nA []) s.heap H locs := by rw [hH, hlo]; exact hS
  suffices hZ : W p l e ({ frames := 0, cells := 0, slots := 0, locals := 0 } : Room) s m args below meth c H locs 0 0 Q (F0 m 0 ls []) by rw [hH, hlo] at hZ; exact hZ
  clear hH hlo
  unfold sC_Cat_kind_2 at hE
  refine lv_iconst (v := 2) C.1 C.2.1 dX14_kind_0 (by decide) ?_
  obtain rfl := Option.some.inj hE
  exact hret _ _ _ _ dX14_kind_1 hP hS
def sC_Home_weekend_2 (v_weight : Int32) (ix : Int32) (hby : Int32) : Option (Int32) :=
  (sC_Pet_gains v_weight (-hby)).bind fun r1 =>
  some r1
set_option maxHeartbeats 4000000 in
theorem metC_Home_weekend_2 (l : Launch) (G : kG) (ad : Nat → Nat) (pl : va_W) (v_weight : Int32) (v_fright : Int32) (v_age : Int32) (v_asked : Nat → Int32) (q : Nat) (ix : Int32) (hby : Int32) (hq : (q, .inr (2, [.int ix, .int hby])) ∈ pl) (res : Int32) (hE : sC_Home_weekend_2 v_weight ix hby = some res) : Met l yX12_weekend (ws_ yX12_weekend cX12_weekend 2 none) ({ frames := 2, cells := 0, slots := 0, locals := 42 } : Room) (nPc G (pW G.2 ad v_weight v_fright v_age v_asked) pl (pWV ad) [.ref q, .ref (ad 0)]) (nQc G (pW G.2 ad res v_fright v_age v_asked) (pWV ad) none) 0 0 (nA (pWV ad)) := by
  refine n_ofW (own := RX12) (by decide) rfl (Nat.le_of_ble_eq_true rfl) ?_
  intro p e s m args below meth c ls C hml hP hS hl hr hlocks
  have hl : lv_has ls 2 [(0, .ref q), (1, .ref (ad 0))] := hl
  obtain ⟨Q, hQ⟩ : ∃ Q, Q = MQ below (nQc G (pW G.2 ad res v_fright v_age v_asked) (pWV ad) none) args s 0 0 (nA (pWV ad)) := ⟨_, rfl⟩
  rw [← hQ]
  have hret : ∀ (pc : Nat) (ls : Array Slot) (H : Heap) (locs : List Loc), decode cX12_weekend pc = .ok (.return_, 1) → va_P G.1 vwCl (pW G.2 ad res v_fright v_age v_asked) H → va_S (nA (pWV ad)) s.heap H locs → W p l e ({ frames := 2, cells := 0, slots := 0, locals := 42 } : Room) s m args below meth c H locs 0 0 Q (F0 m pc ls []) := by
    intro pc ls H locs hd hP hS
    rw [hQ]
    exact n_vret C hr hlocks hd hP hS
  clear hQ
  obtain ⟨H, hH⟩ : ∃ H, H = s.heap := ⟨_, rfl⟩
  obtain ⟨locs, hlo⟩ : ∃ locs : List Loc, locs = [] := ⟨_, rfl⟩
  have hP : va_P G.1 vwCl (pW G.2 ad v_weight v_fright v_age v_asked) H := by rw [hH]; exact hP
  have hS : va_S (nA (pWV ad)) s.heap H locs := by rw [hH, hlo]; exact hS
  suffices hZ : W p l e ({ frames := 2, cells := 0, slots := 0, locals := 42 } : Room) s m args below meth c H locs 0 0 Q (F0 m 0 ls []) by rw [hH, hlo] at hZ; exact hZ
  clear hH hlo
  unfold sC_Home_weekend_2 at hE
  refine lv_aload_n C.1 C.2.1 dX12_weekend_0 rfl (lv_at hl 1 rfl) ?_
  refine lv_aload_n C.1 C.2.1 dX12_weekend_1 rfl (lv_at hl 0 rfl) ?_
  refine h_get (j := 1) C hS hq (show vwCl[2]? = some (RX14, TX14, 2) from rfl) in_X14 (by decide) rfl rfl rfl q670 (Or.inl rfl) rfl dX12_weekend_2 ?_
  refine lv_ineg C.1 C.2.1 dX12_weekend_5 ?_
  obtain ⟨r1, hr1, hE⟩ := it_b hE
  refine n_afterS C.2.2.2.2.2.2.2.1 hS (va_runV (As := [.int (-hby)]) (rest := []) ⟨C.1, C.2.1, hml, C.2.2.1, C.2.2.2.1⟩ (metC_Pet_gains l G ad pl _ _ _ _ (-hby)  r1 hr1) (cwV (C := RX2) 1 C.2.2.2.1 (lw_V q1022 q1005 q1006 q82 q1007) rfl rfl rfl (by decide +kernel) ⟨Nat.le_of_ble_eq_true rfl, Nat.le_of_ble_eq_true rfl⟩) (n_preV0 C hP hS (va_recv C.2.2.2.2.1 hP (ci := 11) (q0 := 0) rfl rfl)) rfl rfl hl.1 rfl (lv_room (Nat.le_of_ble_eq_true rfl)) dX12_weekend_6 ⟨Nat.le_refl _, Nat.le_refl _⟩) (fun H locs hP hS => ?_)
  obtain rfl := Option.some.inj hE
  exact hret _ _ _ _ dX12_weekend_9 hP hS
def sC_Cat_weekend_2 (v_weight : Int32) (v_fright : Int32) (ix : Int32) (hby : Int32) : Option (Int32 × Int32) :=
  (sC_Home_weekend_2 v_weight ix hby).bind fun r1 =>
  (sC_Cat_frightens_2 ix hby v_fright).bind fun r2 =>
  some (r1, r2)
set_option maxHeartbeats 4000000 in
theorem metC_Cat_weekend_2 (l : Launch) (G : kG) (ad : Nat → Nat) (pl : va_W) (v_weight : Int32) (v_fright : Int32) (v_age : Int32) (v_asked : Nat → Int32) (q : Nat) (ix : Int32) (hby : Int32) (hq : (q, .inr (2, [.int ix, .int hby])) ∈ pl) (res : Int32 × Int32) (hE : sC_Cat_weekend_2 v_weight v_fright ix hby = some res) : Met l yX14_weekend (ws_ yX14_weekend cX14_weekend 2 none) ({ frames := 3, cells := 0, slots := 0, locals := 63 } : Room) (nPc G (pW G.2 ad v_weight v_fright v_age v_asked) pl (pWV ad) [.ref q, .ref (ad 0)]) (nQc G (pW G.2 ad res.1 res.2 v_age v_asked) (pWV ad) none) 0 0 (nA (pWV ad)) := by
  refine n_ofW (own := RX14) (by decide) rfl (Nat.le_of_ble_eq_true rfl) ?_
  intro p e s m args below meth c ls C hml hP hS hl hr hlocks
  have hl : lv_has ls 2 [(0, .ref q), (1, .ref (ad 0))] := hl
  obtain ⟨Q, hQ⟩ : ∃ Q, Q = MQ below (nQc G (pW G.2 ad res.1 res.2 v_age v_asked) (pWV ad) none) args s 0 0 (nA (pWV ad)) := ⟨_, rfl⟩
  rw [← hQ]
  have hret : ∀ (pc : Nat) (ls : Array Slot) (H : Heap) (locs : List Loc), decode cX14_weekend pc = .ok (.return_, 1) → va_P G.1 vwCl (pW G.2 ad res.1 res.2 v_age v_asked) H → va_S (nA (pWV ad)) s.heap H locs → W p l e ({ frames := 3, cells := 0, slots := 0, locals := 63 } : Room) s m args below meth c H locs 0 0 Q (F0 m pc ls []) := by
    intro pc ls H locs hd hP hS
    rw [hQ]
    exact n_vret C hr hlocks hd hP hS
  clear hQ
  obtain ⟨H, hH⟩ : ∃ H, H = s.heap := ⟨_, rfl⟩
  obtain ⟨locs, hlo⟩ : ∃ locs : List Loc, locs = [] := ⟨_, rfl⟩
  have hP : va_P G.1 vwCl (pW G.2 ad v_weight v_fright v_age v_asked) H := by rw [hH]; exact hP
  have hS : va_S (nA (pWV ad)) s.heap H locs := by rw [hH, hlo]; exact hS
  suffices hZ : W p l e ({ frames := 3, cells := 0, slots := 0, locals := 63 } : Room) s m args below meth c H locs 0 0 Q (F0 m 0 ls []) by rw [hH, hlo] at hZ; exact hZ
  clear hH hlo
  unfold sC_Cat_weekend_2 at hE
  refine lv_aload_n C.1 C.2.1 dX14_weekend_0 rfl (lv_at hl 0 rfl) ?_
  refine lv_aload_n C.1 C.2.1 dX14_weekend_1 rfl (lv_at hl 1 rfl) ?_
  obtain ⟨r1, hr1, hE⟩ := it_b hE
  refine n_afterS C.2.2.2.2.2.2.2.1 hS (va_runSU (As := [.ref (ad 0)]) (rest := []) (C.2.2.2.2.1.1 2 _ rfl).2 ⟨C.1, C.2.1, hml, C.2.2.1, C.2.2.2.1⟩ (metC_Home_weekend_2 l G ad pl _ _ _ _ q ix hby hq r1 hr1) (va_cwSU 1 C.2.2.2.1 (lw_SU q1011 q999 q693 q997 q102 q1021) rfl rfl rfl (by decide +kernel) ⟨Nat.le_of_ble_eq_true rfl, Nat.le_of_ble_eq_true rfl⟩) (n_preV0 C hP hS (n_recvH C hS hq rfl)) rfl rfl hl.1 rfl (lv_room (Nat.le_of_ble_eq_true rfl)) dX14_weekend_2 ⟨Nat.le_refl _, Nat.le_refl _⟩) (fun H locs hP hS => ?_)
  refine lv_aload_n C.1 C.2.1 dX14_weekend_5 rfl (lv_at hl 1 rfl) ?_
  refine lv_aload_n C.1 C.2.1 dX14_weekend_6 rfl (lv_at hl 0 rfl) ?_
  refine lv_aload_n C.1 C.2.1 dX14_weekend_7 rfl (lv_at hl 1 rfl) ?_
  refine pWg_0_1 q152 C hP dX14_weekend_8 ?_
  obtain ⟨r2, hr2, hE⟩ := it_b hE
  refine n_after [] C.2.2.2.2.2.1 C.2.2.2.2.2.2.2.1 hP hS (va_runV (As := [.int v_fright]) (rest := [.ref (ad 0)]) ⟨C.1, C.2.1, hml, C.2.2.1, C.2.2.2.1⟩ (metC_Cat_frightens_2 l G ad pl  q ix hby v_fright hq r2 hr2) (cwV (C := RX14) 1 C.2.2.2.1 (lw_V q1012 q614 q615 q104 q625) rfl rfl rfl (by decide +kernel) ⟨Nat.le_of_ble_eq_true rfl, Nat.le_of_ble_eq_true rfl⟩) (n_preV C hP hS [] rfl (by decide) rfl (n_recvH C hS hq rfl)) rfl rfl hl.1 rfl (lv_room (Nat.le_of_ble_eq_true rfl)) dX14_weekend_11 ⟨Nat.le_refl _, Nat.le_refl _⟩) pW_av rfl rfl rfl (fun H locs hP hS => ?_)
  refine pWp_0_1 q152 C hP hS dX14_weekend_14 (fun H locs hP hS => ?_)
  obtain rfl := Option.some.inj hE
  exact hret _ _ _ _ dX14_weekend_17 hP hS
def sC_Home_feeding_2 (v_ran : Int32) (v_bodies : Nat → Int32) (ix : Int32) (hby : Int32) (p1 : Int32) : Option (Int32 × Int32 × (Nat → Int32)) :=
  (sC_Trace_runs v_ran v_bodies 10).bind fun r1 =>
  some ((p1 + ix), r1.1, r1.2)
set_option maxHeartbeats 4000000 in
theorem metC_Home_feeding_2 (l : Launch) (G : kG) (ad : Nat → Nat) (pl : va_W) (v_ran : Int32) (v_bodies : Nat → Int32) (q : Nat) (ix : Int32) (hby : Int32) (p1 : Int32) (hq : (q, .inr (2, [.int ix, .int hby])) ∈ pl) (res : Int32 × Int32 × (Nat → Int32)) (hE : sC_Home_feeding_2 v_ran v_bodies ix hby p1 = some res) : Met l yX12_feeding (ws_ yX12_feeding cX12_feeding 3 (some .int)) ({ frames := 1, cells := 0, slots := 0, locals := 21 } : Room) (nPc G (tW G.2 ad v_ran v_bodies) pl (tWV ad) [.ref q, .int p1, .ref (ad 0)]) (nQc G (tW G.2 ad res.2.1 res.2.2) (tWV ad) (some (.int res.1))) 0 0 (nA (tWV ad)) := by
  refine n_ofW (own := RX12) (by decide) rfl (Nat.le_of_ble_eq_true rfl) ?_
  intro p e s m args below meth c ls C hml hP hS hl hr hlocks
  have hl : lv_has ls 3 [(0, .ref q), (1, .int p1), (2, .ref (ad 0))] := hl
  obtain ⟨Q, hQ⟩ : ∃ Q, Q = MQ below (nQc G (tW G.2 ad res.2.1 res.2.2) (tWV ad) (some (.int res.1))) args s 0 0 (nA (tWV ad)) := ⟨_, rfl⟩
  rw [← hQ]
  have hret : ∀ (pc : Nat) (ls : Array Slot) (H : Heap) (locs : List Loc), decode cX12_feeding pc = .ok (.ireturn, 1) → va_P G.1 vwCl (tW G.2 ad res.2.1 res.2.2) H → va_S (nA (tWV ad)) s.heap H locs → W p l e ({ frames := 1, cells := 0, slots := 0, locals := 21 } : Room) s m args below meth c H locs 0 0 Q (F0 m pc ls [(.int res.1)]) := by
    intro pc ls H locs hd hP hS
    rw [hQ]
    exact n_iret C hr hlocks hd hP hS
  clear hQ
  obtain ⟨H, hH⟩ : ∃ H, H = s.heap := ⟨_, rfl⟩
  obtain ⟨locs, hlo⟩ : ∃ locs : List Loc, locs = [] := ⟨_, rfl⟩
  have hP : va_P G.1 vwCl (tW G.2 ad v_ran v_bodies) H := by rw [hH]; exact hP
  have hS : va_S (nA (tWV ad)) s.heap H locs := by rw [hH, hlo]; exact hS
  suffices hZ : W p l e ({ frames := 1, cells := 0, slots := 0, locals := 21 } : Room) s m args below meth c H locs 0 0 Q (F0 m 0 ls []) by rw [hH, hlo] at hZ; exact hZ
  clear hH hlo
  unfold sC_Home_feeding_2 at hE
  refine lv_aload_n C.1 C.2.1 dX12_feeding_0 rfl (lv_at hl 2 rfl) ?_
  refine lv_bipush (v := 10) C.1 C.2.1 dX12_feeding_1 (by decide) ?_
  obtain ⟨r1, hr1, hE⟩ := it_b hE
  refine n_afterS C.2.2.2.2.2.2.2.1 hS (va_runV (As := [.int 10]) (rest := []) ⟨C.1, C.2.1, hml, C.2.2.1, C.2.2.2.1⟩ (metC_Trace_runs l G ad pl _ _ 10  r1 hr1) (cwV (C := RX1) 1 C.2.2.2.1 (lw_V q1249 q1231 q1232 q81 q1233) rfl rfl rfl (by decide +kernel) ⟨Nat.le_of_ble_eq_true rfl, Nat.le_of_ble_eq_true rfl⟩) (n_preV0 C hP hS (va_recv C.2.2.2.2.1 hP (ci := 14) (q0 := 0) rfl rfl)) rfl rfl hl.1 rfl (lv_room (Nat.le_of_ble_eq_true rfl)) dX12_feeding_3 ⟨Nat.le_refl _, Nat.le_refl _⟩) (fun H locs hP hS => ?_)
  refine lv_iload_n C.1 C.2.1 dX12_feeding_6 rfl (lv_at hl 1 rfl) ?_
  refine lv_aload_n C.1 C.2.1 dX12_feeding_7 rfl (lv_at hl 0 rfl) ?_
  refine h_get (j := 0) C hS hq (show vwCl[2]? = some (RX14, TX14, 2) from rfl) in_X14 (by decide) rfl rfl rfl q665 (Or.inl rfl) rfl dX12_feeding_8 ?_
  refine lv_iadd C.1 C.2.1 dX12_feeding_11 ?_
  obtain rfl := Option.some.inj hE
  exact hret _ _ _ _ dX12_feeding_12 hP hS
def sC_Home_weighing_2 (v_ran : Int32) (v_bodies : Nat → Int32) (ix : Int32) (hby : Int32) (p1 : Int32) : Option (Int32 × Int32 × (Nat → Int32)) :=
  (sC_Trace_runs v_ran v_bodies 11).bind fun r1 =>
  (sC_Home_feeding_2 r1.1 r1.2 ix hby p1).bind fun r2 =>
  some ((r2.1 * 2), r2.2.1, r2.2.2)
set_option maxHeartbeats 4000000 in
theorem metC_Home_weighing_2 (l : Launch) (G : kG) (ad : Nat → Nat) (pl : va_W) (v_ran : Int32) (v_bodies : Nat → Int32) (q : Nat) (ix : Int32) (hby : Int32) (p1 : Int32) (hq : (q, .inr (2, [.int ix, .int hby])) ∈ pl) (res : Int32 × Int32 × (Nat → Int32)) (hE : sC_Home_weighing_2 v_ran v_bodies ix hby p1 = some res) : Met l yX12_weighing (ws_ yX12_weighing cX12_weighing 3 (some .int)) ({ frames := 2, cells := 0, slots := 0, locals := 43 } : Room) (nPc G (tW G.2 ad v_ran v_bodies) pl (tWV ad) [.ref q, .int p1, .ref (ad 0)]) (nQc G (tW G.2 ad res.2.1 res.2.2) (tWV ad) (some (.int res.1))) 0 0 (nA (tWV ad)) := by
  refine n_ofW (own := RX12) (by decide) rfl (Nat.le_of_ble_eq_true rfl) ?_
  intro p e s m args below meth c ls C hml hP hS hl hr hlocks
  have hl : lv_has ls 3 [(0, .ref q), (1, .int p1), (2, .ref (ad 0))] := hl
  obtain ⟨Q, hQ⟩ : ∃ Q, Q = MQ below (nQc G (tW G.2 ad res.2.1 res.2.2) (tWV ad) (some (.int res.1))) args s 0 0 (nA (tWV ad)) := ⟨_, rfl⟩
  rw [← hQ]
  have hret : ∀ (pc : Nat) (ls : Array Slot) (H : Heap) (locs : List Loc), decode cX12_weighing pc = .ok (.ireturn, 1) → va_P G.1 vwCl (tW G.2 ad res.2.1 res.2.2) H → va_S (nA (tWV ad)) s.heap H locs → W p l e ({ frames := 2, cells := 0, slots := 0, locals := 43 } : Room) s m args below meth c H locs 0 0 Q (F0 m pc ls [(.int res.1)]) := by
    intro pc ls H locs hd hP hS
    rw [hQ]
    exact n_iret C hr hlocks hd hP hS
  clear hQ
  obtain ⟨H, hH⟩ : ∃ H, H = s.heap := ⟨_, rfl⟩
  obtain ⟨locs, hlo⟩ : ∃ locs : List Loc, locs = [] := ⟨_, rfl⟩
  have hP : va_P G.1 vwCl (tW G.2 ad v_ran v_bodies) H := by rw [hH]; exact hP
  have hS : va_S (nA (tWV ad)) s.heap H locs := by rw [hH, hlo]; exact hS
  suffices hZ : W p l e ({ frames := 2, cells := 0, slots := 0, locals := 43 } : Room) s m args below meth c H locs 0 0 Q (F0 m 0 ls []) by rw [hH, hlo] at hZ; exact hZ
  clear hH hlo
  unfold sC_Home_weighing_2 at hE
  refine lv_aload_n C.1 C.2.1 dX12_weighing_0 rfl (lv_at hl 2 rfl) ?_
  refine lv_bipush (v := 11) C.1 C.2.1 dX12_weighing_1 (by decide) ?_
  obtain ⟨r1, hr1, hE⟩ := it_b hE
  refine n_afterS C.2.2.2.2.2.2.2.1 hS (va_runV (As := [.int 11]) (rest := []) ⟨C.1, C.2.1, hml, C.2.2.1, C.2.2.2.1⟩ (metC_Trace_runs l G ad pl _ _ 11  r1 hr1) (cwV (C := RX1) 1 C.2.2.2.1 (lw_V q1249 q1231 q1232 q81 q1233) rfl rfl rfl (by decide +kernel) ⟨Nat.le_of_ble_eq_true rfl, Nat.le_of_ble_eq_true rfl⟩) (n_preV0 C hP hS (va_recv C.2.2.2.2.1 hP (ci := 14) (q0 := 0) rfl rfl)) rfl rfl hl.1 rfl (lv_room (Nat.le_of_ble_eq_true rfl)) dX12_weighing_3 ⟨Nat.le_refl _, Nat.le_refl _⟩) (fun H locs hP hS => ?_)
  refine lv_aload_n C.1 C.2.1 dX12_weighing_6 rfl (lv_at hl 0 rfl) ?_
  refine lv_iload_n C.1 C.2.1 dX12_weighing_7 rfl (lv_at hl 1 rfl) ?_
  refine lv_aload_n C.1 C.2.1 dX12_weighing_8 rfl (lv_at hl 2 rfl) ?_
  obtain ⟨r2, hr2, hE⟩ := it_b hE
  refine n_afterS C.2.2.2.2.2.2.2.1 hS (va_runU (As := [.int p1, .ref (ad 0)]) (rest := []) ⟨C.1, C.2.1, hml, C.2.2.1, C.2.2.2.1⟩ (metC_Home_feeding_2 l G ad pl _ _ q ix hby p1 hq r2 hr2) (va_cwU (C := RX14) (owner := "HamsterWeekends$Home") 2 C.2.2.2.1 (lw_U q1275 q1226 q1239 q1224 q102 q1248) rfl rfl rfl rfl (by decide +kernel) ⟨Nat.le_of_ble_eq_true rfl, Nat.le_of_ble_eq_true rfl⟩) (n_preV0 C hP hS (n_recvH C hS hq rfl)) rfl rfl hl.1 rfl (lv_room (Nat.le_of_ble_eq_true rfl)) dX12_weighing_9 ⟨Nat.le_refl _, Nat.le_refl _⟩) (fun H locs hP hS => ?_)
  refine lv_iconst (v := 2) C.1 C.2.1 dX12_weighing_12 (by decide) ?_
  refine lv_imul C.1 C.2.1 dX12_weighing_13 ?_
  obtain rfl := Option.some.inj hE
  exact hret _ _ _ _ dX12_weighing_14 hP hS
def sC_Cat_weighing_2 (v_ran : Int32) (v_bodies : Nat → Int32) (ix : Int32) (hby : Int32) (p1 : Int32) : Option (Int32 × Int32 × (Nat → Int32)) :=
  (sC_Trace_runs v_ran v_bodies 30).bind fun r1 =>
  (sC_Home_weighing_2 r1.1 r1.2 ix hby p1).bind fun r2 =>
  some ((r2.1 * 3), r2.2.1, r2.2.2)
set_option maxHeartbeats 4000000 in
theorem metC_Cat_weighing_2 (l : Launch) (G : kG) (ad : Nat → Nat) (pl : va_W) (v_ran : Int32) (v_bodies : Nat → Int32) (q : Nat) (ix : Int32) (hby : Int32) (p1 : Int32) (hq : (q, .inr (2, [.int ix, .int hby])) ∈ pl) (res : Int32 × Int32 × (Nat → Int32)) (hE : sC_Cat_weighing_2 v_ran v_bodies ix hby p1 = some res) : Met l yX14_weighing (ws_ yX14_weighing cX14_weighing 3 (some .int)) ({ frames := 3, cells := 0, slots := 0, locals := 65 } : Room) (nPc G (tW G.2 ad v_ran v_bodies) pl (tWV ad) [.ref q, .int p1, .ref (ad 0)]) (nQc G (tW G.2 ad res.2.1 res.2.2) (tWV ad) (some (.int res.1))) 0 0 (nA (tWV ad)) := by
  refine n_ofW (own := RX14) (by decide) rfl (Nat.le_of_ble_eq_true rfl) ?_
  intro p e s m args below meth c ls C hml hP hS hl hr hlocks
  have hl : lv_has ls 3 [(0, .ref q), (1, .int p1), (2, .ref (ad 0))] := hl
  obtain ⟨Q, hQ⟩ : ∃ Q, Q = MQ below (nQc G (tW G.2 ad res.2.1 res.2.2) (tWV ad) (some (.int res.1))) args s 0 0 (nA (tWV ad)) := ⟨_, rfl⟩
  rw [← hQ]
  have hret : ∀ (pc : Nat) (ls : Array Slot) (H : Heap) (locs : List Loc), decode cX14_weighing pc = .ok (.ireturn, 1) → va_P G.1 vwCl (tW G.2 ad res.2.1 res.2.2) H → va_S (nA (tWV ad)) s.heap H locs → W p l e ({ frames := 3, cells := 0, slots := 0, locals := 65 } : Room) s m args below meth c H locs 0 0 Q (F0 m pc ls [(.int res.1)]) := by
    intro pc ls H locs hd hP hS
    rw [hQ]
    exact n_iret C hr hlocks hd hP hS
  clear hQ
  obtain ⟨H, hH⟩ : ∃ H, H = s.heap := ⟨_, rfl⟩
  obtain ⟨locs, hlo⟩ : ∃ locs : List Loc, locs = [] := ⟨_, rfl⟩
  have hP : va_P G.1 vwCl (tW G.2 ad v_ran v_bodies) H := by rw [hH]; exact hP
  have hS : va_S (nA (tWV ad)) s.heap H locs := by rw [hH, hlo]; exact hS
  suffices hZ : W p l e ({ frames := 3, cells := 0, slots := 0, locals := 65 } : Room) s m args below meth c H locs 0 0 Q (F0 m 0 ls []) by rw [hH, hlo] at hZ; exact hZ
  clear hH hlo
  unfold sC_Cat_weighing_2 at hE
  refine lv_aload_n C.1 C.2.1 dX14_weighing_0 rfl (lv_at hl 2 rfl) ?_
  refine lv_bipush (v := 30) C.1 C.2.1 dX14_weighing_1 (by decide) ?_
  obtain ⟨r1, hr1, hE⟩ := it_b hE
  refine n_afterS C.2.2.2.2.2.2.2.1 hS (va_runV (As := [.int 30]) (rest := []) ⟨C.1, C.2.1, hml, C.2.2.1, C.2.2.2.1⟩ (metC_Trace_runs l G ad pl _ _ 30  r1 hr1) (cwV (C := RX1) 1 C.2.2.2.1 (lw_V q1263 q1231 q1232 q81 q1233) rfl rfl rfl (by decide +kernel) ⟨Nat.le_of_ble_eq_true rfl, Nat.le_of_ble_eq_true rfl⟩) (n_preV0 C hP hS (va_recv C.2.2.2.2.1 hP (ci := 14) (q0 := 0) rfl rfl)) rfl rfl hl.1 rfl (lv_room (Nat.le_of_ble_eq_true rfl)) dX14_weighing_3 ⟨Nat.le_refl _, Nat.le_refl _⟩) (fun H locs hP hS => ?_)
  refine lv_aload_n C.1 C.2.1 dX14_weighing_6 rfl (lv_at hl 0 rfl) ?_
  refine lv_iload_n C.1 C.2.1 dX14_weighing_7 rfl (lv_at hl 1 rfl) ?_
  refine lv_aload_n C.1 C.2.1 dX14_weighing_8 rfl (lv_at hl 2 rfl) ?_
  obtain ⟨r2, hr2, hE⟩ := it_b hE
  refine n_afterS C.2.2.2.2.2.2.2.1 hS (va_runSU (As := [.int p1, .ref (ad 0)]) (rest := []) (C.2.2.2.2.1.1 2 _ rfl).2 ⟨C.1, C.2.1, hml, C.2.2.1, C.2.2.2.1⟩ (metC_Home_weighing_2 l G ad pl _ _ q ix hby p1 hq r2 hr2) (va_cwSU 2 C.2.2.2.1 (lw_SU q1264 q1253 q693 q1251 q102 q1274) rfl rfl rfl (by decide +kernel) ⟨Nat.le_of_ble_eq_true rfl, Nat.le_of_ble_eq_true rfl⟩) (n_preV0 C hP hS (n_recvH C hS hq rfl)) rfl rfl hl.1 rfl (lv_room (Nat.le_of_ble_eq_true rfl)) dX14_weighing_9 ⟨Nat.le_refl _, Nat.le_refl _⟩) (fun H locs hP hS => ?_)
  refine lv_iconst (v := 3) C.1 C.2.1 dX14_weighing_12 (by decide) ?_
  refine lv_imul C.1 C.2.1 dX14_weighing_13 ?_
  obtain rfl := Option.some.inj hE
  exact hret _ _ _ _ dX14_weighing_14 hP hS
def sC_Home_writing_2 (v_ran : Int32) (v_bodies : Nat → Int32) (ix : Int32) (hby : Int32) (p1 : Int32) : Option (Int32 × Int32 × (Nat → Int32)) :=
  (sC_Trace_runs v_ran v_bodies 12).bind fun r1 =>
  (sC_Cat_weighing_2 r1.1 r1.2 ix hby p1).bind fun r2 =>
  (sC_Home_feeding_2 r2.2.1 r2.2.2 ix hby (p1 - hby)).bind fun r3 =>
  some ((r2.1 ^^^ r3.1), r3.2.1, r3.2.2)
set_option maxHeartbeats 4000000 in
theorem metC_Home_writing_2 (l : Launch) (G : kG) (ad : Nat → Nat) (pl : va_W) (v_ran : Int32) (v_bodies : Nat → Int32) (q : Nat) (ix : Int32) (hby : Int32) (p1 : Int32) (hq : (q, .inr (2, [.int ix, .int hby])) ∈ pl) (res : Int32 × Int32 × (Nat → Int32)) (hE : sC_Home_writing_2 v_ran v_bodies ix hby p1 = some res) : Met l yX12_writing (ws_ yX12_writing cX12_writing 4 (some .int)) ({ frames := 4, cells := 0, slots := 0, locals := 87 } : Room) (nPc G (tW G.2 ad v_ran v_bodies) pl (tWV ad) [.ref q, .int p1, .ref (ad 0)]) (nQc G (tW G.2 ad res.2.1 res.2.2) (tWV ad) (some (.int res.1))) 0 0 (nA (tWV ad)) := by
  refine n_ofW (own := RX12) (by decide) rfl (Nat.le_of_ble_eq_true rfl) ?_
  intro p e s m args below meth c ls C hml hP hS hl hr hlocks
  have hl : lv_has ls 4 [(0, .ref q), (1, .int p1), (2, .ref (ad 0))] := hl
  obtain ⟨Q, hQ⟩ : ∃ Q, Q = MQ below (nQc G (tW G.2 ad res.2.1 res.2.2) (tWV ad) (some (.int res.1))) args s 0 0 (nA (tWV ad)) := ⟨_, rfl⟩
  rw [← hQ]
  have hret : ∀ (pc : Nat) (ls : Array Slot) (H : Heap) (locs : List Loc), decode cX12_writing pc = .ok (.ireturn, 1) → va_P G.1 vwCl (tW G.2 ad res.2.1 res.2.2) H → va_S (nA (tWV ad)) s.heap H locs → W p l e ({ frames := 4, cells := 0, slots := 0, locals := 87 } : Room) s m args below meth c H locs 0 0 Q (F0 m pc ls [(.int res.1)]) := by
    intro pc ls H locs hd hP hS
    rw [hQ]
    exact n_iret C hr hlocks hd hP hS
  clear hQ
  obtain ⟨H, hH⟩ : ∃ H, H = s.heap := ⟨_, rfl⟩
  obtain ⟨locs, hlo⟩ : ∃ locs : List Loc, locs = [] := ⟨_, rfl⟩
  have hP : va_P G.1 vwCl (tW G.2 ad v_ran v_bodies) H := by rw [hH]; exact hP
  have hS : va_S (nA (tWV ad)) s.heap H locs := by rw [hH, hlo]; exact hS
  suffices hZ : W p l e ({ frames := 4, cells := 0, slots := 0, locals := 87 } : Room) s m args below meth c H locs 0 0 Q (F0 m 0 ls []) by rw [hH, hlo] at hZ; exact hZ
  clear hH hlo
  unfold sC_Home_writing_2 at hE
  refine lv_aload_n C.1 C.2.1 dX12_writing_0 rfl (lv_at hl 2 rfl) ?_
  refine lv_bipush (v := 12) C.1 C.2.1 dX12_writing_1 (by decide) ?_
  obtain ⟨r1, hr1, hE⟩ := it_b hE
  refine n_afterS C.2.2.2.2.2.2.2.1 hS (va_runV (As := [.int 12]) (rest := []) ⟨C.1, C.2.1, hml, C.2.2.1, C.2.2.2.1⟩ (metC_Trace_runs l G ad pl _ _ 12  r1 hr1) (cwV (C := RX1) 1 C.2.2.2.1 (lw_V q1249 q1231 q1232 q81 q1233) rfl rfl rfl (by decide +kernel) ⟨Nat.le_of_ble_eq_true rfl, Nat.le_of_ble_eq_true rfl⟩) (n_preV0 C hP hS (va_recv C.2.2.2.2.1 hP (ci := 14) (q0 := 0) rfl rfl)) rfl rfl hl.1 rfl (lv_room (Nat.le_of_ble_eq_true rfl)) dX12_writing_3 ⟨Nat.le_refl _, Nat.le_refl _⟩) (fun H locs hP hS => ?_)
  refine lv_aload_n C.1 C.2.1 dX12_writing_6 rfl (lv_at hl 0 rfl) ?_
  refine lv_iload_n C.1 C.2.1 dX12_writing_7 rfl (lv_at hl 1 rfl) ?_
  refine lv_aload_n C.1 C.2.1 dX12_writing_8 rfl (lv_at hl 2 rfl) ?_
  obtain ⟨r2, hr2, hE⟩ := it_b hE
  refine n_afterS C.2.2.2.2.2.2.2.1 hS (va_runU (As := [.int p1, .ref (ad 0)]) (rest := []) ⟨C.1, C.2.1, hml, C.2.2.1, C.2.2.2.1⟩ (metC_Cat_weighing_2 l G ad pl _ _ q ix hby p1 hq r2 hr2) (va_cwO (C := RX14) (owner := "HamsterWeekends$Home") 2 C.2.2.2.1 (lw_O q1296 q1253 q1251 q1260 q1261 q104 q1262) rfl rfl rfl q1274 (by decide +kernel) ⟨Nat.le_of_ble_eq_true rfl, Nat.le_of_ble_eq_true rfl⟩) (n_preV0 C hP hS (n_recvH C hS hq rfl)) rfl rfl hl.1 rfl (lv_room (Nat.le_of_ble_eq_true rfl)) dX12_writing_9 ⟨Nat.le_refl _, Nat.le_refl _⟩) (fun H locs hP hS => ?_)
  refine lv_istore_n (lv' := [(3, .int r2.1), (0, .ref q), (1, .int p1), (2, .ref (ad 0))]) C.1 C.2.1 dX12_writing_12 rfl hl (by decide) rfl (fun ls hl => ?_)
  refine lv_iload_n C.1 C.2.1 dX12_writing_13 rfl (lv_at hl 0 rfl) ?_
  refine lv_aload_n C.1 C.2.1 dX12_writing_14 rfl (lv_at hl 1 rfl) ?_
  refine lv_iload_n C.1 C.2.1 dX12_writing_15 rfl (lv_at hl 2 rfl) ?_
  refine lv_aload_n C.1 C.2.1 dX12_writing_16 rfl (lv_at hl 1 rfl) ?_
  refine h_get (j := 1) C hS hq (show vwCl[2]? = some (RX14, TX14, 2) from rfl) in_X14 (by decide) rfl rfl rfl q670 (Or.inl rfl) rfl dX12_writing_17 ?_
  refine lv_isub C.1 C.2.1 dX12_writing_20 ?_
  refine lv_aload_n C.1 C.2.1 dX12_writing_21 rfl (lv_at hl 3 rfl) ?_
  obtain ⟨r3, hr3, hE⟩ := it_b hE
  refine n_afterS C.2.2.2.2.2.2.2.1 hS (va_runU (As := [.int (p1 - hby), .ref (ad 0)]) (rest := [.int r2.1]) ⟨C.1, C.2.1, hml, C.2.2.1, C.2.2.2.1⟩ (metC_Home_feeding_2 l G ad pl _ _ q ix hby (p1 - hby) hq r3 hr3) (va_cwU (C := RX14) (owner := "HamsterWeekends$Home") 2 C.2.2.2.1 (lw_U q1275 q1226 q1239 q1224 q102 q1248) rfl rfl rfl rfl (by decide +kernel) ⟨Nat.le_of_ble_eq_true rfl, Nat.le_of_ble_eq_true rfl⟩) (n_preV0 C hP hS (n_recvH C hS hq rfl)) rfl rfl hl.1 rfl (lv_room (Nat.le_of_ble_eq_true rfl)) dX12_writing_22 ⟨Nat.le_refl _, Nat.le_refl _⟩) (fun H locs hP hS => ?_)
  refine lv_ixor C.1 C.2.1 dX12_writing_25 ?_
  obtain rfl := Option.some.inj hE
  exact hret _ _ _ _ dX12_writing_26 hP hS
def sC_Overfed_kind_3 (ix : Int32) (hby : Int32) : Option (Int32) :=
  some 3
set_option maxHeartbeats 4000000 in
theorem metC_Overfed_kind_3 (l : Launch) (G : kG) (ad : Nat → Nat) (pl : va_W)  (q : Nat) (ix : Int32) (hby : Int32) (hq : (q, .inr (3, [.int ix, .int hby])) ∈ pl) (res : Int32) (hE : sC_Overfed_kind_3 ix hby = some res) : Met l yX15_kind (ws_ yX15_kind cX15_kind 1 (some .int)) ({ frames := 0, cells := 0, slots := 0, locals := 0 } : Room) (nPc G [] pl [] [.ref q]) (nQc G [] [] (some (.int res))) 0 0 (nA []) := by
  refine n_ofW (own := RX15) (by decide) rfl (Nat.le_of_ble_eq_true rfl) ?_
  intro p e s m args below meth c ls C hml hP hS hl hr hlocks
  have hl : lv_has ls 1 [(0, .ref q)] := hl
  obtain ⟨Q, hQ⟩ : ∃ Q, Q = MQ below (nQc G [] [] (some (.int res))) args s 0 0 (nA []) := ⟨_, rfl⟩
  rw [← hQ]
  have hret : ∀ (pc : Nat) (ls : Array Slot) (H : Heap) (locs : List Loc), decode cX15_kind pc = .ok (.ireturn, 1) → va_P G.1 vwCl [] H → va_S (nA []) s.heap H locs → W p l e ({ frames := 0, cells := 0, slots := 0, locals := 0 } : Room) s m args below meth c H locs 0 0 Q (F0 m pc ls [(.int res)]) := by
    intro pc ls H locs hd hP hS
    rw [hQ]
    exact n_iret C hr hlocks hd hP hS
  clear hQ
  obtain ⟨H, hH⟩ : ∃ H, H = s.heap := ⟨_, rfl⟩
  obtain ⟨locs, hlo⟩ : ∃ locs : List Loc, locs = [] := ⟨_, rfl⟩
  have hP : va_P G.1 vwCl [] H := by rw [hH]; exact hP
  have hS : va_S (nA []) s.heap H locs := by rw [hH, hlo]; exact hS
  suffices hZ : W p l e ({ frames := 0, cells := 0, slots := 0, locals := 0 } : Room) s m args below meth c H locs 0 0 Q (F0 m 0 ls []) by rw [hH, hlo] at hZ; exact hZ
  clear hH hlo
  unfold sC_Overfed_kind_3 at hE
  refine lv_iconst (v := 3) C.1 C.2.1 dX15_kind_0 (by decide) ?_
  obtain rfl := Option.some.inj hE
  exact hret _ _ _ _ dX15_kind_1 hP hS
def sC_Good_weekend_3 (v_weight : Int32) (ix : Int32) (hby : Int32) : Option (Int32) :=
  (sC_Overfed_more_3 ix hby).bind fun r1 =>
  (sC_Pet_gains v_weight r1).bind fun r2 =>
  some r2
set_option maxHeartbeats 4000000 in
theorem metC_Good_weekend_3 (l : Launch) (G : kG) (ad : Nat → Nat) (pl : va_W) (v_weight : Int32) (v_fright : Int32) (v_age : Int32) (v_asked : Nat → Int32) (q : Nat) (ix : Int32) (hby : Int32) (hq : (q, .inr (3, [.int ix, .int hby])) ∈ pl) (res : Int32) (hE : sC_Good_weekend_3 v_weight ix hby = some res) : Met l yX13_weekend (ws_ yX13_weekend cX13_weekend 2 none) ({ frames := 2, cells := 0, slots := 0, locals := 42 } : Room) (nPc G (pW G.2 ad v_weight v_fright v_age v_asked) pl (pWV ad) [.ref q, .ref (ad 0)]) (nQc G (pW G.2 ad res v_fright v_age v_asked) (pWV ad) none) 0 0 (nA (pWV ad)) := by
  refine n_ofW (own := RX13) (by decide) rfl (Nat.le_of_ble_eq_true rfl) ?_
  intro p e s m args below meth c ls C hml hP hS hl hr hlocks
  have hl : lv_has ls 2 [(0, .ref q), (1, .ref (ad 0))] := hl
  obtain ⟨Q, hQ⟩ : ∃ Q, Q = MQ below (nQc G (pW G.2 ad res v_fright v_age v_asked) (pWV ad) none) args s 0 0 (nA (pWV ad)) := ⟨_, rfl⟩
  rw [← hQ]
  have hret : ∀ (pc : Nat) (ls : Array Slot) (H : Heap) (locs : List Loc), decode cX13_weekend pc = .ok (.return_, 1) → va_P G.1 vwCl (pW G.2 ad res v_fright v_age v_asked) H → va_S (nA (pWV ad)) s.heap H locs → W p l e ({ frames := 2, cells := 0, slots := 0, locals := 42 } : Room) s m args below meth c H locs 0 0 Q (F0 m pc ls []) := by
    intro pc ls H locs hd hP hS
    rw [hQ]
    exact n_vret C hr hlocks hd hP hS
  clear hQ
  obtain ⟨H, hH⟩ : ∃ H, H = s.heap := ⟨_, rfl⟩
  obtain ⟨locs, hlo⟩ : ∃ locs : List Loc, locs = [] := ⟨_, rfl⟩
  have hP : va_P G.1 vwCl (pW G.2 ad v_weight v_fright v_age v_asked) H := by rw [hH]; exact hP
  have hS : va_S (nA (pWV ad)) s.heap H locs := by rw [hH, hlo]; exact hS
  suffices hZ : W p l e ({ frames := 2, cells := 0, slots := 0, locals := 42 } : Room) s m args below meth c H locs 0 0 Q (F0 m 0 ls []) by rw [hH, hlo] at hZ; exact hZ
  clear hH hlo
  unfold sC_Good_weekend_3 at hE
  refine lv_aload_n C.1 C.2.1 dX13_weekend_0 rfl (lv_at hl 1 rfl) ?_
  refine lv_aload_n C.1 C.2.1 dX13_weekend_1 rfl (lv_at hl 0 rfl) ?_
  obtain ⟨r1, hr1, hE⟩ := it_b hE
  refine n_after [] C.2.2.2.2.2.1 C.2.2.2.2.2.2.2.1 hP hS (va_runU (As := []) (rest := [.ref (ad 0)]) ⟨C.1, C.2.1, hml, C.2.2.1, C.2.2.2.1⟩ (metC_Overfed_more_3 l G ad pl  q ix hby hq r1 hr1) (va_cwO (C := RX15) (owner := "HamsterWeekends$Good") 0 C.2.2.2.1 (lw_O q1018 q605 q603 q606 q607 q105 q608) rfl rfl rfl q611 (by decide +kernel) ⟨Nat.le_of_ble_eq_true rfl, Nat.le_of_ble_eq_true rfl⟩) (n_preV C hP hS [] rfl (by decide) rfl (n_recvH C hS hq rfl)) rfl rfl hl.1 rfl (lv_room (Nat.le_of_ble_eq_true rfl)) dX13_weekend_2 ⟨Nat.le_refl _, Nat.le_refl _⟩) pW_av rfl rfl rfl (fun H locs hP hS => ?_)
  obtain ⟨r2, hr2, hE⟩ := it_b hE
  refine n_afterS C.2.2.2.2.2.2.2.1 hS (va_runV (As := [.int r1]) (rest := []) ⟨C.1, C.2.1, hml, C.2.2.1, C.2.2.2.1⟩ (metC_Pet_gains l G ad pl _ _ _ _ r1  r2 hr2) (cwV (C := RX2) 1 C.2.2.2.1 (lw_V q1019 q1005 q1006 q82 q1007) rfl rfl rfl (by decide +kernel) ⟨Nat.le_of_ble_eq_true rfl, Nat.le_of_ble_eq_true rfl⟩) (n_preV0 C hP hS (va_recv C.2.2.2.2.1 hP (ci := 11) (q0 := 0) rfl rfl)) rfl rfl hl.1 rfl (lv_room (Nat.le_of_ble_eq_true rfl)) dX13_weekend_5 ⟨Nat.le_refl _, Nat.le_refl _⟩) (fun H locs hP hS => ?_)
  obtain rfl := Option.some.inj hE
  exact hret _ _ _ _ dX13_weekend_8 hP hS
def sC_Home_feeding_3 (v_ran : Int32) (v_bodies : Nat → Int32) (ix : Int32) (hby : Int32) (p1 : Int32) : Option (Int32 × Int32 × (Nat → Int32)) :=
  (sC_Trace_runs v_ran v_bodies 10).bind fun r1 =>
  some ((p1 + ix), r1.1, r1.2)
set_option maxHeartbeats 4000000 in
theorem metC_Home_feeding_3 (l : Launch) (G : kG) (ad : Nat → Nat) (pl : va_W) (v_ran : Int32) (v_bodies : Nat → Int32) (q : Nat) (ix : Int32) (hby : Int32) (p1 : Int32) (hq : (q, .inr (3, [.int ix, .int hby])) ∈ pl) (res : Int32 × Int32 × (Nat → Int32)) (hE : sC_Home_feeding_3 v_ran v_bodies ix hby p1 = some res) : Met l yX12_feeding (ws_ yX12_feeding cX12_feeding 3 (some .int)) ({ frames := 1, cells := 0, slots := 0, locals := 21 } : Room) (nPc G (tW G.2 ad v_ran v_bodies) pl (tWV ad) [.ref q, .int p1, .ref (ad 0)]) (nQc G (tW G.2 ad res.2.1 res.2.2) (tWV ad) (some (.int res.1))) 0 0 (nA (tWV ad)) := by
  refine n_ofW (own := RX12) (by decide) rfl (Nat.le_of_ble_eq_true rfl) ?_
  intro p e s m args below meth c ls C hml hP hS hl hr hlocks
  have hl : lv_has ls 3 [(0, .ref q), (1, .int p1), (2, .ref (ad 0))] := hl
  obtain ⟨Q, hQ⟩ : ∃ Q, Q = MQ below (nQc G (tW G.2 ad res.2.1 res.2.2) (tWV ad) (some (.int res.1))) args s 0 0 (nA (tWV ad)) := ⟨_, rfl⟩
  rw [← hQ]
  have hret : ∀ (pc : Nat) (ls : Array Slot) (H : Heap) (locs : List Loc), decode cX12_feeding pc = .ok (.ireturn, 1) → va_P G.1 vwCl (tW G.2 ad res.2.1 res.2.2) H → va_S (nA (tWV ad)) s.heap H locs → W p l e ({ frames := 1, cells := 0, slots := 0, locals := 21 } : Room) s m args below meth c H locs 0 0 Q (F0 m pc ls [(.int res.1)]) := by
    intro pc ls H locs hd hP hS
    rw [hQ]
    exact n_iret C hr hlocks hd hP hS
  clear hQ
  obtain ⟨H, hH⟩ : ∃ H, H = s.heap := ⟨_, rfl⟩
  obtain ⟨locs, hlo⟩ : ∃ locs : List Loc, locs = [] := ⟨_, rfl⟩
  have hP : va_P G.1 vwCl (tW G.2 ad v_ran v_bodies) H := by rw [hH]; exact hP
  have hS : va_S (nA (tWV ad)) s.heap H locs := by rw [hH, hlo]; exact hS
  suffices hZ : W p l e ({ frames := 1, cells := 0, slots := 0, locals := 21 } : Room) s m args below meth c H locs 0 0 Q (F0 m 0 ls []) by rw [hH, hlo] at hZ; exact hZ
  clear hH hlo
  unfold sC_Home_feeding_3 at hE
  refine lv_aload_n C.1 C.2.1 dX12_feeding_0 rfl (lv_at hl 2 rfl) ?_
  refine lv_bipush (v := 10) C.1 C.2.1 dX12_feeding_1 (by decide) ?_
  obtain ⟨r1, hr1, hE⟩ := it_b hE
  refine n_afterS C.2.2.2.2.2.2.2.1 hS (va_runV (As := [.int 10]) (rest := []) ⟨C.1, C.2.1, hml, C.2.2.1, C.2.2.2.1⟩ (metC_Trace_runs l G ad pl _ _ 10  r1 hr1) (cwV (C := RX1) 1 C.2.2.2.1 (lw_V q1249 q1231 q1232 q81 q1233) rfl rfl rfl (by decide +kernel) ⟨Nat.le_of_ble_eq_true rfl, Nat.le_of_ble_eq_true rfl⟩) (n_preV0 C hP hS (va_recv C.2.2.2.2.1 hP (ci := 14) (q0 := 0) rfl rfl)) rfl rfl hl.1 rfl (lv_room (Nat.le_of_ble_eq_true rfl)) dX12_feeding_3 ⟨Nat.le_refl _, Nat.le_refl _⟩) (fun H locs hP hS => ?_)
  refine lv_iload_n C.1 C.2.1 dX12_feeding_6 rfl (lv_at hl 1 rfl) ?_
  refine lv_aload_n C.1 C.2.1 dX12_feeding_7 rfl (lv_at hl 0 rfl) ?_
  refine h_get (j := 0) C hS hq (show vwCl[3]? = some (RX15, TX15, 2) from rfl) in_X15 (by decide) rfl rfl rfl q665 (Or.inl rfl) rfl dX12_feeding_8 ?_
  refine lv_iadd C.1 C.2.1 dX12_feeding_11 ?_
  obtain rfl := Option.some.inj hE
  exact hret _ _ _ _ dX12_feeding_12 hP hS
def sC_Good_feeding_3 (v_ran : Int32) (v_bodies : Nat → Int32) (ix : Int32) (hby : Int32) (p1 : Int32) : Option (Int32 × Int32 × (Nat → Int32)) :=
  (sC_Trace_runs v_ran v_bodies 20).bind fun r1 =>
  (sC_Home_feeding_3 r1.1 r1.2 ix hby p1).bind fun r2 =>
  some ((r2.1 + hby), r2.2.1, r2.2.2)
set_option maxHeartbeats 4000000 in
theorem metC_Good_feeding_3 (l : Launch) (G : kG) (ad : Nat → Nat) (pl : va_W) (v_ran : Int32) (v_bodies : Nat → Int32) (q : Nat) (ix : Int32) (hby : Int32) (p1 : Int32) (hq : (q, .inr (3, [.int ix, .int hby])) ∈ pl) (res : Int32 × Int32 × (Nat → Int32)) (hE : sC_Good_feeding_3 v_ran v_bodies ix hby p1 = some res) : Met l yX13_feeding (ws_ yX13_feeding cX13_feeding 3 (some .int)) ({ frames := 2, cells := 0, slots := 0, locals := 43 } : Room) (nPc G (tW G.2 ad v_ran v_bodies) pl (tWV ad) [.ref q, .int p1, .ref (ad 0)]) (nQc G (tW G.2 ad res.2.1 res.2.2) (tWV ad) (some (.int res.1))) 0 0 (nA (tWV ad)) := by
  refine n_ofW (own := RX13) (by decide) rfl (Nat.le_of_ble_eq_true rfl) ?_
  intro p e s m args below meth c ls C hml hP hS hl hr hlocks
  have hl : lv_has ls 3 [(0, .ref q), (1, .int p1), (2, .ref (ad 0))] := hl
  obtain ⟨Q, hQ⟩ : ∃ Q, Q = MQ below (nQc G (tW G.2 ad res.2.1 res.2.2) (tWV ad) (some (.int res.1))) args s 0 0 (nA (tWV ad)) := ⟨_, rfl⟩
  rw [← hQ]
  have hret : ∀ (pc : Nat) (ls : Array Slot) (H : Heap) (locs : List Loc), decode cX13_feeding pc = .ok (.ireturn, 1) → va_P G.1 vwCl (tW G.2 ad res.2.1 res.2.2) H → va_S (nA (tWV ad)) s.heap H locs → W p l e ({ frames := 2, cells := 0, slots := 0, locals := 43 } : Room) s m args below meth c H locs 0 0 Q (F0 m pc ls [(.int res.1)]) := by
    intro pc ls H locs hd hP hS
    rw [hQ]
    exact n_iret C hr hlocks hd hP hS
  clear hQ
  obtain ⟨H, hH⟩ : ∃ H, H = s.heap := ⟨_, rfl⟩
  obtain ⟨locs, hlo⟩ : ∃ locs : List Loc, locs = [] := ⟨_, rfl⟩
  have hP : va_P G.1 vwCl (tW G.2 ad v_ran v_bodies) H := by rw [hH]; exact hP
  have hS : va_S (nA (tWV ad)) s.heap H locs := by rw [hH, hlo]; exact hS
  suffices hZ : W p l e ({ frames := 2, cells := 0, slots := 0, locals := 43 } : Room) s m args below meth c H locs 0 0 Q (F0 m 0 ls []) by rw [hH, hlo] at hZ; exact hZ
  clear hH hlo
  unfold sC_Good_feeding_3 at hE
  refine lv_aload_n C.1 C.2.1 dX13_feeding_0 rfl (lv_at hl 2 rfl) ?_
  refine lv_bipush (v := 20) C.1 C.2.1 dX13_feeding_1 (by decide) ?_
  obtain ⟨r1, hr1, hE⟩ := it_b hE
  refine n_afterS C.2.2.2.2.2.2.2.1 hS (va_runV (As := [.int 20]) (rest := []) ⟨C.1, C.2.1, hml, C.2.2.1, C.2.2.2.1⟩ (metC_Trace_runs l G ad pl _ _ 20  r1 hr1) (cwV (C := RX1) 1 C.2.2.2.1 (lw_V q1245 q1231 q1232 q81 q1233) rfl rfl rfl (by decide +kernel) ⟨Nat.le_of_ble_eq_true rfl, Nat.le_of_ble_eq_true rfl⟩) (n_preV0 C hP hS (va_recv C.2.2.2.2.1 hP (ci := 14) (q0 := 0) rfl rfl)) rfl rfl hl.1 rfl (lv_room (Nat.le_of_ble_eq_true rfl)) dX13_feeding_3 ⟨Nat.le_refl _, Nat.le_refl _⟩) (fun H locs hP hS => ?_)
  refine lv_aload_n C.1 C.2.1 dX13_feeding_6 rfl (lv_at hl 0 rfl) ?_
  refine lv_iload_n C.1 C.2.1 dX13_feeding_7 rfl (lv_at hl 1 rfl) ?_
  refine lv_aload_n C.1 C.2.1 dX13_feeding_8 rfl (lv_at hl 2 rfl) ?_
  obtain ⟨r2, hr2, hE⟩ := it_b hE
  refine n_afterS C.2.2.2.2.2.2.2.1 hS (va_runSU (As := [.int p1, .ref (ad 0)]) (rest := []) (C.2.2.2.2.1.1 3 _ rfl).2 ⟨C.1, C.2.1, hml, C.2.2.1, C.2.2.2.1⟩ (metC_Home_feeding_3 l G ad pl _ _ q ix hby p1 hq r2 hr2) (va_cwSU 2 C.2.2.2.1 (lw_SU q1246 q1226 q684 q1224 q102 q1248) rfl rfl rfl (by decide +kernel) ⟨Nat.le_of_ble_eq_true rfl, Nat.le_of_ble_eq_true rfl⟩) (n_preV0 C hP hS (n_recvH C hS hq rfl)) rfl rfl hl.1 rfl (lv_room (Nat.le_of_ble_eq_true rfl)) dX13_feeding_9 ⟨Nat.le_refl _, Nat.le_refl _⟩) (fun H locs hP hS => ?_)
  refine lv_aload_n C.1 C.2.1 dX13_feeding_12 rfl (lv_at hl 0 rfl) ?_
  refine h_get (j := 1) C hS hq (show vwCl[3]? = some (RX15, TX15, 2) from rfl) in_X15 (by decide) rfl rfl rfl q671 (Or.inr q672) rfl dX13_feeding_13 ?_
  refine lv_iadd C.1 C.2.1 dX13_feeding_16 ?_
  obtain rfl := Option.some.inj hE
  exact hret _ _ _ _ dX13_feeding_17 hP hS
def sC_Home_weighing_3 (v_ran : Int32) (v_bodies : Nat → Int32) (ix : Int32) (hby : Int32) (p1 : Int32) : Option (Int32 × Int32 × (Nat → Int32)) :=
  (sC_Trace_runs v_ran v_bodies 11).bind fun r1 =>
  (sC_Good_feeding_3 r1.1 r1.2 ix hby p1).bind fun r2 =>
  some ((r2.1 * 2), r2.2.1, r2.2.2)
set_option maxHeartbeats 4000000 in
theorem metC_Home_weighing_3 (l : Launch) (G : kG) (ad : Nat → Nat) (pl : va_W) (v_ran : Int32) (v_bodies : Nat → Int32) (q : Nat) (ix : Int32) (hby : Int32) (p1 : Int32) (hq : (q, .inr (3, [.int ix, .int hby])) ∈ pl) (res : Int32 × Int32 × (Nat → Int32)) (hE : sC_Home_weighing_3 v_ran v_bodies ix hby p1 = some res) : Met l yX12_weighing (ws_ yX12_weighing cX12_weighing 3 (some .int)) ({ frames := 3, cells := 0, slots := 0, locals := 65 } : Room) (nPc G (tW G.2 ad v_ran v_bodies) pl (tWV ad) [.ref q, .int p1, .ref (ad 0)]) (nQc G (tW G.2 ad res.2.1 res.2.2) (tWV ad) (some (.int res.1))) 0 0 (nA (tWV ad)) := by
  refine n_ofW (own := RX12) (by decide) rfl (Nat.le_of_ble_eq_true rfl) ?_
  intro p e s m args below meth c ls C hml hP hS hl hr hlocks
  have hl : lv_has ls 3 [(0, .ref q), (1, .int p1), (2, .ref (ad 0))] := hl
  obtain ⟨Q, hQ⟩ : ∃ Q, Q = MQ below (nQc G (tW G.2 ad res.2.1 res.2.2) (tWV ad) (some (.int res.1))) args s 0 0 (nA (tWV ad)) := ⟨_, rfl⟩
  rw [← hQ]
  have hret : ∀ (pc : Nat) (ls : Array Slot) (H : Heap) (locs : List Loc), decode cX12_weighing pc = .ok (.ireturn, 1) → va_P G.1 vwCl (tW G.2 ad res.2.1 res.2.2) H → va_S (nA (tWV ad)) s.heap H locs → W p l e ({ frames := 3, cells := 0, slots := 0, locals := 65 } : Room) s m args below meth c H locs 0 0 Q (F0 m pc ls [(.int res.1)]) := by
    intro pc ls H locs hd hP hS
    rw [hQ]
    exact n_iret C hr hlocks hd hP hS
  clear hQ
  obtain ⟨H, hH⟩ : ∃ H, H = s.heap := ⟨_, rfl⟩
  obtain ⟨locs, hlo⟩ : ∃ locs : List Loc, locs = [] := ⟨_, rfl⟩
  have hP : va_P G.1 vwCl (tW G.2 ad v_ran v_bodies) H := by rw [hH]; exact hP
  have hS : va_S (nA (tWV ad)) s.heap H locs := by rw [hH, hlo]; exact hS
  suffices hZ : W p l e ({ frames := 3, cells := 0, slots := 0, locals := 65 } : Room) s m args below meth c H locs 0 0 Q (F0 m 0 ls []) by rw [hH, hlo] at hZ; exact hZ
  clear hH hlo
  unfold sC_Home_weighing_3 at hE
  refine lv_aload_n C.1 C.2.1 dX12_weighing_0 rfl (lv_at hl 2 rfl) ?_
  refine lv_bipush (v := 11) C.1 C.2.1 dX12_weighing_1 (by decide) ?_
  obtain ⟨r1, hr1, hE⟩ := it_b hE
  refine n_afterS C.2.2.2.2.2.2.2.1 hS (va_runV (As := [.int 11]) (rest := []) ⟨C.1, C.2.1, hml, C.2.2.1, C.2.2.2.1⟩ (metC_Trace_runs l G ad pl _ _ 11  r1 hr1) (cwV (C := RX1) 1 C.2.2.2.1 (lw_V q1249 q1231 q1232 q81 q1233) rfl rfl rfl (by decide +kernel) ⟨Nat.le_of_ble_eq_true rfl, Nat.le_of_ble_eq_true rfl⟩) (n_preV0 C hP hS (va_recv C.2.2.2.2.1 hP (ci := 14) (q0 := 0) rfl rfl)) rfl rfl hl.1 rfl (lv_room (Nat.le_of_ble_eq_true rfl)) dX12_weighing_3 ⟨Nat.le_refl _, Nat.le_refl _⟩) (fun H locs hP hS => ?_)
  refine lv_aload_n C.1 C.2.1 dX12_weighing_6 rfl (lv_at hl 0 rfl) ?_
  refine lv_iload_n C.1 C.2.1 dX12_weighing_7 rfl (lv_at hl 1 rfl) ?_
  refine lv_aload_n C.1 C.2.1 dX12_weighing_8 rfl (lv_at hl 2 rfl) ?_
  obtain ⟨r2, hr2, hE⟩ := it_b hE
  refine n_afterS C.2.2.2.2.2.2.2.1 hS (va_runU (As := [.int p1, .ref (ad 0)]) (rest := []) ⟨C.1, C.2.1, hml, C.2.2.1, C.2.2.2.1⟩ (metC_Good_feeding_3 l G ad pl _ _ q ix hby p1 hq r2 hr2) (va_cwO (C := RX15) (owner := "HamsterWeekends$Home") 2 C.2.2.2.1 (lw_O q1275 q1226 q1224 q1247 q1243 q103 q1244) rfl rfl rfl q1248 (by decide +kernel) ⟨Nat.le_of_ble_eq_true rfl, Nat.le_of_ble_eq_true rfl⟩) (n_preV0 C hP hS (n_recvH C hS hq rfl)) rfl rfl hl.1 rfl (lv_room (Nat.le_of_ble_eq_true rfl)) dX12_weighing_9 ⟨Nat.le_refl _, Nat.le_refl _⟩) (fun H locs hP hS => ?_)
  refine lv_iconst (v := 2) C.1 C.2.1 dX12_weighing_12 (by decide) ?_
  refine lv_imul C.1 C.2.1 dX12_weighing_13 ?_
  obtain rfl := Option.some.inj hE
  exact hret _ _ _ _ dX12_weighing_14 hP hS
def sC_Overfed_weighing_3 (v_ran : Int32) (v_bodies : Nat → Int32) (ix : Int32) (hby : Int32) (p1 : Int32) : Option (Int32 × Int32 × (Nat → Int32)) :=
  (sC_Trace_runs v_ran v_bodies 40).bind fun r1 =>
  (sC_Home_weighing_3 r1.1 r1.2 ix hby (p1 + 1)).bind fun r2 =>
  some (r2.1, r2.2.1, r2.2.2)
set_option maxHeartbeats 4000000 in
theorem metC_Overfed_weighing_3 (l : Launch) (G : kG) (ad : Nat → Nat) (pl : va_W) (v_ran : Int32) (v_bodies : Nat → Int32) (q : Nat) (ix : Int32) (hby : Int32) (p1 : Int32) (hq : (q, .inr (3, [.int ix, .int hby])) ∈ pl) (res : Int32 × Int32 × (Nat → Int32)) (hE : sC_Overfed_weighing_3 v_ran v_bodies ix hby p1 = some res) : Met l yX15_weighing (ws_ yX15_weighing cX15_weighing 3 (some .int)) ({ frames := 4, cells := 0, slots := 0, locals := 87 } : Room) (nPc G (tW G.2 ad v_ran v_bodies) pl (tWV ad) [.ref q, .int p1, .ref (ad 0)]) (nQc G (tW G.2 ad res.2.1 res.2.2) (tWV ad) (some (.int res.1))) 0 0 (nA (tWV ad)) := by
  refine n_ofW (own := RX15) (by decide) rfl (Nat.le_of_ble_eq_true rfl) ?_
  intro p e s m args below meth c ls C hml hP hS hl hr hlocks
  have hl : lv_has ls 3 [(0, .ref q), (1, .int p1), (2, .ref (ad 0))] := hl
  obtain ⟨Q, hQ⟩ : ∃ Q, Q = MQ below (nQc G (tW G.2 ad res.2.1 res.2.2) (tWV ad) (some (.int res.1))) args s 0 0 (nA (tWV ad)) := ⟨_, rfl⟩
  rw [← hQ]
  have hret : ∀ (pc : Nat) (ls : Array Slot) (H : Heap) (locs : List Loc), decode cX15_weighing pc = .ok (.ireturn, 1) → va_P G.1 vwCl (tW G.2 ad res.2.1 res.2.2) H → va_S (nA (tWV ad)) s.heap H locs → W p l e ({ frames := 4, cells := 0, slots := 0, locals := 87 } : Room) s m args below meth c H locs 0 0 Q (F0 m pc ls [(.int res.1)]) := by
    intro pc ls H locs hd hP hS
    rw [hQ]
    exact n_iret C hr hlocks hd hP hS
  clear hQ
  obtain ⟨H, hH⟩ : ∃ H, H = s.heap := ⟨_, rfl⟩
  obtain ⟨locs, hlo⟩ : ∃ locs : List Loc, locs = [] := ⟨_, rfl⟩
  have hP : va_P G.1 vwCl (tW G.2 ad v_ran v_bodies) H := by rw [hH]; exact hP
  have hS : va_S (nA (tWV ad)) s.heap H locs := by rw [hH, hlo]; exact hS
  suffices hZ : W p l e ({ frames := 4, cells := 0, slots := 0, locals := 87 } : Room) s m args below meth c H locs 0 0 Q (F0 m 0 ls []) by rw [hH, hlo] at hZ; exact hZ
  clear hH hlo
  unfold sC_Overfed_weighing_3 at hE
  refine lv_aload_n C.1 C.2.1 dX15_weighing_0 rfl (lv_at hl 2 rfl) ?_
  refine lv_bipush (v := 40) C.1 C.2.1 dX15_weighing_1 (by decide) ?_
  obtain ⟨r1, hr1, hE⟩ := it_b hE
  refine n_afterS C.2.2.2.2.2.2.2.1 hS (va_runV (As := [.int 40]) (rest := []) ⟨C.1, C.2.1, hml, C.2.2.1, C.2.2.2.1⟩ (metC_Trace_runs l G ad pl _ _ 40  r1 hr1) (cwV (C := RX1) 1 C.2.2.2.1 (lw_V q1271 q1231 q1232 q81 q1233) rfl rfl rfl (by decide +kernel) ⟨Nat.le_of_ble_eq_true rfl, Nat.le_of_ble_eq_true rfl⟩) (n_preV0 C hP hS (va_recv C.2.2.2.2.1 hP (ci := 14) (q0 := 0) rfl rfl)) rfl rfl hl.1 rfl (lv_room (Nat.le_of_ble_eq_true rfl)) dX15_weighing_3 ⟨Nat.le_refl _, Nat.le_refl _⟩) (fun H locs hP hS => ?_)
  refine lv_aload_n C.1 C.2.1 dX15_weighing_6 rfl (lv_at hl 0 rfl) ?_
  refine lv_iload_n C.1 C.2.1 dX15_weighing_7 rfl (lv_at hl 1 rfl) ?_
  refine lv_iconst (v := 1) C.1 C.2.1 dX15_weighing_8 (by decide) ?_
  refine lv_iadd C.1 C.2.1 dX15_weighing_9 ?_
  refine lv_aload_n C.1 C.2.1 dX15_weighing_10 rfl (lv_at hl 2 rfl) ?_
  obtain ⟨r2, hr2, hE⟩ := it_b hE
  refine n_afterS C.2.2.2.2.2.2.2.1 hS (n_runSI (n := 2) (As := [.int (p1 + 1), .ref (ad 0)]) (rest := []) (C.2.2.2.2.1.1 3 _ rfl).2 ⟨C.1, C.2.1, hml, C.2.2.1, C.2.2.2.1⟩ (metC_Home_weighing_3 l G ad pl _ _ q ix hby (p1 + 1) hq r2 hr2) q1272 rfl q1273 q610 q684 q1251 q102 q1274 rfl rfl (by decide +kernel) ⟨Nat.le_of_ble_eq_true rfl, Nat.le_of_ble_eq_true rfl⟩ (n_preV0 C hP hS (n_recvH C hS hq rfl)) rfl rfl hl.1 rfl (lv_room (Nat.le_of_ble_eq_true rfl)) dX15_weighing_11 ⟨Nat.le_refl _, Nat.le_refl _⟩) (fun H locs hP hS => ?_)
  obtain rfl := Option.some.inj hE
  exact hret _ _ _ _ dX15_weighing_14 hP hS
def sC_Home_writing_3 (v_ran : Int32) (v_bodies : Nat → Int32) (ix : Int32) (hby : Int32) (p1 : Int32) : Option (Int32 × Int32 × (Nat → Int32)) :=
  (sC_Trace_runs v_ran v_bodies 12).bind fun r1 =>
  (sC_Overfed_weighing_3 r1.1 r1.2 ix hby p1).bind fun r2 =>
  (sC_Good_feeding_3 r2.2.1 r2.2.2 ix hby (p1 - hby)).bind fun r3 =>
  some ((r2.1 ^^^ r3.1), r3.2.1, r3.2.2)
set_option maxHeartbeats 4000000 in
theorem metC_Home_writing_3 (l : Launch) (G : kG) (ad : Nat → Nat) (pl : va_W) (v_ran : Int32) (v_bodies : Nat → Int32) (q : Nat) (ix : Int32) (hby : Int32) (p1 : Int32) (hq : (q, .inr (3, [.int ix, .int hby])) ∈ pl) (res : Int32 × Int32 × (Nat → Int32)) (hE : sC_Home_writing_3 v_ran v_bodies ix hby p1 = some res) : Met l yX12_writing (ws_ yX12_writing cX12_writing 4 (some .int)) ({ frames := 5, cells := 0, slots := 0, locals := 109 } : Room) (nPc G (tW G.2 ad v_ran v_bodies) pl (tWV ad) [.ref q, .int p1, .ref (ad 0)]) (nQc G (tW G.2 ad res.2.1 res.2.2) (tWV ad) (some (.int res.1))) 0 0 (nA (tWV ad)) := by
  refine n_ofW (own := RX12) (by decide) rfl (Nat.le_of_ble_eq_true rfl) ?_
  intro p e s m args below meth c ls C hml hP hS hl hr hlocks
  have hl : lv_has ls 4 [(0, .ref q), (1, .int p1), (2, .ref (ad 0))] := hl
  obtain ⟨Q, hQ⟩ : ∃ Q, Q = MQ below (nQc G (tW G.2 ad res.2.1 res.2.2) (tWV ad) (some (.int res.1))) args s 0 0 (nA (tWV ad)) := ⟨_, rfl⟩
  rw [← hQ]
  have hret : ∀ (pc : Nat) (ls : Array Slot) (H : Heap) (locs : List Loc), decode cX12_writing pc = .ok (.ireturn, 1) → va_P G.1 vwCl (tW G.2 ad res.2.1 res.2.2) H → va_S (nA (tWV ad)) s.heap H locs → W p l e ({ frames := 5, cells := 0, slots := 0, locals := 109 } : Room) s m args below meth c H locs 0 0 Q (F0 m pc ls [(.int res.1)]) := by
    intro pc ls H locs hd hP hS
    rw [hQ]
    exact n_iret C hr hlocks hd hP hS
  clear hQ
  obtain ⟨H, hH⟩ : ∃ H, H = s.heap := ⟨_, rfl⟩
  obtain ⟨locs, hlo⟩ : ∃ locs : List Loc, locs = [] := ⟨_, rfl⟩
  have hP : va_P G.1 vwCl (tW G.2 ad v_ran v_bodies) H := by rw [hH]; exact hP
  have hS : va_S (nA (tWV ad)) s.heap H locs := by rw [hH, hlo]; exact hS
  suffices hZ : W p l e ({ frames := 5, cells := 0, slots := 0, locals := 109 } : Room) s m args below meth c H locs 0 0 Q (F0 m 0 ls []) by rw [hH, hlo] at hZ; exact hZ
  clear hH hlo
  unfold sC_Home_writing_3 at hE
  refine lv_aload_n C.1 C.2.1 dX12_writing_0 rfl (lv_at hl 2 rfl) ?_
  refine lv_bipush (v := 12) C.1 C.2.1 dX12_writing_1 (by decide) ?_
  obtain ⟨r1, hr1, hE⟩ := it_b hE
  refine n_afterS C.2.2.2.2.2.2.2.1 hS (va_runV (As := [.int 12]) (rest := []) ⟨C.1, C.2.1, hml, C.2.2.1, C.2.2.2.1⟩ (metC_Trace_runs l G ad pl _ _ 12  r1 hr1) (cwV (C := RX1) 1 C.2.2.2.1 (lw_V q1249 q1231 q1232 q81 q1233) rfl rfl rfl (by decide +kernel) ⟨Nat.le_of_ble_eq_true rfl, Nat.le_of_ble_eq_true rfl⟩) (n_preV0 C hP hS (va_recv C.2.2.2.2.1 hP (ci := 14) (q0 := 0) rfl rfl)) rfl rfl hl.1 rfl (lv_room (Nat.le_of_ble_eq_true rfl)) dX12_writing_3 ⟨Nat.le_refl _, Nat.le_refl _⟩) (fun H locs hP hS => ?_)
  refine lv_aload_n C.1 C.2.1 dX12_writing_6 rfl (lv_at hl 0 rfl) ?_
  refine lv_iload_n C.1 C.2.1 dX12_writing_7 rfl (lv_at hl 1 rfl) ?_
  refine lv_aload_n C.1 C.2.1 dX12_writing_8 rfl (lv_at hl 2 rfl) ?_
  obtain ⟨r2, hr2, hE⟩ := it_b hE
  refine n_afterS C.2.2.2.2.2.2.2.1 hS (va_runU (As := [.int p1, .ref (ad 0)]) (rest := []) ⟨C.1, C.2.1, hml, C.2.2.1, C.2.2.2.1⟩ (metC_Overfed_weighing_3 l G ad pl _ _ q ix hby p1 hq r2 hr2) (va_cwO (C := RX15) (owner := "HamsterWeekends$Home") 2 C.2.2.2.1 (lw_O q1296 q1253 q1251 q1268 q1269 q105 q1270) rfl rfl rfl q1274 (by decide +kernel) ⟨Nat.le_of_ble_eq_true rfl, Nat.le_of_ble_eq_true rfl⟩) (n_preV0 C hP hS (n_recvH C hS hq rfl)) rfl rfl hl.1 rfl (lv_room (Nat.le_of_ble_eq_true rfl)) dX12_writing_9 ⟨Nat.le_refl _, Nat.le_refl _⟩) (fun H locs hP hS => ?_)
  refine lv_istore_n (lv' := [(3, .int r2.1), (0, .ref q), (1, .int p1), (2, .ref (ad 0))]) C.1 C.2.1 dX12_writing_12 rfl hl (by decide) rfl (fun ls hl => ?_)
  refine lv_iload_n C.1 C.2.1 dX12_writing_13 rfl (lv_at hl 0 rfl) ?_
  refine lv_aload_n C.1 C.2.1 dX12_writing_14 rfl (lv_at hl 1 rfl) ?_
  refine lv_iload_n C.1 C.2.1 dX12_writing_15 rfl (lv_at hl 2 rfl) ?_
  refine lv_aload_n C.1 C.2.1 dX12_writing_16 rfl (lv_at hl 1 rfl) ?_
  refine h_get (j := 1) C hS hq (show vwCl[3]? = some (RX15, TX15, 2) from rfl) in_X15 (by decide) rfl rfl rfl q670 (Or.inl rfl) rfl dX12_writing_17 ?_
  refine lv_isub C.1 C.2.1 dX12_writing_20 ?_
  refine lv_aload_n C.1 C.2.1 dX12_writing_21 rfl (lv_at hl 3 rfl) ?_
  obtain ⟨r3, hr3, hE⟩ := it_b hE
  refine n_afterS C.2.2.2.2.2.2.2.1 hS (va_runU (As := [.int (p1 - hby), .ref (ad 0)]) (rest := [.int r2.1]) ⟨C.1, C.2.1, hml, C.2.2.1, C.2.2.2.1⟩ (metC_Good_feeding_3 l G ad pl _ _ q ix hby (p1 - hby) hq r3 hr3) (va_cwO (C := RX15) (owner := "HamsterWeekends$Home") 2 C.2.2.2.1 (lw_O q1275 q1226 q1224 q1247 q1243 q103 q1244) rfl rfl rfl q1248 (by decide +kernel) ⟨Nat.le_of_ble_eq_true rfl, Nat.le_of_ble_eq_true rfl⟩) (n_preV0 C hP hS (n_recvH C hS hq rfl)) rfl rfl hl.1 rfl (lv_room (Nat.le_of_ble_eq_true rfl)) dX12_writing_22 ⟨Nat.le_refl _, Nat.le_refl _⟩) (fun H locs hP hS => ?_)
  refine lv_ixor C.1 C.2.1 dX12_writing_25 ?_
  obtain rfl := Option.some.inj hE
  exact hret _ _ _ _ dX12_writing_26 hP hS
def sC_Far_kind_4 (ix : Int32) (hby : Int32) : Option (Int32) :=
  some 4
set_option maxHeartbeats 4000000 in
theorem metC_Far_kind_4 (l : Launch) (G : kG) (ad : Nat → Nat) (pl : va_W)  (q : Nat) (ix : Int32) (hby : Int32) (hq : (q, .inr (4, [.int ix, .int hby])) ∈ pl) (res : Int32) (hE : sC_Far_kind_4 ix hby = some res) : Met l yX16_kind (ws_ yX16_kind cX16_kind 1 (some .int)) ({ frames := 0, cells := 0, slots := 0, locals := 0 } : Room) (nPc G [] pl [] [.ref q]) (nQc G [] [] (some (.int res))) 0 0 (nA []) := by
  refine n_ofW (own := RX16) (by decide) rfl (Nat.le_of_ble_eq_true rfl) ?_
  intro p e s m args below meth c ls C hml hP hS hl hr hlocks
  have hl : lv_has ls 1 [(0, .ref q)] := hl
  obtain ⟨Q, hQ⟩ : ∃ Q, Q = MQ below (nQc G [] [] (some (.int res))) args s 0 0 (nA []) := ⟨_, rfl⟩
  rw [← hQ]
  have hret : ∀ (pc : Nat) (ls : Array Slot) (H : Heap) (locs : List Loc), decode cX16_kind pc = .ok (.ireturn, 1) → va_P G.1 vwCl [] H → va_S (nA []) s.heap H locs → W p l e ({ frames := 0, cells := 0, slots := 0, locals := 0 } : Room) s m args below meth c H locs 0 0 Q (F0 m pc ls [(.int res)]) := by
    intro pc ls H locs hd hP hS
    rw [hQ]
    exact n_iret C hr hlocks hd hP hS
  clear hQ
  obtain ⟨H, hH⟩ : ∃ H, H = s.heap := ⟨_, rfl⟩
  obtain ⟨locs, hlo⟩ : ∃ locs : List Loc, locs = [] := ⟨_, rfl⟩
  have hP : va_P G.1 vwCl [] H := by rw [hH]; exact hP
  have hS : va_S (nA []) s.heap H locs := by rw [hH, hlo]; exact hS
  suffices hZ : W p l e ({ frames := 0, cells := 0, slots := 0, locals := 0 } : Room) s m args below meth c H locs 0 0 Q (F0 m 0 ls []) by rw [hH, hlo] at hZ; exact hZ
  clear hH hlo
  unfold sC_Far_kind_4 at hE
  refine lv_iconst (v := 4) C.1 C.2.1 dX16_kind_0 (by decide) ?_
  obtain rfl := Option.some.inj hE
  exact hret _ _ _ _ dX16_kind_1 hP hS
def sC_Far_weekend_4 (v_weight : Int32) (v_fright : Int32) (ix : Int32) (hby : Int32) : Option (Int32) :=
  (sC_Far_less_4 ix hby v_fright).bind fun r1 =>
  (sC_Pet_gains v_weight (-r1)).bind fun r2 =>
  some r2
set_option maxHeartbeats 4000000 in
theorem metC_Far_weekend_4 (l : Launch) (G : kG) (ad : Nat → Nat) (pl : va_W) (v_weight : Int32) (v_fright : Int32) (v_age : Int32) (v_asked : Nat → Int32) (q : Nat) (ix : Int32) (hby : Int32) (hq : (q, .inr (4, [.int ix, .int hby])) ∈ pl) (res : Int32) (hE : sC_Far_weekend_4 v_weight v_fright ix hby = some res) : Met l yX16_weekend (ws_ yX16_weekend cX16_weekend 2 none) ({ frames := 2, cells := 0, slots := 0, locals := 42 } : Room) (nPc G (pW G.2 ad v_weight v_fright v_age v_asked) pl (pWV ad) [.ref q, .ref (ad 0)]) (nQc G (pW G.2 ad res v_fright v_age v_asked) (pWV ad) none) 0 0 (nA (pWV ad)) := by
  refine n_ofW (own := RX16) (by decide) rfl (Nat.le_of_ble_eq_true rfl) ?_
  intro p e s m args below meth c ls C hml hP hS hl hr hlocks
  have hl : lv_has ls 2 [(0, .ref q), (1, .ref (ad 0))] := hl
  obtain ⟨Q, hQ⟩ : ∃ Q, Q = MQ below (nQc G (pW G.2 ad res v_fright v_age v_asked) (pWV ad) none) args s 0 0 (nA (pWV ad)) := ⟨_, rfl⟩
  rw [← hQ]
  have hret : ∀ (pc : Nat) (ls : Array Slot) (H : Heap) (locs : List Loc), decode cX16_weekend pc = .ok (.return_, 1) → va_P G.1 vwCl (pW G.2 ad res v_fright v_age v_asked) H → va_S (nA (pWV ad)) s.heap H locs → W p l e ({ frames := 2, cells := 0, slots := 0, locals := 42 } : Room) s m args below meth c H locs 0 0 Q (F0 m pc ls []) := by
    intro pc ls H locs hd hP hS
    rw [hQ]
    exact n_vret C hr hlocks hd hP hS
  clear hQ
  obtain ⟨H, hH⟩ : ∃ H, H = s.heap := ⟨_, rfl⟩
  obtain ⟨locs, hlo⟩ : ∃ locs : List Loc, locs = [] := ⟨_, rfl⟩
  have hP : va_P G.1 vwCl (pW G.2 ad v_weight v_fright v_age v_asked) H := by rw [hH]; exact hP
  have hS : va_S (nA (pWV ad)) s.heap H locs := by rw [hH, hlo]; exact hS
  suffices hZ : W p l e ({ frames := 2, cells := 0, slots := 0, locals := 42 } : Room) s m args below meth c H locs 0 0 Q (F0 m 0 ls []) by rw [hH, hlo] at hZ; exact hZ
  clear hH hlo
  unfold sC_Far_weekend_4 at hE
  refine lv_aload_n C.1 C.2.1 dX16_weekend_0 rfl (lv_at hl 1 rfl) ?_
  refine lv_aload_n C.1 C.2.1 dX16_weekend_1 rfl (lv_at hl 0 rfl) ?_
  refine lv_aload_n C.1 C.2.1 dX16_weekend_2 rfl (lv_at hl 1 rfl) ?_
  refine pWg_0_1 q151 C hP dX16_weekend_3 ?_
  obtain ⟨r1, hr1, hE⟩ := it_b hE
  refine n_after [] C.2.2.2.2.2.1 C.2.2.2.2.2.2.2.1 hP hS (va_runV (As := [.int v_fright]) (rest := [.ref (ad 0)]) ⟨C.1, C.2.1, hml, C.2.2.1, C.2.2.2.1⟩ (metC_Far_less_4 l G ad pl  q ix hby v_fright hq r1 hr1) (cwV (C := RX16) 1 C.2.2.2.1 (lw_V q1003 q631 q632 q106 q639) rfl rfl rfl (by decide +kernel) ⟨Nat.le_of_ble_eq_true rfl, Nat.le_of_ble_eq_true rfl⟩) (n_preV C hP hS [] rfl (by decide) rfl (n_recvH C hS hq rfl)) rfl rfl hl.1 rfl (lv_room (Nat.le_of_ble_eq_true rfl)) dX16_weekend_6 ⟨Nat.le_refl _, Nat.le_refl _⟩) pW_av rfl rfl rfl (fun H locs hP hS => ?_)
  refine lv_ineg C.1 C.2.1 dX16_weekend_9 ?_
  obtain ⟨r2, hr2, hE⟩ := it_b hE
  refine n_afterS C.2.2.2.2.2.2.2.1 hS (va_runV (As := [.int (-r1)]) (rest := []) ⟨C.1, C.2.1, hml, C.2.2.1, C.2.2.2.1⟩ (metC_Pet_gains l G ad pl _ _ _ _ (-r1)  r2 hr2) (cwV (C := RX2) 1 C.2.2.2.1 (lw_V q1004 q1005 q1006 q82 q1007) rfl rfl rfl (by decide +kernel) ⟨Nat.le_of_ble_eq_true rfl, Nat.le_of_ble_eq_true rfl⟩) (n_preV0 C hP hS (va_recv C.2.2.2.2.1 hP (ci := 11) (q0 := 0) rfl rfl)) rfl rfl hl.1 rfl (lv_room (Nat.le_of_ble_eq_true rfl)) dX16_weekend_10 ⟨Nat.le_refl _, Nat.le_refl _⟩) (fun H locs hP hS => ?_)
  obtain rfl := Option.some.inj hE
  exact hret _ _ _ _ dX16_weekend_13 hP hS
def sC_Home_feeding_4 (v_ran : Int32) (v_bodies : Nat → Int32) (ix : Int32) (hby : Int32) (p1 : Int32) : Option (Int32 × Int32 × (Nat → Int32)) :=
  (sC_Trace_runs v_ran v_bodies 10).bind fun r1 =>
  some ((p1 + ix), r1.1, r1.2)
set_option maxHeartbeats 4000000 in
theorem metC_Home_feeding_4 (l : Launch) (G : kG) (ad : Nat → Nat) (pl : va_W) (v_ran : Int32) (v_bodies : Nat → Int32) (q : Nat) (ix : Int32) (hby : Int32) (p1 : Int32) (hq : (q, .inr (4, [.int ix, .int hby])) ∈ pl) (res : Int32 × Int32 × (Nat → Int32)) (hE : sC_Home_feeding_4 v_ran v_bodies ix hby p1 = some res) : Met l yX12_feeding (ws_ yX12_feeding cX12_feeding 3 (some .int)) ({ frames := 1, cells := 0, slots := 0, locals := 21 } : Room) (nPc G (tW G.2 ad v_ran v_bodies) pl (tWV ad) [.ref q, .int p1, .ref (ad 0)]) (nQc G (tW G.2 ad res.2.1 res.2.2) (tWV ad) (some (.int res.1))) 0 0 (nA (tWV ad)) := by
  refine n_ofW (own := RX12) (by decide) rfl (Nat.le_of_ble_eq_true rfl) ?_
  intro p e s m args below meth c ls C hml hP hS hl hr hlocks
  have hl : lv_has ls 3 [(0, .ref q), (1, .int p1), (2, .ref (ad 0))] := hl
  obtain ⟨Q, hQ⟩ : ∃ Q, Q = MQ below (nQc G (tW G.2 ad res.2.1 res.2.2) (tWV ad) (some (.int res.1))) args s 0 0 (nA (tWV ad)) := ⟨_, rfl⟩
  rw [← hQ]
  have hret : ∀ (pc : Nat) (ls : Array Slot) (H : Heap) (locs : List Loc), decode cX12_feeding pc = .ok (.ireturn, 1) → va_P G.1 vwCl (tW G.2 ad res.2.1 res.2.2) H → va_S (nA (tWV ad)) s.heap H locs → W p l e ({ frames := 1, cells := 0, slots := 0, locals := 21 } : Room) s m args below meth c H locs 0 0 Q (F0 m pc ls [(.int res.1)]) := by
    intro pc ls H locs hd hP hS
    rw [hQ]
    exact n_iret C hr hlocks hd hP hS
  clear hQ
  obtain ⟨H, hH⟩ : ∃ H, H = s.heap := ⟨_, rfl⟩
  obtain ⟨locs, hlo⟩ : ∃ locs : List Loc, locs = [] := ⟨_, rfl⟩
  have hP : va_P G.1 vwCl (tW G.2 ad v_ran v_bodies) H := by rw [hH]; exact hP
  have hS : va_S (nA (tWV ad)) s.heap H locs := by rw [hH, hlo]; exact hS
  suffices hZ : W p l e ({ frames := 1, cells := 0, slots := 0, locals := 21 } : Room) s m args below meth c H locs 0 0 Q (F0 m 0 ls []) by rw [hH, hlo] at hZ; exact hZ
  clear hH hlo
  unfold sC_Home_feeding_4 at hE
  refine lv_aload_n C.1 C.2.1 dX12_feeding_0 rfl (lv_at hl 2 rfl) ?_
  refine lv_bipush (v := 10) C.1 C.2.1 dX12_feeding_1 (by decide) ?_
  obtain ⟨r1, hr1, hE⟩ := it_b hE
  refine n_afterS C.2.2.2.2.2.2.2.1 hS (va_runV (As := [.int 10]) (rest := []) ⟨C.1, C.2.1, hml, C.2.2.1, C.2.2.2.1⟩ (metC_Trace_runs l G ad pl _ _ 10  r1 hr1) (cwV (C := RX1) 1 C.2.2.2.1 (lw_V q1249 q1231 q1232 q81 q1233) rfl rfl rfl (by decide +kernel) ⟨Nat.le_of_ble_eq_true rfl, Nat.le_of_ble_eq_true rfl⟩) (n_preV0 C hP hS (va_recv C.2.2.2.2.1 hP (ci := 14) (q0 := 0) rfl rfl)) rfl rfl hl.1 rfl (lv_room (Nat.le_of_ble_eq_true rfl)) dX12_feeding_3 ⟨Nat.le_refl _, Nat.le_refl _⟩) (fun H locs hP hS => ?_)
  refine lv_iload_n C.1 C.2.1 dX12_feeding_6 rfl (lv_at hl 1 rfl) ?_
  refine lv_aload_n C.1 C.2.1 dX12_feeding_7 rfl (lv_at hl 0 rfl) ?_
  refine h_get (j := 0) C hS hq (show vwCl[4]? = some (RX16, TX16, 2) from rfl) in_X16 (by decide) rfl rfl rfl q665 (Or.inl rfl) rfl dX12_feeding_8 ?_
  refine lv_iadd C.1 C.2.1 dX12_feeding_11 ?_
  obtain rfl := Option.some.inj hE
  exact hret _ _ _ _ dX12_feeding_12 hP hS
def sC_Far_feeding_4 (v_ran : Int32) (v_bodies : Nat → Int32) (ix : Int32) (hby : Int32) (p1 : Int32) : Option (Int32 × Int32 × (Nat → Int32)) :=
  (sC_Trace_runs v_ran v_bodies 51).bind fun r1 =>
  (sC_Home_feeding_4 r1.1 r1.2 ix hby p1).bind fun r2 =>
  some ((r2.1 - ix), r2.2.1, r2.2.2)
set_option maxHeartbeats 4000000 in
theorem metC_Far_feeding_4 (l : Launch) (G : kG) (ad : Nat → Nat) (pl : va_W) (v_ran : Int32) (v_bodies : Nat → Int32) (q : Nat) (ix : Int32) (hby : Int32) (p1 : Int32) (hq : (q, .inr (4, [.int ix, .int hby])) ∈ pl) (res : Int32 × Int32 × (Nat → Int32)) (hE : sC_Far_feeding_4 v_ran v_bodies ix hby p1 = some res) : Met l yX16_feeding (ws_ yX16_feeding cX16_feeding 3 (some .int)) ({ frames := 2, cells := 0, slots := 0, locals := 43 } : Room) (nPc G (tW G.2 ad v_ran v_bodies) pl (tWV ad) [.ref q, .int p1, .ref (ad 0)]) (nQc G (tW G.2 ad res.2.1 res.2.2) (tWV ad) (some (.int res.1))) 0 0 (nA (tWV ad)) := by
  refine n_ofW (own := RX16) (by decide) rfl (Nat.le_of_ble_eq_true rfl) ?_
  intro p e s m args below meth c ls C hml hP hS hl hr hlocks
  have hl : lv_has ls 3 [(0, .ref q), (1, .int p1), (2, .ref (ad 0))] := hl
  obtain ⟨Q, hQ⟩ : ∃ Q, Q = MQ below (nQc G (tW G.2 ad res.2.1 res.2.2) (tWV ad) (some (.int res.1))) args s 0 0 (nA (tWV ad)) := ⟨_, rfl⟩
  rw [← hQ]
  have hret : ∀ (pc : Nat) (ls : Array Slot) (H : Heap) (locs : List Loc), decode cX16_feeding pc = .ok (.ireturn, 1) → va_P G.1 vwCl (tW G.2 ad res.2.1 res.2.2) H → va_S (nA (tWV ad)) s.heap H locs → W p l e ({ frames := 2, cells := 0, slots := 0, locals := 43 } : Room) s m args below meth c H locs 0 0 Q (F0 m pc ls [(.int res.1)]) := by
    intro pc ls H locs hd hP hS
    rw [hQ]
    exact n_iret C hr hlocks hd hP hS
  clear hQ
  obtain ⟨H, hH⟩ : ∃ H, H = s.heap := ⟨_, rfl⟩
  obtain ⟨locs, hlo⟩ : ∃ locs : List Loc, locs = [] := ⟨_, rfl⟩
  have hP : va_P G.1 vwCl (tW G.2 ad v_ran v_bodies) H := by rw [hH]; exact hP
  have hS : va_S (nA (tWV ad)) s.heap H locs := by rw [hH, hlo]; exact hS
  suffices hZ : W p l e ({ frames := 2, cells := 0, slots := 0, locals := 43 } : Room) s m args below meth c H locs 0 0 Q (F0 m 0 ls []) by rw [hH, hlo] at hZ; exact hZ
  clear hH hlo
  unfold sC_Far_feeding_4 at hE
  refine lv_aload_n C.1 C.2.1 dX16_feeding_0 rfl (lv_at hl 2 rfl) ?_
  refine lv_bipush (v := 51) C.1 C.2.1 dX16_feeding_1 (by decide) ?_
  obtain ⟨r1, hr1, hE⟩ := it_b hE
  refine n_afterS C.2.2.2.2.2.2.2.1 hS (va_runV (As := [.int 51]) (rest := []) ⟨C.1, C.2.1, hml, C.2.2.1, C.2.2.2.1⟩ (metC_Trace_runs l G ad pl _ _ 51  r1 hr1) (cwV (C := RX1) 1 C.2.2.2.1 (lw_V q1237 q1231 q1232 q81 q1233) rfl rfl rfl (by decide +kernel) ⟨Nat.le_of_ble_eq_true rfl, Nat.le_of_ble_eq_true rfl⟩) (n_preV0 C hP hS (va_recv C.2.2.2.2.1 hP (ci := 14) (q0 := 0) rfl rfl)) rfl rfl hl.1 rfl (lv_room (Nat.le_of_ble_eq_true rfl)) dX16_feeding_3 ⟨Nat.le_refl _, Nat.le_refl _⟩) (fun H locs hP hS => ?_)
  refine lv_aload_n C.1 C.2.1 dX16_feeding_6 rfl (lv_at hl 0 rfl) ?_
  refine lv_iload_n C.1 C.2.1 dX16_feeding_7 rfl (lv_at hl 1 rfl) ?_
  refine lv_aload_n C.1 C.2.1 dX16_feeding_8 rfl (lv_at hl 2 rfl) ?_
  obtain ⟨r2, hr2, hE⟩ := it_b hE
  refine n_afterS C.2.2.2.2.2.2.2.1 hS (va_runSU (As := [.int p1, .ref (ad 0)]) (rest := []) (C.2.2.2.2.1.1 4 _ rfl).2 ⟨C.1, C.2.1, hml, C.2.2.1, C.2.2.2.1⟩ (metC_Home_feeding_4 l G ad pl _ _ q ix hby p1 hq r2 hr2) (va_cwSU 2 C.2.2.2.1 (lw_SU q1238 q1226 q710 q1224 q102 q1248) rfl rfl rfl (by decide +kernel) ⟨Nat.le_of_ble_eq_true rfl, Nat.le_of_ble_eq_true rfl⟩) (n_preV0 C hP hS (n_recvH C hS hq rfl)) rfl rfl hl.1 rfl (lv_room (Nat.le_of_ble_eq_true rfl)) dX16_feeding_9 ⟨Nat.le_refl _, Nat.le_refl _⟩) (fun H locs hP hS => ?_)
  refine lv_aload_n C.1 C.2.1 dX16_feeding_12 rfl (lv_at hl 0 rfl) ?_
  refine h_get (j := 0) C hS hq (show vwCl[4]? = some (RX16, TX16, 2) from rfl) in_X16 (by decide) rfl rfl rfl q667 (Or.inr q668) rfl dX16_feeding_13 ?_
  refine lv_isub C.1 C.2.1 dX16_feeding_16 ?_
  obtain rfl := Option.some.inj hE
  exact hret _ _ _ _ dX16_feeding_17 hP hS
def sC_Home_weighing_4 (v_ran : Int32) (v_bodies : Nat → Int32) (ix : Int32) (hby : Int32) (p1 : Int32) : Option (Int32 × Int32 × (Nat → Int32)) :=
  (sC_Trace_runs v_ran v_bodies 11).bind fun r1 =>
  (sC_Far_feeding_4 r1.1 r1.2 ix hby p1).bind fun r2 =>
  some ((r2.1 * 2), r2.2.1, r2.2.2)
set_option maxHeartbeats 4000000 in
theorem metC_Home_weighing_4 (l : Launch) (G : kG) (ad : Nat → Nat) (pl : va_W) (v_ran : Int32) (v_bodies : Nat → Int32) (q : Nat) (ix : Int32) (hby : Int32) (p1 : Int32) (hq : (q, .inr (4, [.int ix, .int hby])) ∈ pl) (res : Int32 × Int32 × (Nat → Int32)) (hE : sC_Home_weighing_4 v_ran v_bodies ix hby p1 = some res) : Met l yX12_weighing (ws_ yX12_weighing cX12_weighing 3 (some .int)) ({ frames := 3, cells := 0, slots := 0, locals := 65 } : Room) (nPc G (tW G.2 ad v_ran v_bodies) pl (tWV ad) [.ref q, .int p1, .ref (ad 0)]) (nQc G (tW G.2 ad res.2.1 res.2.2) (tWV ad) (some (.int res.1))) 0 0 (nA (tWV ad)) := by
  refine n_ofW (own := RX12) (by decide) rfl (Nat.le_of_ble_eq_true rfl) ?_
  intro p e s m args below meth c ls C hml hP hS hl hr hlocks
  have hl : lv_has ls 3 [(0, .ref q), (1, .int p1), (2, .ref (ad 0))] := hl
  obtain ⟨Q, hQ⟩ : ∃ Q, Q = MQ below (nQc G (tW G.2 ad res.2.1 res.2.2) (tWV ad) (some (.int res.1))) args s 0 0 (nA (tWV ad)) := ⟨_, rfl⟩
  rw [← hQ]
  have hret : ∀ (pc : Nat) (ls : Array Slot) (H : Heap) (locs : List Loc), decode cX12_weighing pc = .ok (.ireturn, 1) → va_P G.1 vwCl (tW G.2 ad res.2.1 res.2.2) H → va_S (nA (tWV ad)) s.heap H locs → W p l e ({ frames := 3, cells := 0, slots := 0, locals := 65 } : Room) s m args below meth c H locs 0 0 Q (F0 m pc ls [(.int res.1)]) := by
    intro pc ls H locs hd hP hS
    rw [hQ]
    exact n_iret C hr hlocks hd hP hS
  clear hQ
  obtain ⟨H, hH⟩ : ∃ H, H = s.heap := ⟨_, rfl⟩
  obtain ⟨locs, hlo⟩ : ∃ locs : List Loc, locs = [] := ⟨_, rfl⟩
  have hP : va_P G.1 vwCl (tW G.2 ad v_ran v_bodies) H := by rw [hH]; exact hP
  have hS : va_S (nA (tWV ad)) s.heap H locs := by rw [hH, hlo]; exact hS
  suffices hZ : W p l e ({ frames := 3, cells := 0, slots := 0, locals := 65 } : Room) s m args below meth c H locs 0 0 Q (F0 m 0 ls []) by rw [hH, hlo] at hZ; exact hZ
  clear hH hlo
  unfold sC_Home_weighing_4 at hE
  refine lv_aload_n C.1 C.2.1 dX12_weighing_0 rfl (lv_at hl 2 rfl) ?_
  refine lv_bipush (v := 11) C.1 C.2.1 dX12_weighing_1 (by decide) ?_
  obtain ⟨r1, hr1, hE⟩ := it_b hE
  refine n_afterS C.2.2.2.2.2.2.2.1 hS (va_runV (As := [.int 11]) (rest := []) ⟨C.1, C.2.1, hml, C.2.2.1, C.2.2.2.1⟩ (metC_Trace_runs l G ad pl _ _ 11  r1 hr1) (cwV (C := RX1) 1 C.2.2.2.1 (lw_V q1249 q1231 q1232 q81 q1233) rfl rfl rfl (by decide +kernel) ⟨Nat.le_of_ble_eq_true rfl, Nat.le_of_ble_eq_true rfl⟩) (n_preV0 C hP hS (va_recv C.2.2.2.2.1 hP (ci := 14) (q0 := 0) rfl rfl)) rfl rfl hl.1 rfl (lv_room (Nat.le_of_ble_eq_true rfl)) dX12_weighing_3 ⟨Nat.le_refl _, Nat.le_refl _⟩) (fun H locs hP hS => ?_)
  refine lv_aload_n C.1 C.2.1 dX12_weighing_6 rfl (lv_at hl 0 rfl) ?_
  refine lv_iload_n C.1 C.2.1 dX12_weighing_7 rfl (lv_at hl 1 rfl) ?_
  refine lv_aload_n C.1 C.2.1 dX12_weighing_8 rfl (lv_at hl 2 rfl) ?_
  obtain ⟨r2, hr2, hE⟩ := it_b hE
  refine n_afterS C.2.2.2.2.2.2.2.1 hS (va_runU (As := [.int p1, .ref (ad 0)]) (rest := []) ⟨C.1, C.2.1, hml, C.2.2.1, C.2.2.2.1⟩ (metC_Far_feeding_4 l G ad pl _ _ q ix hby p1 hq r2 hr2) (va_cwO (C := RX16) (owner := "HamsterWeekends$Home") 2 C.2.2.2.1 (lw_O q1275 q1226 q1224 q1241 q1235 q106 q1236) rfl rfl rfl q1248 (by decide +kernel) ⟨Nat.le_of_ble_eq_true rfl, Nat.le_of_ble_eq_true rfl⟩) (n_preV0 C hP hS (n_recvH C hS hq rfl)) rfl rfl hl.1 rfl (lv_room (Nat.le_of_ble_eq_true rfl)) dX12_weighing_9 ⟨Nat.le_refl _, Nat.le_refl _⟩) (fun H locs hP hS => ?_)
  refine lv_iconst (v := 2) C.1 C.2.1 dX12_weighing_12 (by decide) ?_
  refine lv_imul C.1 C.2.1 dX12_weighing_13 ?_
  obtain rfl := Option.some.inj hE
  exact hret _ _ _ _ dX12_weighing_14 hP hS
def sC_Home_writing_4 (v_ran : Int32) (v_bodies : Nat → Int32) (ix : Int32) (hby : Int32) (p1 : Int32) : Option (Int32 × Int32 × (Nat → Int32)) :=
  (sC_Trace_runs v_ran v_bodies 12).bind fun r1 =>
  (sC_Home_weighing_4 r1.1 r1.2 ix hby p1).bind fun r2 =>
  (sC_Far_feeding_4 r2.2.1 r2.2.2 ix hby (p1 - hby)).bind fun r3 =>
  some ((r2.1 ^^^ r3.1), r3.2.1, r3.2.2)
set_option maxHeartbeats 4000000 in
theorem metC_Home_writing_4 (l : Launch) (G : kG) (ad : Nat → Nat) (pl : va_W) (v_ran : Int32) (v_bodies : Nat → Int32) (q : Nat) (ix : Int32) (hby : Int32) (p1 : Int32) (hq : (q, .inr (4, [.int ix, .int hby])) ∈ pl) (res : Int32 × Int32 × (Nat → Int32)) (hE : sC_Home_writing_4 v_ran v_bodies ix hby p1 = some res) : Met l yX12_writing (ws_ yX12_writing cX12_writing 4 (some .int)) ({ frames := 4, cells := 0, slots := 0, locals := 87 } : Room) (nPc G (tW G.2 ad v_ran v_bodies) pl (tWV ad) [.ref q, .int p1, .ref (ad 0)]) (nQc G (tW G.2 ad res.2.1 res.2.2) (tWV ad) (some (.int res.1))) 0 0 (nA (tWV ad)) := by
  refine n_ofW (own := RX12) (by decide) rfl (Nat.le_of_ble_eq_true rfl) ?_
  intro p e s m args below meth c ls C hml hP hS hl hr hlocks
  have hl : lv_has ls 4 [(0, .ref q), (1, .int p1), (2, .ref (ad 0))] := hl
  obtain ⟨Q, hQ⟩ : ∃ Q, Q = MQ below (nQc G (tW G.2 ad res.2.1 res.2.2) (tWV ad) (some (.int res.1))) args s 0 0 (nA (tWV ad)) := ⟨_, rfl⟩
  rw [← hQ]
  have hret : ∀ (pc : Nat) (ls : Array Slot) (H : Heap) (locs : List Loc), decode cX12_writing pc = .ok (.ireturn, 1) → va_P G.1 vwCl (tW G.2 ad res.2.1 res.2.2) H → va_S (nA (tWV ad)) s.heap H locs → W p l e ({ frames := 4, cells := 0, slots := 0, locals := 87 } : Room) s m args below meth c H locs 0 0 Q (F0 m pc ls [(.int res.1)]) := by
    intro pc ls H locs hd hP hS
    rw [hQ]
    exact n_iret C hr hlocks hd hP hS
  clear hQ
  obtain ⟨H, hH⟩ : ∃ H, H = s.heap := ⟨_, rfl⟩
  obtain ⟨locs, hlo⟩ : ∃ locs : List Loc, locs = [] := ⟨_, rfl⟩
  have hP : va_P G.1 vwCl (tW G.2 ad v_ran v_bodies) H := by rw [hH]; exact hP
  have hS : va_S (nA (tWV ad)) s.heap H locs := by rw [hH, hlo]; exact hS
  suffices hZ : W p l e ({ frames := 4, cells := 0, slots := 0, locals := 87 } : Room) s m args below meth c H locs 0 0 Q (F0 m 0 ls []) by rw [hH, hlo] at hZ; exact hZ
  clear hH hlo
  unfold sC_Home_writing_4 at hE
  refine lv_aload_n C.1 C.2.1 dX12_writing_0 rfl (lv_at hl 2 rfl) ?_
  refine lv_bipush (v := 12) C.1 C.2.1 dX12_writing_1 (by decide) ?_
  obtain ⟨r1, hr1, hE⟩ := it_b hE
  refine n_afterS C.2.2.2.2.2.2.2.1 hS (va_runV (As := [.int 12]) (rest := []) ⟨C.1, C.2.1, hml, C.2.2.1, C.2.2.2.1⟩ (metC_Trace_runs l G ad pl _ _ 12  r1 hr1) (cwV (C := RX1) 1 C.2.2.2.1 (lw_V q1249 q1231 q1232 q81 q1233) rfl rfl rfl (by decide +kernel) ⟨Nat.le_of_ble_eq_true rfl, Nat.le_of_ble_eq_true rfl⟩) (n_preV0 C hP hS (va_recv C.2.2.2.2.1 hP (ci := 14) (q0 := 0) rfl rfl)) rfl rfl hl.1 rfl (lv_room (Nat.le_of_ble_eq_true rfl)) dX12_writing_3 ⟨Nat.le_refl _, Nat.le_refl _⟩) (fun H locs hP hS => ?_)
  refine lv_aload_n C.1 C.2.1 dX12_writing_6 rfl (lv_at hl 0 rfl) ?_
  refine lv_iload_n C.1 C.2.1 dX12_writing_7 rfl (lv_at hl 1 rfl) ?_
  refine lv_aload_n C.1 C.2.1 dX12_writing_8 rfl (lv_at hl 2 rfl) ?_
  obtain ⟨r2, hr2, hE⟩ := it_b hE
  refine n_afterS C.2.2.2.2.2.2.2.1 hS (va_runU (As := [.int p1, .ref (ad 0)]) (rest := []) ⟨C.1, C.2.1, hml, C.2.2.1, C.2.2.2.1⟩ (metC_Home_weighing_4 l G ad pl _ _ q ix hby p1 hq r2 hr2) (va_cwU (C := RX16) (owner := "HamsterWeekends$Home") 2 C.2.2.2.1 (lw_U q1296 q1253 q1266 q1251 q102 q1274) rfl rfl rfl rfl (by decide +kernel) ⟨Nat.le_of_ble_eq_true rfl, Nat.le_of_ble_eq_true rfl⟩) (n_preV0 C hP hS (n_recvH C hS hq rfl)) rfl rfl hl.1 rfl (lv_room (Nat.le_of_ble_eq_true rfl)) dX12_writing_9 ⟨Nat.le_refl _, Nat.le_refl _⟩) (fun H locs hP hS => ?_)
  refine lv_istore_n (lv' := [(3, .int r2.1), (0, .ref q), (1, .int p1), (2, .ref (ad 0))]) C.1 C.2.1 dX12_writing_12 rfl hl (by decide) rfl (fun ls hl => ?_)
  refine lv_iload_n C.1 C.2.1 dX12_writing_13 rfl (lv_at hl 0 rfl) ?_
  refine lv_aload_n C.1 C.2.1 dX12_writing_14 rfl (lv_at hl 1 rfl) ?_
  refine lv_iload_n C.1 C.2.1 dX12_writing_15 rfl (lv_at hl 2 rfl) ?_
  refine lv_aload_n C.1 C.2.1 dX12_writing_16 rfl (lv_at hl 1 rfl) ?_
  refine h_get (j := 1) C hS hq (show vwCl[4]? = some (RX16, TX16, 2) from rfl) in_X16 (by decide) rfl rfl rfl q670 (Or.inl rfl) rfl dX12_writing_17 ?_
  refine lv_isub C.1 C.2.1 dX12_writing_20 ?_
  refine lv_aload_n C.1 C.2.1 dX12_writing_21 rfl (lv_at hl 3 rfl) ?_
  obtain ⟨r3, hr3, hE⟩ := it_b hE
  refine n_afterS C.2.2.2.2.2.2.2.1 hS (va_runU (As := [.int (p1 - hby), .ref (ad 0)]) (rest := [.int r2.1]) ⟨C.1, C.2.1, hml, C.2.2.1, C.2.2.2.1⟩ (metC_Far_feeding_4 l G ad pl _ _ q ix hby (p1 - hby) hq r3 hr3) (va_cwO (C := RX16) (owner := "HamsterWeekends$Home") 2 C.2.2.2.1 (lw_O q1275 q1226 q1224 q1241 q1235 q106 q1236) rfl rfl rfl q1248 (by decide +kernel) ⟨Nat.le_of_ble_eq_true rfl, Nat.le_of_ble_eq_true rfl⟩) (n_preV0 C hP hS (n_recvH C hS hq rfl)) rfl rfl hl.1 rfl (lv_room (Nat.le_of_ble_eq_true rfl)) dX12_writing_22 ⟨Nat.le_refl _, Nat.le_refl _⟩) (fun H locs hP hS => ?_)
  refine lv_ixor C.1 C.2.1 dX12_writing_25 ?_
  obtain rfl := Option.some.inj hE
  exact hret _ _ _ _ dX12_writing_26 hP hS
def sC_Far_writing_4 (v_ran : Int32) (v_bodies : Nat → Int32) (ix : Int32) (hby : Int32) (p1 : Int32) : Option (Int32 × Int32 × (Nat → Int32)) :=
  (sC_Trace_runs v_ran v_bodies 50).bind fun r1 =>
  (sC_Home_writing_4 r1.1 r1.2 ix hby p1).bind fun r2 =>
  some ((-r2.1), r2.2.1, r2.2.2)
set_option maxHeartbeats 4000000 in
theorem metC_Far_writing_4 (l : Launch) (G : kG) (ad : Nat → Nat) (pl : va_W) (v_ran : Int32) (v_bodies : Nat → Int32) (q : Nat) (ix : Int32) (hby : Int32) (p1 : Int32) (hq : (q, .inr (4, [.int ix, .int hby])) ∈ pl) (res : Int32 × Int32 × (Nat → Int32)) (hE : sC_Far_writing_4 v_ran v_bodies ix hby p1 = some res) : Met l yX16_writing (ws_ yX16_writing cX16_writing 3 (some .int)) ({ frames := 5, cells := 0, slots := 0, locals := 110 } : Room) (nPc G (tW G.2 ad v_ran v_bodies) pl (tWV ad) [.ref q, .int p1, .ref (ad 0)]) (nQc G (tW G.2 ad res.2.1 res.2.2) (tWV ad) (some (.int res.1))) 0 0 (nA (tWV ad)) := by
  refine n_ofW (own := RX16) (by decide) rfl (Nat.le_of_ble_eq_true rfl) ?_
  intro p e s m args below meth c ls C hml hP hS hl hr hlocks
  have hl : lv_has ls 3 [(0, .ref q), (1, .int p1), (2, .ref (ad 0))] := hl
  obtain ⟨Q, hQ⟩ : ∃ Q, Q = MQ below (nQc G (tW G.2 ad res.2.1 res.2.2) (tWV ad) (some (.int res.1))) args s 0 0 (nA (tWV ad)) := ⟨_, rfl⟩
  rw [← hQ]
  have hret : ∀ (pc : Nat) (ls : Array Slot) (H : Heap) (locs : List Loc), decode cX16_writing pc = .ok (.ireturn, 1) → va_P G.1 vwCl (tW G.2 ad res.2.1 res.2.2) H → va_S (nA (tWV ad)) s.heap H locs → W p l e ({ frames := 5, cells := 0, slots := 0, locals := 110 } : Room) s m args below meth c H locs 0 0 Q (F0 m pc ls [(.int res.1)]) := by
    intro pc ls H locs hd hP hS
    rw [hQ]
    exact n_iret C hr hlocks hd hP hS
  clear hQ
  obtain ⟨H, hH⟩ : ∃ H, H = s.heap := ⟨_, rfl⟩
  obtain ⟨locs, hlo⟩ : ∃ locs : List Loc, locs = [] := ⟨_, rfl⟩
  have hP : va_P G.1 vwCl (tW G.2 ad v_ran v_bodies) H := by rw [hH]; exact hP
  have hS : va_S (nA (tWV ad)) s.heap H locs := by rw [hH, hlo]; exact hS
  suffices hZ : W p l e ({ frames := 5, cells := 0, slots := 0, locals := 110 } : Room) s m args below meth c H locs 0 0 Q (F0 m 0 ls []) by rw [hH, hlo] at hZ; exact hZ
  clear hH hlo
  unfold sC_Far_writing_4 at hE
  refine lv_aload_n C.1 C.2.1 dX16_writing_0 rfl (lv_at hl 2 rfl) ?_
  refine lv_bipush (v := 50) C.1 C.2.1 dX16_writing_1 (by decide) ?_
  obtain ⟨r1, hr1, hE⟩ := it_b hE
  refine n_afterS C.2.2.2.2.2.2.2.1 hS (va_runV (As := [.int 50]) (rest := []) ⟨C.1, C.2.1, hml, C.2.2.1, C.2.2.2.1⟩ (metC_Trace_runs l G ad pl _ _ 50  r1 hr1) (cwV (C := RX1) 1 C.2.2.2.1 (lw_V q1237 q1231 q1232 q81 q1233) rfl rfl rfl (by decide +kernel) ⟨Nat.le_of_ble_eq_true rfl, Nat.le_of_ble_eq_true rfl⟩) (n_preV0 C hP hS (va_recv C.2.2.2.2.1 hP (ci := 14) (q0 := 0) rfl rfl)) rfl rfl hl.1 rfl (lv_room (Nat.le_of_ble_eq_true rfl)) dX16_writing_3 ⟨Nat.le_refl _, Nat.le_refl _⟩) (fun H locs hP hS => ?_)
  refine lv_aload_n C.1 C.2.1 dX16_writing_6 rfl (lv_at hl 0 rfl) ?_
  refine lv_iload_n C.1 C.2.1 dX16_writing_7 rfl (lv_at hl 1 rfl) ?_
  refine lv_aload_n C.1 C.2.1 dX16_writing_8 rfl (lv_at hl 2 rfl) ?_
  obtain ⟨r2, hr2, hE⟩ := it_b hE
  refine n_afterS C.2.2.2.2.2.2.2.1 hS (va_runSU (As := [.int p1, .ref (ad 0)]) (rest := []) (C.2.2.2.2.1.1 4 _ rfl).2 ⟨C.1, C.2.1, hml, C.2.2.1, C.2.2.2.1⟩ (metC_Home_writing_4 l G ad pl _ _ q ix hby p1 hq r2 hr2) (va_cwSU 2 C.2.2.2.1 (lw_SU q1283 q1279 q710 q1277 q102 q1295) rfl rfl rfl (by decide +kernel) ⟨Nat.le_of_ble_eq_true rfl, Nat.le_of_ble_eq_true rfl⟩) (n_preV0 C hP hS (n_recvH C hS hq rfl)) rfl rfl hl.1 rfl (lv_room (Nat.le_of_ble_eq_true rfl)) dX16_writing_9 ⟨Nat.le_refl _, Nat.le_refl _⟩) (fun H locs hP hS => ?_)
  refine lv_ineg C.1 C.2.1 dX16_writing_12 ?_
  obtain rfl := Option.some.inj hE
  exact hret _ _ _ _ dX16_writing_13 hP hS
def sC_Dog_kind_5 (ix : Int32) (hby : Int32) : Option (Int32) :=
  some 5
set_option maxHeartbeats 4000000 in
theorem metC_Dog_kind_5 (l : Launch) (G : kG) (ad : Nat → Nat) (pl : va_W)  (q : Nat) (ix : Int32) (hby : Int32) (hq : (q, .inr (5, [.int ix, .int hby])) ∈ pl) (res : Int32) (hE : sC_Dog_kind_5 ix hby = some res) : Met l yX17_kind (ws_ yX17_kind cX17_kind 1 (some .int)) ({ frames := 0, cells := 0, slots := 0, locals := 0 } : Room) (nPc G [] pl [] [.ref q]) (nQc G [] [] (some (.int res))) 0 0 (nA []) := by
  refine n_ofW (own := RX17) (by decide) rfl (Nat.le_of_ble_eq_true rfl) ?_
  intro p e s m args below meth c ls C hml hP hS hl hr hlocks
  have hl : lv_has ls 1 [(0, .ref q)] := hl
  obtain ⟨Q, hQ⟩ : ∃ Q, Q = MQ below (nQc G [] [] (some (.int res))) args s 0 0 (nA []) := ⟨_, rfl⟩
  rw [← hQ]
  have hret : ∀ (pc : Nat) (ls : Array Slot) (H : Heap) (locs : List Loc), decode cX17_kind pc = .ok (.ireturn, 1) → va_P G.1 vwCl [] H → va_S (nA []) s.heap H locs → W p l e ({ frames := 0, cells := 0, slots := 0, locals := 0 } : Room) s m args below meth c H locs 0 0 Q (F0 m pc ls [(.int res)]) := by
    intro pc ls H locs hd hP hS
    rw [hQ]
    exact n_iret C hr hlocks hd hP hS
  clear hQ
  obtain ⟨H, hH⟩ : ∃ H, H = s.heap := ⟨_, rfl⟩
  obtain ⟨locs, hlo⟩ : ∃ locs : List Loc, locs = [] := ⟨_, rfl⟩
  have hP : va_P G.1 vwCl [] H := by rw [hH]; exact hP
  have hS : va_S (nA []) s.heap H locs := by rw [hH, hlo]; exact hS
  suffices hZ : W p l e ({ frames := 0, cells := 0, slots := 0, locals := 0 } : Room) s m args below meth c H locs 0 0 Q (F0 m 0 ls []) by rw [hH, hlo] at hZ; exact hZ
  clear hH hlo
  unfold sC_Dog_kind_5 at hE
  refine lv_iconst (v := 5) C.1 C.2.1 dX17_kind_0 (by decide) ?_
  obtain rfl := Option.some.inj hE
  exact hret _ _ _ _ dX17_kind_1 hP hS
def sC_Home_weekend_5 (v_weight : Int32) (ix : Int32) (hby : Int32) : Option (Int32) :=
  (sC_Pet_gains v_weight (-hby)).bind fun r1 =>
  some r1
set_option maxHeartbeats 4000000 in
theorem metC_Home_weekend_5 (l : Launch) (G : kG) (ad : Nat → Nat) (pl : va_W) (v_weight : Int32) (v_fright : Int32) (v_age : Int32) (v_asked : Nat → Int32) (q : Nat) (ix : Int32) (hby : Int32) (hq : (q, .inr (5, [.int ix, .int hby])) ∈ pl) (res : Int32) (hE : sC_Home_weekend_5 v_weight ix hby = some res) : Met l yX12_weekend (ws_ yX12_weekend cX12_weekend 2 none) ({ frames := 2, cells := 0, slots := 0, locals := 42 } : Room) (nPc G (pW G.2 ad v_weight v_fright v_age v_asked) pl (pWV ad) [.ref q, .ref (ad 0)]) (nQc G (pW G.2 ad res v_fright v_age v_asked) (pWV ad) none) 0 0 (nA (pWV ad)) := by
  refine n_ofW (own := RX12) (by decide) rfl (Nat.le_of_ble_eq_true rfl) ?_
  intro p e s m args below meth c ls C hml hP hS hl hr hlocks
  have hl : lv_has ls 2 [(0, .ref q), (1, .ref (ad 0))] := hl
  obtain ⟨Q, hQ⟩ : ∃ Q, Q = MQ below (nQc G (pW G.2 ad res v_fright v_age v_asked) (pWV ad) none) args s 0 0 (nA (pWV ad)) := ⟨_, rfl⟩
  rw [← hQ]
  have hret : ∀ (pc : Nat) (ls : Array Slot) (H : Heap) (locs : List Loc), decode cX12_weekend pc = .ok (.return_, 1) → va_P G.1 vwCl (pW G.2 ad res v_fright v_age v_asked) H → va_S (nA (pWV ad)) s.heap H locs → W p l e ({ frames := 2, cells := 0, slots := 0, locals := 42 } : Room) s m args below meth c H locs 0 0 Q (F0 m pc ls []) := by
    intro pc ls H locs hd hP hS
    rw [hQ]
    exact n_vret C hr hlocks hd hP hS
  clear hQ
  obtain ⟨H, hH⟩ : ∃ H, H = s.heap := ⟨_, rfl⟩
  obtain ⟨locs, hlo⟩ : ∃ locs : List Loc, locs = [] := ⟨_, rfl⟩
  have hP : va_P G.1 vwCl (pW G.2 ad v_weight v_fright v_age v_asked) H := by rw [hH]; exact hP
  have hS : va_S (nA (pWV ad)) s.heap H locs := by rw [hH, hlo]; exact hS
  suffices hZ : W p l e ({ frames := 2, cells := 0, slots := 0, locals := 42 } : Room) s m args below meth c H locs 0 0 Q (F0 m 0 ls []) by rw [hH, hlo] at hZ; exact hZ
  clear hH hlo
  unfold sC_Home_weekend_5 at hE
  refine lv_aload_n C.1 C.2.1 dX12_weekend_0 rfl (lv_at hl 1 rfl) ?_
  refine lv_aload_n C.1 C.2.1 dX12_weekend_1 rfl (lv_at hl 0 rfl) ?_
  refine h_get (j := 1) C hS hq (show vwCl[5]? = some (RX17, TX17, 2) from rfl) in_X17 (by decide) rfl rfl rfl q670 (Or.inl rfl) rfl dX12_weekend_2 ?_
  refine lv_ineg C.1 C.2.1 dX12_weekend_5 ?_
  obtain ⟨r1, hr1, hE⟩ := it_b hE
  refine n_afterS C.2.2.2.2.2.2.2.1 hS (va_runV (As := [.int (-hby)]) (rest := []) ⟨C.1, C.2.1, hml, C.2.2.1, C.2.2.2.1⟩ (metC_Pet_gains l G ad pl _ _ _ _ (-hby)  r1 hr1) (cwV (C := RX2) 1 C.2.2.2.1 (lw_V q1022 q1005 q1006 q82 q1007) rfl rfl rfl (by decide +kernel) ⟨Nat.le_of_ble_eq_true rfl, Nat.le_of_ble_eq_true rfl⟩) (n_preV0 C hP hS (va_recv C.2.2.2.2.1 hP (ci := 11) (q0 := 0) rfl rfl)) rfl rfl hl.1 rfl (lv_room (Nat.le_of_ble_eq_true rfl)) dX12_weekend_6 ⟨Nat.le_refl _, Nat.le_refl _⟩) (fun H locs hP hS => ?_)
  obtain rfl := Option.some.inj hE
  exact hret _ _ _ _ dX12_weekend_9 hP hS
def sC_Cat_weekend_5 (v_weight : Int32) (v_fright : Int32) (ix : Int32) (hby : Int32) : Option (Int32 × Int32) :=
  (sC_Home_weekend_5 v_weight ix hby).bind fun r1 =>
  (sC_Dog_frightens_5 ix hby v_fright).bind fun r2 =>
  some (r1, r2)
set_option maxHeartbeats 4000000 in
theorem metC_Cat_weekend_5 (l : Launch) (G : kG) (ad : Nat → Nat) (pl : va_W) (v_weight : Int32) (v_fright : Int32) (v_age : Int32) (v_asked : Nat → Int32) (q : Nat) (ix : Int32) (hby : Int32) (hq : (q, .inr (5, [.int ix, .int hby])) ∈ pl) (res : Int32 × Int32) (hE : sC_Cat_weekend_5 v_weight v_fright ix hby = some res) : Met l yX14_weekend (ws_ yX14_weekend cX14_weekend 2 none) ({ frames := 3, cells := 0, slots := 0, locals := 63 } : Room) (nPc G (pW G.2 ad v_weight v_fright v_age v_asked) pl (pWV ad) [.ref q, .ref (ad 0)]) (nQc G (pW G.2 ad res.1 res.2 v_age v_asked) (pWV ad) none) 0 0 (nA (pWV ad)) := by
  refine n_ofW (own := RX14) (by decide) rfl (Nat.le_of_ble_eq_true rfl) ?_
  intro p e s m args below meth c ls C hml hP hS hl hr hlocks
  have hl : lv_has ls 2 [(0, .ref q), (1, .ref (ad 0))] := hl
  obtain ⟨Q, hQ⟩ : ∃ Q, Q = MQ below (nQc G (pW G.2 ad res.1 res.2 v_age v_asked) (pWV ad) none) args s 0 0 (nA (pWV ad)) := ⟨_, rfl⟩
  rw [← hQ]
  have hret : ∀ (pc : Nat) (ls : Array Slot) (H : Heap) (locs : List Loc), decode cX14_weekend pc = .ok (.return_, 1) → va_P G.1 vwCl (pW G.2 ad res.1 res.2 v_age v_asked) H → va_S (nA (pWV ad)) s.heap H locs → W p l e ({ frames := 3, cells := 0, slots := 0, locals := 63 } : Room) s m args below meth c H locs 0 0 Q (F0 m pc ls []) := by
    intro pc ls H locs hd hP hS
    rw [hQ]
    exact n_vret C hr hlocks hd hP hS
  clear hQ
  obtain ⟨H, hH⟩ : ∃ H, H = s.heap := ⟨_, rfl⟩
  obtain ⟨locs, hlo⟩ : ∃ locs : List Loc, locs = [] := ⟨_, rfl⟩
  have hP : va_P G.1 vwCl (pW G.2 ad v_weight v_fright v_age v_asked) H := by rw [hH]; exact hP
  have hS : va_S (nA (pWV ad)) s.heap H locs := by rw [hH, hlo]; exact hS
  suffices hZ : W p l e ({ frames := 3, cells := 0, slots := 0, locals := 63 } : Room) s m args below meth c H locs 0 0 Q (F0 m 0 ls []) by rw [hH, hlo] at hZ; exact hZ
  clear hH hlo
  unfold sC_Cat_weekend_5 at hE
  refine lv_aload_n C.1 C.2.1 dX14_weekend_0 rfl (lv_at hl 0 rfl) ?_
  refine lv_aload_n C.1 C.2.1 dX14_weekend_1 rfl (lv_at hl 1 rfl) ?_
  obtain ⟨r1, hr1, hE⟩ := it_b hE
  refine n_afterS C.2.2.2.2.2.2.2.1 hS (va_runSU (As := [.ref (ad 0)]) (rest := []) (C.2.2.2.2.1.1 5 _ rfl).2 ⟨C.1, C.2.1, hml, C.2.2.1, C.2.2.2.1⟩ (metC_Home_weekend_5 l G ad pl _ _ _ _ q ix hby hq r1 hr1) (va_cwSU 1 C.2.2.2.1 (lw_SU q1011 q999 q693 q997 q102 q1021) rfl rfl rfl (by decide +kernel) ⟨Nat.le_of_ble_eq_true rfl, Nat.le_of_ble_eq_true rfl⟩) (n_preV0 C hP hS (n_recvH C hS hq rfl)) rfl rfl hl.1 rfl (lv_room (Nat.le_of_ble_eq_true rfl)) dX14_weekend_2 ⟨Nat.le_refl _, Nat.le_refl _⟩) (fun H locs hP hS => ?_)
  refine lv_aload_n C.1 C.2.1 dX14_weekend_5 rfl (lv_at hl 1 rfl) ?_
  refine lv_aload_n C.1 C.2.1 dX14_weekend_6 rfl (lv_at hl 0 rfl) ?_
  refine lv_aload_n C.1 C.2.1 dX14_weekend_7 rfl (lv_at hl 1 rfl) ?_
  refine pWg_0_1 q152 C hP dX14_weekend_8 ?_
  obtain ⟨r2, hr2, hE⟩ := it_b hE
  refine n_after [] C.2.2.2.2.2.1 C.2.2.2.2.2.2.2.1 hP hS (va_runU (As := [.int v_fright]) (rest := [.ref (ad 0)]) ⟨C.1, C.2.1, hml, C.2.2.1, C.2.2.2.1⟩ (metC_Dog_frightens_5 l G ad pl  q ix hby v_fright hq r2 hr2) (va_cwO (C := RX17) (owner := "HamsterWeekends$Cat") 1 C.2.2.2.1 (lw_O q1012 q616 q614 q617 q618 q107 q619) rfl rfl rfl q625 (by decide +kernel) ⟨Nat.le_of_ble_eq_true rfl, Nat.le_of_ble_eq_true rfl⟩) (n_preV C hP hS [] rfl (by decide) rfl (n_recvH C hS hq rfl)) rfl rfl hl.1 rfl (lv_room (Nat.le_of_ble_eq_true rfl)) dX14_weekend_11 ⟨Nat.le_refl _, Nat.le_refl _⟩) pW_av rfl rfl rfl (fun H locs hP hS => ?_)
  refine pWp_0_1 q152 C hP hS dX14_weekend_14 (fun H locs hP hS => ?_)
  obtain rfl := Option.some.inj hE
  exact hret _ _ _ _ dX14_weekend_17 hP hS
def sC_Home_feeding_5 (v_ran : Int32) (v_bodies : Nat → Int32) (ix : Int32) (hby : Int32) (p1 : Int32) : Option (Int32 × Int32 × (Nat → Int32)) :=
  (sC_Trace_runs v_ran v_bodies 10).bind fun r1 =>
  some ((p1 + ix), r1.1, r1.2)
set_option maxHeartbeats 4000000 in
theorem metC_Home_feeding_5 (l : Launch) (G : kG) (ad : Nat → Nat) (pl : va_W) (v_ran : Int32) (v_bodies : Nat → Int32) (q : Nat) (ix : Int32) (hby : Int32) (p1 : Int32) (hq : (q, .inr (5, [.int ix, .int hby])) ∈ pl) (res : Int32 × Int32 × (Nat → Int32)) (hE : sC_Home_feeding_5 v_ran v_bodies ix hby p1 = some res) : Met l yX12_feeding (ws_ yX12_feeding cX12_feeding 3 (some .int)) ({ frames := 1, cells := 0, slots := 0, locals := 21 } : Room) (nPc G (tW G.2 ad v_ran v_bodies) pl (tWV ad) [.ref q, .int p1, .ref (ad 0)]) (nQc G (tW G.2 ad res.2.1 res.2.2) (tWV ad) (some (.int res.1))) 0 0 (nA (tWV ad)) := by
  refine n_ofW (own := RX12) (by decide) rfl (Nat.le_of_ble_eq_true rfl) ?_
  intro p e s m args below meth c ls C hml hP hS hl hr hlocks
  have hl : lv_has ls 3 [(0, .ref q), (1, .int p1), (2, .ref (ad 0))] := hl
  obtain ⟨Q, hQ⟩ : ∃ Q, Q = MQ below (nQc G (tW G.2 ad res.2.1 res.2.2) (tWV ad) (some (.int res.1))) args s 0 0 (nA (tWV ad)) := ⟨_, rfl⟩
  rw [← hQ]
  have hret : ∀ (pc : Nat) (ls : Array Slot) (H : Heap) (locs : List Loc), decode cX12_feeding pc = .ok (.ireturn, 1) → va_P G.1 vwCl (tW G.2 ad res.2.1 res.2.2) H → va_S (nA (tWV ad)) s.heap H locs → W p l e ({ frames := 1, cells := 0, slots := 0, locals := 21 } : Room) s m args below meth c H locs 0 0 Q (F0 m pc ls [(.int res.1)]) := by
    intro pc ls H locs hd hP hS
    rw [hQ]
    exact n_iret C hr hlocks hd hP hS
  clear hQ
  obtain ⟨H, hH⟩ : ∃ H, H = s.heap := ⟨_, rfl⟩
  obtain ⟨locs, hlo⟩ : ∃ locs : List Loc, locs = [] := ⟨_, rfl⟩
  have hP : va_P G.1 vwCl (tW G.2 ad v_ran v_bodies) H := by rw [hH]; exact hP
  have hS : va_S (nA (tWV ad)) s.heap H locs := by rw [hH, hlo]; exact hS
  suffices hZ : W p l e ({ frames := 1, cells := 0, slots := 0, locals := 21 } : Room) s m args below meth c H locs 0 0 Q (F0 m 0 ls []) by rw [hH, hlo] at hZ; exact hZ
  clear hH hlo
  unfold sC_Home_feeding_5 at hE
  refine lv_aload_n C.1 C.2.1 dX12_feeding_0 rfl (lv_at hl 2 rfl) ?_
  refine lv_bipush (v := 10) C.1 C.2.1 dX12_feeding_1 (by decide) ?_
  obtain ⟨r1, hr1, hE⟩ := it_b hE
  refine n_afterS C.2.2.2.2.2.2.2.1 hS (va_runV (As := [.int 10]) (rest := []) ⟨C.1, C.2.1, hml, C.2.2.1, C.2.2.2.1⟩ (metC_Trace_runs l G ad pl _ _ 10  r1 hr1) (cwV (C := RX1) 1 C.2.2.2.1 (lw_V q1249 q1231 q1232 q81 q1233) rfl rfl rfl (by decide +kernel) ⟨Nat.le_of_ble_eq_true rfl, Nat.le_of_ble_eq_true rfl⟩) (n_preV0 C hP hS (va_recv C.2.2.2.2.1 hP (ci := 14) (q0 := 0) rfl rfl)) rfl rfl hl.1 rfl (lv_room (Nat.le_of_ble_eq_true rfl)) dX12_feeding_3 ⟨Nat.le_refl _, Nat.le_refl _⟩) (fun H locs hP hS => ?_)
  refine lv_iload_n C.1 C.2.1 dX12_feeding_6 rfl (lv_at hl 1 rfl) ?_
  refine lv_aload_n C.1 C.2.1 dX12_feeding_7 rfl (lv_at hl 0 rfl) ?_
  refine h_get (j := 0) C hS hq (show vwCl[5]? = some (RX17, TX17, 2) from rfl) in_X17 (by decide) rfl rfl rfl q665 (Or.inl rfl) rfl dX12_feeding_8 ?_
  refine lv_iadd C.1 C.2.1 dX12_feeding_11 ?_
  obtain rfl := Option.some.inj hE
  exact hret _ _ _ _ dX12_feeding_12 hP hS
def sC_Home_weighing_5 (v_ran : Int32) (v_bodies : Nat → Int32) (ix : Int32) (hby : Int32) (p1 : Int32) : Option (Int32 × Int32 × (Nat → Int32)) :=
  (sC_Trace_runs v_ran v_bodies 11).bind fun r1 =>
  (sC_Home_feeding_5 r1.1 r1.2 ix hby p1).bind fun r2 =>
  some ((r2.1 * 2), r2.2.1, r2.2.2)
set_option maxHeartbeats 4000000 in
theorem metC_Home_weighing_5 (l : Launch) (G : kG) (ad : Nat → Nat) (pl : va_W) (v_ran : Int32) (v_bodies : Nat → Int32) (q : Nat) (ix : Int32) (hby : Int32) (p1 : Int32) (hq : (q, .inr (5, [.int ix, .int hby])) ∈ pl) (res : Int32 × Int32 × (Nat → Int32)) (hE : sC_Home_weighing_5 v_ran v_bodies ix hby p1 = some res) : Met l yX12_weighing (ws_ yX12_weighing cX12_weighing 3 (some .int)) ({ frames := 2, cells := 0, slots := 0, locals := 43 } : Room) (nPc G (tW G.2 ad v_ran v_bodies) pl (tWV ad) [.ref q, .int p1, .ref (ad 0)]) (nQc G (tW G.2 ad res.2.1 res.2.2) (tWV ad) (some (.int res.1))) 0 0 (nA (tWV ad)) := by
  refine n_ofW (own := RX12) (by decide) rfl (Nat.le_of_ble_eq_true rfl) ?_
  intro p e s m args below meth c ls C hml hP hS hl hr hlocks
  have hl : lv_has ls 3 [(0, .ref q), (1, .int p1), (2, .ref (ad 0))] := hl
  obtain ⟨Q, hQ⟩ : ∃ Q, Q = MQ below (nQc G (tW G.2 ad res.2.1 res.2.2) (tWV ad) (some (.int res.1))) args s 0 0 (nA (tWV ad)) := ⟨_, rfl⟩
  rw [← hQ]
  have hret : ∀ (pc : Nat) (ls : Array Slot) (H : Heap) (locs : List Loc), decode cX12_weighing pc = .ok (.ireturn, 1) → va_P G.1 vwCl (tW G.2 ad res.2.1 res.2.2) H → va_S (nA (tWV ad)) s.heap H locs → W p l e ({ frames := 2, cells := 0, slots := 0, locals := 43 } : Room) s m args below meth c H locs 0 0 Q (F0 m pc ls [(.int res.1)]) := by
    intro pc ls H locs hd hP hS
    rw [hQ]
    exact n_iret C hr hlocks hd hP hS
  clear hQ
  obtain ⟨H, hH⟩ : ∃ H, H = s.heap := ⟨_, rfl⟩
  obtain ⟨locs, hlo⟩ : ∃ locs : List Loc, locs = [] := ⟨_, rfl⟩
  have hP : va_P G.1 vwCl (tW G.2 ad v_ran v_bodies) H := by rw [hH]; exact hP
  have hS : va_S (nA (tWV ad)) s.heap H locs := by rw [hH, hlo]; exact hS
  suffices hZ : W p l e ({ frames := 2, cells := 0, slots := 0, locals := 43 } : Room) s m args below meth c H locs 0 0 Q (F0 m 0 ls []) by rw [hH, hlo] at hZ; exact hZ
  clear hH hlo
  unfold sC_Home_weighing_5 at hE
  refine lv_aload_n C.1 C.2.1 dX12_weighing_0 rfl (lv_at hl 2 rfl) ?_
  refine lv_bipush (v := 11) C.1 C.2.1 dX12_weighing_1 (by decide) ?_
  obtain ⟨r1, hr1, hE⟩ := it_b hE
  refine n_afterS C.2.2.2.2.2.2.2.1 hS (va_runV (As := [.int 11]) (rest := []) ⟨C.1, C.2.1, hml, C.2.2.1, C.2.2.2.1⟩ (metC_Trace_runs l G ad pl _ _ 11  r1 hr1) (cwV (C := RX1) 1 C.2.2.2.1 (lw_V q1249 q1231 q1232 q81 q1233) rfl rfl rfl (by decide +kernel) ⟨Nat.le_of_ble_eq_true rfl, Nat.le_of_ble_eq_true rfl⟩) (n_preV0 C hP hS (va_recv C.2.2.2.2.1 hP (ci := 14) (q0 := 0) rfl rfl)) rfl rfl hl.1 rfl (lv_room (Nat.le_of_ble_eq_true rfl)) dX12_weighing_3 ⟨Nat.le_refl _, Nat.le_refl _⟩) (fun H locs hP hS => ?_)
  refine lv_aload_n C.1 C.2.1 dX12_weighing_6 rfl (lv_at hl 0 rfl) ?_
  refine lv_iload_n C.1 C.2.1 dX12_weighing_7 rfl (lv_at hl 1 rfl) ?_
  refine lv_aload_n C.1 C.2.1 dX12_weighing_8 rfl (lv_at hl 2 rfl) ?_
  obtain ⟨r2, hr2, hE⟩ := it_b hE
  refine n_afterS C.2.2.2.2.2.2.2.1 hS (va_runU (As := [.int p1, .ref (ad 0)]) (rest := []) ⟨C.1, C.2.1, hml, C.2.2.1, C.2.2.2.1⟩ (metC_Home_feeding_5 l G ad pl _ _ q ix hby p1 hq r2 hr2) (va_cwU (C := RX17) (owner := "HamsterWeekends$Home") 2 C.2.2.2.1 (lw_U q1275 q1226 q1240 q1224 q102 q1248) rfl rfl rfl rfl (by decide +kernel) ⟨Nat.le_of_ble_eq_true rfl, Nat.le_of_ble_eq_true rfl⟩) (n_preV0 C hP hS (n_recvH C hS hq rfl)) rfl rfl hl.1 rfl (lv_room (Nat.le_of_ble_eq_true rfl)) dX12_weighing_9 ⟨Nat.le_refl _, Nat.le_refl _⟩) (fun H locs hP hS => ?_)
  refine lv_iconst (v := 2) C.1 C.2.1 dX12_weighing_12 (by decide) ?_
  refine lv_imul C.1 C.2.1 dX12_weighing_13 ?_
  obtain rfl := Option.some.inj hE
  exact hret _ _ _ _ dX12_weighing_14 hP hS
def sC_Cat_weighing_5 (v_ran : Int32) (v_bodies : Nat → Int32) (ix : Int32) (hby : Int32) (p1 : Int32) : Option (Int32 × Int32 × (Nat → Int32)) :=
  (sC_Trace_runs v_ran v_bodies 30).bind fun r1 =>
  (sC_Home_weighing_5 r1.1 r1.2 ix hby p1).bind fun r2 =>
  some ((r2.1 * 3), r2.2.1, r2.2.2)
set_option maxHeartbeats 4000000 in
theorem metC_Cat_weighing_5 (l : Launch) (G : kG) (ad : Nat → Nat) (pl : va_W) (v_ran : Int32) (v_bodies : Nat → Int32) (q : Nat) (ix : Int32) (hby : Int32) (p1 : Int32) (hq : (q, .inr (5, [.int ix, .int hby])) ∈ pl) (res : Int32 × Int32 × (Nat → Int32)) (hE : sC_Cat_weighing_5 v_ran v_bodies ix hby p1 = some res) : Met l yX14_weighing (ws_ yX14_weighing cX14_weighing 3 (some .int)) ({ frames := 3, cells := 0, slots := 0, locals := 65 } : Room) (nPc G (tW G.2 ad v_ran v_bodies) pl (tWV ad) [.ref q, .int p1, .ref (ad 0)]) (nQc G (tW G.2 ad res.2.1 res.2.2) (tWV ad) (some (.int res.1))) 0 0 (nA (tWV ad)) := by
  refine n_ofW (own := RX14) (by decide) rfl (Nat.le_of_ble_eq_true rfl) ?_
  intro p e s m args below meth c ls C hml hP hS hl hr hlocks
  have hl : lv_has ls 3 [(0, .ref q), (1, .int p1), (2, .ref (ad 0))] := hl
  obtain ⟨Q, hQ⟩ : ∃ Q, Q = MQ below (nQc G (tW G.2 ad res.2.1 res.2.2) (tWV ad) (some (.int res.1))) args s 0 0 (nA (tWV ad)) := ⟨_, rfl⟩
  rw [← hQ]
  have hret : ∀ (pc : Nat) (ls : Array Slot) (H : Heap) (locs : List Loc), decode cX14_weighing pc = .ok (.ireturn, 1) → va_P G.1 vwCl (tW G.2 ad res.2.1 res.2.2) H → va_S (nA (tWV ad)) s.heap H locs → W p l e ({ frames := 3, cells := 0, slots := 0, locals := 65 } : Room) s m args below meth c H locs 0 0 Q (F0 m pc ls [(.int res.1)]) := by
    intro pc ls H locs hd hP hS
    rw [hQ]
    exact n_iret C hr hlocks hd hP hS
  clear hQ
  obtain ⟨H, hH⟩ : ∃ H, H = s.heap := ⟨_, rfl⟩
  obtain ⟨locs, hlo⟩ : ∃ locs : List Loc, locs = [] := ⟨_, rfl⟩
  have hP : va_P G.1 vwCl (tW G.2 ad v_ran v_bodies) H := by rw [hH]; exact hP
  have hS : va_S (nA (tWV ad)) s.heap H locs := by rw [hH, hlo]; exact hS
  suffices hZ : W p l e ({ frames := 3, cells := 0, slots := 0, locals := 65 } : Room) s m args below meth c H locs 0 0 Q (F0 m 0 ls []) by rw [hH, hlo] at hZ; exact hZ
  clear hH hlo
  unfold sC_Cat_weighing_5 at hE
  refine lv_aload_n C.1 C.2.1 dX14_weighing_0 rfl (lv_at hl 2 rfl) ?_
  refine lv_bipush (v := 30) C.1 C.2.1 dX14_weighing_1 (by decide) ?_
  obtain ⟨r1, hr1, hE⟩ := it_b hE
  refine n_afterS C.2.2.2.2.2.2.2.1 hS (va_runV (As := [.int 30]) (rest := []) ⟨C.1, C.2.1, hml, C.2.2.1, C.2.2.2.1⟩ (metC_Trace_runs l G ad pl _ _ 30  r1 hr1) (cwV (C := RX1) 1 C.2.2.2.1 (lw_V q1263 q1231 q1232 q81 q1233) rfl rfl rfl (by decide +kernel) ⟨Nat.le_of_ble_eq_true rfl, Nat.le_of_ble_eq_true rfl⟩) (n_preV0 C hP hS (va_recv C.2.2.2.2.1 hP (ci := 14) (q0 := 0) rfl rfl)) rfl rfl hl.1 rfl (lv_room (Nat.le_of_ble_eq_true rfl)) dX14_weighing_3 ⟨Nat.le_refl _, Nat.le_refl _⟩) (fun H locs hP hS => ?_)
  refine lv_aload_n C.1 C.2.1 dX14_weighing_6 rfl (lv_at hl 0 rfl) ?_
  refine lv_iload_n C.1 C.2.1 dX14_weighing_7 rfl (lv_at hl 1 rfl) ?_
  refine lv_aload_n C.1 C.2.1 dX14_weighing_8 rfl (lv_at hl 2 rfl) ?_
  obtain ⟨r2, hr2, hE⟩ := it_b hE
  refine n_afterS C.2.2.2.2.2.2.2.1 hS (va_runSU (As := [.int p1, .ref (ad 0)]) (rest := []) (C.2.2.2.2.1.1 5 _ rfl).2 ⟨C.1, C.2.1, hml, C.2.2.1, C.2.2.2.1⟩ (metC_Home_weighing_5 l G ad pl _ _ q ix hby p1 hq r2 hr2) (va_cwSU 2 C.2.2.2.1 (lw_SU q1264 q1253 q693 q1251 q102 q1274) rfl rfl rfl (by decide +kernel) ⟨Nat.le_of_ble_eq_true rfl, Nat.le_of_ble_eq_true rfl⟩) (n_preV0 C hP hS (n_recvH C hS hq rfl)) rfl rfl hl.1 rfl (lv_room (Nat.le_of_ble_eq_true rfl)) dX14_weighing_9 ⟨Nat.le_refl _, Nat.le_refl _⟩) (fun H locs hP hS => ?_)
  refine lv_iconst (v := 3) C.1 C.2.1 dX14_weighing_12 (by decide) ?_
  refine lv_imul C.1 C.2.1 dX14_weighing_13 ?_
  obtain rfl := Option.some.inj hE
  exact hret _ _ _ _ dX14_weighing_14 hP hS
def sC_Home_writing_5 (v_ran : Int32) (v_bodies : Nat → Int32) (ix : Int32) (hby : Int32) (p1 : Int32) : Option (Int32 × Int32 × (Nat → Int32)) :=
  (sC_Trace_runs v_ran v_bodies 12).bind fun r1 =>
  (sC_Cat_weighing_5 r1.1 r1.2 ix hby p1).bind fun r2 =>
  (sC_Home_feeding_5 r2.2.1 r2.2.2 ix hby (p1 - hby)).bind fun r3 =>
  some ((r2.1 ^^^ r3.1), r3.2.1, r3.2.2)
set_option maxHeartbeats 4000000 in
theorem metC_Home_writing_5 (l : Launch) (G : kG) (ad : Nat → Nat) (pl : va_W) (v_ran : Int32) (v_bodies : Nat → Int32) (q : Nat) (ix : Int32) (hby : Int32) (p1 : Int32) (hq : (q, .inr (5, [.int ix, .int hby])) ∈ pl) (res : Int32 × Int32 × (Nat → Int32)) (hE : sC_Home_writing_5 v_ran v_bodies ix hby p1 = some res) : Met l yX12_writing (ws_ yX12_writing cX12_writing 4 (some .int)) ({ frames := 4, cells := 0, slots := 0, locals := 87 } : Room) (nPc G (tW G.2 ad v_ran v_bodies) pl (tWV ad) [.ref q, .int p1, .ref (ad 0)]) (nQc G (tW G.2 ad res.2.1 res.2.2) (tWV ad) (some (.int res.1))) 0 0 (nA (tWV ad)) := by
  refine n_ofW (own := RX12) (by decide) rfl (Nat.le_of_ble_eq_true rfl) ?_
  intro p e s m args below meth c ls C hml hP hS hl hr hlocks
  have hl : lv_has ls 4 [(0, .ref q), (1, .int p1), (2, .ref (ad 0))] := hl
  obtain ⟨Q, hQ⟩ : ∃ Q, Q = MQ below (nQc G (tW G.2 ad res.2.1 res.2.2) (tWV ad) (some (.int res.1))) args s 0 0 (nA (tWV ad)) := ⟨_, rfl⟩
  rw [← hQ]
  have hret : ∀ (pc : Nat) (ls : Array Slot) (H : Heap) (locs : List Loc), decode cX12_writing pc = .ok (.ireturn, 1) → va_P G.1 vwCl (tW G.2 ad res.2.1 res.2.2) H → va_S (nA (tWV ad)) s.heap H locs → W p l e ({ frames := 4, cells := 0, slots := 0, locals := 87 } : Room) s m args below meth c H locs 0 0 Q (F0 m pc ls [(.int res.1)]) := by
    intro pc ls H locs hd hP hS
    rw [hQ]
    exact n_iret C hr hlocks hd hP hS
  clear hQ
  obtain ⟨H, hH⟩ : ∃ H, H = s.heap := ⟨_, rfl⟩
  obtain ⟨locs, hlo⟩ : ∃ locs : List Loc, locs = [] := ⟨_, rfl⟩
  have hP : va_P G.1 vwCl (tW G.2 ad v_ran v_bodies) H := by rw [hH]; exact hP
  have hS : va_S (nA (tWV ad)) s.heap H locs := by rw [hH, hlo]; exact hS
  suffices hZ : W p l e ({ frames := 4, cells := 0, slots := 0, locals := 87 } : Room) s m args below meth c H locs 0 0 Q (F0 m 0 ls []) by rw [hH, hlo] at hZ; exact hZ
  clear hH hlo
  unfold sC_Home_writing_5 at hE
  refine lv_aload_n C.1 C.2.1 dX12_writing_0 rfl (lv_at hl 2 rfl) ?_
  refine lv_bipush (v := 12) C.1 C.2.1 dX12_writing_1 (by decide) ?_
  obtain ⟨r1, hr1, hE⟩ := it_b hE
  refine n_afterS C.2.2.2.2.2.2.2.1 hS (va_runV (As := [.int 12]) (rest := []) ⟨C.1, C.2.1, hml, C.2.2.1, C.2.2.2.1⟩ (metC_Trace_runs l G ad pl _ _ 12  r1 hr1) (cwV (C := RX1) 1 C.2.2.2.1 (lw_V q1249 q1231 q1232 q81 q1233) rfl rfl rfl (by decide +kernel) ⟨Nat.le_of_ble_eq_true rfl, Nat.le_of_ble_eq_true rfl⟩) (n_preV0 C hP hS (va_recv C.2.2.2.2.1 hP (ci := 14) (q0 := 0) rfl rfl)) rfl rfl hl.1 rfl (lv_room (Nat.le_of_ble_eq_true rfl)) dX12_writing_3 ⟨Nat.le_refl _, Nat.le_refl _⟩) (fun H locs hP hS => ?_)
  refine lv_aload_n C.1 C.2.1 dX12_writing_6 rfl (lv_at hl 0 rfl) ?_
  refine lv_iload_n C.1 C.2.1 dX12_writing_7 rfl (lv_at hl 1 rfl) ?_
  refine lv_aload_n C.1 C.2.1 dX12_writing_8 rfl (lv_at hl 2 rfl) ?_
  obtain ⟨r2, hr2, hE⟩ := it_b hE
  refine n_afterS C.2.2.2.2.2.2.2.1 hS (va_runU (As := [.int p1, .ref (ad 0)]) (rest := []) ⟨C.1, C.2.1, hml, C.2.2.1, C.2.2.2.1⟩ (metC_Cat_weighing_5 l G ad pl _ _ q ix hby p1 hq r2 hr2) (va_cwO (C := RX17) (owner := "HamsterWeekends$Home") 2 C.2.2.2.1 (lw_O q1296 q1253 q1251 q1265 q1261 q104 q1262) rfl rfl rfl q1274 (by decide +kernel) ⟨Nat.le_of_ble_eq_true rfl, Nat.le_of_ble_eq_true rfl⟩) (n_preV0 C hP hS (n_recvH C hS hq rfl)) rfl rfl hl.1 rfl (lv_room (Nat.le_of_ble_eq_true rfl)) dX12_writing_9 ⟨Nat.le_refl _, Nat.le_refl _⟩) (fun H locs hP hS => ?_)
  refine lv_istore_n (lv' := [(3, .int r2.1), (0, .ref q), (1, .int p1), (2, .ref (ad 0))]) C.1 C.2.1 dX12_writing_12 rfl hl (by decide) rfl (fun ls hl => ?_)
  refine lv_iload_n C.1 C.2.1 dX12_writing_13 rfl (lv_at hl 0 rfl) ?_
  refine lv_aload_n C.1 C.2.1 dX12_writing_14 rfl (lv_at hl 1 rfl) ?_
  refine lv_iload_n C.1 C.2.1 dX12_writing_15 rfl (lv_at hl 2 rfl) ?_
  refine lv_aload_n C.1 C.2.1 dX12_writing_16 rfl (lv_at hl 1 rfl) ?_
  refine h_get (j := 1) C hS hq (show vwCl[5]? = some (RX17, TX17, 2) from rfl) in_X17 (by decide) rfl rfl rfl q670 (Or.inl rfl) rfl dX12_writing_17 ?_
  refine lv_isub C.1 C.2.1 dX12_writing_20 ?_
  refine lv_aload_n C.1 C.2.1 dX12_writing_21 rfl (lv_at hl 3 rfl) ?_
  obtain ⟨r3, hr3, hE⟩ := it_b hE
  refine n_afterS C.2.2.2.2.2.2.2.1 hS (va_runU (As := [.int (p1 - hby), .ref (ad 0)]) (rest := [.int r2.1]) ⟨C.1, C.2.1, hml, C.2.2.1, C.2.2.2.1⟩ (metC_Home_feeding_5 l G ad pl _ _ q ix hby (p1 - hby) hq r3 hr3) (va_cwU (C := RX17) (owner := "HamsterWeekends$Home") 2 C.2.2.2.1 (lw_U q1275 q1226 q1240 q1224 q102 q1248) rfl rfl rfl rfl (by decide +kernel) ⟨Nat.le_of_ble_eq_true rfl, Nat.le_of_ble_eq_true rfl⟩) (n_preV0 C hP hS (n_recvH C hS hq rfl)) rfl rfl hl.1 rfl (lv_room (Nat.le_of_ble_eq_true rfl)) dX12_writing_22 ⟨Nat.le_refl _, Nat.le_refl _⟩) (fun H locs hP hS => ?_)
  refine lv_ixor C.1 C.2.1 dX12_writing_25 ?_
  obtain rfl := Option.some.inj hE
  exact hret _ _ _ _ dX12_writing_26 hP hS
def sC_Dog_writing_5 (v_ran : Int32) (v_bodies : Nat → Int32) (ix : Int32) (hby : Int32) (p1 : Int32) : Option (Int32 × Int32 × (Nat → Int32)) :=
  (sC_Trace_runs v_ran v_bodies 60).bind fun r1 =>
  (sC_Home_writing_5 r1.1 r1.2 ix hby p1).bind fun r2 =>
  some ((r2.1 ^^^ 5), r2.2.1, r2.2.2)
set_option maxHeartbeats 4000000 in
theorem metC_Dog_writing_5 (l : Launch) (G : kG) (ad : Nat → Nat) (pl : va_W) (v_ran : Int32) (v_bodies : Nat → Int32) (q : Nat) (ix : Int32) (hby : Int32) (p1 : Int32) (hq : (q, .inr (5, [.int ix, .int hby])) ∈ pl) (res : Int32 × Int32 × (Nat → Int32)) (hE : sC_Dog_writing_5 v_ran v_bodies ix hby p1 = some res) : Met l yX17_writing (ws_ yX17_writing cX17_writing 3 (some .int)) ({ frames := 5, cells := 0, slots := 0, locals := 110 } : Room) (nPc G (tW G.2 ad v_ran v_bodies) pl (tWV ad) [.ref q, .int p1, .ref (ad 0)]) (nQc G (tW G.2 ad res.2.1 res.2.2) (tWV ad) (some (.int res.1))) 0 0 (nA (tWV ad)) := by
  refine n_ofW (own := RX17) (by decide) rfl (Nat.le_of_ble_eq_true rfl) ?_
  intro p e s m args below meth c ls C hml hP hS hl hr hlocks
  have hl : lv_has ls 3 [(0, .ref q), (1, .int p1), (2, .ref (ad 0))] := hl
  obtain ⟨Q, hQ⟩ : ∃ Q, Q = MQ below (nQc G (tW G.2 ad res.2.1 res.2.2) (tWV ad) (some (.int res.1))) args s 0 0 (nA (tWV ad)) := ⟨_, rfl⟩
  rw [← hQ]
  have hret : ∀ (pc : Nat) (ls : Array Slot) (H : Heap) (locs : List Loc), decode cX17_writing pc = .ok (.ireturn, 1) → va_P G.1 vwCl (tW G.2 ad res.2.1 res.2.2) H → va_S (nA (tWV ad)) s.heap H locs → W p l e ({ frames := 5, cells := 0, slots := 0, locals := 110 } : Room) s m args below meth c H locs 0 0 Q (F0 m pc ls [(.int res.1)]) := by
    intro pc ls H locs hd hP hS
    rw [hQ]
    exact n_iret C hr hlocks hd hP hS
  clear hQ
  obtain ⟨H, hH⟩ : ∃ H, H = s.heap := ⟨_, rfl⟩
  obtain ⟨locs, hlo⟩ : ∃ locs : List Loc, locs = [] := ⟨_, rfl⟩
  have hP : va_P G.1 vwCl (tW G.2 ad v_ran v_bodies) H := by rw [hH]; exact hP
  have hS : va_S (nA (tWV ad)) s.heap H locs := by rw [hH, hlo]; exact hS
  suffices hZ : W p l e ({ frames := 5, cells := 0, slots := 0, locals := 110 } : Room) s m args below meth c H locs 0 0 Q (F0 m 0 ls []) by rw [hH, hlo] at hZ; exact hZ
  clear hH hlo
  unfold sC_Dog_writing_5 at hE
  refine lv_aload_n C.1 C.2.1 dX17_writing_0 rfl (lv_at hl 2 rfl) ?_
  refine lv_bipush (v := 60) C.1 C.2.1 dX17_writing_1 (by decide) ?_
  obtain ⟨r1, hr1, hE⟩ := it_b hE
  refine n_afterS C.2.2.2.2.2.2.2.1 hS (va_runV (As := [.int 60]) (rest := []) ⟨C.1, C.2.1, hml, C.2.2.1, C.2.2.2.1⟩ (metC_Trace_runs l G ad pl _ _ 60  r1 hr1) (cwV (C := RX1) 1 C.2.2.2.1 (lw_V q1288 q1231 q1232 q81 q1233) rfl rfl rfl (by decide +kernel) ⟨Nat.le_of_ble_eq_true rfl, Nat.le_of_ble_eq_true rfl⟩) (n_preV0 C hP hS (va_recv C.2.2.2.2.1 hP (ci := 14) (q0 := 0) rfl rfl)) rfl rfl hl.1 rfl (lv_room (Nat.le_of_ble_eq_true rfl)) dX17_writing_3 ⟨Nat.le_refl _, Nat.le_refl _⟩) (fun H locs hP hS => ?_)
  refine lv_aload_n C.1 C.2.1 dX17_writing_6 rfl (lv_at hl 0 rfl) ?_
  refine lv_iload_n C.1 C.2.1 dX17_writing_7 rfl (lv_at hl 1 rfl) ?_
  refine lv_aload_n C.1 C.2.1 dX17_writing_8 rfl (lv_at hl 2 rfl) ?_
  obtain ⟨r2, hr2, hE⟩ := it_b hE
  refine n_afterS C.2.2.2.2.2.2.2.1 hS (n_runSI (n := 2) (As := [.int p1, .ref (ad 0)]) (rest := []) (C.2.2.2.2.1.1 5 _ rfl).2 ⟨C.1, C.2.1, hml, C.2.2.1, C.2.2.2.1⟩ (metC_Home_writing_5 l G ad pl _ _ q ix hby p1 hq r2 hr2) q1289 rfl q1290 q621 q693 q1277 q102 q1295 rfl rfl (by decide +kernel) ⟨Nat.le_of_ble_eq_true rfl, Nat.le_of_ble_eq_true rfl⟩ (n_preV0 C hP hS (n_recvH C hS hq rfl)) rfl rfl hl.1 rfl (lv_room (Nat.le_of_ble_eq_true rfl)) dX17_writing_9 ⟨Nat.le_refl _, Nat.le_refl _⟩) (fun H locs hP hS => ?_)
  refine lv_iconst (v := 5) C.1 C.2.1 dX17_writing_12 (by decide) ?_
  refine lv_ixor C.1 C.2.1 dX17_writing_13 ?_
  obtain rfl := Option.some.inj hE
  exact hret _ _ _ _ dX17_writing_14 hP hS
def sC_Bus_kind_6 (ix : Int32) (hby : Int32) : Option (Int32) :=
  some 6
set_option maxHeartbeats 4000000 in
theorem metC_Bus_kind_6 (l : Launch) (G : kG) (ad : Nat → Nat) (pl : va_W)  (q : Nat) (ix : Int32) (hby : Int32) (hq : (q, .inr (6, [.int ix, .int hby])) ∈ pl) (res : Int32) (hE : sC_Bus_kind_6 ix hby = some res) : Met l yX18_kind (ws_ yX18_kind cX18_kind 1 (some .int)) ({ frames := 0, cells := 0, slots := 0, locals := 0 } : Room) (nPc G [] pl [] [.ref q]) (nQc G [] [] (some (.int res))) 0 0 (nA []) := by
  refine n_ofW (own := RX18) (by decide) rfl (Nat.le_of_ble_eq_true rfl) ?_
  intro p e s m args below meth c ls C hml hP hS hl hr hlocks
  have hl : lv_has ls 1 [(0, .ref q)] := hl
  obtain ⟨Q, hQ⟩ : ∃ Q, Q = MQ below (nQc G [] [] (some (.int res))) args s 0 0 (nA []) := ⟨_, rfl⟩
  rw [← hQ]
  have hret : ∀ (pc : Nat) (ls : Array Slot) (H : Heap) (locs : List Loc), decode cX18_kind pc = .ok (.ireturn, 1) → va_P G.1 vwCl [] H → va_S (nA []) s.heap H locs → W p l e ({ frames := 0, cells := 0, slots := 0, locals := 0 } : Room) s m args below meth c H locs 0 0 Q (F0 m pc ls [(.int res)]) := by
    intro pc ls H locs hd hP hS
    rw [hQ]
    exact n_iret C hr hlocks hd hP hS
  clear hQ
  obtain ⟨H, hH⟩ : ∃ H, H = s.heap := ⟨_, rfl⟩
  obtain ⟨locs, hlo⟩ : ∃ locs : List Loc, locs = [] := ⟨_, rfl⟩
  have hP : va_P G.1 vwCl [] H := by rw [hH]; exact hP
  have hS : va_S (nA []) s.heap H locs := by rw [hH, hlo]; exact hS
  suffices hZ : W p l e ({ frames := 0, cells := 0, slots := 0, locals := 0 } : Room) s m args below meth c H locs 0 0 Q (F0 m 0 ls []) by rw [hH, hlo] at hZ; exact hZ
  clear hH hlo
  unfold sC_Bus_kind_6 at hE
  refine lv_bipush (v := 6) C.1 C.2.1 dX18_kind_0 (by decide) ?_
  obtain rfl := Option.some.inj hE
  exact hret _ _ _ _ dX18_kind_2 hP hS
def sC_Far_weekend_6 (v_weight : Int32) (v_fright : Int32) (ix : Int32) (hby : Int32) : Option (Int32) :=
  (sC_Bus_less_6 ix hby v_fright).bind fun r1 =>
  (sC_Pet_gains v_weight (-r1)).bind fun r2 =>
  some r2
set_option maxHeartbeats 4000000 in
theorem metC_Far_weekend_6 (l : Launch) (G : kG) (ad : Nat → Nat) (pl : va_W) (v_weight : Int32) (v_fright : Int32) (v_age : Int32) (v_asked : Nat → Int32) (q : Nat) (ix : Int32) (hby : Int32) (hq : (q, .inr (6, [.int ix, .int hby])) ∈ pl) (res : Int32) (hE : sC_Far_weekend_6 v_weight v_fright ix hby = some res) : Met l yX16_weekend (ws_ yX16_weekend cX16_weekend 2 none) ({ frames := 2, cells := 0, slots := 0, locals := 42 } : Room) (nPc G (pW G.2 ad v_weight v_fright v_age v_asked) pl (pWV ad) [.ref q, .ref (ad 0)]) (nQc G (pW G.2 ad res v_fright v_age v_asked) (pWV ad) none) 0 0 (nA (pWV ad)) := by
  refine n_ofW (own := RX16) (by decide) rfl (Nat.le_of_ble_eq_true rfl) ?_
  intro p e s m args below meth c ls C hml hP hS hl hr hlocks
  have hl : lv_has ls 2 [(0, .ref q), (1, .ref (ad 0))] := hl
  obtain ⟨Q, hQ⟩ : ∃ Q, Q = MQ below (nQc G (pW G.2 ad res v_fright v_age v_asked) (pWV ad) none) args s 0 0 (nA (pWV ad)) := ⟨_, rfl⟩
  rw [← hQ]
  have hret : ∀ (pc : Nat) (ls : Array Slot) (H : Heap) (locs : List Loc), decode cX16_weekend pc = .ok (.return_, 1) → va_P G.1 vwCl (pW G.2 ad res v_fright v_age v_asked) H → va_S (nA (pWV ad)) s.heap H locs → W p l e ({ frames := 2, cells := 0, slots := 0, locals := 42 } : Room) s m args below meth c H locs 0 0 Q (F0 m pc ls []) := by
    intro pc ls H locs hd hP hS
    rw [hQ]
    exact n_vret C hr hlocks hd hP hS
  clear hQ
  obtain ⟨H, hH⟩ : ∃ H, H = s.heap := ⟨_, rfl⟩
  obtain ⟨locs, hlo⟩ : ∃ locs : List Loc, locs = [] := ⟨_, rfl⟩
  have hP : va_P G.1 vwCl (pW G.2 ad v_weight v_fright v_age v_asked) H := by rw [hH]; exact hP
  have hS : va_S (nA (pWV ad)) s.heap H locs := by rw [hH, hlo]; exact hS
  suffices hZ : W p l e ({ frames := 2, cells := 0, slots := 0, locals := 42 } : Room) s m args below meth c H locs 0 0 Q (F0 m 0 ls []) by rw [hH, hlo] at hZ; exact hZ
  clear hH hlo
  unfold sC_Far_weekend_6 at hE
  refine lv_aload_n C.1 C.2.1 dX16_weekend_0 rfl (lv_at hl 1 rfl) ?_
  refine lv_aload_n C.1 C.2.1 dX16_weekend_1 rfl (lv_at hl 0 rfl) ?_
  refine lv_aload_n C.1 C.2.1 dX16_weekend_2 rfl (lv_at hl 1 rfl) ?_
  refine pWg_0_1 q151 C hP dX16_weekend_3 ?_
  obtain ⟨r1, hr1, hE⟩ := it_b hE
  refine n_after [] C.2.2.2.2.2.1 C.2.2.2.2.2.2.2.1 hP hS (va_runU (As := [.int v_fright]) (rest := [.ref (ad 0)]) ⟨C.1, C.2.1, hml, C.2.2.1, C.2.2.2.1⟩ (metC_Bus_less_6 l G ad pl  q ix hby v_fright hq r1 hr1) (va_cwO (C := RX18) (owner := "HamsterWeekends$Far") 1 C.2.2.2.1 (lw_O q1003 q633 q631 q634 q635 q108 q636) rfl rfl rfl q639 (by decide +kernel) ⟨Nat.le_of_ble_eq_true rfl, Nat.le_of_ble_eq_true rfl⟩) (n_preV C hP hS [] rfl (by decide) rfl (n_recvH C hS hq rfl)) rfl rfl hl.1 rfl (lv_room (Nat.le_of_ble_eq_true rfl)) dX16_weekend_6 ⟨Nat.le_refl _, Nat.le_refl _⟩) pW_av rfl rfl rfl (fun H locs hP hS => ?_)
  refine lv_ineg C.1 C.2.1 dX16_weekend_9 ?_
  obtain ⟨r2, hr2, hE⟩ := it_b hE
  refine n_afterS C.2.2.2.2.2.2.2.1 hS (va_runV (As := [.int (-r1)]) (rest := []) ⟨C.1, C.2.1, hml, C.2.2.1, C.2.2.2.1⟩ (metC_Pet_gains l G ad pl _ _ _ _ (-r1)  r2 hr2) (cwV (C := RX2) 1 C.2.2.2.1 (lw_V q1004 q1005 q1006 q82 q1007) rfl rfl rfl (by decide +kernel) ⟨Nat.le_of_ble_eq_true rfl, Nat.le_of_ble_eq_true rfl⟩) (n_preV0 C hP hS (va_recv C.2.2.2.2.1 hP (ci := 11) (q0 := 0) rfl rfl)) rfl rfl hl.1 rfl (lv_room (Nat.le_of_ble_eq_true rfl)) dX16_weekend_10 ⟨Nat.le_refl _, Nat.le_refl _⟩) (fun H locs hP hS => ?_)
  obtain rfl := Option.some.inj hE
  exact hret _ _ _ _ dX16_weekend_13 hP hS
def sC_Home_feeding_6 (v_ran : Int32) (v_bodies : Nat → Int32) (ix : Int32) (hby : Int32) (p1 : Int32) : Option (Int32 × Int32 × (Nat → Int32)) :=
  (sC_Trace_runs v_ran v_bodies 10).bind fun r1 =>
  some ((p1 + ix), r1.1, r1.2)
set_option maxHeartbeats 4000000 in
theorem metC_Home_feeding_6 (l : Launch) (G : kG) (ad : Nat → Nat) (pl : va_W) (v_ran : Int32) (v_bodies : Nat → Int32) (q : Nat) (ix : Int32) (hby : Int32) (p1 : Int32) (hq : (q, .inr (6, [.int ix, .int hby])) ∈ pl) (res : Int32 × Int32 × (Nat → Int32)) (hE : sC_Home_feeding_6 v_ran v_bodies ix hby p1 = some res) : Met l yX12_feeding (ws_ yX12_feeding cX12_feeding 3 (some .int)) ({ frames := 1, cells := 0, slots := 0, locals := 21 } : Room) (nPc G (tW G.2 ad v_ran v_bodies) pl (tWV ad) [.ref q, .int p1, .ref (ad 0)]) (nQc G (tW G.2 ad res.2.1 res.2.2) (tWV ad) (some (.int res.1))) 0 0 (nA (tWV ad)) := by
  refine n_ofW (own := RX12) (by decide) rfl (Nat.le_of_ble_eq_true rfl) ?_
  intro p e s m args below meth c ls C hml hP hS hl hr hlocks
  have hl : lv_has ls 3 [(0, .ref q), (1, .int p1), (2, .ref (ad 0))] := hl
  obtain ⟨Q, hQ⟩ : ∃ Q, Q = MQ below (nQc G (tW G.2 ad res.2.1 res.2.2) (tWV ad) (some (.int res.1))) args s 0 0 (nA (tWV ad)) := ⟨_, rfl⟩
  rw [← hQ]
  have hret : ∀ (pc : Nat) (ls : Array Slot) (H : Heap) (locs : List Loc), decode cX12_feeding pc = .ok (.ireturn, 1) → va_P G.1 vwCl (tW G.2 ad res.2.1 res.2.2) H → va_S (nA (tWV ad)) s.heap H locs → W p l e ({ frames := 1, cells := 0, slots := 0, locals := 21 } : Room) s m args below meth c H locs 0 0 Q (F0 m pc ls [(.int res.1)]) := by
    intro pc ls H locs hd hP hS
    rw [hQ]
    exact n_iret C hr hlocks hd hP hS
  clear hQ
  obtain ⟨H, hH⟩ : ∃ H, H = s.heap := ⟨_, rfl⟩
  obtain ⟨locs, hlo⟩ : ∃ locs : List Loc, locs = [] := ⟨_, rfl⟩
  have hP : va_P G.1 vwCl (tW G.2 ad v_ran v_bodies) H := by rw [hH]; exact hP
  have hS : va_S (nA (tWV ad)) s.heap H locs := by rw [hH, hlo]; exact hS
  suffices hZ : W p l e ({ frames := 1, cells := 0, slots := 0, locals := 21 } : Room) s m args below meth c H locs 0 0 Q (F0 m 0 ls []) by rw [hH, hlo] at hZ; exact hZ
  clear hH hlo
  unfold sC_Home_feeding_6 at hE
  refine lv_aload_n C.1 C.2.1 dX12_feeding_0 rfl (lv_at hl 2 rfl) ?_
  refine lv_bipush (v := 10) C.1 C.2.1 dX12_feeding_1 (by decide) ?_
  obtain ⟨r1, hr1, hE⟩ := it_b hE
  refine n_afterS C.2.2.2.2.2.2.2.1 hS (va_runV (As := [.int 10]) (rest := []) ⟨C.1, C.2.1, hml, C.2.2.1, C.2.2.2.1⟩ (metC_Trace_runs l G ad pl _ _ 10  r1 hr1) (cwV (C := RX1) 1 C.2.2.2.1 (lw_V q1249 q1231 q1232 q81 q1233) rfl rfl rfl (by decide +kernel) ⟨Nat.le_of_ble_eq_true rfl, Nat.le_of_ble_eq_true rfl⟩) (n_preV0 C hP hS (va_recv C.2.2.2.2.1 hP (ci := 14) (q0 := 0) rfl rfl)) rfl rfl hl.1 rfl (lv_room (Nat.le_of_ble_eq_true rfl)) dX12_feeding_3 ⟨Nat.le_refl _, Nat.le_refl _⟩) (fun H locs hP hS => ?_)
  refine lv_iload_n C.1 C.2.1 dX12_feeding_6 rfl (lv_at hl 1 rfl) ?_
  refine lv_aload_n C.1 C.2.1 dX12_feeding_7 rfl (lv_at hl 0 rfl) ?_
  refine h_get (j := 0) C hS hq (show vwCl[6]? = some (RX18, TX18, 2) from rfl) in_X18 (by decide) rfl rfl rfl q665 (Or.inl rfl) rfl dX12_feeding_8 ?_
  refine lv_iadd C.1 C.2.1 dX12_feeding_11 ?_
  obtain rfl := Option.some.inj hE
  exact hret _ _ _ _ dX12_feeding_12 hP hS
def sC_Far_feeding_6 (v_ran : Int32) (v_bodies : Nat → Int32) (ix : Int32) (hby : Int32) (p1 : Int32) : Option (Int32 × Int32 × (Nat → Int32)) :=
  (sC_Trace_runs v_ran v_bodies 51).bind fun r1 =>
  (sC_Home_feeding_6 r1.1 r1.2 ix hby p1).bind fun r2 =>
  some ((r2.1 - ix), r2.2.1, r2.2.2)
set_option maxHeartbeats 4000000 in
theorem metC_Far_feeding_6 (l : Launch) (G : kG) (ad : Nat → Nat) (pl : va_W) (v_ran : Int32) (v_bodies : Nat → Int32) (q : Nat) (ix : Int32) (hby : Int32) (p1 : Int32) (hq : (q, .inr (6, [.int ix, .int hby])) ∈ pl) (res : Int32 × Int32 × (Nat → Int32)) (hE : sC_Far_feeding_6 v_ran v_bodies ix hby p1 = some res) : Met l yX16_feeding (ws_ yX16_feeding cX16_feeding 3 (some .int)) ({ frames := 2, cells := 0, slots := 0, locals := 43 } : Room) (nPc G (tW G.2 ad v_ran v_bodies) pl (tWV ad) [.ref q, .int p1, .ref (ad 0)]) (nQc G (tW G.2 ad res.2.1 res.2.2) (tWV ad) (some (.int res.1))) 0 0 (nA (tWV ad)) := by
  refine n_ofW (own := RX16) (by decide) rfl (Nat.le_of_ble_eq_true rfl) ?_
  intro p e s m args below meth c ls C hml hP hS hl hr hlocks
  have hl : lv_has ls 3 [(0, .ref q), (1, .int p1), (2, .ref (ad 0))] := hl
  obtain ⟨Q, hQ⟩ : ∃ Q, Q = MQ below (nQc G (tW G.2 ad res.2.1 res.2.2) (tWV ad) (some (.int res.1))) args s 0 0 (nA (tWV ad)) := ⟨_, rfl⟩
  rw [← hQ]
  have hret : ∀ (pc : Nat) (ls : Array Slot) (H : Heap) (locs : List Loc), decode cX16_feeding pc = .ok (.ireturn, 1) → va_P G.1 vwCl (tW G.2 ad res.2.1 res.2.2) H → va_S (nA (tWV ad)) s.heap H locs → W p l e ({ frames := 2, cells := 0, slots := 0, locals := 43 } : Room) s m args below meth c H locs 0 0 Q (F0 m pc ls [(.int res.1)]) := by
    intro pc ls H locs hd hP hS
    rw [hQ]
    exact n_iret C hr hlocks hd hP hS
  clear hQ
  obtain ⟨H, hH⟩ : ∃ H, H = s.heap := ⟨_, rfl⟩
  obtain ⟨locs, hlo⟩ : ∃ locs : List Loc, locs = [] := ⟨_, rfl⟩
  have hP : va_P G.1 vwCl (tW G.2 ad v_ran v_bodies) H := by rw [hH]; exact hP
  have hS : va_S (nA (tWV ad)) s.heap H locs := by rw [hH, hlo]; exact hS
  suffices hZ : W p l e ({ frames := 2, cells := 0, slots := 0, locals := 43 } : Room) s m args below meth c H locs 0 0 Q (F0 m 0 ls []) by rw [hH, hlo] at hZ; exact hZ
  clear hH hlo
  unfold sC_Far_feeding_6 at hE
  refine lv_aload_n C.1 C.2.1 dX16_feeding_0 rfl (lv_at hl 2 rfl) ?_
  refine lv_bipush (v := 51) C.1 C.2.1 dX16_feeding_1 (by decide) ?_
  obtain ⟨r1, hr1, hE⟩ := it_b hE
  refine n_afterS C.2.2.2.2.2.2.2.1 hS (va_runV (As := [.int 51]) (rest := []) ⟨C.1, C.2.1, hml, C.2.2.1, C.2.2.2.1⟩ (metC_Trace_runs l G ad pl _ _ 51  r1 hr1) (cwV (C := RX1) 1 C.2.2.2.1 (lw_V q1237 q1231 q1232 q81 q1233) rfl rfl rfl (by decide +kernel) ⟨Nat.le_of_ble_eq_true rfl, Nat.le_of_ble_eq_true rfl⟩) (n_preV0 C hP hS (va_recv C.2.2.2.2.1 hP (ci := 14) (q0 := 0) rfl rfl)) rfl rfl hl.1 rfl (lv_room (Nat.le_of_ble_eq_true rfl)) dX16_feeding_3 ⟨Nat.le_refl _, Nat.le_refl _⟩) (fun H locs hP hS => ?_)
  refine lv_aload_n C.1 C.2.1 dX16_feeding_6 rfl (lv_at hl 0 rfl) ?_
  refine lv_iload_n C.1 C.2.1 dX16_feeding_7 rfl (lv_at hl 1 rfl) ?_
  refine lv_aload_n C.1 C.2.1 dX16_feeding_8 rfl (lv_at hl 2 rfl) ?_
  obtain ⟨r2, hr2, hE⟩ := it_b hE
  refine n_afterS C.2.2.2.2.2.2.2.1 hS (va_runSU (As := [.int p1, .ref (ad 0)]) (rest := []) (C.2.2.2.2.1.1 6 _ rfl).2 ⟨C.1, C.2.1, hml, C.2.2.1, C.2.2.2.1⟩ (metC_Home_feeding_6 l G ad pl _ _ q ix hby p1 hq r2 hr2) (va_cwSU 2 C.2.2.2.1 (lw_SU q1238 q1226 q710 q1224 q102 q1248) rfl rfl rfl (by decide +kernel) ⟨Nat.le_of_ble_eq_true rfl, Nat.le_of_ble_eq_true rfl⟩) (n_preV0 C hP hS (n_recvH C hS hq rfl)) rfl rfl hl.1 rfl (lv_room (Nat.le_of_ble_eq_true rfl)) dX16_feeding_9 ⟨Nat.le_refl _, Nat.le_refl _⟩) (fun H locs hP hS => ?_)
  refine lv_aload_n C.1 C.2.1 dX16_feeding_12 rfl (lv_at hl 0 rfl) ?_
  refine h_get (j := 0) C hS hq (show vwCl[6]? = some (RX18, TX18, 2) from rfl) in_X18 (by decide) rfl rfl rfl q667 (Or.inr q668) rfl dX16_feeding_13 ?_
  refine lv_isub C.1 C.2.1 dX16_feeding_16 ?_
  obtain rfl := Option.some.inj hE
  exact hret _ _ _ _ dX16_feeding_17 hP hS
def sC_Bus_feeding_6 (v_ran : Int32) (v_bodies : Nat → Int32) (ix : Int32) (hby : Int32) (p1 : Int32) : Option (Int32 × Int32 × (Nat → Int32)) :=
  (sC_Trace_runs v_ran v_bodies 70).bind fun r1 =>
  (sC_Far_feeding_6 r1.1 r1.2 ix hby p1).bind fun r2 =>
  some ((r2.1 * 2), r2.2.1, r2.2.2)
set_option maxHeartbeats 4000000 in
theorem metC_Bus_feeding_6 (l : Launch) (G : kG) (ad : Nat → Nat) (pl : va_W) (v_ran : Int32) (v_bodies : Nat → Int32) (q : Nat) (ix : Int32) (hby : Int32) (p1 : Int32) (hq : (q, .inr (6, [.int ix, .int hby])) ∈ pl) (res : Int32 × Int32 × (Nat → Int32)) (hE : sC_Bus_feeding_6 v_ran v_bodies ix hby p1 = some res) : Met l yX18_feeding (ws_ yX18_feeding cX18_feeding 3 (some .int)) ({ frames := 3, cells := 0, slots := 0, locals := 65 } : Room) (nPc G (tW G.2 ad v_ran v_bodies) pl (tWV ad) [.ref q, .int p1, .ref (ad 0)]) (nQc G (tW G.2 ad res.2.1 res.2.2) (tWV ad) (some (.int res.1))) 0 0 (nA (tWV ad)) := by
  refine n_ofW (own := RX18) (by decide) rfl (Nat.le_of_ble_eq_true rfl) ?_
  intro p e s m args below meth c ls C hml hP hS hl hr hlocks
  have hl : lv_has ls 3 [(0, .ref q), (1, .int p1), (2, .ref (ad 0))] := hl
  obtain ⟨Q, hQ⟩ : ∃ Q, Q = MQ below (nQc G (tW G.2 ad res.2.1 res.2.2) (tWV ad) (some (.int res.1))) args s 0 0 (nA (tWV ad)) := ⟨_, rfl⟩
  rw [← hQ]
  have hret : ∀ (pc : Nat) (ls : Array Slot) (H : Heap) (locs : List Loc), decode cX18_feeding pc = .ok (.ireturn, 1) → va_P G.1 vwCl (tW G.2 ad res.2.1 res.2.2) H → va_S (nA (tWV ad)) s.heap H locs → W p l e ({ frames := 3, cells := 0, slots := 0, locals := 65 } : Room) s m args below meth c H locs 0 0 Q (F0 m pc ls [(.int res.1)]) := by
    intro pc ls H locs hd hP hS
    rw [hQ]
    exact n_iret C hr hlocks hd hP hS
  clear hQ
  obtain ⟨H, hH⟩ : ∃ H, H = s.heap := ⟨_, rfl⟩
  obtain ⟨locs, hlo⟩ : ∃ locs : List Loc, locs = [] := ⟨_, rfl⟩
  have hP : va_P G.1 vwCl (tW G.2 ad v_ran v_bodies) H := by rw [hH]; exact hP
  have hS : va_S (nA (tWV ad)) s.heap H locs := by rw [hH, hlo]; exact hS
  suffices hZ : W p l e ({ frames := 3, cells := 0, slots := 0, locals := 65 } : Room) s m args below meth c H locs 0 0 Q (F0 m 0 ls []) by rw [hH, hlo] at hZ; exact hZ
  clear hH hlo
  unfold sC_Bus_feeding_6 at hE
  refine lv_aload_n C.1 C.2.1 dX18_feeding_0 rfl (lv_at hl 2 rfl) ?_
  refine lv_bipush (v := 70) C.1 C.2.1 dX18_feeding_1 (by decide) ?_
  obtain ⟨r1, hr1, hE⟩ := it_b hE
  refine n_afterS C.2.2.2.2.2.2.2.1 hS (va_runV (As := [.int 70]) (rest := []) ⟨C.1, C.2.1, hml, C.2.2.1, C.2.2.2.1⟩ (metC_Trace_runs l G ad pl _ _ 70  r1 hr1) (cwV (C := RX1) 1 C.2.2.2.1 (lw_V q1230 q1231 q1232 q81 q1233) rfl rfl rfl (by decide +kernel) ⟨Nat.le_of_ble_eq_true rfl, Nat.le_of_ble_eq_true rfl⟩) (n_preV0 C hP hS (va_recv C.2.2.2.2.1 hP (ci := 14) (q0 := 0) rfl rfl)) rfl rfl hl.1 rfl (lv_room (Nat.le_of_ble_eq_true rfl)) dX18_feeding_3 ⟨Nat.le_refl _, Nat.le_refl _⟩) (fun H locs hP hS => ?_)
  refine lv_aload_n C.1 C.2.1 dX18_feeding_6 rfl (lv_at hl 0 rfl) ?_
  refine lv_iload_n C.1 C.2.1 dX18_feeding_7 rfl (lv_at hl 1 rfl) ?_
  refine lv_aload_n C.1 C.2.1 dX18_feeding_8 rfl (lv_at hl 2 rfl) ?_
  obtain ⟨r2, hr2, hE⟩ := it_b hE
  refine n_afterS C.2.2.2.2.2.2.2.1 hS (va_runSU (As := [.int p1, .ref (ad 0)]) (rest := []) (C.2.2.2.2.1.1 6 _ rfl).2 ⟨C.1, C.2.1, hml, C.2.2.1, C.2.2.2.1⟩ (metC_Far_feeding_6 l G ad pl _ _ q ix hby p1 hq r2 hr2) (va_cwSU 2 C.2.2.2.1 (lw_SU q1234 q1829 q638 q1235 q106 q1236) rfl rfl rfl (by decide +kernel) ⟨Nat.le_of_ble_eq_true rfl, Nat.le_of_ble_eq_true rfl⟩) (n_preV0 C hP hS (n_recvH C hS hq rfl)) rfl rfl hl.1 rfl (lv_room (Nat.le_of_ble_eq_true rfl)) dX18_feeding_9 ⟨Nat.le_refl _, Nat.le_refl _⟩) (fun H locs hP hS => ?_)
  refine lv_iconst (v := 2) C.1 C.2.1 dX18_feeding_12 (by decide) ?_
  refine lv_imul C.1 C.2.1 dX18_feeding_13 ?_
  obtain rfl := Option.some.inj hE
  exact hret _ _ _ _ dX18_feeding_14 hP hS
def sC_Home_weighing_6 (v_ran : Int32) (v_bodies : Nat → Int32) (ix : Int32) (hby : Int32) (p1 : Int32) : Option (Int32 × Int32 × (Nat → Int32)) :=
  (sC_Trace_runs v_ran v_bodies 11).bind fun r1 =>
  (sC_Bus_feeding_6 r1.1 r1.2 ix hby p1).bind fun r2 =>
  some ((r2.1 * 2), r2.2.1, r2.2.2)
set_option maxHeartbeats 4000000 in
theorem metC_Home_weighing_6 (l : Launch) (G : kG) (ad : Nat → Nat) (pl : va_W) (v_ran : Int32) (v_bodies : Nat → Int32) (q : Nat) (ix : Int32) (hby : Int32) (p1 : Int32) (hq : (q, .inr (6, [.int ix, .int hby])) ∈ pl) (res : Int32 × Int32 × (Nat → Int32)) (hE : sC_Home_weighing_6 v_ran v_bodies ix hby p1 = some res) : Met l yX12_weighing (ws_ yX12_weighing cX12_weighing 3 (some .int)) ({ frames := 4, cells := 0, slots := 0, locals := 87 } : Room) (nPc G (tW G.2 ad v_ran v_bodies) pl (tWV ad) [.ref q, .int p1, .ref (ad 0)]) (nQc G (tW G.2 ad res.2.1 res.2.2) (tWV ad) (some (.int res.1))) 0 0 (nA (tWV ad)) := by
  refine n_ofW (own := RX12) (by decide) rfl (Nat.le_of_ble_eq_true rfl) ?_
  intro p e s m args below meth c ls C hml hP hS hl hr hlocks
  have hl : lv_has ls 3 [(0, .ref q), (1, .int p1), (2, .ref (ad 0))] := hl
  obtain ⟨Q, hQ⟩ : ∃ Q, Q = MQ below (nQc G (tW G.2 ad res.2.1 res.2.2) (tWV ad) (some (.int res.1))) args s 0 0 (nA (tWV ad)) := ⟨_, rfl⟩
  rw [← hQ]
  have hret : ∀ (pc : Nat) (ls : Array Slot) (H : Heap) (locs : List Loc), decode cX12_weighing pc = .ok (.ireturn, 1) → va_P G.1 vwCl (tW G.2 ad res.2.1 res.2.2) H → va_S (nA (tWV ad)) s.heap H locs → W p l e ({ frames := 4, cells := 0, slots := 0, locals := 87 } : Room) s m args below meth c H locs 0 0 Q (F0 m pc ls [(.int res.1)]) := by
    intro pc ls H locs hd hP hS
    rw [hQ]
    exact n_iret C hr hlocks hd hP hS
  clear hQ
  obtain ⟨H, hH⟩ : ∃ H, H = s.heap := ⟨_, rfl⟩
  obtain ⟨locs, hlo⟩ : ∃ locs : List Loc, locs = [] := ⟨_, rfl⟩
  have hP : va_P G.1 vwCl (tW G.2 ad v_ran v_bodies) H := by rw [hH]; exact hP
  have hS : va_S (nA (tWV ad)) s.heap H locs := by rw [hH, hlo]; exact hS
  suffices hZ : W p l e ({ frames := 4, cells := 0, slots := 0, locals := 87 } : Room) s m args below meth c H locs 0 0 Q (F0 m 0 ls []) by rw [hH, hlo] at hZ; exact hZ
  clear hH hlo
  unfold sC_Home_weighing_6 at hE
  refine lv_aload_n C.1 C.2.1 dX12_weighing_0 rfl (lv_at hl 2 rfl) ?_
  refine lv_bipush (v := 11) C.1 C.2.1 dX12_weighing_1 (by decide) ?_
  obtain ⟨r1, hr1, hE⟩ := it_b hE
  refine n_afterS C.2.2.2.2.2.2.2.1 hS (va_runV (As := [.int 11]) (rest := []) ⟨C.1, C.2.1, hml, C.2.2.1, C.2.2.2.1⟩ (metC_Trace_runs l G ad pl _ _ 11  r1 hr1) (cwV (C := RX1) 1 C.2.2.2.1 (lw_V q1249 q1231 q1232 q81 q1233) rfl rfl rfl (by decide +kernel) ⟨Nat.le_of_ble_eq_true rfl, Nat.le_of_ble_eq_true rfl⟩) (n_preV0 C hP hS (va_recv C.2.2.2.2.1 hP (ci := 14) (q0 := 0) rfl rfl)) rfl rfl hl.1 rfl (lv_room (Nat.le_of_ble_eq_true rfl)) dX12_weighing_3 ⟨Nat.le_refl _, Nat.le_refl _⟩) (fun H locs hP hS => ?_)
  refine lv_aload_n C.1 C.2.1 dX12_weighing_6 rfl (lv_at hl 0 rfl) ?_
  refine lv_iload_n C.1 C.2.1 dX12_weighing_7 rfl (lv_at hl 1 rfl) ?_
  refine lv_aload_n C.1 C.2.1 dX12_weighing_8 rfl (lv_at hl 2 rfl) ?_
  obtain ⟨r2, hr2, hE⟩ := it_b hE
  refine n_afterS C.2.2.2.2.2.2.2.1 hS (va_runU (As := [.int p1, .ref (ad 0)]) (rest := []) ⟨C.1, C.2.1, hml, C.2.2.1, C.2.2.2.1⟩ (metC_Bus_feeding_6 l G ad pl _ _ q ix hby p1 hq r2 hr2) (va_cwO (C := RX18) (owner := "HamsterWeekends$Home") 2 C.2.2.2.1 (lw_O q1275 q1226 q1224 q1227 q1228 q108 q1229) rfl rfl rfl q1248 (by decide +kernel) ⟨Nat.le_of_ble_eq_true rfl, Nat.le_of_ble_eq_true rfl⟩) (n_preV0 C hP hS (n_recvH C hS hq rfl)) rfl rfl hl.1 rfl (lv_room (Nat.le_of_ble_eq_true rfl)) dX12_weighing_9 ⟨Nat.le_refl _, Nat.le_refl _⟩) (fun H locs hP hS => ?_)
  refine lv_iconst (v := 2) C.1 C.2.1 dX12_weighing_12 (by decide) ?_
  refine lv_imul C.1 C.2.1 dX12_weighing_13 ?_
  obtain rfl := Option.some.inj hE
  exact hret _ _ _ _ dX12_weighing_14 hP hS
def sC_Bus_weighing_6 (v_ran : Int32) (v_bodies : Nat → Int32) (ix : Int32) (hby : Int32) (p1 : Int32) : Option (Int32 × Int32 × (Nat → Int32)) :=
  (sC_Trace_runs v_ran v_bodies 71).bind fun r1 =>
  (sC_Home_weighing_6 r1.1 r1.2 ix hby (p1 - hby)).bind fun r2 =>
  some (r2.1, r2.2.1, r2.2.2)
set_option maxHeartbeats 4000000 in
theorem metC_Bus_weighing_6 (l : Launch) (G : kG) (ad : Nat → Nat) (pl : va_W) (v_ran : Int32) (v_bodies : Nat → Int32) (q : Nat) (ix : Int32) (hby : Int32) (p1 : Int32) (hq : (q, .inr (6, [.int ix, .int hby])) ∈ pl) (res : Int32 × Int32 × (Nat → Int32)) (hE : sC_Bus_weighing_6 v_ran v_bodies ix hby p1 = some res) : Met l yX18_weighing (ws_ yX18_weighing cX18_weighing 3 (some .int)) ({ frames := 5, cells := 0, slots := 0, locals := 109 } : Room) (nPc G (tW G.2 ad v_ran v_bodies) pl (tWV ad) [.ref q, .int p1, .ref (ad 0)]) (nQc G (tW G.2 ad res.2.1 res.2.2) (tWV ad) (some (.int res.1))) 0 0 (nA (tWV ad)) := by
  refine n_ofW (own := RX18) (by decide) rfl (Nat.le_of_ble_eq_true rfl) ?_
  intro p e s m args below meth c ls C hml hP hS hl hr hlocks
  have hl : lv_has ls 3 [(0, .ref q), (1, .int p1), (2, .ref (ad 0))] := hl
  obtain ⟨Q, hQ⟩ : ∃ Q, Q = MQ below (nQc G (tW G.2 ad res.2.1 res.2.2) (tWV ad) (some (.int res.1))) args s 0 0 (nA (tWV ad)) := ⟨_, rfl⟩
  rw [← hQ]
  have hret : ∀ (pc : Nat) (ls : Array Slot) (H : Heap) (locs : List Loc), decode cX18_weighing pc = .ok (.ireturn, 1) → va_P G.1 vwCl (tW G.2 ad res.2.1 res.2.2) H → va_S (nA (tWV ad)) s.heap H locs → W p l e ({ frames := 5, cells := 0, slots := 0, locals := 109 } : Room) s m args below meth c H locs 0 0 Q (F0 m pc ls [(.int res.1)]) := by
    intro pc ls H locs hd hP hS
    rw [hQ]
    exact n_iret C hr hlocks hd hP hS
  clear hQ
  obtain ⟨H, hH⟩ : ∃ H, H = s.heap := ⟨_, rfl⟩
  obtain ⟨locs, hlo⟩ : ∃ locs : List Loc, locs = [] := ⟨_, rfl⟩
  have hP : va_P G.1 vwCl (tW G.2 ad v_ran v_bodies) H := by rw [hH]; exact hP
  have hS : va_S (nA (tWV ad)) s.heap H locs := by rw [hH, hlo]; exact hS
  suffices hZ : W p l e ({ frames := 5, cells := 0, slots := 0, locals := 109 } : Room) s m args below meth c H locs 0 0 Q (F0 m 0 ls []) by rw [hH, hlo] at hZ; exact hZ
  clear hH hlo
  unfold sC_Bus_weighing_6 at hE
  refine lv_aload_n C.1 C.2.1 dX18_weighing_0 rfl (lv_at hl 2 rfl) ?_
  refine lv_bipush (v := 71) C.1 C.2.1 dX18_weighing_1 (by decide) ?_
  obtain ⟨r1, hr1, hE⟩ := it_b hE
  refine n_afterS C.2.2.2.2.2.2.2.1 hS (va_runV (As := [.int 71]) (rest := []) ⟨C.1, C.2.1, hml, C.2.2.1, C.2.2.2.1⟩ (metC_Trace_runs l G ad pl _ _ 71  r1 hr1) (cwV (C := RX1) 1 C.2.2.2.1 (lw_V q1230 q1231 q1232 q81 q1233) rfl rfl rfl (by decide +kernel) ⟨Nat.le_of_ble_eq_true rfl, Nat.le_of_ble_eq_true rfl⟩) (n_preV0 C hP hS (va_recv C.2.2.2.2.1 hP (ci := 14) (q0 := 0) rfl rfl)) rfl rfl hl.1 rfl (lv_room (Nat.le_of_ble_eq_true rfl)) dX18_weighing_3 ⟨Nat.le_refl _, Nat.le_refl _⟩) (fun H locs hP hS => ?_)
  refine lv_aload_n C.1 C.2.1 dX18_weighing_6 rfl (lv_at hl 0 rfl) ?_
  refine lv_iload_n C.1 C.2.1 dX18_weighing_7 rfl (lv_at hl 1 rfl) ?_
  refine lv_aload_n C.1 C.2.1 dX18_weighing_8 rfl (lv_at hl 0 rfl) ?_
  refine h_get (j := 1) C hS hq (show vwCl[6]? = some (RX18, TX18, 2) from rfl) in_X18 (by decide) rfl rfl rfl q677 (Or.inr q678) rfl dX18_weighing_9 ?_
  refine lv_isub C.1 C.2.1 dX18_weighing_12 ?_
  refine lv_aload_n C.1 C.2.1 dX18_weighing_13 rfl (lv_at hl 2 rfl) ?_
  obtain ⟨r2, hr2, hE⟩ := it_b hE
  refine n_afterS C.2.2.2.2.2.2.2.1 hS (n_runSI (n := 2) (As := [.int (p1 - hby), .ref (ad 0)]) (rest := []) (C.2.2.2.2.1.1 6 _ rfl).2 ⟨C.1, C.2.1, hml, C.2.2.1, C.2.2.2.1⟩ (metC_Home_weighing_6 l G ad pl _ _ q ix hby (p1 - hby) hq r2 hr2) q1257 rfl q1258 q638 q710 q1251 q102 q1274 rfl rfl (by decide +kernel) ⟨Nat.le_of_ble_eq_true rfl, Nat.le_of_ble_eq_true rfl⟩ (n_preV0 C hP hS (n_recvH C hS hq rfl)) rfl rfl hl.1 rfl (lv_room (Nat.le_of_ble_eq_true rfl)) dX18_weighing_14 ⟨Nat.le_refl _, Nat.le_refl _⟩) (fun H locs hP hS => ?_)
  obtain rfl := Option.some.inj hE
  exact hret _ _ _ _ dX18_weighing_17 hP hS
def sC_Home_writing_6 (v_ran : Int32) (v_bodies : Nat → Int32) (ix : Int32) (hby : Int32) (p1 : Int32) : Option (Int32 × Int32 × (Nat → Int32)) :=
  (sC_Trace_runs v_ran v_bodies 12).bind fun r1 =>
  (sC_Bus_weighing_6 r1.1 r1.2 ix hby p1).bind fun r2 =>
  (sC_Bus_feeding_6 r2.2.1 r2.2.2 ix hby (p1 - hby)).bind fun r3 =>
  some ((r2.1 ^^^ r3.1), r3.2.1, r3.2.2)
set_option maxHeartbeats 4000000 in
theorem metC_Home_writing_6 (l : Launch) (G : kG) (ad : Nat → Nat) (pl : va_W) (v_ran : Int32) (v_bodies : Nat → Int32) (q : Nat) (ix : Int32) (hby : Int32) (p1 : Int32) (hq : (q, .inr (6, [.int ix, .int hby])) ∈ pl) (res : Int32 × Int32 × (Nat → Int32)) (hE : sC_Home_writing_6 v_ran v_bodies ix hby p1 = some res) : Met l yX12_writing (ws_ yX12_writing cX12_writing 4 (some .int)) ({ frames := 6, cells := 0, slots := 0, locals := 131 } : Room) (nPc G (tW G.2 ad v_ran v_bodies) pl (tWV ad) [.ref q, .int p1, .ref (ad 0)]) (nQc G (tW G.2 ad res.2.1 res.2.2) (tWV ad) (some (.int res.1))) 0 0 (nA (tWV ad)) := by
  refine n_ofW (own := RX12) (by decide) rfl (Nat.le_of_ble_eq_true rfl) ?_
  intro p e s m args below meth c ls C hml hP hS hl hr hlocks
  have hl : lv_has ls 4 [(0, .ref q), (1, .int p1), (2, .ref (ad 0))] := hl
  obtain ⟨Q, hQ⟩ : ∃ Q, Q = MQ below (nQc G (tW G.2 ad res.2.1 res.2.2) (tWV ad) (some (.int res.1))) args s 0 0 (nA (tWV ad)) := ⟨_, rfl⟩
  rw [← hQ]
  have hret : ∀ (pc : Nat) (ls : Array Slot) (H : Heap) (locs : List Loc), decode cX12_writing pc = .ok (.ireturn, 1) → va_P G.1 vwCl (tW G.2 ad res.2.1 res.2.2) H → va_S (nA (tWV ad)) s.heap H locs → W p l e ({ frames := 6, cells := 0, slots := 0, locals := 131 } : Room) s m args below meth c H locs 0 0 Q (F0 m pc ls [(.int res.1)]) := by
    intro pc ls H locs hd hP hS
    rw [hQ]
    exact n_iret C hr hlocks hd hP hS
  clear hQ
  obtain ⟨H, hH⟩ : ∃ H, H = s.heap := ⟨_, rfl⟩
  obtain ⟨locs, hlo⟩ : ∃ locs : List Loc, locs = [] := ⟨_, rfl⟩
  have hP : va_P G.1 vwCl (tW G.2 ad v_ran v_bodies) H := by rw [hH]; exact hP
  have hS : va_S (nA (tWV ad)) s.heap H locs := by rw [hH, hlo]; exact hS
  suffices hZ : W p l e ({ frames := 6, cells := 0, slots := 0, locals := 131 } : Room) s m args below meth c H locs 0 0 Q (F0 m 0 ls []) by rw [hH, hlo] at hZ; exact hZ
  clear hH hlo
  unfold sC_Home_writing_6 at hE
  refine lv_aload_n C.1 C.2.1 dX12_writing_0 rfl (lv_at hl 2 rfl) ?_
  refine lv_bipush (v := 12) C.1 C.2.1 dX12_writing_1 (by decide) ?_
  obtain ⟨r1, hr1, hE⟩ := it_b hE
  refine n_afterS C.2.2.2.2.2.2.2.1 hS (va_runV (As := [.int 12]) (rest := []) ⟨C.1, C.2.1, hml, C.2.2.1, C.2.2.2.1⟩ (metC_Trace_runs l G ad pl _ _ 12  r1 hr1) (cwV (C := RX1) 1 C.2.2.2.1 (lw_V q1249 q1231 q1232 q81 q1233) rfl rfl rfl (by decide +kernel) ⟨Nat.le_of_ble_eq_true rfl, Nat.le_of_ble_eq_true rfl⟩) (n_preV0 C hP hS (va_recv C.2.2.2.2.1 hP (ci := 14) (q0 := 0) rfl rfl)) rfl rfl hl.1 rfl (lv_room (Nat.le_of_ble_eq_true rfl)) dX12_writing_3 ⟨Nat.le_refl _, Nat.le_refl _⟩) (fun H locs hP hS => ?_)
  refine lv_aload_n C.1 C.2.1 dX12_writing_6 rfl (lv_at hl 0 rfl) ?_
  refine lv_iload_n C.1 C.2.1 dX12_writing_7 rfl (lv_at hl 1 rfl) ?_
  refine lv_aload_n C.1 C.2.1 dX12_writing_8 rfl (lv_at hl 2 rfl) ?_
  obtain ⟨r2, hr2, hE⟩ := it_b hE
  refine n_afterS C.2.2.2.2.2.2.2.1 hS (va_runU (As := [.int p1, .ref (ad 0)]) (rest := []) ⟨C.1, C.2.1, hml, C.2.2.1, C.2.2.2.1⟩ (metC_Bus_weighing_6 l G ad pl _ _ q ix hby p1 hq r2 hr2) (va_cwO (C := RX18) (owner := "HamsterWeekends$Home") 2 C.2.2.2.1 (lw_O q1296 q1253 q1251 q1254 q1255 q108 q1256) rfl rfl rfl q1274 (by decide +kernel) ⟨Nat.le_of_ble_eq_true rfl, Nat.le_of_ble_eq_true rfl⟩) (n_preV0 C hP hS (n_recvH C hS hq rfl)) rfl rfl hl.1 rfl (lv_room (Nat.le_of_ble_eq_true rfl)) dX12_writing_9 ⟨Nat.le_refl _, Nat.le_refl _⟩) (fun H locs hP hS => ?_)
  refine lv_istore_n (lv' := [(3, .int r2.1), (0, .ref q), (1, .int p1), (2, .ref (ad 0))]) C.1 C.2.1 dX12_writing_12 rfl hl (by decide) rfl (fun ls hl => ?_)
  refine lv_iload_n C.1 C.2.1 dX12_writing_13 rfl (lv_at hl 0 rfl) ?_
  refine lv_aload_n C.1 C.2.1 dX12_writing_14 rfl (lv_at hl 1 rfl) ?_
  refine lv_iload_n C.1 C.2.1 dX12_writing_15 rfl (lv_at hl 2 rfl) ?_
  refine lv_aload_n C.1 C.2.1 dX12_writing_16 rfl (lv_at hl 1 rfl) ?_
  refine h_get (j := 1) C hS hq (show vwCl[6]? = some (RX18, TX18, 2) from rfl) in_X18 (by decide) rfl rfl rfl q670 (Or.inl rfl) rfl dX12_writing_17 ?_
  refine lv_isub C.1 C.2.1 dX12_writing_20 ?_
  refine lv_aload_n C.1 C.2.1 dX12_writing_21 rfl (lv_at hl 3 rfl) ?_
  obtain ⟨r3, hr3, hE⟩ := it_b hE
  refine n_afterS C.2.2.2.2.2.2.2.1 hS (va_runU (As := [.int (p1 - hby), .ref (ad 0)]) (rest := [.int r2.1]) ⟨C.1, C.2.1, hml, C.2.2.1, C.2.2.2.1⟩ (metC_Bus_feeding_6 l G ad pl _ _ q ix hby (p1 - hby) hq r3 hr3) (va_cwO (C := RX18) (owner := "HamsterWeekends$Home") 2 C.2.2.2.1 (lw_O q1275 q1226 q1224 q1227 q1228 q108 q1229) rfl rfl rfl q1248 (by decide +kernel) ⟨Nat.le_of_ble_eq_true rfl, Nat.le_of_ble_eq_true rfl⟩) (n_preV0 C hP hS (n_recvH C hS hq rfl)) rfl rfl hl.1 rfl (lv_room (Nat.le_of_ble_eq_true rfl)) dX12_writing_22 ⟨Nat.le_refl _, Nat.le_refl _⟩) (fun H locs hP hS => ?_)
  refine lv_ixor C.1 C.2.1 dX12_writing_25 ?_
  obtain rfl := Option.some.inj hE
  exact hret _ _ _ _ dX12_writing_26 hP hS
def sC_Far_writing_6 (v_ran : Int32) (v_bodies : Nat → Int32) (ix : Int32) (hby : Int32) (p1 : Int32) : Option (Int32 × Int32 × (Nat → Int32)) :=
  (sC_Trace_runs v_ran v_bodies 50).bind fun r1 =>
  (sC_Home_writing_6 r1.1 r1.2 ix hby p1).bind fun r2 =>
  some ((-r2.1), r2.2.1, r2.2.2)
set_option maxHeartbeats 4000000 in
theorem metC_Far_writing_6 (l : Launch) (G : kG) (ad : Nat → Nat) (pl : va_W) (v_ran : Int32) (v_bodies : Nat → Int32) (q : Nat) (ix : Int32) (hby : Int32) (p1 : Int32) (hq : (q, .inr (6, [.int ix, .int hby])) ∈ pl) (res : Int32 × Int32 × (Nat → Int32)) (hE : sC_Far_writing_6 v_ran v_bodies ix hby p1 = some res) : Met l yX16_writing (ws_ yX16_writing cX16_writing 3 (some .int)) ({ frames := 7, cells := 0, slots := 0, locals := 154 } : Room) (nPc G (tW G.2 ad v_ran v_bodies) pl (tWV ad) [.ref q, .int p1, .ref (ad 0)]) (nQc G (tW G.2 ad res.2.1 res.2.2) (tWV ad) (some (.int res.1))) 0 0 (nA (tWV ad)) := by
  refine n_ofW (own := RX16) (by decide) rfl (Nat.le_of_ble_eq_true rfl) ?_
  intro p e s m args below meth c ls C hml hP hS hl hr hlocks
  have hl : lv_has ls 3 [(0, .ref q), (1, .int p1), (2, .ref (ad 0))] := hl
  obtain ⟨Q, hQ⟩ : ∃ Q, Q = MQ below (nQc G (tW G.2 ad res.2.1 res.2.2) (tWV ad) (some (.int res.1))) args s 0 0 (nA (tWV ad)) := ⟨_, rfl⟩
  rw [← hQ]
  have hret : ∀ (pc : Nat) (ls : Array Slot) (H : Heap) (locs : List Loc), decode cX16_writing pc = .ok (.ireturn, 1) → va_P G.1 vwCl (tW G.2 ad res.2.1 res.2.2) H → va_S (nA (tWV ad)) s.heap H locs → W p l e ({ frames := 7, cells := 0, slots := 0, locals := 154 } : Room) s m args below meth c H locs 0 0 Q (F0 m pc ls [(.int res.1)]) := by
    intro pc ls H locs hd hP hS
    rw [hQ]
    exact n_iret C hr hlocks hd hP hS
  clear hQ
  obtain ⟨H, hH⟩ : ∃ H, H = s.heap := ⟨_, rfl⟩
  obtain ⟨locs, hlo⟩ : ∃ locs : List Loc, locs = [] := ⟨_, rfl⟩
  have hP : va_P G.1 vwCl (tW G.2 ad v_ran v_bodies) H := by rw [hH]; exact hP
  have hS : va_S (nA (tWV ad)) s.heap H locs := by rw [hH, hlo]; exact hS
  suffices hZ : W p l e ({ frames := 7, cells := 0, slots := 0, locals := 154 } : Room) s m args below meth c H locs 0 0 Q (F0 m 0 ls []) by rw [hH, hlo] at hZ; exact hZ
  clear hH hlo
  unfold sC_Far_writing_6 at hE
  refine lv_aload_n C.1 C.2.1 dX16_writing_0 rfl (lv_at hl 2 rfl) ?_
  refine lv_bipush (v := 50) C.1 C.2.1 dX16_writing_1 (by decide) ?_
  obtain ⟨r1, hr1, hE⟩ := it_b hE
  refine n_afterS C.2.2.2.2.2.2.2.1 hS (va_runV (As := [.int 50]) (rest := []) ⟨C.1, C.2.1, hml, C.2.2.1, C.2.2.2.1⟩ (metC_Trace_runs l G ad pl _ _ 50  r1 hr1) (cwV (C := RX1) 1 C.2.2.2.1 (lw_V q1237 q1231 q1232 q81 q1233) rfl rfl rfl (by decide +kernel) ⟨Nat.le_of_ble_eq_true rfl, Nat.le_of_ble_eq_true rfl⟩) (n_preV0 C hP hS (va_recv C.2.2.2.2.1 hP (ci := 14) (q0 := 0) rfl rfl)) rfl rfl hl.1 rfl (lv_room (Nat.le_of_ble_eq_true rfl)) dX16_writing_3 ⟨Nat.le_refl _, Nat.le_refl _⟩) (fun H locs hP hS => ?_)
  refine lv_aload_n C.1 C.2.1 dX16_writing_6 rfl (lv_at hl 0 rfl) ?_
  refine lv_iload_n C.1 C.2.1 dX16_writing_7 rfl (lv_at hl 1 rfl) ?_
  refine lv_aload_n C.1 C.2.1 dX16_writing_8 rfl (lv_at hl 2 rfl) ?_
  obtain ⟨r2, hr2, hE⟩ := it_b hE
  refine n_afterS C.2.2.2.2.2.2.2.1 hS (va_runSU (As := [.int p1, .ref (ad 0)]) (rest := []) (C.2.2.2.2.1.1 6 _ rfl).2 ⟨C.1, C.2.1, hml, C.2.2.1, C.2.2.2.1⟩ (metC_Home_writing_6 l G ad pl _ _ q ix hby p1 hq r2 hr2) (va_cwSU 2 C.2.2.2.1 (lw_SU q1283 q1279 q710 q1277 q102 q1295) rfl rfl rfl (by decide +kernel) ⟨Nat.le_of_ble_eq_true rfl, Nat.le_of_ble_eq_true rfl⟩) (n_preV0 C hP hS (n_recvH C hS hq rfl)) rfl rfl hl.1 rfl (lv_room (Nat.le_of_ble_eq_true rfl)) dX16_writing_9 ⟨Nat.le_refl _, Nat.le_refl _⟩) (fun H locs hP hS => ?_)
  refine lv_ineg C.1 C.2.1 dX16_writing_12 ?_
  obtain rfl := Option.some.inj hE
  exact hret _ _ _ _ dX16_writing_13 hP hS
