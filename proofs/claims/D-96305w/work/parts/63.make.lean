set_option maxRecDepth 100000
set_option maxHeartbeats 4000000 in
theorem metI_Row_7 (l : Launch) (G : kG) (h0 sz : Nat) : Met l yX7_init (ws_ yX7_init cX7_init 1 none) ({ frames := 1, cells := 0, slots := 0, locals := 12 } : Room) (iPc G [(h0, .inr (7, [.null]))] sz [.ref h0]) (iQc G [(h0, .inr (7, [.null]))] sz (fun u => [(h0, .inr (7, [.null]))])) 0 0 (va_A [(h0, .inr (7, [.null]))] sz) := by
  refine Met.ofW (cc := cX7_init) (maxL := 1) (ret := none) (by decide) rfl ?_
  intro p e s m args below meth c s₁ B hml hv
  obtain ⟨rfl, hsz, hP, hK, hkA, hD0⟩ := hv
  have hx := B.exec
  have hb := B.bytes
  have hr := B.returns
  have hts := atoms_spec (ws := ws_ yX7_init cX7_init 1 none) B.pre
  have hts : ∀ w ∈ lw_all, w.before _ s = true := fun w h => hts w (List.mem_cons_of_mem _ h)
  have hown : s.vm.findClass RX7 = some m.cls := findClass_of_methodNamed B.named
  have hlocks := B.notSynchronized
  have hin : meth.name = "<init>" := (name_of_methodNamed B.named B.method).1
  subst hsz
  have hD := hD0.self (sz := s.heap.size)
  obtain ⟨A, hAe⟩ : ∃ A, A = va_A [(h0, .inr (7, [.null]))] s.heap.size := ⟨_, rfl⟩
  unfold iQc
  rw [← hAe] at hD ⊢
  have hA : ∀ q : Nat, s.heap.size ≤ q → A q := fun q h => by rw [hAe]; exact Or.inr h
  have hS : va_S A s.heap s.heap [] := va_S.rf
  clear hAe
  have hl := lv_entry ([.ref h0]) (n := 1) (Nat.le_of_ble_eq_true rfl)
  rw [lg_entry_eq]
  generalize (lg_sl ([.ref h0]) ++ List.replicate (1 - (lg_sl ([.ref h0])).length) Slot.unset).toArray = ls at hl ⊢
  have hl : lv_has ls 1 [(0, .ref h0)] := hl
  obtain ⟨H, hH⟩ : ∃ H, H = s.heap := ⟨_, rfl⟩
  have hP : va_P G.1 vwCl [(h0, .inr (7, [.null]))] H := by rw [hH]; exact hP
  have hS : va_S A s.heap H [] := by rw [hH]; exact hS
  suffices hZ : W p l e ({ frames := 1, cells := 0, slots := 0, locals := 12 } : Room) s m _ below meth c H [] 0 0 _ (F0 m 0 ls []) by rw [hH] at hZ; exact hZ
  clear hH
  refine lv_aload_n hx hb dX7_init_0 rfl (lv_at hl 0 rfl) ?_
  refine W.objInit hx hb hown (hts _ q429) (hts _ q121) (hts _ q122) rfl (by rw [hml]; exact hl.1) rfl dX7_init_1 (Nat.le_of_ble_eq_true rfl) (Nat.le_of_ble_eq_true rfl) ?_
  refine W.eq (g2 := F0 m 4 ls []) rfl ?_
  refine W.widen (k := 0) (n := 0) (Nat.le_of_ble_eq_true rfl) (Nat.le_of_ble_eq_true rfl) ?_
  exact W.vret hx hb hr (fun t ht hW => ⟨⟨fun i => 0, rfl, trivial, by rw [ht]; exact hP, hD⟩, hS.F ht⟩) hS.2.2 dX7_init_4 hlocks
set_option maxHeartbeats 4000000 in
theorem metI_Bytes_7 (l : Launch) (G : kG) (h0 sz : Nat) (p1 : Int32) (hn0 : ¬ p1 < 0) (hn1 : p1.toNatClampNeg ≤ 160) : Met l yX8_init (ws_ yX8_init cX8_init 2 none) ({ frames := 2, cells := 1, slots := 160, locals := 32 } : Room) (iPc G [(h0, .inr (7, [.null]))] sz [.ref h0, .int p1]) (iQc G [(h0, .inr (7, [.null]))] sz (fun u => [(h0, .inr (7, [.ref (u 1)])), ((u 1), .inl (G.2 3, p1.toNatClampNeg, .inl (fun _ => 0)))])) 1 160 (va_A [(h0, .inr (7, [.null]))] sz) := by
  refine Met.ofW (cc := cX8_init) (maxL := 2) (ret := none) (by decide) rfl ?_
  intro p e s m args below meth c s₁ B hml hv
  obtain ⟨rfl, hsz, hP, hK, hkA, hD0⟩ := hv
  have hx := B.exec
  have hb := B.bytes
  have hr := B.returns
  have hts := atoms_spec (ws := ws_ yX8_init cX8_init 2 none) B.pre
  have hts : ∀ w ∈ lw_all, w.before _ s = true := fun w h => hts w (List.mem_cons_of_mem _ h)
  have hown : s.vm.findClass RX8 = some m.cls := findClass_of_methodNamed B.named
  have hlocks := B.notSynchronized
  have hin : meth.name = "<init>" := (name_of_methodNamed B.named B.method).1
  subst hsz
  have hD := hD0.self (sz := s.heap.size)
  obtain ⟨A, hAe⟩ : ∃ A, A = va_A [(h0, .inr (7, [.null]))] s.heap.size := ⟨_, rfl⟩
  unfold iQc
  rw [← hAe] at hD ⊢
  have hA : ∀ q : Nat, s.heap.size ≤ q → A q := fun q h => by rw [hAe]; exact Or.inr h
  have hS : va_S A s.heap s.heap [] := va_S.rf
  clear hAe
  have hl := lv_entry ([.ref h0, .int p1]) (n := 2) (Nat.le_of_ble_eq_true rfl)
  rw [lg_entry_eq]
  generalize (lg_sl ([.ref h0, .int p1]) ++ List.replicate (2 - (lg_sl ([.ref h0, .int p1])).length) Slot.unset).toArray = ls at hl ⊢
  have hl : lv_has ls 2 [(0, .ref h0), (1, .int p1)] := hl
  obtain ⟨H, hH⟩ : ∃ H, H = s.heap := ⟨_, rfl⟩
  have hP : va_P G.1 vwCl [(h0, .inr (7, [.null]))] H := by rw [hH]; exact hP
  have hS : va_S A s.heap H [] := by rw [hH]; exact hS
  suffices hZ : W p l e ({ frames := 2, cells := 1, slots := 160, locals := 32 } : Room) s m _ below meth c H [] 0 0 _ (F0 m 0 ls []) by rw [hH] at hZ; exact hZ
  clear hH
  refine lv_aload_n hx hb dX8_init_0 rfl (lv_at hl 0 rfl) ?_
  have hPc := hP.sub (ws' := [(h0, .inr (7, [.null]))]) [0] rfl
  have hDc := hD.sub (ws' := [(h0, .inr (7, [.null]))]) [0] (by decide) rfl
  have hFc := va_free (wc := [(h0, .inr (7, [.null]))]) hD hS hA [0] rfl
  refine va_callv (va_runI (As := []) (rest := []) ⟨hx, hb, hml, hown, hts⟩ (metI_Row_7 l G h0 H.size) (cwI 0 hts (lw_meth q428) rfl rfl rfl (hts _ q94) (hts _ q426) (hts _ q427) rfl (by decide +kernel) ⟨Nat.le_of_ble_eq_true rfl, Nat.le_of_ble_eq_true rfl⟩) (i_pre hPc hDc hK hkA) rfl rfl hl.1 rfl (lv_room (Nat.le_of_ble_eq_true rfl)) dX8_init_1 ⟨Nat.le_of_ble_eq_true rfl, Nat.le_of_ble_eq_true rfl⟩) hS (fun q _ h => hFc q h) hFc (fun u t H1 locs ht hvm hw1 hB hz1 hk1 hS => ?_)
  obtain ⟨u1, rfl⟩ : ∃ z, z = u := ⟨_, rfl⟩
  obtain ⟨hP1, hD1⟩ := hB
  rw [ht] at hP1
  obtain ⟨hP, hD⟩ := va_join (wr := []) (w1 := [(h0, .inr (7, [.null]))]) hP hD [0] [] rfl rfl (by decide) (by decide) hk1 hFc hP1 hD1
  generalize H1 = H at hP hS ⊢
  have hP : va_P G.1 vwCl [(h0, .inr (7, [.null]))] H := hP
  have hD : va_D A [(h0, .inr (7, [.null]))] := hD
  refine lv_aload_n hx hb dX8_init_4 rfl (lv_at hl 0 rfl) ?_
  refine lv_iload_n hx hb dX8_init_5 rfl (lv_at hl 1 rfl) ?_
  refine va_newa (atype := .byte) (ty := .byte) (a0 := (p1.toNatClampNeg, .inl (fun _ => 0))) hx hb (hts _ q369) rfl hK hP hD hS hA (fun cA => rfl) hn0 rfl (Nat.le_trans (Nat.mul_le_mul hn1 (show componentBytes (.byte : FieldType) ≤ 8 from by decide)) (by decide)) (Nat.le_of_ble_eq_true rfl) (by show 0 + _ ≤ 160; omega) dX8_init_6 (fun q2 cA H hK2 hP hD hS => ?_)
  obtain rfl : cA = G.2 3 := aT_eq hK hK2 3 rfl rfl (fun _ h => h)
  refine W.widen (k := 1) (n := 160) (Nat.le_of_ble_eq_true rfl) (by omega) ?_
  have hP : va_P G.1 vwCl [(h0, .inr (7, [.null])), (q2, .inl (G.2 3, p1.toNatClampNeg, .inl (fun _ => 0)))] H := hP
  have hD : va_D A [(h0, .inr (7, [.null])), (q2, .inl (G.2 3, p1.toNatClampNeg, .inl (fun _ => 0)))] := hD
  refine va_putF (D := G.1) (ci := 7) (v := .ref q2) (ty := (.array .byte)) (C := RX8) (T := TX8) (N := 1) hx hb hts in_X8 tyX8 tyX8_ok nmX8 hown hK hP hD hS 0 rfl rfl 0 (by decide) (hts _ q430) (fun _ h => h) rfl hin rfl (by decide +kernel) rfl rfl (Nat.le_of_ble_eq_true rfl) dX8_init_8 (fun H locs hP hD hS => ?_)
  have hP : va_P G.1 vwCl [(h0, .inr (7, [.ref q2])), (q2, .inl (G.2 3, p1.toNatClampNeg, .inl (fun _ => 0)))] H := hP
  have hD : va_D A [(h0, .inr (7, [.ref q2])), (q2, .inl (G.2 3, p1.toNatClampNeg, .inl (fun _ => 0)))] := hD
  refine W.widen (k := 1) (n := 160) (Nat.le_of_ble_eq_true rfl) (Nat.le_of_ble_eq_true rfl) ?_
  exact W.vret hx hb hr (fun t ht hW => ⟨⟨fun i => if i = 1 then q2 else 0, rfl, trivial, by rw [ht]; exact hP, hD⟩, hS.F ht⟩) hS.2.2 dX8_init_11 hlocks
set_option maxHeartbeats 4000000 in
theorem metI_Row_8 (l : Launch) (G : kG) (h0 sz : Nat) : Met l yX7_init (ws_ yX7_init cX7_init 1 none) ({ frames := 1, cells := 0, slots := 0, locals := 12 } : Room) (iPc G [(h0, .inr (8, [.null]))] sz [.ref h0]) (iQc G [(h0, .inr (8, [.null]))] sz (fun u => [(h0, .inr (8, [.null]))])) 0 0 (va_A [(h0, .inr (8, [.null]))] sz) := by
  refine Met.ofW (cc := cX7_init) (maxL := 1) (ret := none) (by decide) rfl ?_
  intro p e s m args below meth c s₁ B hml hv
  obtain ⟨rfl, hsz, hP, hK, hkA, hD0⟩ := hv
  have hx := B.exec
  have hb := B.bytes
  have hr := B.returns
  have hts := atoms_spec (ws := ws_ yX7_init cX7_init 1 none) B.pre
  have hts : ∀ w ∈ lw_all, w.before _ s = true := fun w h => hts w (List.mem_cons_of_mem _ h)
  have hown : s.vm.findClass RX7 = some m.cls := findClass_of_methodNamed B.named
  have hlocks := B.notSynchronized
  have hin : meth.name = "<init>" := (name_of_methodNamed B.named B.method).1
  subst hsz
  have hD := hD0.self (sz := s.heap.size)
  obtain ⟨A, hAe⟩ : ∃ A, A = va_A [(h0, .inr (8, [.null]))] s.heap.size := ⟨_, rfl⟩
  unfold iQc
  rw [← hAe] at hD ⊢
  have hA : ∀ q : Nat, s.heap.size ≤ q → A q := fun q h => by rw [hAe]; exact Or.inr h
  have hS : va_S A s.heap s.heap [] := va_S.rf
  clear hAe
  have hl := lv_entry ([.ref h0]) (n := 1) (Nat.le_of_ble_eq_true rfl)
  rw [lg_entry_eq]
  generalize (lg_sl ([.ref h0]) ++ List.replicate (1 - (lg_sl ([.ref h0])).length) Slot.unset).toArray = ls at hl ⊢
  have hl : lv_has ls 1 [(0, .ref h0)] := hl
  obtain ⟨H, hH⟩ : ∃ H, H = s.heap := ⟨_, rfl⟩
  have hP : va_P G.1 vwCl [(h0, .inr (8, [.null]))] H := by rw [hH]; exact hP
  have hS : va_S A s.heap H [] := by rw [hH]; exact hS
  suffices hZ : W p l e ({ frames := 1, cells := 0, slots := 0, locals := 12 } : Room) s m _ below meth c H [] 0 0 _ (F0 m 0 ls []) by rw [hH] at hZ; exact hZ
  clear hH
  refine lv_aload_n hx hb dX7_init_0 rfl (lv_at hl 0 rfl) ?_
  refine W.objInit hx hb hown (hts _ q429) (hts _ q121) (hts _ q122) rfl (by rw [hml]; exact hl.1) rfl dX7_init_1 (Nat.le_of_ble_eq_true rfl) (Nat.le_of_ble_eq_true rfl) ?_
  refine W.eq (g2 := F0 m 4 ls []) rfl ?_
  refine W.widen (k := 0) (n := 0) (Nat.le_of_ble_eq_true rfl) (Nat.le_of_ble_eq_true rfl) ?_
  exact W.vret hx hb hr (fun t ht hW => ⟨⟨fun i => 0, rfl, trivial, by rw [ht]; exact hP, hD⟩, hS.F ht⟩) hS.2.2 dX7_init_4 hlocks
set_option maxHeartbeats 4000000 in
theorem metI_Shorts_8 (l : Launch) (G : kG) (h0 sz : Nat) (p1 : Int32) (hn0 : ¬ p1 < 0) (hn1 : p1.toNatClampNeg ≤ 160) : Met l yX9_init (ws_ yX9_init cX9_init 2 none) ({ frames := 2, cells := 1, slots := 160, locals := 32 } : Room) (iPc G [(h0, .inr (8, [.null]))] sz [.ref h0, .int p1]) (iQc G [(h0, .inr (8, [.null]))] sz (fun u => [(h0, .inr (8, [.ref (u 1)])), ((u 1), .inl (G.2 4, p1.toNatClampNeg, .inl (fun _ => 0)))])) 1 160 (va_A [(h0, .inr (8, [.null]))] sz) := by
  refine Met.ofW (cc := cX9_init) (maxL := 2) (ret := none) (by decide) rfl ?_
  intro p e s m args below meth c s₁ B hml hv
  obtain ⟨rfl, hsz, hP, hK, hkA, hD0⟩ := hv
  have hx := B.exec
  have hb := B.bytes
  have hr := B.returns
  have hts := atoms_spec (ws := ws_ yX9_init cX9_init 2 none) B.pre
  have hts : ∀ w ∈ lw_all, w.before _ s = true := fun w h => hts w (List.mem_cons_of_mem _ h)
  have hown : s.vm.findClass RX9 = some m.cls := findClass_of_methodNamed B.named
  have hlocks := B.notSynchronized
  have hin : meth.name = "<init>" := (name_of_methodNamed B.named B.method).1
  subst hsz
  have hD := hD0.self (sz := s.heap.size)
  obtain ⟨A, hAe⟩ : ∃ A, A = va_A [(h0, .inr (8, [.null]))] s.heap.size := ⟨_, rfl⟩
  unfold iQc
  rw [← hAe] at hD ⊢
  have hA : ∀ q : Nat, s.heap.size ≤ q → A q := fun q h => by rw [hAe]; exact Or.inr h
  have hS : va_S A s.heap s.heap [] := va_S.rf
  clear hAe
  have hl := lv_entry ([.ref h0, .int p1]) (n := 2) (Nat.le_of_ble_eq_true rfl)
  rw [lg_entry_eq]
  generalize (lg_sl ([.ref h0, .int p1]) ++ List.replicate (2 - (lg_sl ([.ref h0, .int p1])).length) Slot.unset).toArray = ls at hl ⊢
  have hl : lv_has ls 2 [(0, .ref h0), (1, .int p1)] := hl
  obtain ⟨H, hH⟩ : ∃ H, H = s.heap := ⟨_, rfl⟩
  have hP : va_P G.1 vwCl [(h0, .inr (8, [.null]))] H := by rw [hH]; exact hP
  have hS : va_S A s.heap H [] := by rw [hH]; exact hS
  suffices hZ : W p l e ({ frames := 2, cells := 1, slots := 160, locals := 32 } : Room) s m _ below meth c H [] 0 0 _ (F0 m 0 ls []) by rw [hH] at hZ; exact hZ
  clear hH
  refine lv_aload_n hx hb dX9_init_0 rfl (lv_at hl 0 rfl) ?_
  have hPc := hP.sub (ws' := [(h0, .inr (8, [.null]))]) [0] rfl
  have hDc := hD.sub (ws' := [(h0, .inr (8, [.null]))]) [0] (by decide) rfl
  have hFc := va_free (wc := [(h0, .inr (8, [.null]))]) hD hS hA [0] rfl
  refine va_callv (va_runI (As := []) (rest := []) ⟨hx, hb, hml, hown, hts⟩ (metI_Row_8 l G h0 H.size) (cwI 0 hts (lw_meth q428) rfl rfl rfl (hts _ q94) (hts _ q439) (hts _ q427) rfl (by decide +kernel) ⟨Nat.le_of_ble_eq_true rfl, Nat.le_of_ble_eq_true rfl⟩) (i_pre hPc hDc hK hkA) rfl rfl hl.1 rfl (lv_room (Nat.le_of_ble_eq_true rfl)) dX9_init_1 ⟨Nat.le_of_ble_eq_true rfl, Nat.le_of_ble_eq_true rfl⟩) hS (fun q _ h => hFc q h) hFc (fun u t H1 locs ht hvm hw1 hB hz1 hk1 hS => ?_)
  obtain ⟨u1, rfl⟩ : ∃ z, z = u := ⟨_, rfl⟩
  obtain ⟨hP1, hD1⟩ := hB
  rw [ht] at hP1
  obtain ⟨hP, hD⟩ := va_join (wr := []) (w1 := [(h0, .inr (8, [.null]))]) hP hD [0] [] rfl rfl (by decide) (by decide) hk1 hFc hP1 hD1
  generalize H1 = H at hP hS ⊢
  have hP : va_P G.1 vwCl [(h0, .inr (8, [.null]))] H := hP
  have hD : va_D A [(h0, .inr (8, [.null]))] := hD
  refine lv_aload_n hx hb dX9_init_4 rfl (lv_at hl 0 rfl) ?_
  refine lv_iload_n hx hb dX9_init_5 rfl (lv_at hl 1 rfl) ?_
  refine va_newa (atype := .short) (ty := .short) (a0 := (p1.toNatClampNeg, .inl (fun _ => 0))) hx hb (hts _ q444) rfl hK hP hD hS hA (fun cA => rfl) hn0 rfl (Nat.le_trans (Nat.mul_le_mul hn1 (show componentBytes (.short : FieldType) ≤ 8 from by decide)) (by decide)) (Nat.le_of_ble_eq_true rfl) (by show 0 + _ ≤ 160; omega) dX9_init_6 (fun q2 cA H hK2 hP hD hS => ?_)
  obtain rfl : cA = G.2 4 := aT_eq hK hK2 4 rfl rfl (fun _ h => h)
  refine W.widen (k := 1) (n := 160) (Nat.le_of_ble_eq_true rfl) (by omega) ?_
  have hP : va_P G.1 vwCl [(h0, .inr (8, [.null])), (q2, .inl (G.2 4, p1.toNatClampNeg, .inl (fun _ => 0)))] H := hP
  have hD : va_D A [(h0, .inr (8, [.null])), (q2, .inl (G.2 4, p1.toNatClampNeg, .inl (fun _ => 0)))] := hD
  refine va_putF (D := G.1) (ci := 8) (v := .ref q2) (ty := (.array .short)) (C := RX9) (T := TX9) (N := 1) hx hb hts in_X9 tyX9 tyX9_ok nmX9 hown hK hP hD hS 0 rfl rfl 0 (by decide) (hts _ q440) (fun _ h => h) rfl hin rfl (by decide +kernel) rfl rfl (Nat.le_of_ble_eq_true rfl) dX9_init_8 (fun H locs hP hD hS => ?_)
  have hP : va_P G.1 vwCl [(h0, .inr (8, [.ref q2])), (q2, .inl (G.2 4, p1.toNatClampNeg, .inl (fun _ => 0)))] H := hP
  have hD : va_D A [(h0, .inr (8, [.ref q2])), (q2, .inl (G.2 4, p1.toNatClampNeg, .inl (fun _ => 0)))] := hD
  refine W.widen (k := 1) (n := 160) (Nat.le_of_ble_eq_true rfl) (Nat.le_of_ble_eq_true rfl) ?_
  exact W.vret hx hb hr (fun t ht hW => ⟨⟨fun i => if i = 1 then q2 else 0, rfl, trivial, by rw [ht]; exact hP, hD⟩, hS.F ht⟩) hS.2.2 dX9_init_11 hlocks
set_option maxHeartbeats 4000000 in
theorem metI_Row_9 (l : Launch) (G : kG) (h0 sz : Nat) : Met l yX7_init (ws_ yX7_init cX7_init 1 none) ({ frames := 1, cells := 0, slots := 0, locals := 12 } : Room) (iPc G [(h0, .inr (9, [.null]))] sz [.ref h0]) (iQc G [(h0, .inr (9, [.null]))] sz (fun u => [(h0, .inr (9, [.null]))])) 0 0 (va_A [(h0, .inr (9, [.null]))] sz) := by
  refine Met.ofW (cc := cX7_init) (maxL := 1) (ret := none) (by decide) rfl ?_
  intro p e s m args below meth c s₁ B hml hv
  obtain ⟨rfl, hsz, hP, hK, hkA, hD0⟩ := hv
  have hx := B.exec
  have hb := B.bytes
  have hr := B.returns
  have hts := atoms_spec (ws := ws_ yX7_init cX7_init 1 none) B.pre
  have hts : ∀ w ∈ lw_all, w.before _ s = true := fun w h => hts w (List.mem_cons_of_mem _ h)
  have hown : s.vm.findClass RX7 = some m.cls := findClass_of_methodNamed B.named
  have hlocks := B.notSynchronized
  have hin : meth.name = "<init>" := (name_of_methodNamed B.named B.method).1
  subst hsz
  have hD := hD0.self (sz := s.heap.size)
  obtain ⟨A, hAe⟩ : ∃ A, A = va_A [(h0, .inr (9, [.null]))] s.heap.size := ⟨_, rfl⟩
  unfold iQc
  rw [← hAe] at hD ⊢
  have hA : ∀ q : Nat, s.heap.size ≤ q → A q := fun q h => by rw [hAe]; exact Or.inr h
  have hS : va_S A s.heap s.heap [] := va_S.rf
  clear hAe
  have hl := lv_entry ([.ref h0]) (n := 1) (Nat.le_of_ble_eq_true rfl)
  rw [lg_entry_eq]
  generalize (lg_sl ([.ref h0]) ++ List.replicate (1 - (lg_sl ([.ref h0])).length) Slot.unset).toArray = ls at hl ⊢
  have hl : lv_has ls 1 [(0, .ref h0)] := hl
  obtain ⟨H, hH⟩ : ∃ H, H = s.heap := ⟨_, rfl⟩
  have hP : va_P G.1 vwCl [(h0, .inr (9, [.null]))] H := by rw [hH]; exact hP
  have hS : va_S A s.heap H [] := by rw [hH]; exact hS
  suffices hZ : W p l e ({ frames := 1, cells := 0, slots := 0, locals := 12 } : Room) s m _ below meth c H [] 0 0 _ (F0 m 0 ls []) by rw [hH] at hZ; exact hZ
  clear hH
  refine lv_aload_n hx hb dX7_init_0 rfl (lv_at hl 0 rfl) ?_
  refine W.objInit hx hb hown (hts _ q429) (hts _ q121) (hts _ q122) rfl (by rw [hml]; exact hl.1) rfl dX7_init_1 (Nat.le_of_ble_eq_true rfl) (Nat.le_of_ble_eq_true rfl) ?_
  refine W.eq (g2 := F0 m 4 ls []) rfl ?_
  refine W.widen (k := 0) (n := 0) (Nat.le_of_ble_eq_true rfl) (Nat.le_of_ble_eq_true rfl) ?_
  exact W.vret hx hb hr (fun t ht hW => ⟨⟨fun i => 0, rfl, trivial, by rw [ht]; exact hP, hD⟩, hS.F ht⟩) hS.2.2 dX7_init_4 hlocks
set_option maxHeartbeats 4000000 in
theorem metI_Ints_9 (l : Launch) (G : kG) (h0 sz : Nat) (p1 : Int32) (hn0 : ¬ p1 < 0) (hn1 : p1.toNatClampNeg ≤ 160) : Met l yX10_init (ws_ yX10_init cX10_init 2 none) ({ frames := 2, cells := 1, slots := 160, locals := 32 } : Room) (iPc G [(h0, .inr (9, [.null]))] sz [.ref h0, .int p1]) (iQc G [(h0, .inr (9, [.null]))] sz (fun u => [(h0, .inr (9, [.ref (u 1)])), ((u 1), .inl (G.2 0, p1.toNatClampNeg, .inl (fun _ => 0)))])) 1 160 (va_A [(h0, .inr (9, [.null]))] sz) := by
  refine Met.ofW (cc := cX10_init) (maxL := 2) (ret := none) (by decide) rfl ?_
  intro p e s m args below meth c s₁ B hml hv
  obtain ⟨rfl, hsz, hP, hK, hkA, hD0⟩ := hv
  have hx := B.exec
  have hb := B.bytes
  have hr := B.returns
  have hts := atoms_spec (ws := ws_ yX10_init cX10_init 2 none) B.pre
  have hts : ∀ w ∈ lw_all, w.before _ s = true := fun w h => hts w (List.mem_cons_of_mem _ h)
  have hown : s.vm.findClass RX10 = some m.cls := findClass_of_methodNamed B.named
  have hlocks := B.notSynchronized
  have hin : meth.name = "<init>" := (name_of_methodNamed B.named B.method).1
  subst hsz
  have hD := hD0.self (sz := s.heap.size)
  obtain ⟨A, hAe⟩ : ∃ A, A = va_A [(h0, .inr (9, [.null]))] s.heap.size := ⟨_, rfl⟩
  unfold iQc
  rw [← hAe] at hD ⊢
  have hA : ∀ q : Nat, s.heap.size ≤ q → A q := fun q h => by rw [hAe]; exact Or.inr h
  have hS : va_S A s.heap s.heap [] := va_S.rf
  clear hAe
  have hl := lv_entry ([.ref h0, .int p1]) (n := 2) (Nat.le_of_ble_eq_true rfl)
  rw [lg_entry_eq]
  generalize (lg_sl ([.ref h0, .int p1]) ++ List.replicate (2 - (lg_sl ([.ref h0, .int p1])).length) Slot.unset).toArray = ls at hl ⊢
  have hl : lv_has ls 2 [(0, .ref h0), (1, .int p1)] := hl
  obtain ⟨H, hH⟩ : ∃ H, H = s.heap := ⟨_, rfl⟩
  have hP : va_P G.1 vwCl [(h0, .inr (9, [.null]))] H := by rw [hH]; exact hP
  have hS : va_S A s.heap H [] := by rw [hH]; exact hS
  suffices hZ : W p l e ({ frames := 2, cells := 1, slots := 160, locals := 32 } : Room) s m _ below meth c H [] 0 0 _ (F0 m 0 ls []) by rw [hH] at hZ; exact hZ
  clear hH
  refine lv_aload_n hx hb dX10_init_0 rfl (lv_at hl 0 rfl) ?_
  have hPc := hP.sub (ws' := [(h0, .inr (9, [.null]))]) [0] rfl
  have hDc := hD.sub (ws' := [(h0, .inr (9, [.null]))]) [0] (by decide) rfl
  have hFc := va_free (wc := [(h0, .inr (9, [.null]))]) hD hS hA [0] rfl
  refine va_callv (va_runI (As := []) (rest := []) ⟨hx, hb, hml, hown, hts⟩ (metI_Row_9 l G h0 H.size) (cwI 0 hts (lw_meth q428) rfl rfl rfl (hts _ q94) (hts _ q450) (hts _ q427) rfl (by decide +kernel) ⟨Nat.le_of_ble_eq_true rfl, Nat.le_of_ble_eq_true rfl⟩) (i_pre hPc hDc hK hkA) rfl rfl hl.1 rfl (lv_room (Nat.le_of_ble_eq_true rfl)) dX10_init_1 ⟨Nat.le_of_ble_eq_true rfl, Nat.le_of_ble_eq_true rfl⟩) hS (fun q _ h => hFc q h) hFc (fun u t H1 locs ht hvm hw1 hB hz1 hk1 hS => ?_)
  obtain ⟨u1, rfl⟩ : ∃ z, z = u := ⟨_, rfl⟩
  obtain ⟨hP1, hD1⟩ := hB
  rw [ht] at hP1
  obtain ⟨hP, hD⟩ := va_join (wr := []) (w1 := [(h0, .inr (9, [.null]))]) hP hD [0] [] rfl rfl (by decide) (by decide) hk1 hFc hP1 hD1
  generalize H1 = H at hP hS ⊢
  have hP : va_P G.1 vwCl [(h0, .inr (9, [.null]))] H := hP
  have hD : va_D A [(h0, .inr (9, [.null]))] := hD
  refine lv_aload_n hx hb dX10_init_4 rfl (lv_at hl 0 rfl) ?_
  refine lv_iload_n hx hb dX10_init_5 rfl (lv_at hl 1 rfl) ?_
  refine va_newa (atype := .int) (ty := .int) (a0 := (p1.toNatClampNeg, .inl (fun _ => 0))) hx hb (hts _ q140) rfl hK hP hD hS hA (fun cA => rfl) hn0 rfl (Nat.le_trans (Nat.mul_le_mul hn1 (show componentBytes (.int : FieldType) ≤ 8 from by decide)) (by decide)) (Nat.le_of_ble_eq_true rfl) (by show 0 + _ ≤ 160; omega) dX10_init_6 (fun q2 cA H hK2 hP hD hS => ?_)
  obtain rfl : cA = G.2 0 := aT_eq hK hK2 0 rfl rfl (fun _ h => h)
  refine W.widen (k := 1) (n := 160) (Nat.le_of_ble_eq_true rfl) (by omega) ?_
  have hP : va_P G.1 vwCl [(h0, .inr (9, [.null])), (q2, .inl (G.2 0, p1.toNatClampNeg, .inl (fun _ => 0)))] H := hP
  have hD : va_D A [(h0, .inr (9, [.null])), (q2, .inl (G.2 0, p1.toNatClampNeg, .inl (fun _ => 0)))] := hD
  refine va_putF (D := G.1) (ci := 9) (v := .ref q2) (ty := (.array .int)) (C := RX10) (T := TX10) (N := 1) hx hb hts in_X10 tyX10 tyX10_ok nmX10 hown hK hP hD hS 0 rfl rfl 0 (by decide) (hts _ q451) (fun _ h => h) rfl hin rfl (by decide +kernel) rfl rfl (Nat.le_of_ble_eq_true rfl) dX10_init_8 (fun H locs hP hD hS => ?_)
  have hP : va_P G.1 vwCl [(h0, .inr (9, [.ref q2])), (q2, .inl (G.2 0, p1.toNatClampNeg, .inl (fun _ => 0)))] H := hP
  have hD : va_D A [(h0, .inr (9, [.ref q2])), (q2, .inl (G.2 0, p1.toNatClampNeg, .inl (fun _ => 0)))] := hD
  refine W.widen (k := 1) (n := 160) (Nat.le_of_ble_eq_true rfl) (Nat.le_of_ble_eq_true rfl) ?_
  exact W.vret hx hb hr (fun t ht hW => ⟨⟨fun i => if i = 1 then q2 else 0, rfl, trivial, by rw [ht]; exact hP, hD⟩, hS.F ht⟩) hS.2.2 dX10_init_11 hlocks
set_option maxHeartbeats 4000000 in
theorem metI_Row_10 (l : Launch) (G : kG) (h0 sz : Nat) : Met l yX7_init (ws_ yX7_init cX7_init 1 none) ({ frames := 1, cells := 0, slots := 0, locals := 12 } : Room) (iPc G [(h0, .inr (10, [.null]))] sz [.ref h0]) (iQc G [(h0, .inr (10, [.null]))] sz (fun u => [(h0, .inr (10, [.null]))])) 0 0 (va_A [(h0, .inr (10, [.null]))] sz) := by
  refine Met.ofW (cc := cX7_init) (maxL := 1) (ret := none) (by decide) rfl ?_
  intro p e s m args below meth c s₁ B hml hv
  obtain ⟨rfl, hsz, hP, hK, hkA, hD0⟩ := hv
  have hx := B.exec
  have hb := B.bytes
  have hr := B.returns
  have hts := atoms_spec (ws := ws_ yX7_init cX7_init 1 none) B.pre
  have hts : ∀ w ∈ lw_all, w.before _ s = true := fun w h => hts w (List.mem_cons_of_mem _ h)
  have hown : s.vm.findClass RX7 = some m.cls := findClass_of_methodNamed B.named
  have hlocks := B.notSynchronized
  have hin : meth.name = "<init>" := (name_of_methodNamed B.named B.method).1
  subst hsz
  have hD := hD0.self (sz := s.heap.size)
  obtain ⟨A, hAe⟩ : ∃ A, A = va_A [(h0, .inr (10, [.null]))] s.heap.size := ⟨_, rfl⟩
  unfold iQc
  rw [← hAe] at hD ⊢
  have hA : ∀ q : Nat, s.heap.size ≤ q → A q := fun q h => by rw [hAe]; exact Or.inr h
  have hS : va_S A s.heap s.heap [] := va_S.rf
  clear hAe
  have hl := lv_entry ([.ref h0]) (n := 1) (Nat.le_of_ble_eq_true rfl)
  rw [lg_entry_eq]
  generalize (lg_sl ([.ref h0]) ++ List.replicate (1 - (lg_sl ([.ref h0])).length) Slot.unset).toArray = ls at hl ⊢
  have hl : lv_has ls 1 [(0, .ref h0)] := hl
  obtain ⟨H, hH⟩ : ∃ H, H = s.heap := ⟨_, rfl⟩
  have hP : va_P G.1 vwCl [(h0, .inr (10, [.null]))] H := by rw [hH]; exact hP
  have hS : va_S A s.heap H [] := by rw [hH]; exact hS
  suffices hZ : W p l e ({ frames := 1, cells := 0, slots := 0, locals := 12 } : Room) s m _ below meth c H [] 0 0 _ (F0 m 0 ls []) by rw [hH] at hZ; exact hZ
  clear hH
  refine lv_aload_n hx hb dX7_init_0 rfl (lv_at hl 0 rfl) ?_
  refine W.objInit hx hb hown (hts _ q429) (hts _ q121) (hts _ q122) rfl (by rw [hml]; exact hl.1) rfl dX7_init_1 (Nat.le_of_ble_eq_true rfl) (Nat.le_of_ble_eq_true rfl) ?_
  refine W.eq (g2 := F0 m 4 ls []) rfl ?_
  refine W.widen (k := 0) (n := 0) (Nat.le_of_ble_eq_true rfl) (Nat.le_of_ble_eq_true rfl) ?_
  exact W.vret hx hb hr (fun t ht hW => ⟨⟨fun i => 0, rfl, trivial, by rw [ht]; exact hP, hD⟩, hS.F ht⟩) hS.2.2 dX7_init_4 hlocks
set_option maxHeartbeats 4000000 in
theorem metI_Longs_10 (l : Launch) (G : kG) (h0 sz : Nat) (p1 : Int32) (hn0 : ¬ p1 < 0) (hn1 : p1.toNatClampNeg ≤ 160) : Met l yX11_init (ws_ yX11_init cX11_init 2 none) ({ frames := 2, cells := 1, slots := 160, locals := 32 } : Room) (iPc G [(h0, .inr (10, [.null]))] sz [.ref h0, .int p1]) (iQc G [(h0, .inr (10, [.null]))] sz (fun u => [(h0, .inr (10, [.ref (u 1)])), ((u 1), .inl (G.2 1, p1.toNatClampNeg, .inr (.inl (fun _ => 0))))])) 1 160 (va_A [(h0, .inr (10, [.null]))] sz) := by
  refine Met.ofW (cc := cX11_init) (maxL := 2) (ret := none) (by decide) rfl ?_
  intro p e s m args below meth c s₁ B hml hv
  obtain ⟨rfl, hsz, hP, hK, hkA, hD0⟩ := hv
  have hx := B.exec
  have hb := B.bytes
  have hr := B.returns
  have hts := atoms_spec (ws := ws_ yX11_init cX11_init 2 none) B.pre
  have hts : ∀ w ∈ lw_all, w.before _ s = true := fun w h => hts w (List.mem_cons_of_mem _ h)
  have hown : s.vm.findClass RX11 = some m.cls := findClass_of_methodNamed B.named
  have hlocks := B.notSynchronized
  have hin : meth.name = "<init>" := (name_of_methodNamed B.named B.method).1
  subst hsz
  have hD := hD0.self (sz := s.heap.size)
  obtain ⟨A, hAe⟩ : ∃ A, A = va_A [(h0, .inr (10, [.null]))] s.heap.size := ⟨_, rfl⟩
  unfold iQc
  rw [← hAe] at hD ⊢
  have hA : ∀ q : Nat, s.heap.size ≤ q → A q := fun q h => by rw [hAe]; exact Or.inr h
  have hS : va_S A s.heap s.heap [] := va_S.rf
  clear hAe
  have hl := lv_entry ([.ref h0, .int p1]) (n := 2) (Nat.le_of_ble_eq_true rfl)
  rw [lg_entry_eq]
  generalize (lg_sl ([.ref h0, .int p1]) ++ List.replicate (2 - (lg_sl ([.ref h0, .int p1])).length) Slot.unset).toArray = ls at hl ⊢
  have hl : lv_has ls 2 [(0, .ref h0), (1, .int p1)] := hl
  obtain ⟨H, hH⟩ : ∃ H, H = s.heap := ⟨_, rfl⟩
  have hP : va_P G.1 vwCl [(h0, .inr (10, [.null]))] H := by rw [hH]; exact hP
  have hS : va_S A s.heap H [] := by rw [hH]; exact hS
  suffices hZ : W p l e ({ frames := 2, cells := 1, slots := 160, locals := 32 } : Room) s m _ below meth c H [] 0 0 _ (F0 m 0 ls []) by rw [hH] at hZ; exact hZ
  clear hH
  refine lv_aload_n hx hb dX11_init_0 rfl (lv_at hl 0 rfl) ?_
  have hPc := hP.sub (ws' := [(h0, .inr (10, [.null]))]) [0] rfl
  have hDc := hD.sub (ws' := [(h0, .inr (10, [.null]))]) [0] (by decide) rfl
  have hFc := va_free (wc := [(h0, .inr (10, [.null]))]) hD hS hA [0] rfl
  refine va_callv (va_runI (As := []) (rest := []) ⟨hx, hb, hml, hown, hts⟩ (metI_Row_10 l G h0 H.size) (cwI 0 hts (lw_meth q428) rfl rfl rfl (hts _ q94) (hts _ q460) (hts _ q427) rfl (by decide +kernel) ⟨Nat.le_of_ble_eq_true rfl, Nat.le_of_ble_eq_true rfl⟩) (i_pre hPc hDc hK hkA) rfl rfl hl.1 rfl (lv_room (Nat.le_of_ble_eq_true rfl)) dX11_init_1 ⟨Nat.le_of_ble_eq_true rfl, Nat.le_of_ble_eq_true rfl⟩) hS (fun q _ h => hFc q h) hFc (fun u t H1 locs ht hvm hw1 hB hz1 hk1 hS => ?_)
  obtain ⟨u1, rfl⟩ : ∃ z, z = u := ⟨_, rfl⟩
  obtain ⟨hP1, hD1⟩ := hB
  rw [ht] at hP1
  obtain ⟨hP, hD⟩ := va_join (wr := []) (w1 := [(h0, .inr (10, [.null]))]) hP hD [0] [] rfl rfl (by decide) (by decide) hk1 hFc hP1 hD1
  generalize H1 = H at hP hS ⊢
  have hP : va_P G.1 vwCl [(h0, .inr (10, [.null]))] H := hP
  have hD : va_D A [(h0, .inr (10, [.null]))] := hD
  refine lv_aload_n hx hb dX11_init_4 rfl (lv_at hl 0 rfl) ?_
  refine lv_iload_n hx hb dX11_init_5 rfl (lv_at hl 1 rfl) ?_
  refine va_newa (atype := .long) (ty := .long) (a0 := (p1.toNatClampNeg, .inr (.inl (fun _ => 0)))) hx hb (hts _ q465) rfl hK hP hD hS hA (fun cA => rfl) hn0 rfl (Nat.le_trans (Nat.mul_le_mul hn1 (show componentBytes (.long : FieldType) ≤ 8 from by decide)) (by decide)) (Nat.le_of_ble_eq_true rfl) (by show 0 + _ ≤ 160; omega) dX11_init_6 (fun q2 cA H hK2 hP hD hS => ?_)
  obtain rfl : cA = G.2 1 := aT_eq hK hK2 1 rfl rfl (fun _ h => h)
  refine W.widen (k := 1) (n := 160) (Nat.le_of_ble_eq_true rfl) (by omega) ?_
  have hP : va_P G.1 vwCl [(h0, .inr (10, [.null])), (q2, .inl (G.2 1, p1.toNatClampNeg, .inr (.inl (fun _ => 0))))] H := hP
  have hD : va_D A [(h0, .inr (10, [.null])), (q2, .inl (G.2 1, p1.toNatClampNeg, .inr (.inl (fun _ => 0))))] := hD
  refine va_putF (D := G.1) (ci := 10) (v := .ref q2) (ty := (.array .long)) (C := RX11) (T := TX11) (N := 1) hx hb hts in_X11 tyX11 tyX11_ok nmX11 hown hK hP hD hS 0 rfl rfl 0 (by decide) (hts _ q461) (fun _ h => h) rfl hin rfl (by decide +kernel) rfl rfl (Nat.le_of_ble_eq_true rfl) dX11_init_8 (fun H locs hP hD hS => ?_)
  have hP : va_P G.1 vwCl [(h0, .inr (10, [.ref q2])), (q2, .inl (G.2 1, p1.toNatClampNeg, .inr (.inl (fun _ => 0))))] H := hP
  have hD : va_D A [(h0, .inr (10, [.ref q2])), (q2, .inl (G.2 1, p1.toNatClampNeg, .inr (.inl (fun _ => 0))))] := hD
  refine W.widen (k := 1) (n := 160) (Nat.le_of_ble_eq_true rfl) (Nat.le_of_ble_eq_true rfl) ?_
  exact W.vret hx hb hr (fun t ht hW => ⟨⟨fun i => if i = 1 then q2 else 0, rfl, trivial, by rw [ht]; exact hP, hD⟩, hS.F ht⟩) hS.2.2 dX11_init_11 hlocks
def hkd (k : Int32) : Nat := if k = 1 then 1 else if k = 2 then 2 else if k = 3 then 3 else if k = 4 then 4 else if k = 5 then 5 else if k = 6 then 6 else 0
theorem va_Anil {sz q : Nat} (h : va_A [] sz q) : sz ≤ q := by
  rcases h with ⟨k, e, h⟩ | h
  · cases h
  · exact h
set_option maxHeartbeats 4000000 in
theorem metH_hok (l : Launch) (G : kG) (sz : Nat) (p0 p1 p2 : Int32) : Met l yX0_homeOfKind (ws_ yX0_homeOfKind cX0_homeOfKind 3 (some (.object "HamsterWeekends$Home"))) ({ frames := 4, cells := 1, slots := 2, locals := 78 } : Room) (iPc G [] sz [.int p0, .int p1, .int p2]) (va_Qr (fun _ : Unit => True) (fun _ a t => va_P G.1 vwCl [(a, .inr (hkd p0, [.int p1, .int p2]))] t.heap ∧ sz ≤ a) (va_A [] sz)) 1 2 (va_A [] sz) := by
  refine Met.ofW (cc := cX0_homeOfKind) (maxL := 3) (ret := (some (.object "HamsterWeekends$Home"))) (by decide) rfl ?_
  intro p e s m args below meth c s₁ B hml hv
  obtain ⟨rfl, hsz, hP, hK, hkA, hD0⟩ := hv
  have hx := B.exec
  have hb := B.bytes
  have hr := B.returns
  have hts := atoms_spec (ws := ws_ yX0_homeOfKind cX0_homeOfKind 3 (some (.object "HamsterWeekends$Home"))) B.pre
  have hts : ∀ w ∈ lw_all, w.before _ s = true := fun w h => hts w (List.mem_cons_of_mem _ h)
  have hown : s.vm.findClass RX0 = some m.cls := findClass_of_methodNamed B.named
  have hlocks := B.notSynchronized
  subst hsz
  have hD : va_D (va_A [] s.heap.size) ([] : va_W) := ⟨fun i j p q h => by simp at h, fun k q h => by simp at h⟩
  have hA : ∀ q : Nat, s.heap.size ≤ q → va_A [] s.heap.size q := fun q h => Or.inr h
  have hS : va_S (va_A [] s.heap.size) s.heap s.heap [] := va_S.rf
  have hl := lv_entry ([.int p0, .int p1, .int p2]) (n := 3) (Nat.le_of_ble_eq_true rfl)
  rw [lg_entry_eq]
  generalize (lg_sl ([.int p0, .int p1, .int p2]) ++ List.replicate (3 - (lg_sl ([.int p0, .int p1, .int p2])).length) Slot.unset).toArray = ls at hl ⊢
  have hl : lv_has ls 3 [(0, .int p0), (1, .int p1), (2, .int p2)] := hl
  refine lv_iload_n hx hb dX0_homeOfKind_0 rfl (lv_at hl 0 rfl) ?_
  by_cases c1 : p0 = 1
  · refine lv_tableIn (tgt := 40) hx hb dX0_homeOfKind_1 (by rw [c1]; decide) (by rw [c1]; decide) (by rw [c1]; rfl) (by decide) ?_
    refine va_new (D := G.1) (ci := 1) (fs := [.int 0, .int 0]) (C := RX13) (T := TX13) (N := 2) hx hb hts in_X13 tyX13 tyX13_ok hown (hts _ q656) (hts _ q657) (hts _ q103) hK hP hD hS hA rfl (fun j hj => by
        have h9 : j = 0 ∨ j = 1 := by omega
        rcases h9 with rfl | rfl <;> rfl) (Nat.le_of_ble_eq_true rfl) (Nat.le_of_ble_eq_true rfl) dX0_homeOfKind_40 (fun q H hP hD hS => ?_)
    have hP : va_P G.1 vwCl [(q, .inr (1, [.int 0, .int 0]))] H := hP
    have hD : va_D (va_A [] s.heap.size) [(q, .inr (1, [.int 0, .int 0]))] := hD
    refine lv_dup hx hb dX0_homeOfKind_43 rfl ?_
    refine lv_iload_n hx hb dX0_homeOfKind_44 rfl (lv_at hl 1 rfl) ?_
    refine lv_iload_n hx hb dX0_homeOfKind_45 rfl (lv_at hl 2 rfl) ?_
    have hFc := va_free (wc := [(q, .inr (1, [.int 0, .int 0]))]) hD hS hA [0] rfl
    refine va_callv (va_runI (As := [.int p1, .int p2]) (rest := [.ref q]) ⟨hx, hb, hml, hown, hts⟩ (metI_Good_1 l G q H.size p1 p2) (cwI 2 hts (lw_meth q660) rfl rfl rfl (hts _ q103) (hts _ q658) (hts _ q659) rfl (by decide +kernel) ⟨Nat.le_of_ble_eq_true rfl, Nat.le_of_ble_eq_true rfl⟩) (i_pre hP hD hK hkA) rfl rfl hl.1 rfl (lv_room (Nat.le_of_ble_eq_true rfl)) dX0_homeOfKind_46 ⟨Nat.le_of_ble_eq_true rfl, Nat.le_of_ble_eq_true rfl⟩) hS (fun q _ h => hFc q h) hFc (fun u t H1 locs ht hvm hw1 hB hz1 hk1 hS => ?_)
    obtain ⟨hP1, hD1⟩ := hB
    rw [ht] at hP1
    have hq : s.heap.size ≤ q := va_Anil (hD.2 0 _ rfl)
    refine W.widen (k := 1) (n := 2) (Nat.le_of_ble_eq_true rfl) (Nat.le_of_ble_eq_true rfl) ?_
    exact W.aret hx hb hr (Or.inl ⟨_, rfl⟩) (Or.inr ⟨_, rfl⟩) (fun t ht hW => ⟨⟨(), q, rfl, trivial, by rw [ht]; rw [show hkd p0 = 1 from by rw [hkd, if_pos c1]]; exact hP1, hq⟩, hS.F ht⟩) hS.2.2 dX0_homeOfKind_49 hlocks
  by_cases c2 : p0 = 2
  · refine lv_tableIn (tgt := 50) hx hb dX0_homeOfKind_1 (by rw [c2]; decide) (by rw [c2]; decide) (by rw [c2]; rfl) (by decide) ?_
    refine va_new (D := G.1) (ci := 2) (fs := [.int 0, .int 0]) (C := RX14) (T := TX14) (N := 2) hx hb hts in_X14 tyX14 tyX14_ok hown (hts _ q685) (hts _ q686) (hts _ q104) hK hP hD hS hA rfl (fun j hj => by
        have h9 : j = 0 ∨ j = 1 := by omega
        rcases h9 with rfl | rfl <;> rfl) (Nat.le_of_ble_eq_true rfl) (Nat.le_of_ble_eq_true rfl) dX0_homeOfKind_50 (fun q H hP hD hS => ?_)
    have hP : va_P G.1 vwCl [(q, .inr (2, [.int 0, .int 0]))] H := hP
    have hD : va_D (va_A [] s.heap.size) [(q, .inr (2, [.int 0, .int 0]))] := hD
    refine lv_dup hx hb dX0_homeOfKind_53 rfl ?_
    refine lv_iload_n hx hb dX0_homeOfKind_54 rfl (lv_at hl 1 rfl) ?_
    refine lv_iload_n hx hb dX0_homeOfKind_55 rfl (lv_at hl 2 rfl) ?_
    have hFc := va_free (wc := [(q, .inr (2, [.int 0, .int 0]))]) hD hS hA [0] rfl
    refine va_callv (va_runI (As := [.int p1, .int p2]) (rest := [.ref q]) ⟨hx, hb, hml, hown, hts⟩ (metI_Cat_2 l G q H.size p1 p2) (cwI 2 hts (lw_meth q689) rfl rfl rfl (hts _ q104) (hts _ q687) (hts _ q688) rfl (by decide +kernel) ⟨Nat.le_of_ble_eq_true rfl, Nat.le_of_ble_eq_true rfl⟩) (i_pre hP hD hK hkA) rfl rfl hl.1 rfl (lv_room (Nat.le_of_ble_eq_true rfl)) dX0_homeOfKind_56 ⟨Nat.le_of_ble_eq_true rfl, Nat.le_of_ble_eq_true rfl⟩) hS (fun q _ h => hFc q h) hFc (fun u t H1 locs ht hvm hw1 hB hz1 hk1 hS => ?_)
    obtain ⟨hP1, hD1⟩ := hB
    rw [ht] at hP1
    have hq : s.heap.size ≤ q := va_Anil (hD.2 0 _ rfl)
    refine W.widen (k := 1) (n := 2) (Nat.le_of_ble_eq_true rfl) (Nat.le_of_ble_eq_true rfl) ?_
    exact W.aret hx hb hr (Or.inl ⟨_, rfl⟩) (Or.inr ⟨_, rfl⟩) (fun t ht hW => ⟨⟨(), q, rfl, trivial, by rw [ht]; rw [show hkd p0 = 2 from by rw [hkd, if_neg c1, if_pos c2]]; exact hP1, hq⟩, hS.F ht⟩) hS.2.2 dX0_homeOfKind_59 hlocks
  by_cases c3 : p0 = 3
  · refine lv_tableIn (tgt := 60) hx hb dX0_homeOfKind_1 (by rw [c3]; decide) (by rw [c3]; decide) (by rw [c3]; rfl) (by decide) ?_
    refine va_new (D := G.1) (ci := 3) (fs := [.int 0, .int 0]) (C := RX15) (T := TX15) (N := 2) hx hb hts in_X15 tyX15 tyX15_ok hown (hts _ q694) (hts _ q695) (hts _ q105) hK hP hD hS hA rfl (fun j hj => by
        have h9 : j = 0 ∨ j = 1 := by omega
        rcases h9 with rfl | rfl <;> rfl) (Nat.le_of_ble_eq_true rfl) (Nat.le_of_ble_eq_true rfl) dX0_homeOfKind_60 (fun q H hP hD hS => ?_)
    have hP : va_P G.1 vwCl [(q, .inr (3, [.int 0, .int 0]))] H := hP
    have hD : va_D (va_A [] s.heap.size) [(q, .inr (3, [.int 0, .int 0]))] := hD
    refine lv_dup hx hb dX0_homeOfKind_63 rfl ?_
    refine lv_iload_n hx hb dX0_homeOfKind_64 rfl (lv_at hl 1 rfl) ?_
    refine lv_iload_n hx hb dX0_homeOfKind_65 rfl (lv_at hl 2 rfl) ?_
    have hFc := va_free (wc := [(q, .inr (3, [.int 0, .int 0]))]) hD hS hA [0] rfl
    refine va_callv (va_runI (As := [.int p1, .int p2]) (rest := [.ref q]) ⟨hx, hb, hml, hown, hts⟩ (metI_Overfed_3 l G q H.size p1 p2) (cwI 2 hts (lw_meth q698) rfl rfl rfl (hts _ q105) (hts _ q696) (hts _ q697) rfl (by decide +kernel) ⟨Nat.le_of_ble_eq_true rfl, Nat.le_of_ble_eq_true rfl⟩) (i_pre hP hD hK hkA) rfl rfl hl.1 rfl (lv_room (Nat.le_of_ble_eq_true rfl)) dX0_homeOfKind_66 ⟨Nat.le_of_ble_eq_true rfl, Nat.le_of_ble_eq_true rfl⟩) hS (fun q _ h => hFc q h) hFc (fun u t H1 locs ht hvm hw1 hB hz1 hk1 hS => ?_)
    obtain ⟨hP1, hD1⟩ := hB
    rw [ht] at hP1
    have hq : s.heap.size ≤ q := va_Anil (hD.2 0 _ rfl)
    refine W.widen (k := 1) (n := 2) (Nat.le_of_ble_eq_true rfl) (Nat.le_of_ble_eq_true rfl) ?_
    exact W.aret hx hb hr (Or.inl ⟨_, rfl⟩) (Or.inr ⟨_, rfl⟩) (fun t ht hW => ⟨⟨(), q, rfl, trivial, by rw [ht]; rw [show hkd p0 = 3 from by rw [hkd, if_neg c1, if_neg c2, if_pos c3]]; exact hP1, hq⟩, hS.F ht⟩) hS.2.2 dX0_homeOfKind_69 hlocks
  by_cases c4 : p0 = 4
  · refine lv_tableIn (tgt := 70) hx hb dX0_homeOfKind_1 (by rw [c4]; decide) (by rw [c4]; decide) (by rw [c4]; rfl) (by decide) ?_
    refine va_new (D := G.1) (ci := 4) (fs := [.int 0, .int 0]) (C := RX16) (T := TX16) (N := 2) hx hb hts in_X16 tyX16 tyX16_ok hown (hts _ q702) (hts _ q703) (hts _ q106) hK hP hD hS hA rfl (fun j hj => by
        have h9 : j = 0 ∨ j = 1 := by omega
        rcases h9 with rfl | rfl <;> rfl) (Nat.le_of_ble_eq_true rfl) (Nat.le_of_ble_eq_true rfl) dX0_homeOfKind_70 (fun q H hP hD hS => ?_)
    have hP : va_P G.1 vwCl [(q, .inr (4, [.int 0, .int 0]))] H := hP
    have hD : va_D (va_A [] s.heap.size) [(q, .inr (4, [.int 0, .int 0]))] := hD
    refine lv_dup hx hb dX0_homeOfKind_73 rfl ?_
    refine lv_iload_n hx hb dX0_homeOfKind_74 rfl (lv_at hl 1 rfl) ?_
    refine lv_iload_n hx hb dX0_homeOfKind_75 rfl (lv_at hl 2 rfl) ?_
    have hFc := va_free (wc := [(q, .inr (4, [.int 0, .int 0]))]) hD hS hA [0] rfl
    refine va_callv (va_runI (As := [.int p1, .int p2]) (rest := [.ref q]) ⟨hx, hb, hml, hown, hts⟩ (metI_Far_4 l G q H.size p1 p2) (cwI 2 hts (lw_meth q706) rfl rfl rfl (hts _ q106) (hts _ q704) (hts _ q705) rfl (by decide +kernel) ⟨Nat.le_of_ble_eq_true rfl, Nat.le_of_ble_eq_true rfl⟩) (i_pre hP hD hK hkA) rfl rfl hl.1 rfl (lv_room (Nat.le_of_ble_eq_true rfl)) dX0_homeOfKind_76 ⟨Nat.le_of_ble_eq_true rfl, Nat.le_of_ble_eq_true rfl⟩) hS (fun q _ h => hFc q h) hFc (fun u t H1 locs ht hvm hw1 hB hz1 hk1 hS => ?_)
    obtain ⟨hP1, hD1⟩ := hB
    rw [ht] at hP1
    have hq : s.heap.size ≤ q := va_Anil (hD.2 0 _ rfl)
    refine W.widen (k := 1) (n := 2) (Nat.le_of_ble_eq_true rfl) (Nat.le_of_ble_eq_true rfl) ?_
    exact W.aret hx hb hr (Or.inl ⟨_, rfl⟩) (Or.inr ⟨_, rfl⟩) (fun t ht hW => ⟨⟨(), q, rfl, trivial, by rw [ht]; rw [show hkd p0 = 4 from by rw [hkd, if_neg c1, if_neg c2, if_neg c3, if_pos c4]]; exact hP1, hq⟩, hS.F ht⟩) hS.2.2 dX0_homeOfKind_79 hlocks
  by_cases c5 : p0 = 5
  · refine lv_tableIn (tgt := 80) hx hb dX0_homeOfKind_1 (by rw [c5]; decide) (by rw [c5]; decide) (by rw [c5]; rfl) (by decide) ?_
    refine va_new (D := G.1) (ci := 5) (fs := [.int 0, .int 0]) (C := RX17) (T := TX17) (N := 2) hx hb hts in_X17 tyX17 tyX17_ok hown (hts _ q711) (hts _ q712) (hts _ q107) hK hP hD hS hA rfl (fun j hj => by
        have h9 : j = 0 ∨ j = 1 := by omega
        rcases h9 with rfl | rfl <;> rfl) (Nat.le_of_ble_eq_true rfl) (Nat.le_of_ble_eq_true rfl) dX0_homeOfKind_80 (fun q H hP hD hS => ?_)
    have hP : va_P G.1 vwCl [(q, .inr (5, [.int 0, .int 0]))] H := hP
    have hD : va_D (va_A [] s.heap.size) [(q, .inr (5, [.int 0, .int 0]))] := hD
    refine lv_dup hx hb dX0_homeOfKind_83 rfl ?_
    refine lv_iload_n hx hb dX0_homeOfKind_84 rfl (lv_at hl 1 rfl) ?_
    refine lv_iload_n hx hb dX0_homeOfKind_85 rfl (lv_at hl 2 rfl) ?_
    have hFc := va_free (wc := [(q, .inr (5, [.int 0, .int 0]))]) hD hS hA [0] rfl
    refine va_callv (va_runI (As := [.int p1, .int p2]) (rest := [.ref q]) ⟨hx, hb, hml, hown, hts⟩ (metI_Dog_5 l G q H.size p1 p2) (cwI 2 hts (lw_meth q715) rfl rfl rfl (hts _ q107) (hts _ q713) (hts _ q714) rfl (by decide +kernel) ⟨Nat.le_of_ble_eq_true rfl, Nat.le_of_ble_eq_true rfl⟩) (i_pre hP hD hK hkA) rfl rfl hl.1 rfl (lv_room (Nat.le_of_ble_eq_true rfl)) dX0_homeOfKind_86 ⟨Nat.le_of_ble_eq_true rfl, Nat.le_of_ble_eq_true rfl⟩) hS (fun q _ h => hFc q h) hFc (fun u t H1 locs ht hvm hw1 hB hz1 hk1 hS => ?_)
    obtain ⟨hP1, hD1⟩ := hB
    rw [ht] at hP1
    have hq : s.heap.size ≤ q := va_Anil (hD.2 0 _ rfl)
    refine W.widen (k := 1) (n := 2) (Nat.le_of_ble_eq_true rfl) (Nat.le_of_ble_eq_true rfl) ?_
    exact W.aret hx hb hr (Or.inl ⟨_, rfl⟩) (Or.inr ⟨_, rfl⟩) (fun t ht hW => ⟨⟨(), q, rfl, trivial, by rw [ht]; rw [show hkd p0 = 5 from by rw [hkd, if_neg c1, if_neg c2, if_neg c3, if_neg c4, if_pos c5]]; exact hP1, hq⟩, hS.F ht⟩) hS.2.2 dX0_homeOfKind_89 hlocks
  by_cases c6 : p0 = 6
  · refine lv_tableIn (tgt := 90) hx hb dX0_homeOfKind_1 (by rw [c6]; decide) (by rw [c6]; decide) (by rw [c6]; rfl) (by decide) ?_
    refine va_new (D := G.1) (ci := 6) (fs := [.int 0, .int 0]) (C := RX18) (T := TX18) (N := 2) hx hb hts in_X18 tyX18 tyX18_ok hown (hts _ q719) (hts _ q720) (hts _ q108) hK hP hD hS hA rfl (fun j hj => by
        have h9 : j = 0 ∨ j = 1 := by omega
        rcases h9 with rfl | rfl <;> rfl) (Nat.le_of_ble_eq_true rfl) (Nat.le_of_ble_eq_true rfl) dX0_homeOfKind_90 (fun q H hP hD hS => ?_)
    have hP : va_P G.1 vwCl [(q, .inr (6, [.int 0, .int 0]))] H := hP
    have hD : va_D (va_A [] s.heap.size) [(q, .inr (6, [.int 0, .int 0]))] := hD
    refine lv_dup hx hb dX0_homeOfKind_93 rfl ?_
    refine lv_iload_n hx hb dX0_homeOfKind_94 rfl (lv_at hl 1 rfl) ?_
    refine lv_iload_n hx hb dX0_homeOfKind_95 rfl (lv_at hl 2 rfl) ?_
    have hFc := va_free (wc := [(q, .inr (6, [.int 0, .int 0]))]) hD hS hA [0] rfl
    refine va_callv (va_runI (As := [.int p1, .int p2]) (rest := [.ref q]) ⟨hx, hb, hml, hown, hts⟩ (metI_Bus_6 l G q H.size p1 p2) (cwI 2 hts (lw_meth q723) rfl rfl rfl (hts _ q108) (hts _ q721) (hts _ q722) rfl (by decide +kernel) ⟨Nat.le_of_ble_eq_true rfl, Nat.le_of_ble_eq_true rfl⟩) (i_pre hP hD hK hkA) rfl rfl hl.1 rfl (lv_room (Nat.le_of_ble_eq_true rfl)) dX0_homeOfKind_96 ⟨Nat.le_of_ble_eq_true rfl, Nat.le_of_ble_eq_true rfl⟩) hS (fun q _ h => hFc q h) hFc (fun u t H1 locs ht hvm hw1 hB hz1 hk1 hS => ?_)
    obtain ⟨hP1, hD1⟩ := hB
    rw [ht] at hP1
    have hq : s.heap.size ≤ q := va_Anil (hD.2 0 _ rfl)
    refine W.widen (k := 1) (n := 2) (Nat.le_of_ble_eq_true rfl) (Nat.le_of_ble_eq_true rfl) ?_
    exact W.aret hx hb hr (Or.inl ⟨_, rfl⟩) (Or.inr ⟨_, rfl⟩) (fun t ht hW => ⟨⟨(), q, rfl, trivial, by rw [ht]; rw [show hkd p0 = 6 from by rw [hkd, if_neg c1, if_neg c2, if_neg c3, if_neg c4, if_neg c5, if_pos c6]]; exact hP1, hq⟩, hS.F ht⟩) hS.2.2 dX0_homeOfKind_99 hlocks
  refine lv_tableOut (tgt := 100) hx hb dX0_homeOfKind_1 (ts_e (ts_s (ts_s (ts_s (ts_s (ts_s (ts_s (ts_0 1) c1 rfl rfl) c2 rfl rfl) c3 rfl rfl) c4 rfl rfl) c5 rfl rfl) c6 rfl rfl) rfl) (by decide) ?_
  refine va_new (D := G.1) (ci := 0) (fs := [.int 0, .int 0]) (C := RX12) (T := TX12) (N := 2) hx hb hts in_X12 tyX12 tyX12_ok hown (hts _ q590) (hts _ q727) (hts _ q102) hK hP hD hS hA rfl (fun j hj => by
      have h9 : j = 0 ∨ j = 1 := by omega
      rcases h9 with rfl | rfl <;> rfl) (Nat.le_of_ble_eq_true rfl) (Nat.le_of_ble_eq_true rfl) dX0_homeOfKind_100 (fun q H hP hD hS => ?_)
  have hP : va_P G.1 vwCl [(q, .inr (0, [.int 0, .int 0]))] H := hP
  have hD : va_D (va_A [] s.heap.size) [(q, .inr (0, [.int 0, .int 0]))] := hD
  refine lv_dup hx hb dX0_homeOfKind_103 rfl ?_
  refine lv_iload_n hx hb dX0_homeOfKind_104 rfl (lv_at hl 1 rfl) ?_
  refine lv_iload_n hx hb dX0_homeOfKind_105 rfl (lv_at hl 2 rfl) ?_
  have hFc := va_free (wc := [(q, .inr (0, [.int 0, .int 0]))]) hD hS hA [0] rfl
  refine va_callv (va_runI (As := [.int p1, .int p2]) (rest := [.ref q]) ⟨hx, hb, hml, hown, hts⟩ (metI_Home_0 l G q H.size p1 p2) (cwI 2 hts (lw_meth q663) rfl rfl rfl (hts _ q102) (hts _ q728) (hts _ q662) rfl (by decide +kernel) ⟨Nat.le_of_ble_eq_true rfl, Nat.le_of_ble_eq_true rfl⟩) (i_pre hP hD hK hkA) rfl rfl hl.1 rfl (lv_room (Nat.le_of_ble_eq_true rfl)) dX0_homeOfKind_106 ⟨Nat.le_of_ble_eq_true rfl, Nat.le_of_ble_eq_true rfl⟩) hS (fun q _ h => hFc q h) hFc (fun u t H1 locs ht hvm hw1 hB hz1 hk1 hS => ?_)
  obtain ⟨hP1, hD1⟩ := hB
  rw [ht] at hP1
  have hq : s.heap.size ≤ q := va_Anil (hD.2 0 _ rfl)
  refine W.widen (k := 1) (n := 2) (Nat.le_of_ble_eq_true rfl) (Nat.le_of_ble_eq_true rfl) ?_
  exact W.aret hx hb hr (Or.inl ⟨_, rfl⟩) (Or.inr ⟨_, rfl⟩) (fun t ht hW => ⟨⟨(), q, rfl, trivial, by rw [ht]; rw [show hkd p0 = 0 from by rw [hkd, if_neg c1, if_neg c2, if_neg c3, if_neg c4, if_neg c5, if_neg c6]]; exact hP1, hq⟩, hS.F ht⟩) hS.2.2 dX0_homeOfKind_109 hlocks
theorem arE_0 {aT : Nat → ClassId} {n : Nat} : arE aT 0 n (fun _ => 0) = .inl (aT 3, n, .inl (fun _ => 0)) := rfl
theorem arE_1 {aT : Nat → ClassId} {n : Nat} : arE aT 1 n (fun _ => 0) = .inl (aT 4, n, .inl (fun _ => 0)) := rfl
theorem arE_2 {aT : Nat → ClassId} {n : Nat} : arE aT 2 n (fun _ => 0) = .inl (aT 0, n, .inl (fun _ => 0)) := rfl
theorem arE_3 {aT : Nat → ClassId} {n : Nat} : arE aT 3 n (fun _ => 0) = .inl (aT 1, n, .inr (.inl (fun _ => 0))) := rfl
set_option maxHeartbeats 4000000 in
theorem metH_newRow_0 (l : Launch) (G : kG) (sz : Nat) (p1 : Int32) (hn0 : ¬ p1 < 0) (hn1 : p1.toNatClampNeg ≤ 160) : vx_Met l yX0_newRow (wsW_ yX0_newRow cX0_newRow 3 (some (.object "HamsterWeekends$Row")) [((0 : Nat), (40 : Nat), (78 : Nat), (145 : Nat)), ((41 : Nat), (49 : Nat), (78 : Nat), (145 : Nat)), ((50 : Nat), (58 : Nat), (78 : Nat), (145 : Nat)), ((59 : Nat), (67 : Nat), (78 : Nat), (145 : Nat)), ((68 : Nat), (78 : Nat), (78 : Nat), (145 : Nat))]) ({ frames := 3, cells := 2, slots := 161, locals := 53 } : Room) (iPc G [] sz [.int 0, .int p1]) (va_Qr (fun _ : Unit => True) (fun _ a t => ∃ b, va_P G.1 vwCl [(a, .inr (7, [.ref b])), (b, arE G.2 0 p1.toNatClampNeg (fun _ => 0))] t.heap ∧ sz ≤ a ∧ sz ≤ b ∧ a ≠ b) (va_A [] sz)) (fun _ _ _ _ => False) 2 161 (va_A [] sz) := by
  refine vx_ofWH (cc := cX0_newRow) (maxL := 3) (ret := (some (.object "HamsterWeekends$Row"))) (hh := [((0 : Nat), (40 : Nat), (78 : Nat), (145 : Nat)), ((41 : Nat), (49 : Nat), (78 : Nat), (145 : Nat)), ((50 : Nat), (58 : Nat), (78 : Nat), (145 : Nat)), ((59 : Nat), (67 : Nat), (78 : Nat), (145 : Nat)), ((68 : Nat), (78 : Nat), (78 : Nat), (145 : Nat))]) (by decide) rfl ?_
  intro p e s m args below meth c s₁ B hml hv
  obtain ⟨rfl, hsz, hP, hK, hkA, hD0⟩ := hv
  have hx := B.exec
  have hb := B.bytes
  have hr := B.returns
  have hts := atoms_spec (ws := wsW_ yX0_newRow cX0_newRow 3 (some (.object "HamsterWeekends$Row")) [((0 : Nat), (40 : Nat), (78 : Nat), (145 : Nat)), ((41 : Nat), (49 : Nat), (78 : Nat), (145 : Nat)), ((50 : Nat), (58 : Nat), (78 : Nat), (145 : Nat)), ((59 : Nat), (67 : Nat), (78 : Nat), (145 : Nat)), ((68 : Nat), (78 : Nat), (78 : Nat), (145 : Nat))]) B.pre
  have hts : ∀ w ∈ lw_all, w.before _ s = true := fun w h => hts w (List.mem_cons_of_mem _ h)
  have hown : s.vm.findClass RX0 = some m.cls := findClass_of_methodNamed B.named
  have hlocks := B.notSynchronized
  subst hsz
  have hD : va_D (va_A [] s.heap.size) ([] : va_W) := ⟨fun i j p q h => by simp at h, fun k q h => by simp at h⟩
  have hA : ∀ q : Nat, s.heap.size ≤ q → va_A [] s.heap.size q := fun q h => Or.inr h
  have hS : va_S (va_A [] s.heap.size) s.heap s.heap [] := va_S.rf
  have hl := lv_entry ([.int 0, .int p1]) (n := 3) (Nat.le_of_ble_eq_true rfl)
  rw [lg_entry_eq]
  generalize (lg_sl ([.int 0, .int p1]) ++ List.replicate (3 - (lg_sl ([.int 0, .int p1])).length) Slot.unset).toArray = ls at hl ⊢
  have hl : lv_has ls 3 [(0, .int 0), (1, .int p1)] := hl
  refine lv_iload_n hx hb dX0_newRow_0 rfl (lv_at hl 0 rfl) ?_
  refine lv_tableIn (tgt := 32) hx hb dX0_newRow_1 (by decide) (by decide) rfl (by decide) ?_
  refine va_new (D := G.1) (ci := 7) (fs := [.null]) (C := RX8) (T := TX8) (N := 1) hx hb hts in_X8 tyX8 tyX8_ok hown (hts _ q421) (hts _ q422) (hts _ q95) hK hP hD hS hA rfl (fun j hj => by
      have h9 : j = 0 := by omega
      subst h9
      rfl) (Nat.le_of_ble_eq_true rfl) (Nat.le_of_ble_eq_true rfl) dX0_newRow_32 (fun q H hP hD hS => ?_)
  have hP : va_P G.1 vwCl [(q, .inr (7, [.null]))] H := hP
  have hD : va_D (va_A [] s.heap.size) [(q, .inr (7, [.null]))] := hD
  refine lv_dup hx hb dX0_newRow_35 rfl ?_
  refine lv_iload_n hx hb dX0_newRow_36 rfl (lv_at hl 1 rfl) ?_
  have hFc := va_free (wc := [(q, .inr (7, [.null]))]) hD hS hA [0] rfl
  refine va_callv (va_runI (As := [.int p1]) (rest := [.ref q]) ⟨hx, hb, hml, hown, hts⟩ (metI_Bytes_7 l G q H.size p1 hn0 hn1) (cwI 1 hts (lw_meth q425) rfl rfl rfl (hts _ q95) (hts _ q423) (hts _ q424) rfl (by decide +kernel) ⟨Nat.le_of_ble_eq_true rfl, Nat.le_of_ble_eq_true rfl⟩) (i_pre hP hD hK hkA) rfl rfl hl.1 rfl (lv_room (Nat.le_of_ble_eq_true rfl)) dX0_newRow_37 ⟨Nat.le_of_ble_eq_true rfl, Nat.le_of_ble_eq_true rfl⟩) hS (fun q _ h => hFc q h) hFc (fun u t H1 locs ht hvm hw1 hB hz1 hk1 hS => ?_)
  obtain ⟨hP1, hD1⟩ := hB
  rw [ht] at hP1
  have hq : s.heap.size ≤ q := va_Anil (hD.2 0 _ rfl)
  have hb2 : s.heap.size ≤ u 1 := va_Anil (hFc _ (hD1.2 1 _ rfl))
  have hne : q ≠ u 1 := fun h => absurd (hD1.1 0 1 _ _ rfl rfl h) (by decide)
  refine W.widen (k := 2) (n := 161) (Nat.le_of_ble_eq_true rfl) (Nat.le_of_ble_eq_true rfl) ?_
  exact vx_ret (W.aret hx hb hr (Or.inl ⟨_, rfl⟩) (Or.inr ⟨_, rfl⟩) (fun t ht hW => ⟨⟨(), q, rfl, trivial, u 1, by rw [ht]; rw [arE_0]; exact hP1, hq, hb2, hne⟩, hS.F ht⟩) hS.2.2 dX0_newRow_40 hlocks)
set_option maxHeartbeats 4000000 in
theorem metH_newRow_1 (l : Launch) (G : kG) (sz : Nat) (p1 : Int32) (hn0 : ¬ p1 < 0) (hn1 : p1.toNatClampNeg ≤ 160) : vx_Met l yX0_newRow (wsW_ yX0_newRow cX0_newRow 3 (some (.object "HamsterWeekends$Row")) [((0 : Nat), (40 : Nat), (78 : Nat), (145 : Nat)), ((41 : Nat), (49 : Nat), (78 : Nat), (145 : Nat)), ((50 : Nat), (58 : Nat), (78 : Nat), (145 : Nat)), ((59 : Nat), (67 : Nat), (78 : Nat), (145 : Nat)), ((68 : Nat), (78 : Nat), (78 : Nat), (145 : Nat))]) ({ frames := 3, cells := 2, slots := 161, locals := 53 } : Room) (iPc G [] sz [.int 1, .int p1]) (va_Qr (fun _ : Unit => True) (fun _ a t => ∃ b, va_P G.1 vwCl [(a, .inr (8, [.ref b])), (b, arE G.2 1 p1.toNatClampNeg (fun _ => 0))] t.heap ∧ sz ≤ a ∧ sz ≤ b ∧ a ≠ b) (va_A [] sz)) (fun _ _ _ _ => False) 2 161 (va_A [] sz) := by
  refine vx_ofWH (cc := cX0_newRow) (maxL := 3) (ret := (some (.object "HamsterWeekends$Row"))) (hh := [((0 : Nat), (40 : Nat), (78 : Nat), (145 : Nat)), ((41 : Nat), (49 : Nat), (78 : Nat), (145 : Nat)), ((50 : Nat), (58 : Nat), (78 : Nat), (145 : Nat)), ((59 : Nat), (67 : Nat), (78 : Nat), (145 : Nat)), ((68 : Nat), (78 : Nat), (78 : Nat), (145 : Nat))]) (by decide) rfl ?_
  intro p e s m args below meth c s₁ B hml hv
  obtain ⟨rfl, hsz, hP, hK, hkA, hD0⟩ := hv
  have hx := B.exec
  have hb := B.bytes
  have hr := B.returns
  have hts := atoms_spec (ws := wsW_ yX0_newRow cX0_newRow 3 (some (.object "HamsterWeekends$Row")) [((0 : Nat), (40 : Nat), (78 : Nat), (145 : Nat)), ((41 : Nat), (49 : Nat), (78 : Nat), (145 : Nat)), ((50 : Nat), (58 : Nat), (78 : Nat), (145 : Nat)), ((59 : Nat), (67 : Nat), (78 : Nat), (145 : Nat)), ((68 : Nat), (78 : Nat), (78 : Nat), (145 : Nat))]) B.pre
  have hts : ∀ w ∈ lw_all, w.before _ s = true := fun w h => hts w (List.mem_cons_of_mem _ h)
  have hown : s.vm.findClass RX0 = some m.cls := findClass_of_methodNamed B.named
  have hlocks := B.notSynchronized
  subst hsz
  have hD : va_D (va_A [] s.heap.size) ([] : va_W) := ⟨fun i j p q h => by simp at h, fun k q h => by simp at h⟩
  have hA : ∀ q : Nat, s.heap.size ≤ q → va_A [] s.heap.size q := fun q h => Or.inr h
  have hS : va_S (va_A [] s.heap.size) s.heap s.heap [] := va_S.rf
  have hl := lv_entry ([.int 1, .int p1]) (n := 3) (Nat.le_of_ble_eq_true rfl)
  rw [lg_entry_eq]
  generalize (lg_sl ([.int 1, .int p1]) ++ List.replicate (3 - (lg_sl ([.int 1, .int p1])).length) Slot.unset).toArray = ls at hl ⊢
  have hl : lv_has ls 3 [(0, .int 1), (1, .int p1)] := hl
  refine lv_iload_n hx hb dX0_newRow_0 rfl (lv_at hl 0 rfl) ?_
  refine lv_tableIn (tgt := 41) hx hb dX0_newRow_1 (by decide) (by decide) rfl (by decide) ?_
  refine va_new (D := G.1) (ci := 8) (fs := [.null]) (C := RX9) (T := TX9) (N := 1) hx hb hts in_X9 tyX9 tyX9_ok hown (hts _ q434) (hts _ q435) (hts _ q96) hK hP hD hS hA rfl (fun j hj => by
      have h9 : j = 0 := by omega
      subst h9
      rfl) (Nat.le_of_ble_eq_true rfl) (Nat.le_of_ble_eq_true rfl) dX0_newRow_41 (fun q H hP hD hS => ?_)
  have hP : va_P G.1 vwCl [(q, .inr (8, [.null]))] H := hP
  have hD : va_D (va_A [] s.heap.size) [(q, .inr (8, [.null]))] := hD
  refine lv_dup hx hb dX0_newRow_44 rfl ?_
  refine lv_iload_n hx hb dX0_newRow_45 rfl (lv_at hl 1 rfl) ?_
  have hFc := va_free (wc := [(q, .inr (8, [.null]))]) hD hS hA [0] rfl
  refine va_callv (va_runI (As := [.int p1]) (rest := [.ref q]) ⟨hx, hb, hml, hown, hts⟩ (metI_Shorts_8 l G q H.size p1 hn0 hn1) (cwI 1 hts (lw_meth q438) rfl rfl rfl (hts _ q96) (hts _ q436) (hts _ q437) rfl (by decide +kernel) ⟨Nat.le_of_ble_eq_true rfl, Nat.le_of_ble_eq_true rfl⟩) (i_pre hP hD hK hkA) rfl rfl hl.1 rfl (lv_room (Nat.le_of_ble_eq_true rfl)) dX0_newRow_46 ⟨Nat.le_of_ble_eq_true rfl, Nat.le_of_ble_eq_true rfl⟩) hS (fun q _ h => hFc q h) hFc (fun u t H1 locs ht hvm hw1 hB hz1 hk1 hS => ?_)
  obtain ⟨hP1, hD1⟩ := hB
  rw [ht] at hP1
  have hq : s.heap.size ≤ q := va_Anil (hD.2 0 _ rfl)
  have hb2 : s.heap.size ≤ u 1 := va_Anil (hFc _ (hD1.2 1 _ rfl))
  have hne : q ≠ u 1 := fun h => absurd (hD1.1 0 1 _ _ rfl rfl h) (by decide)
  refine W.widen (k := 2) (n := 161) (Nat.le_of_ble_eq_true rfl) (Nat.le_of_ble_eq_true rfl) ?_
  exact vx_ret (W.aret hx hb hr (Or.inl ⟨_, rfl⟩) (Or.inr ⟨_, rfl⟩) (fun t ht hW => ⟨⟨(), q, rfl, trivial, u 1, by rw [ht]; rw [arE_1]; exact hP1, hq, hb2, hne⟩, hS.F ht⟩) hS.2.2 dX0_newRow_49 hlocks)
set_option maxHeartbeats 4000000 in
theorem metH_newRow_2 (l : Launch) (G : kG) (sz : Nat) (p1 : Int32) (hn0 : ¬ p1 < 0) (hn1 : p1.toNatClampNeg ≤ 160) : vx_Met l yX0_newRow (wsW_ yX0_newRow cX0_newRow 3 (some (.object "HamsterWeekends$Row")) [((0 : Nat), (40 : Nat), (78 : Nat), (145 : Nat)), ((41 : Nat), (49 : Nat), (78 : Nat), (145 : Nat)), ((50 : Nat), (58 : Nat), (78 : Nat), (145 : Nat)), ((59 : Nat), (67 : Nat), (78 : Nat), (145 : Nat)), ((68 : Nat), (78 : Nat), (78 : Nat), (145 : Nat))]) ({ frames := 3, cells := 2, slots := 161, locals := 53 } : Room) (iPc G [] sz [.int 2, .int p1]) (va_Qr (fun _ : Unit => True) (fun _ a t => ∃ b, va_P G.1 vwCl [(a, .inr (9, [.ref b])), (b, arE G.2 2 p1.toNatClampNeg (fun _ => 0))] t.heap ∧ sz ≤ a ∧ sz ≤ b ∧ a ≠ b) (va_A [] sz)) (fun _ _ _ _ => False) 2 161 (va_A [] sz) := by
  refine vx_ofWH (cc := cX0_newRow) (maxL := 3) (ret := (some (.object "HamsterWeekends$Row"))) (hh := [((0 : Nat), (40 : Nat), (78 : Nat), (145 : Nat)), ((41 : Nat), (49 : Nat), (78 : Nat), (145 : Nat)), ((50 : Nat), (58 : Nat), (78 : Nat), (145 : Nat)), ((59 : Nat), (67 : Nat), (78 : Nat), (145 : Nat)), ((68 : Nat), (78 : Nat), (78 : Nat), (145 : Nat))]) (by decide) rfl ?_
  intro p e s m args below meth c s₁ B hml hv
  obtain ⟨rfl, hsz, hP, hK, hkA, hD0⟩ := hv
  have hx := B.exec
  have hb := B.bytes
  have hr := B.returns
  have hts := atoms_spec (ws := wsW_ yX0_newRow cX0_newRow 3 (some (.object "HamsterWeekends$Row")) [((0 : Nat), (40 : Nat), (78 : Nat), (145 : Nat)), ((41 : Nat), (49 : Nat), (78 : Nat), (145 : Nat)), ((50 : Nat), (58 : Nat), (78 : Nat), (145 : Nat)), ((59 : Nat), (67 : Nat), (78 : Nat), (145 : Nat)), ((68 : Nat), (78 : Nat), (78 : Nat), (145 : Nat))]) B.pre
  have hts : ∀ w ∈ lw_all, w.before _ s = true := fun w h => hts w (List.mem_cons_of_mem _ h)
  have hown : s.vm.findClass RX0 = some m.cls := findClass_of_methodNamed B.named
  have hlocks := B.notSynchronized
  subst hsz
  have hD : va_D (va_A [] s.heap.size) ([] : va_W) := ⟨fun i j p q h => by simp at h, fun k q h => by simp at h⟩
  have hA : ∀ q : Nat, s.heap.size ≤ q → va_A [] s.heap.size q := fun q h => Or.inr h
  have hS : va_S (va_A [] s.heap.size) s.heap s.heap [] := va_S.rf
  have hl := lv_entry ([.int 2, .int p1]) (n := 3) (Nat.le_of_ble_eq_true rfl)
  rw [lg_entry_eq]
  generalize (lg_sl ([.int 2, .int p1]) ++ List.replicate (3 - (lg_sl ([.int 2, .int p1])).length) Slot.unset).toArray = ls at hl ⊢
  have hl : lv_has ls 3 [(0, .int 2), (1, .int p1)] := hl
  refine lv_iload_n hx hb dX0_newRow_0 rfl (lv_at hl 0 rfl) ?_
  refine lv_tableIn (tgt := 50) hx hb dX0_newRow_1 (by decide) (by decide) rfl (by decide) ?_
  refine va_new (D := G.1) (ci := 9) (fs := [.null]) (C := RX10) (T := TX10) (N := 1) hx hb hts in_X10 tyX10 tyX10_ok hown (hts _ q445) (hts _ q446) (hts _ q97) hK hP hD hS hA rfl (fun j hj => by
      have h9 : j = 0 := by omega
      subst h9
      rfl) (Nat.le_of_ble_eq_true rfl) (Nat.le_of_ble_eq_true rfl) dX0_newRow_50 (fun q H hP hD hS => ?_)
  have hP : va_P G.1 vwCl [(q, .inr (9, [.null]))] H := hP
  have hD : va_D (va_A [] s.heap.size) [(q, .inr (9, [.null]))] := hD
  refine lv_dup hx hb dX0_newRow_53 rfl ?_
  refine lv_iload_n hx hb dX0_newRow_54 rfl (lv_at hl 1 rfl) ?_
  have hFc := va_free (wc := [(q, .inr (9, [.null]))]) hD hS hA [0] rfl
  refine va_callv (va_runI (As := [.int p1]) (rest := [.ref q]) ⟨hx, hb, hml, hown, hts⟩ (metI_Ints_9 l G q H.size p1 hn0 hn1) (cwI 1 hts (lw_meth q449) rfl rfl rfl (hts _ q97) (hts _ q447) (hts _ q448) rfl (by decide +kernel) ⟨Nat.le_of_ble_eq_true rfl, Nat.le_of_ble_eq_true rfl⟩) (i_pre hP hD hK hkA) rfl rfl hl.1 rfl (lv_room (Nat.le_of_ble_eq_true rfl)) dX0_newRow_55 ⟨Nat.le_of_ble_eq_true rfl, Nat.le_of_ble_eq_true rfl⟩) hS (fun q _ h => hFc q h) hFc (fun u t H1 locs ht hvm hw1 hB hz1 hk1 hS => ?_)
  obtain ⟨hP1, hD1⟩ := hB
  rw [ht] at hP1
  have hq : s.heap.size ≤ q := va_Anil (hD.2 0 _ rfl)
  have hb2 : s.heap.size ≤ u 1 := va_Anil (hFc _ (hD1.2 1 _ rfl))
  have hne : q ≠ u 1 := fun h => absurd (hD1.1 0 1 _ _ rfl rfl h) (by decide)
  refine W.widen (k := 2) (n := 161) (Nat.le_of_ble_eq_true rfl) (Nat.le_of_ble_eq_true rfl) ?_
  exact vx_ret (W.aret hx hb hr (Or.inl ⟨_, rfl⟩) (Or.inr ⟨_, rfl⟩) (fun t ht hW => ⟨⟨(), q, rfl, trivial, u 1, by rw [ht]; rw [arE_2]; exact hP1, hq, hb2, hne⟩, hS.F ht⟩) hS.2.2 dX0_newRow_58 hlocks)
set_option maxHeartbeats 4000000 in
theorem metH_newRow_3 (l : Launch) (G : kG) (sz : Nat) (p1 : Int32) (hn0 : ¬ p1 < 0) (hn1 : p1.toNatClampNeg ≤ 160) : vx_Met l yX0_newRow (wsW_ yX0_newRow cX0_newRow 3 (some (.object "HamsterWeekends$Row")) [((0 : Nat), (40 : Nat), (78 : Nat), (145 : Nat)), ((41 : Nat), (49 : Nat), (78 : Nat), (145 : Nat)), ((50 : Nat), (58 : Nat), (78 : Nat), (145 : Nat)), ((59 : Nat), (67 : Nat), (78 : Nat), (145 : Nat)), ((68 : Nat), (78 : Nat), (78 : Nat), (145 : Nat))]) ({ frames := 3, cells := 2, slots := 161, locals := 53 } : Room) (iPc G [] sz [.int 3, .int p1]) (va_Qr (fun _ : Unit => True) (fun _ a t => ∃ b, va_P G.1 vwCl [(a, .inr (10, [.ref b])), (b, arE G.2 3 p1.toNatClampNeg (fun _ => 0))] t.heap ∧ sz ≤ a ∧ sz ≤ b ∧ a ≠ b) (va_A [] sz)) (fun _ _ _ _ => False) 2 161 (va_A [] sz) := by
  refine vx_ofWH (cc := cX0_newRow) (maxL := 3) (ret := (some (.object "HamsterWeekends$Row"))) (hh := [((0 : Nat), (40 : Nat), (78 : Nat), (145 : Nat)), ((41 : Nat), (49 : Nat), (78 : Nat), (145 : Nat)), ((50 : Nat), (58 : Nat), (78 : Nat), (145 : Nat)), ((59 : Nat), (67 : Nat), (78 : Nat), (145 : Nat)), ((68 : Nat), (78 : Nat), (78 : Nat), (145 : Nat))]) (by decide) rfl ?_
  intro p e s m args below meth c s₁ B hml hv
  obtain ⟨rfl, hsz, hP, hK, hkA, hD0⟩ := hv
  have hx := B.exec
  have hb := B.bytes
  have hr := B.returns
  have hts := atoms_spec (ws := wsW_ yX0_newRow cX0_newRow 3 (some (.object "HamsterWeekends$Row")) [((0 : Nat), (40 : Nat), (78 : Nat), (145 : Nat)), ((41 : Nat), (49 : Nat), (78 : Nat), (145 : Nat)), ((50 : Nat), (58 : Nat), (78 : Nat), (145 : Nat)), ((59 : Nat), (67 : Nat), (78 : Nat), (145 : Nat)), ((68 : Nat), (78 : Nat), (78 : Nat), (145 : Nat))]) B.pre
  have hts : ∀ w ∈ lw_all, w.before _ s = true := fun w h => hts w (List.mem_cons_of_mem _ h)
  have hown : s.vm.findClass RX0 = some m.cls := findClass_of_methodNamed B.named
  have hlocks := B.notSynchronized
  subst hsz
  have hD : va_D (va_A [] s.heap.size) ([] : va_W) := ⟨fun i j p q h => by simp at h, fun k q h => by simp at h⟩
  have hA : ∀ q : Nat, s.heap.size ≤ q → va_A [] s.heap.size q := fun q h => Or.inr h
  have hS : va_S (va_A [] s.heap.size) s.heap s.heap [] := va_S.rf
  have hl := lv_entry ([.int 3, .int p1]) (n := 3) (Nat.le_of_ble_eq_true rfl)
  rw [lg_entry_eq]
  generalize (lg_sl ([.int 3, .int p1]) ++ List.replicate (3 - (lg_sl ([.int 3, .int p1])).length) Slot.unset).toArray = ls at hl ⊢
  have hl : lv_has ls 3 [(0, .int 3), (1, .int p1)] := hl
  refine lv_iload_n hx hb dX0_newRow_0 rfl (lv_at hl 0 rfl) ?_
  refine lv_tableIn (tgt := 59) hx hb dX0_newRow_1 (by decide) (by decide) rfl (by decide) ?_
  refine va_new (D := G.1) (ci := 10) (fs := [.null]) (C := RX11) (T := TX11) (N := 1) hx hb hts in_X11 tyX11 tyX11_ok hown (hts _ q455) (hts _ q456) (hts _ q98) hK hP hD hS hA rfl (fun j hj => by
      have h9 : j = 0 := by omega
      subst h9
      rfl) (Nat.le_of_ble_eq_true rfl) (Nat.le_of_ble_eq_true rfl) dX0_newRow_59 (fun q H hP hD hS => ?_)
  have hP : va_P G.1 vwCl [(q, .inr (10, [.null]))] H := hP
  have hD : va_D (va_A [] s.heap.size) [(q, .inr (10, [.null]))] := hD
  refine lv_dup hx hb dX0_newRow_62 rfl ?_
  refine lv_iload_n hx hb dX0_newRow_63 rfl (lv_at hl 1 rfl) ?_
  have hFc := va_free (wc := [(q, .inr (10, [.null]))]) hD hS hA [0] rfl
  refine va_callv (va_runI (As := [.int p1]) (rest := [.ref q]) ⟨hx, hb, hml, hown, hts⟩ (metI_Longs_10 l G q H.size p1 hn0 hn1) (cwI 1 hts (lw_meth q459) rfl rfl rfl (hts _ q98) (hts _ q457) (hts _ q458) rfl (by decide +kernel) ⟨Nat.le_of_ble_eq_true rfl, Nat.le_of_ble_eq_true rfl⟩) (i_pre hP hD hK hkA) rfl rfl hl.1 rfl (lv_room (Nat.le_of_ble_eq_true rfl)) dX0_newRow_64 ⟨Nat.le_of_ble_eq_true rfl, Nat.le_of_ble_eq_true rfl⟩) hS (fun q _ h => hFc q h) hFc (fun u t H1 locs ht hvm hw1 hB hz1 hk1 hS => ?_)
  obtain ⟨hP1, hD1⟩ := hB
  rw [ht] at hP1
  have hq : s.heap.size ≤ q := va_Anil (hD.2 0 _ rfl)
  have hb2 : s.heap.size ≤ u 1 := va_Anil (hFc _ (hD1.2 1 _ rfl))
  have hne : q ≠ u 1 := fun h => absurd (hD1.1 0 1 _ _ rfl rfl h) (by decide)
  refine W.widen (k := 2) (n := 161) (Nat.le_of_ble_eq_true rfl) (Nat.le_of_ble_eq_true rfl) ?_
  exact vx_ret (W.aret hx hb hr (Or.inl ⟨_, rfl⟩) (Or.inr ⟨_, rfl⟩) (fun t ht hW => ⟨⟨(), q, rfl, trivial, u 1, by rw [ht]; rw [arE_3]; exact hP1, hq, hb2, hne⟩, hS.F ht⟩) hS.2.2 dX0_newRow_67 hlocks)
section HK
variable {p : Program} {l : Launch} {e : Env} {R : Room} {s : State} {m : MethodId} {args : Array Value} {below : List Frame} {meth : Method} {c : Code} {H : Heap} {locs : List Loc} {cells slots : Nat} {Q : State → Prop} {pc : Nat} {ls : Array Slot} {rest : List Value} {cc : ByteArray} {own : String} {G : kG} {av : List Nat} {pl E : va_W} {A : Nat → Prop}
theorem r_hok {nL idx : Nat} {p0 p1 p2 : Int32} (C : nC p s m args c cc own G av pl A) (D : tD s av E A) (hml : c.maxLocals = nL) (hls : ls.size = nL) (hS : va_S A s.heap H locs) (hl : Cond.methodLink own idx yX0_homeOfKind ∈ lw_all) (hR : 5 ≤ R.frames ∧ 100 ≤ R.locals ∧ cells + 1 ≤ R.cells ∧ slots + 2 ≤ R.slots) (hst : (rest.map fun v => v.category).sum ≤ 8) (hdg : decode cc pc = .ok (.invokestatic idx, 3))
    (kk : ∀ (q : Nat) (H1 : Heap) (locs1 : List Loc), H.size ≤ q → va_P G.1 vwCl [(q, .inr (hkd p0, [.int p1, .int p2]))] H1 → (∀ x, x < H.size → H1[x]? = H[x]?) → va_S A s.heap H1 locs1 → W p l e R s m args below meth c H1 locs1 (cells + 1) (slots + 2) Q (F0 m (pc + 3) ls (.ref q :: rest))) : W p l e R s m args below meth c H locs cells slots Q (F0 m pc ls (.int p2 :: .int p1 :: .int p0 :: rest)) := by
  intro T hT X
  have hrun := va_runS (e := e) (below := below) (meth := meth) (locs := locs) (cells := cells) (slots := slots) (As := [.int p0, .int p1, .int p2]) (rest := rest) ⟨C.1, C.2.1, hml, C.2.2.1, C.2.2.2.1⟩ (metH_hok l G H.size p0 p1 p2) (va_cwS (R := R) 3 C.2.2.2.1 (lw_S hl q654 q80 q655) rfl rfl rfl (by decide +kernel) ⟨hR.1, hR.2.1⟩) (i_pre (A := A) P_nil ⟨fun i j p q h => by simp at h, fun k q h => by simp at h⟩ C.2.2.2.2.1 D.2.2.2.2.2.2.2.2) (g := F0 m pc ls (.int p2 :: .int p1 :: .int p0 :: rest)) rfl rfl hls rfl (lv_room hst) hdg ⟨hR.2.2.1, hR.2.2.2⟩
  obtain ⟨v, st₀, t, T', L1, e0, X', hL, e1, e2, ⟨⟨u, a, hv, -, hP1, hq⟩, hz, hk⟩, stp⟩ := hrun T hT X
  cases hv
  rw [e0] at hz hk
  have hk2 : ∀ x, x < H.size → t.heap[x]? = H[x]? := fun x hx => hk x hx (fun h => by have := va_Anil h; omega)
  obtain ⟨t2, a1, b1⟩ := kk a T'.heap (locs ++ L1) hq (by rw [e1]; exact hP1) (by rw [e1]; exact hk2) (by
    rw [e1]
    exact t_S hS (fun q h => D.2.2.1 q (Nat.le_trans hS.1 (va_Anil h))) hz hk hL) T' rfl X'
  exact ⟨t2, stp t2 a1, b1⟩
theorem r_newRow_0 {nL idx : Nat} {p1 : Int32} (C : nC p s m args c cc own G av pl A) (D : tD s av E A) (hml : c.maxLocals = nL) (hls : ls.size = nL) (hS : va_S A s.heap H locs) (hn0 : ¬ p1 < 0) (hn1 : p1.toNatClampNeg ≤ 160) (hl : Cond.methodLink own idx yX0_newRow ∈ lw_all) (hR : 4 ≤ R.frames ∧ 75 ≤ R.locals ∧ cells + 2 ≤ R.cells ∧ slots + 161 ≤ R.slots) (hst : (rest.map fun v => v.category).sum ≤ 8) (hdg : decode cc pc = .ok (.invokestatic idx, 3))
    (kk : ∀ (a b : Nat) (H1 : Heap) (locs1 : List Loc), H.size ≤ a → H.size ≤ b → a ≠ b → va_P G.1 vwCl [(a, .inr (7, [.ref b])), (b, arE G.2 0 p1.toNatClampNeg (fun _ => 0))] H1 → (∀ x, x < H.size → H1[x]? = H[x]?) → va_S A s.heap H1 locs1 → W p l e R s m args below meth c H1 locs1 (cells + 2) (slots + 161) Q (F0 m (pc + 3) ls (.ref a :: rest))) : W p l e R s m args below meth c H locs cells slots Q (F0 m pc ls (.int p1 :: .int 0 :: rest)) := by
  intro T hT X
  have hrun := vx_runSX (e := e) (below := below) (meth := meth) (locs := locs) (cells := cells) (slots := slots) (As := [.int 0, .int p1]) (rest := rest) ⟨C.1, C.2.1, hml, C.2.2.1, C.2.2.2.1⟩ (metH_newRow_0 l G H.size p1 hn0 hn1) (vx_cwSW (R := R) 2 C.2.2.2.1 (lw_SW hl q405 q80 q406) rfl rfl rfl (by decide +kernel) ⟨hR.1, hR.2.1⟩) (i_pre (A := A) P_nil ⟨fun i j p q h => by simp at h, fun k q h => by simp at h⟩ C.2.2.2.2.1 D.2.2.2.2.2.2.2.2) (g := F0 m pc ls (.int p1 :: .int 0 :: rest)) rfl rfl hls rfl (lv_room hst) hdg ⟨hR.2.2.1, hR.2.2.2⟩
  rcases hrun T hT X with ⟨v, st₀, t, T', L1, e0, X', hL, e1, e2, ⟨⟨u, a, hv, -, b, hP1, ha, hb, hne⟩, hz, hk⟩, stp⟩ | ⟨q, st₀, t, T', L1, E', ce, e0, X', hL, e1, e2, hf, hce, hcv, hcl, stp⟩
  · cases hv
    rw [e0] at hz hk
    have hk2 : ∀ x, x < H.size → t.heap[x]? = H[x]? := fun x hx => hk x hx (fun h => by have := va_Anil h; omega)
    obtain ⟨t2, a1, b1⟩ := kk a b T'.heap (locs ++ L1) ha hb hne (by rw [e1]; exact hP1) (by rw [e1]; exact hk2) (by
      rw [e1]
      exact t_S hS (fun q h => D.2.2.1 q (Nat.le_trans hS.1 (va_Anil h))) hz hk hL) T' rfl X'
    exact ⟨t2, stp t2 a1, b1⟩
  · exact hf.elim
theorem r_newRow_1 {nL idx : Nat} {p1 : Int32} (C : nC p s m args c cc own G av pl A) (D : tD s av E A) (hml : c.maxLocals = nL) (hls : ls.size = nL) (hS : va_S A s.heap H locs) (hn0 : ¬ p1 < 0) (hn1 : p1.toNatClampNeg ≤ 160) (hl : Cond.methodLink own idx yX0_newRow ∈ lw_all) (hR : 4 ≤ R.frames ∧ 75 ≤ R.locals ∧ cells + 2 ≤ R.cells ∧ slots + 161 ≤ R.slots) (hst : (rest.map fun v => v.category).sum ≤ 8) (hdg : decode cc pc = .ok (.invokestatic idx, 3))
    (kk : ∀ (a b : Nat) (H1 : Heap) (locs1 : List Loc), H.size ≤ a → H.size ≤ b → a ≠ b → va_P G.1 vwCl [(a, .inr (8, [.ref b])), (b, arE G.2 1 p1.toNatClampNeg (fun _ => 0))] H1 → (∀ x, x < H.size → H1[x]? = H[x]?) → va_S A s.heap H1 locs1 → W p l e R s m args below meth c H1 locs1 (cells + 2) (slots + 161) Q (F0 m (pc + 3) ls (.ref a :: rest))) : W p l e R s m args below meth c H locs cells slots Q (F0 m pc ls (.int p1 :: .int 1 :: rest)) := by
  intro T hT X
  have hrun := vx_runSX (e := e) (below := below) (meth := meth) (locs := locs) (cells := cells) (slots := slots) (As := [.int 1, .int p1]) (rest := rest) ⟨C.1, C.2.1, hml, C.2.2.1, C.2.2.2.1⟩ (metH_newRow_1 l G H.size p1 hn0 hn1) (vx_cwSW (R := R) 2 C.2.2.2.1 (lw_SW hl q405 q80 q406) rfl rfl rfl (by decide +kernel) ⟨hR.1, hR.2.1⟩) (i_pre (A := A) P_nil ⟨fun i j p q h => by simp at h, fun k q h => by simp at h⟩ C.2.2.2.2.1 D.2.2.2.2.2.2.2.2) (g := F0 m pc ls (.int p1 :: .int 1 :: rest)) rfl rfl hls rfl (lv_room hst) hdg ⟨hR.2.2.1, hR.2.2.2⟩
  rcases hrun T hT X with ⟨v, st₀, t, T', L1, e0, X', hL, e1, e2, ⟨⟨u, a, hv, -, b, hP1, ha, hb, hne⟩, hz, hk⟩, stp⟩ | ⟨q, st₀, t, T', L1, E', ce, e0, X', hL, e1, e2, hf, hce, hcv, hcl, stp⟩
  · cases hv
    rw [e0] at hz hk
    have hk2 : ∀ x, x < H.size → t.heap[x]? = H[x]? := fun x hx => hk x hx (fun h => by have := va_Anil h; omega)
    obtain ⟨t2, a1, b1⟩ := kk a b T'.heap (locs ++ L1) ha hb hne (by rw [e1]; exact hP1) (by rw [e1]; exact hk2) (by
      rw [e1]
      exact t_S hS (fun q h => D.2.2.1 q (Nat.le_trans hS.1 (va_Anil h))) hz hk hL) T' rfl X'
    exact ⟨t2, stp t2 a1, b1⟩
  · exact hf.elim
theorem r_newRow_2 {nL idx : Nat} {p1 : Int32} (C : nC p s m args c cc own G av pl A) (D : tD s av E A) (hml : c.maxLocals = nL) (hls : ls.size = nL) (hS : va_S A s.heap H locs) (hn0 : ¬ p1 < 0) (hn1 : p1.toNatClampNeg ≤ 160) (hl : Cond.methodLink own idx yX0_newRow ∈ lw_all) (hR : 4 ≤ R.frames ∧ 75 ≤ R.locals ∧ cells + 2 ≤ R.cells ∧ slots + 161 ≤ R.slots) (hst : (rest.map fun v => v.category).sum ≤ 8) (hdg : decode cc pc = .ok (.invokestatic idx, 3))
    (kk : ∀ (a b : Nat) (H1 : Heap) (locs1 : List Loc), H.size ≤ a → H.size ≤ b → a ≠ b → va_P G.1 vwCl [(a, .inr (9, [.ref b])), (b, arE G.2 2 p1.toNatClampNeg (fun _ => 0))] H1 → (∀ x, x < H.size → H1[x]? = H[x]?) → va_S A s.heap H1 locs1 → W p l e R s m args below meth c H1 locs1 (cells + 2) (slots + 161) Q (F0 m (pc + 3) ls (.ref a :: rest))) : W p l e R s m args below meth c H locs cells slots Q (F0 m pc ls (.int p1 :: .int 2 :: rest)) := by
  intro T hT X
  have hrun := vx_runSX (e := e) (below := below) (meth := meth) (locs := locs) (cells := cells) (slots := slots) (As := [.int 2, .int p1]) (rest := rest) ⟨C.1, C.2.1, hml, C.2.2.1, C.2.2.2.1⟩ (metH_newRow_2 l G H.size p1 hn0 hn1) (vx_cwSW (R := R) 2 C.2.2.2.1 (lw_SW hl q405 q80 q406) rfl rfl rfl (by decide +kernel) ⟨hR.1, hR.2.1⟩) (i_pre (A := A) P_nil ⟨fun i j p q h => by simp at h, fun k q h => by simp at h⟩ C.2.2.2.2.1 D.2.2.2.2.2.2.2.2) (g := F0 m pc ls (.int p1 :: .int 2 :: rest)) rfl rfl hls rfl (lv_room hst) hdg ⟨hR.2.2.1, hR.2.2.2⟩
  rcases hrun T hT X with ⟨v, st₀, t, T', L1, e0, X', hL, e1, e2, ⟨⟨u, a, hv, -, b, hP1, ha, hb, hne⟩, hz, hk⟩, stp⟩ | ⟨q, st₀, t, T', L1, E', ce, e0, X', hL, e1, e2, hf, hce, hcv, hcl, stp⟩
  · cases hv
    rw [e0] at hz hk
    have hk2 : ∀ x, x < H.size → t.heap[x]? = H[x]? := fun x hx => hk x hx (fun h => by have := va_Anil h; omega)
    obtain ⟨t2, a1, b1⟩ := kk a b T'.heap (locs ++ L1) ha hb hne (by rw [e1]; exact hP1) (by rw [e1]; exact hk2) (by
      rw [e1]
      exact t_S hS (fun q h => D.2.2.1 q (Nat.le_trans hS.1 (va_Anil h))) hz hk hL) T' rfl X'
    exact ⟨t2, stp t2 a1, b1⟩
  · exact hf.elim
theorem r_newRow_3 {nL idx : Nat} {p1 : Int32} (C : nC p s m args c cc own G av pl A) (D : tD s av E A) (hml : c.maxLocals = nL) (hls : ls.size = nL) (hS : va_S A s.heap H locs) (hn0 : ¬ p1 < 0) (hn1 : p1.toNatClampNeg ≤ 160) (hl : Cond.methodLink own idx yX0_newRow ∈ lw_all) (hR : 4 ≤ R.frames ∧ 75 ≤ R.locals ∧ cells + 2 ≤ R.cells ∧ slots + 161 ≤ R.slots) (hst : (rest.map fun v => v.category).sum ≤ 8) (hdg : decode cc pc = .ok (.invokestatic idx, 3))
    (kk : ∀ (a b : Nat) (H1 : Heap) (locs1 : List Loc), H.size ≤ a → H.size ≤ b → a ≠ b → va_P G.1 vwCl [(a, .inr (10, [.ref b])), (b, arE G.2 3 p1.toNatClampNeg (fun _ => 0))] H1 → (∀ x, x < H.size → H1[x]? = H[x]?) → va_S A s.heap H1 locs1 → W p l e R s m args below meth c H1 locs1 (cells + 2) (slots + 161) Q (F0 m (pc + 3) ls (.ref a :: rest))) : W p l e R s m args below meth c H locs cells slots Q (F0 m pc ls (.int p1 :: .int 3 :: rest)) := by
  intro T hT X
  have hrun := vx_runSX (e := e) (below := below) (meth := meth) (locs := locs) (cells := cells) (slots := slots) (As := [.int 3, .int p1]) (rest := rest) ⟨C.1, C.2.1, hml, C.2.2.1, C.2.2.2.1⟩ (metH_newRow_3 l G H.size p1 hn0 hn1) (vx_cwSW (R := R) 2 C.2.2.2.1 (lw_SW hl q405 q80 q406) rfl rfl rfl (by decide +kernel) ⟨hR.1, hR.2.1⟩) (i_pre (A := A) P_nil ⟨fun i j p q h => by simp at h, fun k q h => by simp at h⟩ C.2.2.2.2.1 D.2.2.2.2.2.2.2.2) (g := F0 m pc ls (.int p1 :: .int 3 :: rest)) rfl rfl hls rfl (lv_room hst) hdg ⟨hR.2.2.1, hR.2.2.2⟩
  rcases hrun T hT X with ⟨v, st₀, t, T', L1, e0, X', hL, e1, e2, ⟨⟨u, a, hv, -, b, hP1, ha, hb, hne⟩, hz, hk⟩, stp⟩ | ⟨q, st₀, t, T', L1, E', ce, e0, X', hL, e1, e2, hf, hce, hcv, hcl, stp⟩
  · cases hv
    rw [e0] at hz hk
    have hk2 : ∀ x, x < H.size → t.heap[x]? = H[x]? := fun x hx => hk x hx (fun h => by have := va_Anil h; omega)
    obtain ⟨t2, a1, b1⟩ := kk a b T'.heap (locs ++ L1) ha hb hne (by rw [e1]; exact hP1) (by rw [e1]; exact hk2) (by
      rw [e1]
      exact t_S hS (fun q h => D.2.2.1 q (Nat.le_trans hS.1 (va_Anil h))) hz hk hL) T' rfl X'
    exact ⟨t2, stp t2 a1, b1⟩
  · exact hf.elim
end HK
