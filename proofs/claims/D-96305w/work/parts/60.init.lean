set_option maxRecDepth 100000
def iPc (G : kG) (X : va_W) (sz : Nat) (As : List Value) : Array Value → State → Prop := va_Pc As (fun U => U.heap.size = sz ∧ va_P G.1 vwCl X U.heap ∧ mK G U ∧ kA U ∧ va_D (fun _ => True) X)
def iQc (G : kG) (X : va_W) (sz : Nat) (F : (Nat → Nat) → va_W) : Array Value → State → Outcome → State → Prop := va_Qv (fun _ : Nat → Nat => True) (fun u t => va_P G.1 vwCl (F u) t.heap ∧ va_D (va_A X sz) (F u)) (va_A X sz)
theorem iPc_blind {G : kG} {X : va_W} {sz : Nat} {As : List Value} : FrameBlind (iPc G X sz As) := fun a U g mk q => ⟨q.1, q.2.1, q.2.2.1, va_K.moved (u := U) (U := U.calling g mk a) (Vm.Alike.refl U.vm) q.2.2.2.1, kA.moved (u := U) (U := U.calling g mk a) (Vm.Alike.refl U.vm) q.2.2.2.2.1, q.2.2.2.2.2⟩
theorem i_pre {s : State} {G : kG} {X : va_W} {H : Heap} {A : Nat → Prop} {As : List Value} (hP : va_P G.1 vwCl X H) (hD : va_D A X) (hK : mK G s) (hkA : kA s) : PreS s H (iPc G X H.size As) As :=
  ⟨iPc_blind, fun U hU hW => ⟨rfl, by rw [hU], by rw [hU]; exact hP, va_K.moved hW.alike hK, kA.moved hW.alike hkA, hD.weaken (fun _ _ _ _ => trivial)⟩⟩
theorem aT_eq {s : State} {G : kG} {cA : ClassId} {ty : FieldType} (hK : mK G s) (hK2 : va_K G.1 vwCl (tysA G.2 ++ [(cA, ty)]) s) (t : Nat) (ht : (tysA G.2)[t]? = some (G.2 t, ty)) (h8 : (tysA G.2 ++ [(cA, ty)])[8]? = some (cA, ty)) (hr : ∀ x : ClassId, va_RA s x ty → s.vm.findClass ("[" ++ ty.toString) = some x) : cA = G.2 t := by
  have h1 := hr _ (hK.2 t _ ht).2
  have h2 := hr _ (hK2.2 8 _ h8).2
  exact Option.some.inj (h2.symm.trans h1)
theorem aT_eqO {s : State} {G : kG} {cA : ClassId} {C : String} (hK : mK G s) (hK2 : va_K G.1 vwCl (tysA G.2 ++ [(cA, .object C)]) s) (t : Nat) (ht : (tysA G.2)[t]? = some (G.2 t, .object C)) (h8 : (tysA G.2 ++ [(cA, .object C)])[8]? = some (cA, .object C)) : cA = G.2 t := by
  obtain ⟨k1, c1, a1, a2, a3, a4⟩ := (hK.2 t _ ht).2
  obtain ⟨k2, c2, b1, b2, b3, b4⟩ := (hK2.2 8 _ h8).2
  exact Option.some.inj (b4.symm.trans a4)
set_option maxHeartbeats 4000000 in
theorem metI_Home_0 (l : Launch) (G : kG) (h0 sz : Nat) (p1 : Int32) (p2 : Int32) : Met l yX12_init (ws_ yX12_init cX12_init 3 none) ({ frames := 1, cells := 0, slots := 0, locals := 12 } : Room) (iPc G [(h0, .inr (0, [.int 0, .int 0]))] sz [.ref h0, .int p1, .int p2]) (iQc G [(h0, .inr (0, [.int 0, .int 0]))] sz (fun u => [(h0, .inr (0, [.int p1, .int p2]))])) 0 0 (va_A [(h0, .inr (0, [.int 0, .int 0]))] sz) := by
  refine Met.ofW (cc := cX12_init) (maxL := 3) (ret := none) (by decide) rfl ?_
  intro p e s m args below meth c s₁ B hml hv
  obtain ⟨rfl, hsz, hP, hK, hkA, hD0⟩ := hv
  have hx := B.exec
  have hb := B.bytes
  have hr := B.returns
  have hts := atoms_spec (ws := ws_ yX12_init cX12_init 3 none) B.pre
  have hts : ∀ w ∈ lw_all, w.before _ s = true := fun w h => hts w (List.mem_cons_of_mem _ h)
  have hown : s.vm.findClass RX12 = some m.cls := findClass_of_methodNamed B.named
  have hlocks := B.notSynchronized
  have hin : meth.name = "<init>" := (name_of_methodNamed B.named B.method).1
  subst hsz
  have hD := hD0.self (sz := s.heap.size)
  obtain ⟨A, hAe⟩ : ∃ A, A = va_A [(h0, .inr (0, [.int 0, .int 0]))] s.heap.size := ⟨_, rfl⟩
  unfold iQc
  rw [← hAe] at hD ⊢
  have hA : ∀ q : Nat, s.heap.size ≤ q → A q := fun q h => by rw [hAe]; exact Or.inr h
  have hS : va_S A s.heap s.heap [] := va_S.rf
  clear hAe
  have hl := lv_entry ([.ref h0, .int p1, .int p2]) (n := 3) (Nat.le_of_ble_eq_true rfl)
  rw [lg_entry_eq]
  generalize (lg_sl ([.ref h0, .int p1, .int p2]) ++ List.replicate (3 - (lg_sl ([.ref h0, .int p1, .int p2])).length) Slot.unset).toArray = ls at hl ⊢
  have hl : lv_has ls 3 [(0, .ref h0), (1, .int p1), (2, .int p2)] := hl
  obtain ⟨H, hH⟩ : ∃ H, H = s.heap := ⟨_, rfl⟩
  have hP : va_P G.1 vwCl [(h0, .inr (0, [.int 0, .int 0]))] H := by rw [hH]; exact hP
  have hS : va_S A s.heap H [] := by rw [hH]; exact hS
  suffices hZ : W p l e ({ frames := 1, cells := 0, slots := 0, locals := 12 } : Room) s m _ below meth c H [] 0 0 _ (F0 m 0 ls []) by rw [hH] at hZ; exact hZ
  clear hH
  refine lv_aload_n hx hb dX12_init_0 rfl (lv_at hl 0 rfl) ?_
  refine W.objInit hx hb hown (hts _ q664) (hts _ q121) (hts _ q122) rfl (by rw [hml]; exact hl.1) rfl dX12_init_1 (Nat.le_of_ble_eq_true rfl) (Nat.le_of_ble_eq_true rfl) ?_
  refine W.eq (g2 := F0 m 4 ls []) rfl ?_
  refine lv_aload_n hx hb dX12_init_4 rfl (lv_at hl 0 rfl) ?_
  refine lv_iload_n hx hb dX12_init_5 rfl (lv_at hl 1 rfl) ?_
  refine va_putF (D := G.1) (ci := 0) (v := .int p1) (ty := .int) (C := RX12) (T := TX12) (N := 2) hx hb hts in_X12 tyX12 tyX12_ok nmX12 hown hK hP hD hS 0 rfl rfl 0 (by decide) (hts _ q665) (fun _ h => h) rfl hin rfl (by decide +kernel) rfl rfl (Nat.le_of_ble_eq_true rfl) dX12_init_6 (fun H locs hP hD hS => ?_)
  have hP : va_P G.1 vwCl [(h0, .inr (0, [.int p1, .int 0]))] H := hP
  have hD : va_D A [(h0, .inr (0, [.int p1, .int 0]))] := hD
  refine lv_aload_n hx hb dX12_init_9 rfl (lv_at hl 0 rfl) ?_
  refine lv_iload_n hx hb dX12_init_10 rfl (lv_at hl 2 rfl) ?_
  refine va_putF (D := G.1) (ci := 0) (v := .int p2) (ty := .int) (C := RX12) (T := TX12) (N := 2) hx hb hts in_X12 tyX12 tyX12_ok nmX12 hown hK hP hD hS 0 rfl rfl 1 (by decide) (hts _ q670) (fun _ h => h) rfl hin rfl (by decide +kernel) rfl rfl (Nat.le_of_ble_eq_true rfl) dX12_init_11 (fun H locs hP hD hS => ?_)
  have hP : va_P G.1 vwCl [(h0, .inr (0, [.int p1, .int p2]))] H := hP
  have hD : va_D A [(h0, .inr (0, [.int p1, .int p2]))] := hD
  refine W.widen (k := 0) (n := 0) (Nat.le_of_ble_eq_true rfl) (Nat.le_of_ble_eq_true rfl) ?_
  exact W.vret hx hb hr (fun t ht hW => ⟨⟨fun i => 0, rfl, trivial, by rw [ht]; exact hP, hD⟩, hS.F ht⟩) hS.2.2 dX12_init_14 hlocks
set_option maxHeartbeats 4000000 in
theorem metI_Home_1 (l : Launch) (G : kG) (h0 sz : Nat) (p1 : Int32) (p2 : Int32) : Met l yX12_init (ws_ yX12_init cX12_init 3 none) ({ frames := 1, cells := 0, slots := 0, locals := 12 } : Room) (iPc G [(h0, .inr (1, [.int 0, .int 0]))] sz [.ref h0, .int p1, .int p2]) (iQc G [(h0, .inr (1, [.int 0, .int 0]))] sz (fun u => [(h0, .inr (1, [.int p1, .int p2]))])) 0 0 (va_A [(h0, .inr (1, [.int 0, .int 0]))] sz) := by
  refine Met.ofW (cc := cX12_init) (maxL := 3) (ret := none) (by decide) rfl ?_
  intro p e s m args below meth c s₁ B hml hv
  obtain ⟨rfl, hsz, hP, hK, hkA, hD0⟩ := hv
  have hx := B.exec
  have hb := B.bytes
  have hr := B.returns
  have hts := atoms_spec (ws := ws_ yX12_init cX12_init 3 none) B.pre
  have hts : ∀ w ∈ lw_all, w.before _ s = true := fun w h => hts w (List.mem_cons_of_mem _ h)
  have hown : s.vm.findClass RX12 = some m.cls := findClass_of_methodNamed B.named
  have hlocks := B.notSynchronized
  have hin : meth.name = "<init>" := (name_of_methodNamed B.named B.method).1
  subst hsz
  have hD := hD0.self (sz := s.heap.size)
  obtain ⟨A, hAe⟩ : ∃ A, A = va_A [(h0, .inr (1, [.int 0, .int 0]))] s.heap.size := ⟨_, rfl⟩
  unfold iQc
  rw [← hAe] at hD ⊢
  have hA : ∀ q : Nat, s.heap.size ≤ q → A q := fun q h => by rw [hAe]; exact Or.inr h
  have hS : va_S A s.heap s.heap [] := va_S.rf
  clear hAe
  have hl := lv_entry ([.ref h0, .int p1, .int p2]) (n := 3) (Nat.le_of_ble_eq_true rfl)
  rw [lg_entry_eq]
  generalize (lg_sl ([.ref h0, .int p1, .int p2]) ++ List.replicate (3 - (lg_sl ([.ref h0, .int p1, .int p2])).length) Slot.unset).toArray = ls at hl ⊢
  have hl : lv_has ls 3 [(0, .ref h0), (1, .int p1), (2, .int p2)] := hl
  obtain ⟨H, hH⟩ : ∃ H, H = s.heap := ⟨_, rfl⟩
  have hP : va_P G.1 vwCl [(h0, .inr (1, [.int 0, .int 0]))] H := by rw [hH]; exact hP
  have hS : va_S A s.heap H [] := by rw [hH]; exact hS
  suffices hZ : W p l e ({ frames := 1, cells := 0, slots := 0, locals := 12 } : Room) s m _ below meth c H [] 0 0 _ (F0 m 0 ls []) by rw [hH] at hZ; exact hZ
  clear hH
  refine lv_aload_n hx hb dX12_init_0 rfl (lv_at hl 0 rfl) ?_
  refine W.objInit hx hb hown (hts _ q664) (hts _ q121) (hts _ q122) rfl (by rw [hml]; exact hl.1) rfl dX12_init_1 (Nat.le_of_ble_eq_true rfl) (Nat.le_of_ble_eq_true rfl) ?_
  refine W.eq (g2 := F0 m 4 ls []) rfl ?_
  refine lv_aload_n hx hb dX12_init_4 rfl (lv_at hl 0 rfl) ?_
  refine lv_iload_n hx hb dX12_init_5 rfl (lv_at hl 1 rfl) ?_
  refine va_putF (D := G.1) (ci := 1) (v := .int p1) (ty := .int) (C := RX13) (T := TX13) (N := 2) hx hb hts in_X13 tyX13 tyX13_ok nmX13 hown hK hP hD hS 0 rfl rfl 0 (by decide) (hts _ q665) (fun _ h => h) rfl hin rfl (by decide +kernel) rfl rfl (Nat.le_of_ble_eq_true rfl) dX12_init_6 (fun H locs hP hD hS => ?_)
  have hP : va_P G.1 vwCl [(h0, .inr (1, [.int p1, .int 0]))] H := hP
  have hD : va_D A [(h0, .inr (1, [.int p1, .int 0]))] := hD
  refine lv_aload_n hx hb dX12_init_9 rfl (lv_at hl 0 rfl) ?_
  refine lv_iload_n hx hb dX12_init_10 rfl (lv_at hl 2 rfl) ?_
  refine va_putF (D := G.1) (ci := 1) (v := .int p2) (ty := .int) (C := RX13) (T := TX13) (N := 2) hx hb hts in_X13 tyX13 tyX13_ok nmX13 hown hK hP hD hS 0 rfl rfl 1 (by decide) (hts _ q670) (fun _ h => h) rfl hin rfl (by decide +kernel) rfl rfl (Nat.le_of_ble_eq_true rfl) dX12_init_11 (fun H locs hP hD hS => ?_)
  have hP : va_P G.1 vwCl [(h0, .inr (1, [.int p1, .int p2]))] H := hP
  have hD : va_D A [(h0, .inr (1, [.int p1, .int p2]))] := hD
  refine W.widen (k := 0) (n := 0) (Nat.le_of_ble_eq_true rfl) (Nat.le_of_ble_eq_true rfl) ?_
  exact W.vret hx hb hr (fun t ht hW => ⟨⟨fun i => 0, rfl, trivial, by rw [ht]; exact hP, hD⟩, hS.F ht⟩) hS.2.2 dX12_init_14 hlocks
set_option maxHeartbeats 4000000 in
theorem metI_Good_1 (l : Launch) (G : kG) (h0 sz : Nat) (p1 : Int32) (p2 : Int32) : Met l yX13_init (ws_ yX13_init cX13_init 3 none) ({ frames := 2, cells := 0, slots := 0, locals := 34 } : Room) (iPc G [(h0, .inr (1, [.int 0, .int 0]))] sz [.ref h0, .int p1, .int p2]) (iQc G [(h0, .inr (1, [.int 0, .int 0]))] sz (fun u => [(h0, .inr (1, [.int p1, .int p2]))])) 0 0 (va_A [(h0, .inr (1, [.int 0, .int 0]))] sz) := by
  refine Met.ofW (cc := cX13_init) (maxL := 3) (ret := none) (by decide) rfl ?_
  intro p e s m args below meth c s₁ B hml hv
  obtain ⟨rfl, hsz, hP, hK, hkA, hD0⟩ := hv
  have hx := B.exec
  have hb := B.bytes
  have hr := B.returns
  have hts := atoms_spec (ws := ws_ yX13_init cX13_init 3 none) B.pre
  have hts : ∀ w ∈ lw_all, w.before _ s = true := fun w h => hts w (List.mem_cons_of_mem _ h)
  have hown : s.vm.findClass RX13 = some m.cls := findClass_of_methodNamed B.named
  have hlocks := B.notSynchronized
  have hin : meth.name = "<init>" := (name_of_methodNamed B.named B.method).1
  subst hsz
  have hD := hD0.self (sz := s.heap.size)
  obtain ⟨A, hAe⟩ : ∃ A, A = va_A [(h0, .inr (1, [.int 0, .int 0]))] s.heap.size := ⟨_, rfl⟩
  unfold iQc
  rw [← hAe] at hD ⊢
  have hA : ∀ q : Nat, s.heap.size ≤ q → A q := fun q h => by rw [hAe]; exact Or.inr h
  have hS : va_S A s.heap s.heap [] := va_S.rf
  clear hAe
  have hl := lv_entry ([.ref h0, .int p1, .int p2]) (n := 3) (Nat.le_of_ble_eq_true rfl)
  rw [lg_entry_eq]
  generalize (lg_sl ([.ref h0, .int p1, .int p2]) ++ List.replicate (3 - (lg_sl ([.ref h0, .int p1, .int p2])).length) Slot.unset).toArray = ls at hl ⊢
  have hl : lv_has ls 3 [(0, .ref h0), (1, .int p1), (2, .int p2)] := hl
  obtain ⟨H, hH⟩ : ∃ H, H = s.heap := ⟨_, rfl⟩
  have hP : va_P G.1 vwCl [(h0, .inr (1, [.int 0, .int 0]))] H := by rw [hH]; exact hP
  have hS : va_S A s.heap H [] := by rw [hH]; exact hS
  suffices hZ : W p l e ({ frames := 2, cells := 0, slots := 0, locals := 34 } : Room) s m _ below meth c H [] 0 0 _ (F0 m 0 ls []) by rw [hH] at hZ; exact hZ
  clear hH
  refine lv_aload_n hx hb dX13_init_0 rfl (lv_at hl 0 rfl) ?_
  refine lv_iload_n hx hb dX13_init_1 rfl (lv_at hl 1 rfl) ?_
  refine lv_iload_n hx hb dX13_init_2 rfl (lv_at hl 2 rfl) ?_
  have hPc := hP.sub (ws' := [(h0, .inr (1, [.int 0, .int 0]))]) [0] rfl
  have hDc := hD.sub (ws' := [(h0, .inr (1, [.int 0, .int 0]))]) [0] (by decide) rfl
  have hFc := va_free (wc := [(h0, .inr (1, [.int 0, .int 0]))]) hD hS hA [0] rfl
  refine va_callv (va_runI (As := [.int p1, .int p2]) (rest := []) ⟨hx, hb, hml, hown, hts⟩ (metI_Home_1 l G h0 H.size p1 p2) (cwI 2 hts (lw_meth q663) rfl rfl rfl (hts _ q102) (hts _ q661) (hts _ q662) rfl (by decide +kernel) ⟨Nat.le_of_ble_eq_true rfl, Nat.le_of_ble_eq_true rfl⟩) (i_pre hPc hDc hK hkA) rfl rfl hl.1 rfl (lv_room (Nat.le_of_ble_eq_true rfl)) dX13_init_3 ⟨Nat.le_of_ble_eq_true rfl, Nat.le_of_ble_eq_true rfl⟩) hS (fun q _ h => hFc q h) hFc (fun u t H1 locs ht hvm hw1 hB hz1 hk1 hS => ?_)
  obtain ⟨u1, rfl⟩ : ∃ z, z = u := ⟨_, rfl⟩
  obtain ⟨hP1, hD1⟩ := hB
  rw [ht] at hP1
  obtain ⟨hP, hD⟩ := va_join (wr := []) (w1 := [(h0, .inr (1, [.int p1, .int p2]))]) hP hD [0] [] rfl rfl (by decide) (by decide) hk1 hFc hP1 hD1
  generalize H1 = H at hP hS ⊢
  have hP : va_P G.1 vwCl [(h0, .inr (1, [.int p1, .int p2]))] H := hP
  have hD : va_D A [(h0, .inr (1, [.int p1, .int p2]))] := hD
  refine W.widen (k := 0) (n := 0) (Nat.le_of_ble_eq_true rfl) (Nat.le_of_ble_eq_true rfl) ?_
  exact W.vret hx hb hr (fun t ht hW => ⟨⟨fun i => 0, rfl, trivial, by rw [ht]; exact hP, hD⟩, hS.F ht⟩) hS.2.2 dX13_init_6 hlocks
set_option maxHeartbeats 4000000 in
theorem metI_Home_2 (l : Launch) (G : kG) (h0 sz : Nat) (p1 : Int32) (p2 : Int32) : Met l yX12_init (ws_ yX12_init cX12_init 3 none) ({ frames := 1, cells := 0, slots := 0, locals := 12 } : Room) (iPc G [(h0, .inr (2, [.int 0, .int 0]))] sz [.ref h0, .int p1, .int p2]) (iQc G [(h0, .inr (2, [.int 0, .int 0]))] sz (fun u => [(h0, .inr (2, [.int p1, .int p2]))])) 0 0 (va_A [(h0, .inr (2, [.int 0, .int 0]))] sz) := by
  refine Met.ofW (cc := cX12_init) (maxL := 3) (ret := none) (by decide) rfl ?_
  intro p e s m args below meth c s₁ B hml hv
  obtain ⟨rfl, hsz, hP, hK, hkA, hD0⟩ := hv
  have hx := B.exec
  have hb := B.bytes
  have hr := B.returns
  have hts := atoms_spec (ws := ws_ yX12_init cX12_init 3 none) B.pre
  have hts : ∀ w ∈ lw_all, w.before _ s = true := fun w h => hts w (List.mem_cons_of_mem _ h)
  have hown : s.vm.findClass RX12 = some m.cls := findClass_of_methodNamed B.named
  have hlocks := B.notSynchronized
  have hin : meth.name = "<init>" := (name_of_methodNamed B.named B.method).1
  subst hsz
  have hD := hD0.self (sz := s.heap.size)
  obtain ⟨A, hAe⟩ : ∃ A, A = va_A [(h0, .inr (2, [.int 0, .int 0]))] s.heap.size := ⟨_, rfl⟩
  unfold iQc
  rw [← hAe] at hD ⊢
  have hA : ∀ q : Nat, s.heap.size ≤ q → A q := fun q h => by rw [hAe]; exact Or.inr h
  have hS : va_S A s.heap s.heap [] := va_S.rf
  clear hAe
  have hl := lv_entry ([.ref h0, .int p1, .int p2]) (n := 3) (Nat.le_of_ble_eq_true rfl)
  rw [lg_entry_eq]
  generalize (lg_sl ([.ref h0, .int p1, .int p2]) ++ List.replicate (3 - (lg_sl ([.ref h0, .int p1, .int p2])).length) Slot.unset).toArray = ls at hl ⊢
  have hl : lv_has ls 3 [(0, .ref h0), (1, .int p1), (2, .int p2)] := hl
  obtain ⟨H, hH⟩ : ∃ H, H = s.heap := ⟨_, rfl⟩
  have hP : va_P G.1 vwCl [(h0, .inr (2, [.int 0, .int 0]))] H := by rw [hH]; exact hP
  have hS : va_S A s.heap H [] := by rw [hH]; exact hS
  suffices hZ : W p l e ({ frames := 1, cells := 0, slots := 0, locals := 12 } : Room) s m _ below meth c H [] 0 0 _ (F0 m 0 ls []) by rw [hH] at hZ; exact hZ
  clear hH
  refine lv_aload_n hx hb dX12_init_0 rfl (lv_at hl 0 rfl) ?_
  refine W.objInit hx hb hown (hts _ q664) (hts _ q121) (hts _ q122) rfl (by rw [hml]; exact hl.1) rfl dX12_init_1 (Nat.le_of_ble_eq_true rfl) (Nat.le_of_ble_eq_true rfl) ?_
  refine W.eq (g2 := F0 m 4 ls []) rfl ?_
  refine lv_aload_n hx hb dX12_init_4 rfl (lv_at hl 0 rfl) ?_
  refine lv_iload_n hx hb dX12_init_5 rfl (lv_at hl 1 rfl) ?_
  refine va_putF (D := G.1) (ci := 2) (v := .int p1) (ty := .int) (C := RX14) (T := TX14) (N := 2) hx hb hts in_X14 tyX14 tyX14_ok nmX14 hown hK hP hD hS 0 rfl rfl 0 (by decide) (hts _ q665) (fun _ h => h) rfl hin rfl (by decide +kernel) rfl rfl (Nat.le_of_ble_eq_true rfl) dX12_init_6 (fun H locs hP hD hS => ?_)
  have hP : va_P G.1 vwCl [(h0, .inr (2, [.int p1, .int 0]))] H := hP
  have hD : va_D A [(h0, .inr (2, [.int p1, .int 0]))] := hD
  refine lv_aload_n hx hb dX12_init_9 rfl (lv_at hl 0 rfl) ?_
  refine lv_iload_n hx hb dX12_init_10 rfl (lv_at hl 2 rfl) ?_
  refine va_putF (D := G.1) (ci := 2) (v := .int p2) (ty := .int) (C := RX14) (T := TX14) (N := 2) hx hb hts in_X14 tyX14 tyX14_ok nmX14 hown hK hP hD hS 0 rfl rfl 1 (by decide) (hts _ q670) (fun _ h => h) rfl hin rfl (by decide +kernel) rfl rfl (Nat.le_of_ble_eq_true rfl) dX12_init_11 (fun H locs hP hD hS => ?_)
  have hP : va_P G.1 vwCl [(h0, .inr (2, [.int p1, .int p2]))] H := hP
  have hD : va_D A [(h0, .inr (2, [.int p1, .int p2]))] := hD
  refine W.widen (k := 0) (n := 0) (Nat.le_of_ble_eq_true rfl) (Nat.le_of_ble_eq_true rfl) ?_
  exact W.vret hx hb hr (fun t ht hW => ⟨⟨fun i => 0, rfl, trivial, by rw [ht]; exact hP, hD⟩, hS.F ht⟩) hS.2.2 dX12_init_14 hlocks
set_option maxHeartbeats 4000000 in
theorem metI_Cat_2 (l : Launch) (G : kG) (h0 sz : Nat) (p1 : Int32) (p2 : Int32) : Met l yX14_init (ws_ yX14_init cX14_init 3 none) ({ frames := 2, cells := 0, slots := 0, locals := 34 } : Room) (iPc G [(h0, .inr (2, [.int 0, .int 0]))] sz [.ref h0, .int p1, .int p2]) (iQc G [(h0, .inr (2, [.int 0, .int 0]))] sz (fun u => [(h0, .inr (2, [.int p1, .int p2]))])) 0 0 (va_A [(h0, .inr (2, [.int 0, .int 0]))] sz) := by
  refine Met.ofW (cc := cX14_init) (maxL := 3) (ret := none) (by decide) rfl ?_
  intro p e s m args below meth c s₁ B hml hv
  obtain ⟨rfl, hsz, hP, hK, hkA, hD0⟩ := hv
  have hx := B.exec
  have hb := B.bytes
  have hr := B.returns
  have hts := atoms_spec (ws := ws_ yX14_init cX14_init 3 none) B.pre
  have hts : ∀ w ∈ lw_all, w.before _ s = true := fun w h => hts w (List.mem_cons_of_mem _ h)
  have hown : s.vm.findClass RX14 = some m.cls := findClass_of_methodNamed B.named
  have hlocks := B.notSynchronized
  have hin : meth.name = "<init>" := (name_of_methodNamed B.named B.method).1
  subst hsz
  have hD := hD0.self (sz := s.heap.size)
  obtain ⟨A, hAe⟩ : ∃ A, A = va_A [(h0, .inr (2, [.int 0, .int 0]))] s.heap.size := ⟨_, rfl⟩
  unfold iQc
  rw [← hAe] at hD ⊢
  have hA : ∀ q : Nat, s.heap.size ≤ q → A q := fun q h => by rw [hAe]; exact Or.inr h
  have hS : va_S A s.heap s.heap [] := va_S.rf
  clear hAe
  have hl := lv_entry ([.ref h0, .int p1, .int p2]) (n := 3) (Nat.le_of_ble_eq_true rfl)
  rw [lg_entry_eq]
  generalize (lg_sl ([.ref h0, .int p1, .int p2]) ++ List.replicate (3 - (lg_sl ([.ref h0, .int p1, .int p2])).length) Slot.unset).toArray = ls at hl ⊢
  have hl : lv_has ls 3 [(0, .ref h0), (1, .int p1), (2, .int p2)] := hl
  obtain ⟨H, hH⟩ : ∃ H, H = s.heap := ⟨_, rfl⟩
  have hP : va_P G.1 vwCl [(h0, .inr (2, [.int 0, .int 0]))] H := by rw [hH]; exact hP
  have hS : va_S A s.heap H [] := by rw [hH]; exact hS
  suffices hZ : W p l e ({ frames := 2, cells := 0, slots := 0, locals := 34 } : Room) s m _ below meth c H [] 0 0 _ (F0 m 0 ls []) by rw [hH] at hZ; exact hZ
  clear hH
  refine lv_aload_n hx hb dX14_init_0 rfl (lv_at hl 0 rfl) ?_
  refine lv_iload_n hx hb dX14_init_1 rfl (lv_at hl 1 rfl) ?_
  refine lv_iload_n hx hb dX14_init_2 rfl (lv_at hl 2 rfl) ?_
  have hPc := hP.sub (ws' := [(h0, .inr (2, [.int 0, .int 0]))]) [0] rfl
  have hDc := hD.sub (ws' := [(h0, .inr (2, [.int 0, .int 0]))]) [0] (by decide) rfl
  have hFc := va_free (wc := [(h0, .inr (2, [.int 0, .int 0]))]) hD hS hA [0] rfl
  refine va_callv (va_runI (As := [.int p1, .int p2]) (rest := []) ⟨hx, hb, hml, hown, hts⟩ (metI_Home_2 l G h0 H.size p1 p2) (cwI 2 hts (lw_meth q663) rfl rfl rfl (hts _ q102) (hts _ q690) (hts _ q662) rfl (by decide +kernel) ⟨Nat.le_of_ble_eq_true rfl, Nat.le_of_ble_eq_true rfl⟩) (i_pre hPc hDc hK hkA) rfl rfl hl.1 rfl (lv_room (Nat.le_of_ble_eq_true rfl)) dX14_init_3 ⟨Nat.le_of_ble_eq_true rfl, Nat.le_of_ble_eq_true rfl⟩) hS (fun q _ h => hFc q h) hFc (fun u t H1 locs ht hvm hw1 hB hz1 hk1 hS => ?_)
  obtain ⟨u1, rfl⟩ : ∃ z, z = u := ⟨_, rfl⟩
  obtain ⟨hP1, hD1⟩ := hB
  rw [ht] at hP1
  obtain ⟨hP, hD⟩ := va_join (wr := []) (w1 := [(h0, .inr (2, [.int p1, .int p2]))]) hP hD [0] [] rfl rfl (by decide) (by decide) hk1 hFc hP1 hD1
  generalize H1 = H at hP hS ⊢
  have hP : va_P G.1 vwCl [(h0, .inr (2, [.int p1, .int p2]))] H := hP
  have hD : va_D A [(h0, .inr (2, [.int p1, .int p2]))] := hD
  refine W.widen (k := 0) (n := 0) (Nat.le_of_ble_eq_true rfl) (Nat.le_of_ble_eq_true rfl) ?_
  exact W.vret hx hb hr (fun t ht hW => ⟨⟨fun i => 0, rfl, trivial, by rw [ht]; exact hP, hD⟩, hS.F ht⟩) hS.2.2 dX14_init_6 hlocks
set_option maxHeartbeats 4000000 in
theorem metI_Home_3 (l : Launch) (G : kG) (h0 sz : Nat) (p1 : Int32) (p2 : Int32) : Met l yX12_init (ws_ yX12_init cX12_init 3 none) ({ frames := 1, cells := 0, slots := 0, locals := 12 } : Room) (iPc G [(h0, .inr (3, [.int 0, .int 0]))] sz [.ref h0, .int p1, .int p2]) (iQc G [(h0, .inr (3, [.int 0, .int 0]))] sz (fun u => [(h0, .inr (3, [.int p1, .int p2]))])) 0 0 (va_A [(h0, .inr (3, [.int 0, .int 0]))] sz) := by
  refine Met.ofW (cc := cX12_init) (maxL := 3) (ret := none) (by decide) rfl ?_
  intro p e s m args below meth c s₁ B hml hv
  obtain ⟨rfl, hsz, hP, hK, hkA, hD0⟩ := hv
  have hx := B.exec
  have hb := B.bytes
  have hr := B.returns
  have hts := atoms_spec (ws := ws_ yX12_init cX12_init 3 none) B.pre
  have hts : ∀ w ∈ lw_all, w.before _ s = true := fun w h => hts w (List.mem_cons_of_mem _ h)
  have hown : s.vm.findClass RX12 = some m.cls := findClass_of_methodNamed B.named
  have hlocks := B.notSynchronized
  have hin : meth.name = "<init>" := (name_of_methodNamed B.named B.method).1
  subst hsz
  have hD := hD0.self (sz := s.heap.size)
  obtain ⟨A, hAe⟩ : ∃ A, A = va_A [(h0, .inr (3, [.int 0, .int 0]))] s.heap.size := ⟨_, rfl⟩
  unfold iQc
  rw [← hAe] at hD ⊢
  have hA : ∀ q : Nat, s.heap.size ≤ q → A q := fun q h => by rw [hAe]; exact Or.inr h
  have hS : va_S A s.heap s.heap [] := va_S.rf
  clear hAe
  have hl := lv_entry ([.ref h0, .int p1, .int p2]) (n := 3) (Nat.le_of_ble_eq_true rfl)
  rw [lg_entry_eq]
  generalize (lg_sl ([.ref h0, .int p1, .int p2]) ++ List.replicate (3 - (lg_sl ([.ref h0, .int p1, .int p2])).length) Slot.unset).toArray = ls at hl ⊢
  have hl : lv_has ls 3 [(0, .ref h0), (1, .int p1), (2, .int p2)] := hl
  obtain ⟨H, hH⟩ : ∃ H, H = s.heap := ⟨_, rfl⟩
  have hP : va_P G.1 vwCl [(h0, .inr (3, [.int 0, .int 0]))] H := by rw [hH]; exact hP
  have hS : va_S A s.heap H [] := by rw [hH]; exact hS
  suffices hZ : W p l e ({ frames := 1, cells := 0, slots := 0, locals := 12 } : Room) s m _ below meth c H [] 0 0 _ (F0 m 0 ls []) by rw [hH] at hZ; exact hZ
  clear hH
  refine lv_aload_n hx hb dX12_init_0 rfl (lv_at hl 0 rfl) ?_
  refine W.objInit hx hb hown (hts _ q664) (hts _ q121) (hts _ q122) rfl (by rw [hml]; exact hl.1) rfl dX12_init_1 (Nat.le_of_ble_eq_true rfl) (Nat.le_of_ble_eq_true rfl) ?_
  refine W.eq (g2 := F0 m 4 ls []) rfl ?_
  refine lv_aload_n hx hb dX12_init_4 rfl (lv_at hl 0 rfl) ?_
  refine lv_iload_n hx hb dX12_init_5 rfl (lv_at hl 1 rfl) ?_
  refine va_putF (D := G.1) (ci := 3) (v := .int p1) (ty := .int) (C := RX15) (T := TX15) (N := 2) hx hb hts in_X15 tyX15 tyX15_ok nmX15 hown hK hP hD hS 0 rfl rfl 0 (by decide) (hts _ q665) (fun _ h => h) rfl hin rfl (by decide +kernel) rfl rfl (Nat.le_of_ble_eq_true rfl) dX12_init_6 (fun H locs hP hD hS => ?_)
  have hP : va_P G.1 vwCl [(h0, .inr (3, [.int p1, .int 0]))] H := hP
  have hD : va_D A [(h0, .inr (3, [.int p1, .int 0]))] := hD
  refine lv_aload_n hx hb dX12_init_9 rfl (lv_at hl 0 rfl) ?_
  refine lv_iload_n hx hb dX12_init_10 rfl (lv_at hl 2 rfl) ?_
  refine va_putF (D := G.1) (ci := 3) (v := .int p2) (ty := .int) (C := RX15) (T := TX15) (N := 2) hx hb hts in_X15 tyX15 tyX15_ok nmX15 hown hK hP hD hS 0 rfl rfl 1 (by decide) (hts _ q670) (fun _ h => h) rfl hin rfl (by decide +kernel) rfl rfl (Nat.le_of_ble_eq_true rfl) dX12_init_11 (fun H locs hP hD hS => ?_)
  have hP : va_P G.1 vwCl [(h0, .inr (3, [.int p1, .int p2]))] H := hP
  have hD : va_D A [(h0, .inr (3, [.int p1, .int p2]))] := hD
  refine W.widen (k := 0) (n := 0) (Nat.le_of_ble_eq_true rfl) (Nat.le_of_ble_eq_true rfl) ?_
  exact W.vret hx hb hr (fun t ht hW => ⟨⟨fun i => 0, rfl, trivial, by rw [ht]; exact hP, hD⟩, hS.F ht⟩) hS.2.2 dX12_init_14 hlocks
set_option maxHeartbeats 4000000 in
theorem metI_Good_3 (l : Launch) (G : kG) (h0 sz : Nat) (p1 : Int32) (p2 : Int32) : Met l yX13_init (ws_ yX13_init cX13_init 3 none) ({ frames := 2, cells := 0, slots := 0, locals := 34 } : Room) (iPc G [(h0, .inr (3, [.int 0, .int 0]))] sz [.ref h0, .int p1, .int p2]) (iQc G [(h0, .inr (3, [.int 0, .int 0]))] sz (fun u => [(h0, .inr (3, [.int p1, .int p2]))])) 0 0 (va_A [(h0, .inr (3, [.int 0, .int 0]))] sz) := by
  refine Met.ofW (cc := cX13_init) (maxL := 3) (ret := none) (by decide) rfl ?_
  intro p e s m args below meth c s₁ B hml hv
  obtain ⟨rfl, hsz, hP, hK, hkA, hD0⟩ := hv
  have hx := B.exec
  have hb := B.bytes
  have hr := B.returns
  have hts := atoms_spec (ws := ws_ yX13_init cX13_init 3 none) B.pre
  have hts : ∀ w ∈ lw_all, w.before _ s = true := fun w h => hts w (List.mem_cons_of_mem _ h)
  have hown : s.vm.findClass RX13 = some m.cls := findClass_of_methodNamed B.named
  have hlocks := B.notSynchronized
  have hin : meth.name = "<init>" := (name_of_methodNamed B.named B.method).1
  subst hsz
  have hD := hD0.self (sz := s.heap.size)
  obtain ⟨A, hAe⟩ : ∃ A, A = va_A [(h0, .inr (3, [.int 0, .int 0]))] s.heap.size := ⟨_, rfl⟩
  unfold iQc
  rw [← hAe] at hD ⊢
  have hA : ∀ q : Nat, s.heap.size ≤ q → A q := fun q h => by rw [hAe]; exact Or.inr h
  have hS : va_S A s.heap s.heap [] := va_S.rf
  clear hAe
  have hl := lv_entry ([.ref h0, .int p1, .int p2]) (n := 3) (Nat.le_of_ble_eq_true rfl)
  rw [lg_entry_eq]
  generalize (lg_sl ([.ref h0, .int p1, .int p2]) ++ List.replicate (3 - (lg_sl ([.ref h0, .int p1, .int p2])).length) Slot.unset).toArray = ls at hl ⊢
  have hl : lv_has ls 3 [(0, .ref h0), (1, .int p1), (2, .int p2)] := hl
  obtain ⟨H, hH⟩ : ∃ H, H = s.heap := ⟨_, rfl⟩
  have hP : va_P G.1 vwCl [(h0, .inr (3, [.int 0, .int 0]))] H := by rw [hH]; exact hP
  have hS : va_S A s.heap H [] := by rw [hH]; exact hS
  suffices hZ : W p l e ({ frames := 2, cells := 0, slots := 0, locals := 34 } : Room) s m _ below meth c H [] 0 0 _ (F0 m 0 ls []) by rw [hH] at hZ; exact hZ
  clear hH
  refine lv_aload_n hx hb dX13_init_0 rfl (lv_at hl 0 rfl) ?_
  refine lv_iload_n hx hb dX13_init_1 rfl (lv_at hl 1 rfl) ?_
  refine lv_iload_n hx hb dX13_init_2 rfl (lv_at hl 2 rfl) ?_
  have hPc := hP.sub (ws' := [(h0, .inr (3, [.int 0, .int 0]))]) [0] rfl
  have hDc := hD.sub (ws' := [(h0, .inr (3, [.int 0, .int 0]))]) [0] (by decide) rfl
  have hFc := va_free (wc := [(h0, .inr (3, [.int 0, .int 0]))]) hD hS hA [0] rfl
  refine va_callv (va_runI (As := [.int p1, .int p2]) (rest := []) ⟨hx, hb, hml, hown, hts⟩ (metI_Home_3 l G h0 H.size p1 p2) (cwI 2 hts (lw_meth q663) rfl rfl rfl (hts _ q102) (hts _ q661) (hts _ q662) rfl (by decide +kernel) ⟨Nat.le_of_ble_eq_true rfl, Nat.le_of_ble_eq_true rfl⟩) (i_pre hPc hDc hK hkA) rfl rfl hl.1 rfl (lv_room (Nat.le_of_ble_eq_true rfl)) dX13_init_3 ⟨Nat.le_of_ble_eq_true rfl, Nat.le_of_ble_eq_true rfl⟩) hS (fun q _ h => hFc q h) hFc (fun u t H1 locs ht hvm hw1 hB hz1 hk1 hS => ?_)
  obtain ⟨u1, rfl⟩ : ∃ z, z = u := ⟨_, rfl⟩
  obtain ⟨hP1, hD1⟩ := hB
  rw [ht] at hP1
  obtain ⟨hP, hD⟩ := va_join (wr := []) (w1 := [(h0, .inr (3, [.int p1, .int p2]))]) hP hD [0] [] rfl rfl (by decide) (by decide) hk1 hFc hP1 hD1
  generalize H1 = H at hP hS ⊢
  have hP : va_P G.1 vwCl [(h0, .inr (3, [.int p1, .int p2]))] H := hP
  have hD : va_D A [(h0, .inr (3, [.int p1, .int p2]))] := hD
  refine W.widen (k := 0) (n := 0) (Nat.le_of_ble_eq_true rfl) (Nat.le_of_ble_eq_true rfl) ?_
  exact W.vret hx hb hr (fun t ht hW => ⟨⟨fun i => 0, rfl, trivial, by rw [ht]; exact hP, hD⟩, hS.F ht⟩) hS.2.2 dX13_init_6 hlocks
set_option maxHeartbeats 4000000 in
theorem metI_Overfed_3 (l : Launch) (G : kG) (h0 sz : Nat) (p1 : Int32) (p2 : Int32) : Met l yX15_init (ws_ yX15_init cX15_init 3 none) ({ frames := 3, cells := 0, slots := 0, locals := 56 } : Room) (iPc G [(h0, .inr (3, [.int 0, .int 0]))] sz [.ref h0, .int p1, .int p2]) (iQc G [(h0, .inr (3, [.int 0, .int 0]))] sz (fun u => [(h0, .inr (3, [.int p1, .int p2]))])) 0 0 (va_A [(h0, .inr (3, [.int 0, .int 0]))] sz) := by
  refine Met.ofW (cc := cX15_init) (maxL := 3) (ret := none) (by decide) rfl ?_
  intro p e s m args below meth c s₁ B hml hv
  obtain ⟨rfl, hsz, hP, hK, hkA, hD0⟩ := hv
  have hx := B.exec
  have hb := B.bytes
  have hr := B.returns
  have hts := atoms_spec (ws := ws_ yX15_init cX15_init 3 none) B.pre
  have hts : ∀ w ∈ lw_all, w.before _ s = true := fun w h => hts w (List.mem_cons_of_mem _ h)
  have hown : s.vm.findClass RX15 = some m.cls := findClass_of_methodNamed B.named
  have hlocks := B.notSynchronized
  have hin : meth.name = "<init>" := (name_of_methodNamed B.named B.method).1
  subst hsz
  have hD := hD0.self (sz := s.heap.size)
  obtain ⟨A, hAe⟩ : ∃ A, A = va_A [(h0, .inr (3, [.int 0, .int 0]))] s.heap.size := ⟨_, rfl⟩
  unfold iQc
  rw [← hAe] at hD ⊢
  have hA : ∀ q : Nat, s.heap.size ≤ q → A q := fun q h => by rw [hAe]; exact Or.inr h
  have hS : va_S A s.heap s.heap [] := va_S.rf
  clear hAe
  have hl := lv_entry ([.ref h0, .int p1, .int p2]) (n := 3) (Nat.le_of_ble_eq_true rfl)
  rw [lg_entry_eq]
  generalize (lg_sl ([.ref h0, .int p1, .int p2]) ++ List.replicate (3 - (lg_sl ([.ref h0, .int p1, .int p2])).length) Slot.unset).toArray = ls at hl ⊢
  have hl : lv_has ls 3 [(0, .ref h0), (1, .int p1), (2, .int p2)] := hl
  obtain ⟨H, hH⟩ : ∃ H, H = s.heap := ⟨_, rfl⟩
  have hP : va_P G.1 vwCl [(h0, .inr (3, [.int 0, .int 0]))] H := by rw [hH]; exact hP
  have hS : va_S A s.heap H [] := by rw [hH]; exact hS
  suffices hZ : W p l e ({ frames := 3, cells := 0, slots := 0, locals := 56 } : Room) s m _ below meth c H [] 0 0 _ (F0 m 0 ls []) by rw [hH] at hZ; exact hZ
  clear hH
  refine lv_aload_n hx hb dX15_init_0 rfl (lv_at hl 0 rfl) ?_
  refine lv_iload_n hx hb dX15_init_1 rfl (lv_at hl 1 rfl) ?_
  refine lv_iload_n hx hb dX15_init_2 rfl (lv_at hl 2 rfl) ?_
  have hPc := hP.sub (ws' := [(h0, .inr (3, [.int 0, .int 0]))]) [0] rfl
  have hDc := hD.sub (ws' := [(h0, .inr (3, [.int 0, .int 0]))]) [0] (by decide) rfl
  have hFc := va_free (wc := [(h0, .inr (3, [.int 0, .int 0]))]) hD hS hA [0] rfl
  refine va_callv (va_runI (As := [.int p1, .int p2]) (rest := []) ⟨hx, hb, hml, hown, hts⟩ (metI_Good_3 l G h0 H.size p1 p2) (cwI 2 hts (lw_meth q660) rfl rfl rfl (hts _ q103) (hts _ q699) (hts _ q659) rfl (by decide +kernel) ⟨Nat.le_of_ble_eq_true rfl, Nat.le_of_ble_eq_true rfl⟩) (i_pre hPc hDc hK hkA) rfl rfl hl.1 rfl (lv_room (Nat.le_of_ble_eq_true rfl)) dX15_init_3 ⟨Nat.le_of_ble_eq_true rfl, Nat.le_of_ble_eq_true rfl⟩) hS (fun q _ h => hFc q h) hFc (fun u t H1 locs ht hvm hw1 hB hz1 hk1 hS => ?_)
  obtain ⟨u1, rfl⟩ : ∃ z, z = u := ⟨_, rfl⟩
  obtain ⟨hP1, hD1⟩ := hB
  rw [ht] at hP1
  obtain ⟨hP, hD⟩ := va_join (wr := []) (w1 := [(h0, .inr (3, [.int p1, .int p2]))]) hP hD [0] [] rfl rfl (by decide) (by decide) hk1 hFc hP1 hD1
  generalize H1 = H at hP hS ⊢
  have hP : va_P G.1 vwCl [(h0, .inr (3, [.int p1, .int p2]))] H := hP
  have hD : va_D A [(h0, .inr (3, [.int p1, .int p2]))] := hD
  refine W.widen (k := 0) (n := 0) (Nat.le_of_ble_eq_true rfl) (Nat.le_of_ble_eq_true rfl) ?_
  exact W.vret hx hb hr (fun t ht hW => ⟨⟨fun i => 0, rfl, trivial, by rw [ht]; exact hP, hD⟩, hS.F ht⟩) hS.2.2 dX15_init_6 hlocks
set_option maxHeartbeats 4000000 in
theorem metI_Home_4 (l : Launch) (G : kG) (h0 sz : Nat) (p1 : Int32) (p2 : Int32) : Met l yX12_init (ws_ yX12_init cX12_init 3 none) ({ frames := 1, cells := 0, slots := 0, locals := 12 } : Room) (iPc G [(h0, .inr (4, [.int 0, .int 0]))] sz [.ref h0, .int p1, .int p2]) (iQc G [(h0, .inr (4, [.int 0, .int 0]))] sz (fun u => [(h0, .inr (4, [.int p1, .int p2]))])) 0 0 (va_A [(h0, .inr (4, [.int 0, .int 0]))] sz) := by
  refine Met.ofW (cc := cX12_init) (maxL := 3) (ret := none) (by decide) rfl ?_
  intro p e s m args below meth c s₁ B hml hv
  obtain ⟨rfl, hsz, hP, hK, hkA, hD0⟩ := hv
  have hx := B.exec
  have hb := B.bytes
  have hr := B.returns
  have hts := atoms_spec (ws := ws_ yX12_init cX12_init 3 none) B.pre
  have hts : ∀ w ∈ lw_all, w.before _ s = true := fun w h => hts w (List.mem_cons_of_mem _ h)
  have hown : s.vm.findClass RX12 = some m.cls := findClass_of_methodNamed B.named
  have hlocks := B.notSynchronized
  have hin : meth.name = "<init>" := (name_of_methodNamed B.named B.method).1
  subst hsz
  have hD := hD0.self (sz := s.heap.size)
  obtain ⟨A, hAe⟩ : ∃ A, A = va_A [(h0, .inr (4, [.int 0, .int 0]))] s.heap.size := ⟨_, rfl⟩
  unfold iQc
  rw [← hAe] at hD ⊢
  have hA : ∀ q : Nat, s.heap.size ≤ q → A q := fun q h => by rw [hAe]; exact Or.inr h
  have hS : va_S A s.heap s.heap [] := va_S.rf
  clear hAe
  have hl := lv_entry ([.ref h0, .int p1, .int p2]) (n := 3) (Nat.le_of_ble_eq_true rfl)
  rw [lg_entry_eq]
  generalize (lg_sl ([.ref h0, .int p1, .int p2]) ++ List.replicate (3 - (lg_sl ([.ref h0, .int p1, .int p2])).length) Slot.unset).toArray = ls at hl ⊢
  have hl : lv_has ls 3 [(0, .ref h0), (1, .int p1), (2, .int p2)] := hl
  obtain ⟨H, hH⟩ : ∃ H, H = s.heap := ⟨_, rfl⟩
  have hP : va_P G.1 vwCl [(h0, .inr (4, [.int 0, .int 0]))] H := by rw [hH]; exact hP
  have hS : va_S A s.heap H [] := by rw [hH]; exact hS
  suffices hZ : W p l e ({ frames := 1, cells := 0, slots := 0, locals := 12 } : Room) s m _ below meth c H [] 0 0 _ (F0 m 0 ls []) by rw [hH] at hZ; exact hZ
  clear hH
  refine lv_aload_n hx hb dX12_init_0 rfl (lv_at hl 0 rfl) ?_
  refine W.objInit hx hb hown (hts _ q664) (hts _ q121) (hts _ q122) rfl (by rw [hml]; exact hl.1) rfl dX12_init_1 (Nat.le_of_ble_eq_true rfl) (Nat.le_of_ble_eq_true rfl) ?_
  refine W.eq (g2 := F0 m 4 ls []) rfl ?_
  refine lv_aload_n hx hb dX12_init_4 rfl (lv_at hl 0 rfl) ?_
  refine lv_iload_n hx hb dX12_init_5 rfl (lv_at hl 1 rfl) ?_
  refine va_putF (D := G.1) (ci := 4) (v := .int p1) (ty := .int) (C := RX16) (T := TX16) (N := 2) hx hb hts in_X16 tyX16 tyX16_ok nmX16 hown hK hP hD hS 0 rfl rfl 0 (by decide) (hts _ q665) (fun _ h => h) rfl hin rfl (by decide +kernel) rfl rfl (Nat.le_of_ble_eq_true rfl) dX12_init_6 (fun H locs hP hD hS => ?_)
  have hP : va_P G.1 vwCl [(h0, .inr (4, [.int p1, .int 0]))] H := hP
  have hD : va_D A [(h0, .inr (4, [.int p1, .int 0]))] := hD
  refine lv_aload_n hx hb dX12_init_9 rfl (lv_at hl 0 rfl) ?_
  refine lv_iload_n hx hb dX12_init_10 rfl (lv_at hl 2 rfl) ?_
  refine va_putF (D := G.1) (ci := 4) (v := .int p2) (ty := .int) (C := RX16) (T := TX16) (N := 2) hx hb hts in_X16 tyX16 tyX16_ok nmX16 hown hK hP hD hS 0 rfl rfl 1 (by decide) (hts _ q670) (fun _ h => h) rfl hin rfl (by decide +kernel) rfl rfl (Nat.le_of_ble_eq_true rfl) dX12_init_11 (fun H locs hP hD hS => ?_)
  have hP : va_P G.1 vwCl [(h0, .inr (4, [.int p1, .int p2]))] H := hP
  have hD : va_D A [(h0, .inr (4, [.int p1, .int p2]))] := hD
  refine W.widen (k := 0) (n := 0) (Nat.le_of_ble_eq_true rfl) (Nat.le_of_ble_eq_true rfl) ?_
  exact W.vret hx hb hr (fun t ht hW => ⟨⟨fun i => 0, rfl, trivial, by rw [ht]; exact hP, hD⟩, hS.F ht⟩) hS.2.2 dX12_init_14 hlocks
set_option maxHeartbeats 4000000 in
theorem metI_Far_4 (l : Launch) (G : kG) (h0 sz : Nat) (p1 : Int32) (p2 : Int32) : Met l yX16_init (ws_ yX16_init cX16_init 3 none) ({ frames := 2, cells := 0, slots := 0, locals := 34 } : Room) (iPc G [(h0, .inr (4, [.int 0, .int 0]))] sz [.ref h0, .int p1, .int p2]) (iQc G [(h0, .inr (4, [.int 0, .int 0]))] sz (fun u => [(h0, .inr (4, [.int p1, .int p2]))])) 0 0 (va_A [(h0, .inr (4, [.int 0, .int 0]))] sz) := by
  refine Met.ofW (cc := cX16_init) (maxL := 3) (ret := none) (by decide) rfl ?_
  intro p e s m args below meth c s₁ B hml hv
  obtain ⟨rfl, hsz, hP, hK, hkA, hD0⟩ := hv
  have hx := B.exec
  have hb := B.bytes
  have hr := B.returns
  have hts := atoms_spec (ws := ws_ yX16_init cX16_init 3 none) B.pre
  have hts : ∀ w ∈ lw_all, w.before _ s = true := fun w h => hts w (List.mem_cons_of_mem _ h)
  have hown : s.vm.findClass RX16 = some m.cls := findClass_of_methodNamed B.named
  have hlocks := B.notSynchronized
  have hin : meth.name = "<init>" := (name_of_methodNamed B.named B.method).1
  subst hsz
  have hD := hD0.self (sz := s.heap.size)
  obtain ⟨A, hAe⟩ : ∃ A, A = va_A [(h0, .inr (4, [.int 0, .int 0]))] s.heap.size := ⟨_, rfl⟩
  unfold iQc
  rw [← hAe] at hD ⊢
  have hA : ∀ q : Nat, s.heap.size ≤ q → A q := fun q h => by rw [hAe]; exact Or.inr h
  have hS : va_S A s.heap s.heap [] := va_S.rf
  clear hAe
  have hl := lv_entry ([.ref h0, .int p1, .int p2]) (n := 3) (Nat.le_of_ble_eq_true rfl)
  rw [lg_entry_eq]
  generalize (lg_sl ([.ref h0, .int p1, .int p2]) ++ List.replicate (3 - (lg_sl ([.ref h0, .int p1, .int p2])).length) Slot.unset).toArray = ls at hl ⊢
  have hl : lv_has ls 3 [(0, .ref h0), (1, .int p1), (2, .int p2)] := hl
  obtain ⟨H, hH⟩ : ∃ H, H = s.heap := ⟨_, rfl⟩
  have hP : va_P G.1 vwCl [(h0, .inr (4, [.int 0, .int 0]))] H := by rw [hH]; exact hP
  have hS : va_S A s.heap H [] := by rw [hH]; exact hS
  suffices hZ : W p l e ({ frames := 2, cells := 0, slots := 0, locals := 34 } : Room) s m _ below meth c H [] 0 0 _ (F0 m 0 ls []) by rw [hH] at hZ; exact hZ
  clear hH
  refine lv_aload_n hx hb dX16_init_0 rfl (lv_at hl 0 rfl) ?_
  refine lv_iload_n hx hb dX16_init_1 rfl (lv_at hl 1 rfl) ?_
  refine lv_iload_n hx hb dX16_init_2 rfl (lv_at hl 2 rfl) ?_
  have hPc := hP.sub (ws' := [(h0, .inr (4, [.int 0, .int 0]))]) [0] rfl
  have hDc := hD.sub (ws' := [(h0, .inr (4, [.int 0, .int 0]))]) [0] (by decide) rfl
  have hFc := va_free (wc := [(h0, .inr (4, [.int 0, .int 0]))]) hD hS hA [0] rfl
  refine va_callv (va_runI (As := [.int p1, .int p2]) (rest := []) ⟨hx, hb, hml, hown, hts⟩ (metI_Home_4 l G h0 H.size p1 p2) (cwI 2 hts (lw_meth q663) rfl rfl rfl (hts _ q102) (hts _ q707) (hts _ q662) rfl (by decide +kernel) ⟨Nat.le_of_ble_eq_true rfl, Nat.le_of_ble_eq_true rfl⟩) (i_pre hPc hDc hK hkA) rfl rfl hl.1 rfl (lv_room (Nat.le_of_ble_eq_true rfl)) dX16_init_3 ⟨Nat.le_of_ble_eq_true rfl, Nat.le_of_ble_eq_true rfl⟩) hS (fun q _ h => hFc q h) hFc (fun u t H1 locs ht hvm hw1 hB hz1 hk1 hS => ?_)
  obtain ⟨u1, rfl⟩ : ∃ z, z = u := ⟨_, rfl⟩
  obtain ⟨hP1, hD1⟩ := hB
  rw [ht] at hP1
  obtain ⟨hP, hD⟩ := va_join (wr := []) (w1 := [(h0, .inr (4, [.int p1, .int p2]))]) hP hD [0] [] rfl rfl (by decide) (by decide) hk1 hFc hP1 hD1
  generalize H1 = H at hP hS ⊢
  have hP : va_P G.1 vwCl [(h0, .inr (4, [.int p1, .int p2]))] H := hP
  have hD : va_D A [(h0, .inr (4, [.int p1, .int p2]))] := hD
  refine W.widen (k := 0) (n := 0) (Nat.le_of_ble_eq_true rfl) (Nat.le_of_ble_eq_true rfl) ?_
  exact W.vret hx hb hr (fun t ht hW => ⟨⟨fun i => 0, rfl, trivial, by rw [ht]; exact hP, hD⟩, hS.F ht⟩) hS.2.2 dX16_init_6 hlocks
set_option maxHeartbeats 4000000 in
theorem metI_Home_5 (l : Launch) (G : kG) (h0 sz : Nat) (p1 : Int32) (p2 : Int32) : Met l yX12_init (ws_ yX12_init cX12_init 3 none) ({ frames := 1, cells := 0, slots := 0, locals := 12 } : Room) (iPc G [(h0, .inr (5, [.int 0, .int 0]))] sz [.ref h0, .int p1, .int p2]) (iQc G [(h0, .inr (5, [.int 0, .int 0]))] sz (fun u => [(h0, .inr (5, [.int p1, .int p2]))])) 0 0 (va_A [(h0, .inr (5, [.int 0, .int 0]))] sz) := by
  refine Met.ofW (cc := cX12_init) (maxL := 3) (ret := none) (by decide) rfl ?_
  intro p e s m args below meth c s₁ B hml hv
  obtain ⟨rfl, hsz, hP, hK, hkA, hD0⟩ := hv
  have hx := B.exec
  have hb := B.bytes
  have hr := B.returns
  have hts := atoms_spec (ws := ws_ yX12_init cX12_init 3 none) B.pre
  have hts : ∀ w ∈ lw_all, w.before _ s = true := fun w h => hts w (List.mem_cons_of_mem _ h)
  have hown : s.vm.findClass RX12 = some m.cls := findClass_of_methodNamed B.named
  have hlocks := B.notSynchronized
  have hin : meth.name = "<init>" := (name_of_methodNamed B.named B.method).1
  subst hsz
  have hD := hD0.self (sz := s.heap.size)
  obtain ⟨A, hAe⟩ : ∃ A, A = va_A [(h0, .inr (5, [.int 0, .int 0]))] s.heap.size := ⟨_, rfl⟩
  unfold iQc
  rw [← hAe] at hD ⊢
  have hA : ∀ q : Nat, s.heap.size ≤ q → A q := fun q h => by rw [hAe]; exact Or.inr h
  have hS : va_S A s.heap s.heap [] := va_S.rf
  clear hAe
  have hl := lv_entry ([.ref h0, .int p1, .int p2]) (n := 3) (Nat.le_of_ble_eq_true rfl)
  rw [lg_entry_eq]
  generalize (lg_sl ([.ref h0, .int p1, .int p2]) ++ List.replicate (3 - (lg_sl ([.ref h0, .int p1, .int p2])).length) Slot.unset).toArray = ls at hl ⊢
  have hl : lv_has ls 3 [(0, .ref h0), (1, .int p1), (2, .int p2)] := hl
  obtain ⟨H, hH⟩ : ∃ H, H = s.heap := ⟨_, rfl⟩
  have hP : va_P G.1 vwCl [(h0, .inr (5, [.int 0, .int 0]))] H := by rw [hH]; exact hP
  have hS : va_S A s.heap H [] := by rw [hH]; exact hS
  suffices hZ : W p l e ({ frames := 1, cells := 0, slots := 0, locals := 12 } : Room) s m _ below meth c H [] 0 0 _ (F0 m 0 ls []) by rw [hH] at hZ; exact hZ
  clear hH
  refine lv_aload_n hx hb dX12_init_0 rfl (lv_at hl 0 rfl) ?_
  refine W.objInit hx hb hown (hts _ q664) (hts _ q121) (hts _ q122) rfl (by rw [hml]; exact hl.1) rfl dX12_init_1 (Nat.le_of_ble_eq_true rfl) (Nat.le_of_ble_eq_true rfl) ?_
  refine W.eq (g2 := F0 m 4 ls []) rfl ?_
  refine lv_aload_n hx hb dX12_init_4 rfl (lv_at hl 0 rfl) ?_
  refine lv_iload_n hx hb dX12_init_5 rfl (lv_at hl 1 rfl) ?_
  refine va_putF (D := G.1) (ci := 5) (v := .int p1) (ty := .int) (C := RX17) (T := TX17) (N := 2) hx hb hts in_X17 tyX17 tyX17_ok nmX17 hown hK hP hD hS 0 rfl rfl 0 (by decide) (hts _ q665) (fun _ h => h) rfl hin rfl (by decide +kernel) rfl rfl (Nat.le_of_ble_eq_true rfl) dX12_init_6 (fun H locs hP hD hS => ?_)
  have hP : va_P G.1 vwCl [(h0, .inr (5, [.int p1, .int 0]))] H := hP
  have hD : va_D A [(h0, .inr (5, [.int p1, .int 0]))] := hD
  refine lv_aload_n hx hb dX12_init_9 rfl (lv_at hl 0 rfl) ?_
  refine lv_iload_n hx hb dX12_init_10 rfl (lv_at hl 2 rfl) ?_
  refine va_putF (D := G.1) (ci := 5) (v := .int p2) (ty := .int) (C := RX17) (T := TX17) (N := 2) hx hb hts in_X17 tyX17 tyX17_ok nmX17 hown hK hP hD hS 0 rfl rfl 1 (by decide) (hts _ q670) (fun _ h => h) rfl hin rfl (by decide +kernel) rfl rfl (Nat.le_of_ble_eq_true rfl) dX12_init_11 (fun H locs hP hD hS => ?_)
  have hP : va_P G.1 vwCl [(h0, .inr (5, [.int p1, .int p2]))] H := hP
  have hD : va_D A [(h0, .inr (5, [.int p1, .int p2]))] := hD
  refine W.widen (k := 0) (n := 0) (Nat.le_of_ble_eq_true rfl) (Nat.le_of_ble_eq_true rfl) ?_
  exact W.vret hx hb hr (fun t ht hW => ⟨⟨fun i => 0, rfl, trivial, by rw [ht]; exact hP, hD⟩, hS.F ht⟩) hS.2.2 dX12_init_14 hlocks
set_option maxHeartbeats 4000000 in
theorem metI_Cat_5 (l : Launch) (G : kG) (h0 sz : Nat) (p1 : Int32) (p2 : Int32) : Met l yX14_init (ws_ yX14_init cX14_init 3 none) ({ frames := 2, cells := 0, slots := 0, locals := 34 } : Room) (iPc G [(h0, .inr (5, [.int 0, .int 0]))] sz [.ref h0, .int p1, .int p2]) (iQc G [(h0, .inr (5, [.int 0, .int 0]))] sz (fun u => [(h0, .inr (5, [.int p1, .int p2]))])) 0 0 (va_A [(h0, .inr (5, [.int 0, .int 0]))] sz) := by
  refine Met.ofW (cc := cX14_init) (maxL := 3) (ret := none) (by decide) rfl ?_
  intro p e s m args below meth c s₁ B hml hv
  obtain ⟨rfl, hsz, hP, hK, hkA, hD0⟩ := hv
  have hx := B.exec
  have hb := B.bytes
  have hr := B.returns
  have hts := atoms_spec (ws := ws_ yX14_init cX14_init 3 none) B.pre
  have hts : ∀ w ∈ lw_all, w.before _ s = true := fun w h => hts w (List.mem_cons_of_mem _ h)
  have hown : s.vm.findClass RX14 = some m.cls := findClass_of_methodNamed B.named
  have hlocks := B.notSynchronized
  have hin : meth.name = "<init>" := (name_of_methodNamed B.named B.method).1
  subst hsz
  have hD := hD0.self (sz := s.heap.size)
  obtain ⟨A, hAe⟩ : ∃ A, A = va_A [(h0, .inr (5, [.int 0, .int 0]))] s.heap.size := ⟨_, rfl⟩
  unfold iQc
  rw [← hAe] at hD ⊢
  have hA : ∀ q : Nat, s.heap.size ≤ q → A q := fun q h => by rw [hAe]; exact Or.inr h
  have hS : va_S A s.heap s.heap [] := va_S.rf
  clear hAe
  have hl := lv_entry ([.ref h0, .int p1, .int p2]) (n := 3) (Nat.le_of_ble_eq_true rfl)
  rw [lg_entry_eq]
  generalize (lg_sl ([.ref h0, .int p1, .int p2]) ++ List.replicate (3 - (lg_sl ([.ref h0, .int p1, .int p2])).length) Slot.unset).toArray = ls at hl ⊢
  have hl : lv_has ls 3 [(0, .ref h0), (1, .int p1), (2, .int p2)] := hl
  obtain ⟨H, hH⟩ : ∃ H, H = s.heap := ⟨_, rfl⟩
  have hP : va_P G.1 vwCl [(h0, .inr (5, [.int 0, .int 0]))] H := by rw [hH]; exact hP
  have hS : va_S A s.heap H [] := by rw [hH]; exact hS
  suffices hZ : W p l e ({ frames := 2, cells := 0, slots := 0, locals := 34 } : Room) s m _ below meth c H [] 0 0 _ (F0 m 0 ls []) by rw [hH] at hZ; exact hZ
  clear hH
  refine lv_aload_n hx hb dX14_init_0 rfl (lv_at hl 0 rfl) ?_
  refine lv_iload_n hx hb dX14_init_1 rfl (lv_at hl 1 rfl) ?_
  refine lv_iload_n hx hb dX14_init_2 rfl (lv_at hl 2 rfl) ?_
  have hPc := hP.sub (ws' := [(h0, .inr (5, [.int 0, .int 0]))]) [0] rfl
  have hDc := hD.sub (ws' := [(h0, .inr (5, [.int 0, .int 0]))]) [0] (by decide) rfl
  have hFc := va_free (wc := [(h0, .inr (5, [.int 0, .int 0]))]) hD hS hA [0] rfl
  refine va_callv (va_runI (As := [.int p1, .int p2]) (rest := []) ⟨hx, hb, hml, hown, hts⟩ (metI_Home_5 l G h0 H.size p1 p2) (cwI 2 hts (lw_meth q663) rfl rfl rfl (hts _ q102) (hts _ q690) (hts _ q662) rfl (by decide +kernel) ⟨Nat.le_of_ble_eq_true rfl, Nat.le_of_ble_eq_true rfl⟩) (i_pre hPc hDc hK hkA) rfl rfl hl.1 rfl (lv_room (Nat.le_of_ble_eq_true rfl)) dX14_init_3 ⟨Nat.le_of_ble_eq_true rfl, Nat.le_of_ble_eq_true rfl⟩) hS (fun q _ h => hFc q h) hFc (fun u t H1 locs ht hvm hw1 hB hz1 hk1 hS => ?_)
  obtain ⟨u1, rfl⟩ : ∃ z, z = u := ⟨_, rfl⟩
  obtain ⟨hP1, hD1⟩ := hB
  rw [ht] at hP1
  obtain ⟨hP, hD⟩ := va_join (wr := []) (w1 := [(h0, .inr (5, [.int p1, .int p2]))]) hP hD [0] [] rfl rfl (by decide) (by decide) hk1 hFc hP1 hD1
  generalize H1 = H at hP hS ⊢
  have hP : va_P G.1 vwCl [(h0, .inr (5, [.int p1, .int p2]))] H := hP
  have hD : va_D A [(h0, .inr (5, [.int p1, .int p2]))] := hD
  refine W.widen (k := 0) (n := 0) (Nat.le_of_ble_eq_true rfl) (Nat.le_of_ble_eq_true rfl) ?_
  exact W.vret hx hb hr (fun t ht hW => ⟨⟨fun i => 0, rfl, trivial, by rw [ht]; exact hP, hD⟩, hS.F ht⟩) hS.2.2 dX14_init_6 hlocks
set_option maxHeartbeats 4000000 in
theorem metI_Dog_5 (l : Launch) (G : kG) (h0 sz : Nat) (p1 : Int32) (p2 : Int32) : Met l yX17_init (ws_ yX17_init cX17_init 3 none) ({ frames := 3, cells := 0, slots := 0, locals := 56 } : Room) (iPc G [(h0, .inr (5, [.int 0, .int 0]))] sz [.ref h0, .int p1, .int p2]) (iQc G [(h0, .inr (5, [.int 0, .int 0]))] sz (fun u => [(h0, .inr (5, [.int p1, .int p2]))])) 0 0 (va_A [(h0, .inr (5, [.int 0, .int 0]))] sz) := by
  refine Met.ofW (cc := cX17_init) (maxL := 3) (ret := none) (by decide) rfl ?_
  intro p e s m args below meth c s₁ B hml hv
  obtain ⟨rfl, hsz, hP, hK, hkA, hD0⟩ := hv
  have hx := B.exec
  have hb := B.bytes
  have hr := B.returns
  have hts := atoms_spec (ws := ws_ yX17_init cX17_init 3 none) B.pre
  have hts : ∀ w ∈ lw_all, w.before _ s = true := fun w h => hts w (List.mem_cons_of_mem _ h)
  have hown : s.vm.findClass RX17 = some m.cls := findClass_of_methodNamed B.named
  have hlocks := B.notSynchronized
  have hin : meth.name = "<init>" := (name_of_methodNamed B.named B.method).1
  subst hsz
  have hD := hD0.self (sz := s.heap.size)
  obtain ⟨A, hAe⟩ : ∃ A, A = va_A [(h0, .inr (5, [.int 0, .int 0]))] s.heap.size := ⟨_, rfl⟩
  unfold iQc
  rw [← hAe] at hD ⊢
  have hA : ∀ q : Nat, s.heap.size ≤ q → A q := fun q h => by rw [hAe]; exact Or.inr h
  have hS : va_S A s.heap s.heap [] := va_S.rf
  clear hAe
  have hl := lv_entry ([.ref h0, .int p1, .int p2]) (n := 3) (Nat.le_of_ble_eq_true rfl)
  rw [lg_entry_eq]
  generalize (lg_sl ([.ref h0, .int p1, .int p2]) ++ List.replicate (3 - (lg_sl ([.ref h0, .int p1, .int p2])).length) Slot.unset).toArray = ls at hl ⊢
  have hl : lv_has ls 3 [(0, .ref h0), (1, .int p1), (2, .int p2)] := hl
  obtain ⟨H, hH⟩ : ∃ H, H = s.heap := ⟨_, rfl⟩
  have hP : va_P G.1 vwCl [(h0, .inr (5, [.int 0, .int 0]))] H := by rw [hH]; exact hP
  have hS : va_S A s.heap H [] := by rw [hH]; exact hS
  suffices hZ : W p l e ({ frames := 3, cells := 0, slots := 0, locals := 56 } : Room) s m _ below meth c H [] 0 0 _ (F0 m 0 ls []) by rw [hH] at hZ; exact hZ
  clear hH
  refine lv_aload_n hx hb dX17_init_0 rfl (lv_at hl 0 rfl) ?_
  refine lv_iload_n hx hb dX17_init_1 rfl (lv_at hl 1 rfl) ?_
  refine lv_iload_n hx hb dX17_init_2 rfl (lv_at hl 2 rfl) ?_
  have hPc := hP.sub (ws' := [(h0, .inr (5, [.int 0, .int 0]))]) [0] rfl
  have hDc := hD.sub (ws' := [(h0, .inr (5, [.int 0, .int 0]))]) [0] (by decide) rfl
  have hFc := va_free (wc := [(h0, .inr (5, [.int 0, .int 0]))]) hD hS hA [0] rfl
  refine va_callv (va_runI (As := [.int p1, .int p2]) (rest := []) ⟨hx, hb, hml, hown, hts⟩ (metI_Cat_5 l G h0 H.size p1 p2) (cwI 2 hts (lw_meth q689) rfl rfl rfl (hts _ q104) (hts _ q716) (hts _ q688) rfl (by decide +kernel) ⟨Nat.le_of_ble_eq_true rfl, Nat.le_of_ble_eq_true rfl⟩) (i_pre hPc hDc hK hkA) rfl rfl hl.1 rfl (lv_room (Nat.le_of_ble_eq_true rfl)) dX17_init_3 ⟨Nat.le_of_ble_eq_true rfl, Nat.le_of_ble_eq_true rfl⟩) hS (fun q _ h => hFc q h) hFc (fun u t H1 locs ht hvm hw1 hB hz1 hk1 hS => ?_)
  obtain ⟨u1, rfl⟩ : ∃ z, z = u := ⟨_, rfl⟩
  obtain ⟨hP1, hD1⟩ := hB
  rw [ht] at hP1
  obtain ⟨hP, hD⟩ := va_join (wr := []) (w1 := [(h0, .inr (5, [.int p1, .int p2]))]) hP hD [0] [] rfl rfl (by decide) (by decide) hk1 hFc hP1 hD1
  generalize H1 = H at hP hS ⊢
  have hP : va_P G.1 vwCl [(h0, .inr (5, [.int p1, .int p2]))] H := hP
  have hD : va_D A [(h0, .inr (5, [.int p1, .int p2]))] := hD
  refine W.widen (k := 0) (n := 0) (Nat.le_of_ble_eq_true rfl) (Nat.le_of_ble_eq_true rfl) ?_
  exact W.vret hx hb hr (fun t ht hW => ⟨⟨fun i => 0, rfl, trivial, by rw [ht]; exact hP, hD⟩, hS.F ht⟩) hS.2.2 dX17_init_6 hlocks
set_option maxHeartbeats 4000000 in
theorem metI_Home_6 (l : Launch) (G : kG) (h0 sz : Nat) (p1 : Int32) (p2 : Int32) : Met l yX12_init (ws_ yX12_init cX12_init 3 none) ({ frames := 1, cells := 0, slots := 0, locals := 12 } : Room) (iPc G [(h0, .inr (6, [.int 0, .int 0]))] sz [.ref h0, .int p1, .int p2]) (iQc G [(h0, .inr (6, [.int 0, .int 0]))] sz (fun u => [(h0, .inr (6, [.int p1, .int p2]))])) 0 0 (va_A [(h0, .inr (6, [.int 0, .int 0]))] sz) := by
  refine Met.ofW (cc := cX12_init) (maxL := 3) (ret := none) (by decide) rfl ?_
  intro p e s m args below meth c s₁ B hml hv
  obtain ⟨rfl, hsz, hP, hK, hkA, hD0⟩ := hv
  have hx := B.exec
  have hb := B.bytes
  have hr := B.returns
  have hts := atoms_spec (ws := ws_ yX12_init cX12_init 3 none) B.pre
  have hts : ∀ w ∈ lw_all, w.before _ s = true := fun w h => hts w (List.mem_cons_of_mem _ h)
  have hown : s.vm.findClass RX12 = some m.cls := findClass_of_methodNamed B.named
  have hlocks := B.notSynchronized
  have hin : meth.name = "<init>" := (name_of_methodNamed B.named B.method).1
  subst hsz
  have hD := hD0.self (sz := s.heap.size)
  obtain ⟨A, hAe⟩ : ∃ A, A = va_A [(h0, .inr (6, [.int 0, .int 0]))] s.heap.size := ⟨_, rfl⟩
  unfold iQc
  rw [← hAe] at hD ⊢
  have hA : ∀ q : Nat, s.heap.size ≤ q → A q := fun q h => by rw [hAe]; exact Or.inr h
  have hS : va_S A s.heap s.heap [] := va_S.rf
  clear hAe
  have hl := lv_entry ([.ref h0, .int p1, .int p2]) (n := 3) (Nat.le_of_ble_eq_true rfl)
  rw [lg_entry_eq]
  generalize (lg_sl ([.ref h0, .int p1, .int p2]) ++ List.replicate (3 - (lg_sl ([.ref h0, .int p1, .int p2])).length) Slot.unset).toArray = ls at hl ⊢
  have hl : lv_has ls 3 [(0, .ref h0), (1, .int p1), (2, .int p2)] := hl
  obtain ⟨H, hH⟩ : ∃ H, H = s.heap := ⟨_, rfl⟩
  have hP : va_P G.1 vwCl [(h0, .inr (6, [.int 0, .int 0]))] H := by rw [hH]; exact hP
  have hS : va_S A s.heap H [] := by rw [hH]; exact hS
  suffices hZ : W p l e ({ frames := 1, cells := 0, slots := 0, locals := 12 } : Room) s m _ below meth c H [] 0 0 _ (F0 m 0 ls []) by rw [hH] at hZ; exact hZ
  clear hH
  refine lv_aload_n hx hb dX12_init_0 rfl (lv_at hl 0 rfl) ?_
  refine W.objInit hx hb hown (hts _ q664) (hts _ q121) (hts _ q122) rfl (by rw [hml]; exact hl.1) rfl dX12_init_1 (Nat.le_of_ble_eq_true rfl) (Nat.le_of_ble_eq_true rfl) ?_
  refine W.eq (g2 := F0 m 4 ls []) rfl ?_
  refine lv_aload_n hx hb dX12_init_4 rfl (lv_at hl 0 rfl) ?_
  refine lv_iload_n hx hb dX12_init_5 rfl (lv_at hl 1 rfl) ?_
  refine va_putF (D := G.1) (ci := 6) (v := .int p1) (ty := .int) (C := RX18) (T := TX18) (N := 2) hx hb hts in_X18 tyX18 tyX18_ok nmX18 hown hK hP hD hS 0 rfl rfl 0 (by decide) (hts _ q665) (fun _ h => h) rfl hin rfl (by decide +kernel) rfl rfl (Nat.le_of_ble_eq_true rfl) dX12_init_6 (fun H locs hP hD hS => ?_)
  have hP : va_P G.1 vwCl [(h0, .inr (6, [.int p1, .int 0]))] H := hP
  have hD : va_D A [(h0, .inr (6, [.int p1, .int 0]))] := hD
  refine lv_aload_n hx hb dX12_init_9 rfl (lv_at hl 0 rfl) ?_
  refine lv_iload_n hx hb dX12_init_10 rfl (lv_at hl 2 rfl) ?_
  refine va_putF (D := G.1) (ci := 6) (v := .int p2) (ty := .int) (C := RX18) (T := TX18) (N := 2) hx hb hts in_X18 tyX18 tyX18_ok nmX18 hown hK hP hD hS 0 rfl rfl 1 (by decide) (hts _ q670) (fun _ h => h) rfl hin rfl (by decide +kernel) rfl rfl (Nat.le_of_ble_eq_true rfl) dX12_init_11 (fun H locs hP hD hS => ?_)
  have hP : va_P G.1 vwCl [(h0, .inr (6, [.int p1, .int p2]))] H := hP
  have hD : va_D A [(h0, .inr (6, [.int p1, .int p2]))] := hD
  refine W.widen (k := 0) (n := 0) (Nat.le_of_ble_eq_true rfl) (Nat.le_of_ble_eq_true rfl) ?_
  exact W.vret hx hb hr (fun t ht hW => ⟨⟨fun i => 0, rfl, trivial, by rw [ht]; exact hP, hD⟩, hS.F ht⟩) hS.2.2 dX12_init_14 hlocks
set_option maxHeartbeats 4000000 in
theorem metI_Far_6 (l : Launch) (G : kG) (h0 sz : Nat) (p1 : Int32) (p2 : Int32) : Met l yX16_init (ws_ yX16_init cX16_init 3 none) ({ frames := 2, cells := 0, slots := 0, locals := 34 } : Room) (iPc G [(h0, .inr (6, [.int 0, .int 0]))] sz [.ref h0, .int p1, .int p2]) (iQc G [(h0, .inr (6, [.int 0, .int 0]))] sz (fun u => [(h0, .inr (6, [.int p1, .int p2]))])) 0 0 (va_A [(h0, .inr (6, [.int 0, .int 0]))] sz) := by
  refine Met.ofW (cc := cX16_init) (maxL := 3) (ret := none) (by decide) rfl ?_
  intro p e s m args below meth c s₁ B hml hv
  obtain ⟨rfl, hsz, hP, hK, hkA, hD0⟩ := hv
  have hx := B.exec
  have hb := B.bytes
  have hr := B.returns
  have hts := atoms_spec (ws := ws_ yX16_init cX16_init 3 none) B.pre
  have hts : ∀ w ∈ lw_all, w.before _ s = true := fun w h => hts w (List.mem_cons_of_mem _ h)
  have hown : s.vm.findClass RX16 = some m.cls := findClass_of_methodNamed B.named
  have hlocks := B.notSynchronized
  have hin : meth.name = "<init>" := (name_of_methodNamed B.named B.method).1
  subst hsz
  have hD := hD0.self (sz := s.heap.size)
  obtain ⟨A, hAe⟩ : ∃ A, A = va_A [(h0, .inr (6, [.int 0, .int 0]))] s.heap.size := ⟨_, rfl⟩
  unfold iQc
  rw [← hAe] at hD ⊢
  have hA : ∀ q : Nat, s.heap.size ≤ q → A q := fun q h => by rw [hAe]; exact Or.inr h
  have hS : va_S A s.heap s.heap [] := va_S.rf
  clear hAe
  have hl := lv_entry ([.ref h0, .int p1, .int p2]) (n := 3) (Nat.le_of_ble_eq_true rfl)
  rw [lg_entry_eq]
  generalize (lg_sl ([.ref h0, .int p1, .int p2]) ++ List.replicate (3 - (lg_sl ([.ref h0, .int p1, .int p2])).length) Slot.unset).toArray = ls at hl ⊢
  have hl : lv_has ls 3 [(0, .ref h0), (1, .int p1), (2, .int p2)] := hl
  obtain ⟨H, hH⟩ : ∃ H, H = s.heap := ⟨_, rfl⟩
  have hP : va_P G.1 vwCl [(h0, .inr (6, [.int 0, .int 0]))] H := by rw [hH]; exact hP
  have hS : va_S A s.heap H [] := by rw [hH]; exact hS
  suffices hZ : W p l e ({ frames := 2, cells := 0, slots := 0, locals := 34 } : Room) s m _ below meth c H [] 0 0 _ (F0 m 0 ls []) by rw [hH] at hZ; exact hZ
  clear hH
  refine lv_aload_n hx hb dX16_init_0 rfl (lv_at hl 0 rfl) ?_
  refine lv_iload_n hx hb dX16_init_1 rfl (lv_at hl 1 rfl) ?_
  refine lv_iload_n hx hb dX16_init_2 rfl (lv_at hl 2 rfl) ?_
  have hPc := hP.sub (ws' := [(h0, .inr (6, [.int 0, .int 0]))]) [0] rfl
  have hDc := hD.sub (ws' := [(h0, .inr (6, [.int 0, .int 0]))]) [0] (by decide) rfl
  have hFc := va_free (wc := [(h0, .inr (6, [.int 0, .int 0]))]) hD hS hA [0] rfl
  refine va_callv (va_runI (As := [.int p1, .int p2]) (rest := []) ⟨hx, hb, hml, hown, hts⟩ (metI_Home_6 l G h0 H.size p1 p2) (cwI 2 hts (lw_meth q663) rfl rfl rfl (hts _ q102) (hts _ q707) (hts _ q662) rfl (by decide +kernel) ⟨Nat.le_of_ble_eq_true rfl, Nat.le_of_ble_eq_true rfl⟩) (i_pre hPc hDc hK hkA) rfl rfl hl.1 rfl (lv_room (Nat.le_of_ble_eq_true rfl)) dX16_init_3 ⟨Nat.le_of_ble_eq_true rfl, Nat.le_of_ble_eq_true rfl⟩) hS (fun q _ h => hFc q h) hFc (fun u t H1 locs ht hvm hw1 hB hz1 hk1 hS => ?_)
  obtain ⟨u1, rfl⟩ : ∃ z, z = u := ⟨_, rfl⟩
  obtain ⟨hP1, hD1⟩ := hB
  rw [ht] at hP1
  obtain ⟨hP, hD⟩ := va_join (wr := []) (w1 := [(h0, .inr (6, [.int p1, .int p2]))]) hP hD [0] [] rfl rfl (by decide) (by decide) hk1 hFc hP1 hD1
  generalize H1 = H at hP hS ⊢
  have hP : va_P G.1 vwCl [(h0, .inr (6, [.int p1, .int p2]))] H := hP
  have hD : va_D A [(h0, .inr (6, [.int p1, .int p2]))] := hD
  refine W.widen (k := 0) (n := 0) (Nat.le_of_ble_eq_true rfl) (Nat.le_of_ble_eq_true rfl) ?_
  exact W.vret hx hb hr (fun t ht hW => ⟨⟨fun i => 0, rfl, trivial, by rw [ht]; exact hP, hD⟩, hS.F ht⟩) hS.2.2 dX16_init_6 hlocks
set_option maxHeartbeats 4000000 in
theorem metI_Bus_6 (l : Launch) (G : kG) (h0 sz : Nat) (p1 : Int32) (p2 : Int32) : Met l yX18_init (ws_ yX18_init cX18_init 3 none) ({ frames := 3, cells := 0, slots := 0, locals := 56 } : Room) (iPc G [(h0, .inr (6, [.int 0, .int 0]))] sz [.ref h0, .int p1, .int p2]) (iQc G [(h0, .inr (6, [.int 0, .int 0]))] sz (fun u => [(h0, .inr (6, [.int p1, .int p2]))])) 0 0 (va_A [(h0, .inr (6, [.int 0, .int 0]))] sz) := by
  refine Met.ofW (cc := cX18_init) (maxL := 3) (ret := none) (by decide) rfl ?_
  intro p e s m args below meth c s₁ B hml hv
  obtain ⟨rfl, hsz, hP, hK, hkA, hD0⟩ := hv
  have hx := B.exec
  have hb := B.bytes
  have hr := B.returns
  have hts := atoms_spec (ws := ws_ yX18_init cX18_init 3 none) B.pre
  have hts : ∀ w ∈ lw_all, w.before _ s = true := fun w h => hts w (List.mem_cons_of_mem _ h)
  have hown : s.vm.findClass RX18 = some m.cls := findClass_of_methodNamed B.named
  have hlocks := B.notSynchronized
  have hin : meth.name = "<init>" := (name_of_methodNamed B.named B.method).1
  subst hsz
  have hD := hD0.self (sz := s.heap.size)
  obtain ⟨A, hAe⟩ : ∃ A, A = va_A [(h0, .inr (6, [.int 0, .int 0]))] s.heap.size := ⟨_, rfl⟩
  unfold iQc
  rw [← hAe] at hD ⊢
  have hA : ∀ q : Nat, s.heap.size ≤ q → A q := fun q h => by rw [hAe]; exact Or.inr h
  have hS : va_S A s.heap s.heap [] := va_S.rf
  clear hAe
  have hl := lv_entry ([.ref h0, .int p1, .int p2]) (n := 3) (Nat.le_of_ble_eq_true rfl)
  rw [lg_entry_eq]
  generalize (lg_sl ([.ref h0, .int p1, .int p2]) ++ List.replicate (3 - (lg_sl ([.ref h0, .int p1, .int p2])).length) Slot.unset).toArray = ls at hl ⊢
  have hl : lv_has ls 3 [(0, .ref h0), (1, .int p1), (2, .int p2)] := hl
  obtain ⟨H, hH⟩ : ∃ H, H = s.heap := ⟨_, rfl⟩
  have hP : va_P G.1 vwCl [(h0, .inr (6, [.int 0, .int 0]))] H := by rw [hH]; exact hP
  have hS : va_S A s.heap H [] := by rw [hH]; exact hS
  suffices hZ : W p l e ({ frames := 3, cells := 0, slots := 0, locals := 56 } : Room) s m _ below meth c H [] 0 0 _ (F0 m 0 ls []) by rw [hH] at hZ; exact hZ
  clear hH
  refine lv_aload_n hx hb dX18_init_0 rfl (lv_at hl 0 rfl) ?_
  refine lv_iload_n hx hb dX18_init_1 rfl (lv_at hl 1 rfl) ?_
  refine lv_iload_n hx hb dX18_init_2 rfl (lv_at hl 2 rfl) ?_
  have hPc := hP.sub (ws' := [(h0, .inr (6, [.int 0, .int 0]))]) [0] rfl
  have hDc := hD.sub (ws' := [(h0, .inr (6, [.int 0, .int 0]))]) [0] (by decide) rfl
  have hFc := va_free (wc := [(h0, .inr (6, [.int 0, .int 0]))]) hD hS hA [0] rfl
  refine va_callv (va_runI (As := [.int p1, .int p2]) (rest := []) ⟨hx, hb, hml, hown, hts⟩ (metI_Far_6 l G h0 H.size p1 p2) (cwI 2 hts (lw_meth q706) rfl rfl rfl (hts _ q106) (hts _ q724) (hts _ q705) rfl (by decide +kernel) ⟨Nat.le_of_ble_eq_true rfl, Nat.le_of_ble_eq_true rfl⟩) (i_pre hPc hDc hK hkA) rfl rfl hl.1 rfl (lv_room (Nat.le_of_ble_eq_true rfl)) dX18_init_3 ⟨Nat.le_of_ble_eq_true rfl, Nat.le_of_ble_eq_true rfl⟩) hS (fun q _ h => hFc q h) hFc (fun u t H1 locs ht hvm hw1 hB hz1 hk1 hS => ?_)
  obtain ⟨u1, rfl⟩ : ∃ z, z = u := ⟨_, rfl⟩
  obtain ⟨hP1, hD1⟩ := hB
  rw [ht] at hP1
  obtain ⟨hP, hD⟩ := va_join (wr := []) (w1 := [(h0, .inr (6, [.int p1, .int p2]))]) hP hD [0] [] rfl rfl (by decide) (by decide) hk1 hFc hP1 hD1
  generalize H1 = H at hP hS ⊢
  have hP : va_P G.1 vwCl [(h0, .inr (6, [.int p1, .int p2]))] H := hP
  have hD : va_D A [(h0, .inr (6, [.int p1, .int p2]))] := hD
  refine W.widen (k := 0) (n := 0) (Nat.le_of_ble_eq_true rfl) (Nat.le_of_ble_eq_true rfl) ?_
  exact W.vret hx hb hr (fun t ht hW => ⟨⟨fun i => 0, rfl, trivial, by rw [ht]; exact hP, hD⟩, hS.F ht⟩) hS.2.2 dX18_init_6 hlocks
set_option maxHeartbeats 4000000 in
theorem metI_Pet_11 (l : Launch) (G : kG) (h0 sz : Nat) : Met l yX2_init (ws_ yX2_init cX2_init 1 none) ({ frames := 1, cells := 1, slots := 3, locals := 12 } : Room) (iPc G [(h0, .inr (11, [.int 0, .int 0, .int 0, .null]))] sz [.ref h0]) (iQc G [(h0, .inr (11, [.int 0, .int 0, .int 0, .null]))] sz (fun u => [(h0, .inr (11, [.int 112, .int 0, .int 0, .ref (u 1)])), ((u 1), .inl (G.2 0, 3, .inl (upd (upd (upd (fun _ => 0) (0 : Int32).toNatClampNeg 4) (1 : Int32).toNatClampNeg 100) (2 : Int32).toNatClampNeg 60)))])) 1 3 (va_A [(h0, .inr (11, [.int 0, .int 0, .int 0, .null]))] sz) := by
  refine Met.ofW (cc := cX2_init) (maxL := 1) (ret := none) (by decide) rfl ?_
  intro p e s m args below meth c s₁ B hml hv
  obtain ⟨rfl, hsz, hP, hK, hkA, hD0⟩ := hv
  have hx := B.exec
  have hb := B.bytes
  have hr := B.returns
  have hts := atoms_spec (ws := ws_ yX2_init cX2_init 1 none) B.pre
  have hts : ∀ w ∈ lw_all, w.before _ s = true := fun w h => hts w (List.mem_cons_of_mem _ h)
  have hown : s.vm.findClass RX2 = some m.cls := findClass_of_methodNamed B.named
  have hlocks := B.notSynchronized
  have hin : meth.name = "<init>" := (name_of_methodNamed B.named B.method).1
  subst hsz
  have hD := hD0.self (sz := s.heap.size)
  obtain ⟨A, hAe⟩ : ∃ A, A = va_A [(h0, .inr (11, [.int 0, .int 0, .int 0, .null]))] s.heap.size := ⟨_, rfl⟩
  unfold iQc
  rw [← hAe] at hD ⊢
  have hA : ∀ q : Nat, s.heap.size ≤ q → A q := fun q h => by rw [hAe]; exact Or.inr h
  have hS : va_S A s.heap s.heap [] := va_S.rf
  clear hAe
  have hl := lv_entry ([.ref h0]) (n := 1) (Nat.le_of_ble_eq_true rfl)
  rw [lg_entry_eq]
  generalize (lg_sl ([.ref h0]) ++ List.replicate (1 - (lg_sl ([.ref h0])).length) Slot.unset).toArray = ls at hl ⊢
  have hl : lv_has ls 1 [(0, .ref h0)] := hl
  obtain ⟨H, hH⟩ : ∃ H, H = s.heap := ⟨_, rfl⟩
  have hP : va_P G.1 vwCl [(h0, .inr (11, [.int 0, .int 0, .int 0, .null]))] H := by rw [hH]; exact hP
  have hS : va_S A s.heap H [] := by rw [hH]; exact hS
  suffices hZ : W p l e ({ frames := 1, cells := 1, slots := 3, locals := 12 } : Room) s m _ below meth c H [] 0 0 _ (F0 m 0 ls []) by rw [hH] at hZ; exact hZ
  clear hH
  refine lv_aload_n hx hb dX2_init_0 rfl (lv_at hl 0 rfl) ?_
  refine W.objInit hx hb hown (hts _ q146) (hts _ q121) (hts _ q122) rfl (by rw [hml]; exact hl.1) rfl dX2_init_1 (Nat.le_of_ble_eq_true rfl) (Nat.le_of_ble_eq_true rfl) ?_
  refine W.eq (g2 := F0 m 4 ls []) rfl ?_
  refine lv_aload_n hx hb dX2_init_4 rfl (lv_at hl 0 rfl) ?_
  refine lv_bipush (v := 112) hx hb dX2_init_5 (by decide) ?_
  refine va_put (D := G.1) (ci := 11) (v := .int 112) (ty := .int) (C := RX2) (T := TX2) (N := 4) hx hb hts in_X2 tyX2 tyX2_ok nmX2 hown hK hP hD hS 0 rfl rfl 0 (by decide) (hts _ q147) (fun _ h => h) rfl (by decide +kernel) rfl rfl (Nat.le_of_ble_eq_true rfl) dX2_init_7 (fun H locs hP hD hS => ?_)
  have hP : va_P G.1 vwCl [(h0, .inr (11, [.int 112, .int 0, .int 0, .null]))] H := hP
  have hD : va_D A [(h0, .inr (11, [.int 112, .int 0, .int 0, .null]))] := hD
  refine lv_aload_n hx hb dX2_init_10 rfl (lv_at hl 0 rfl) ?_
  refine lv_iconst (v := 3) hx hb dX2_init_11 (by decide) ?_
  refine va_newa (atype := .int) (ty := .int) (a0 := (3, .inl (fun _ => 0))) hx hb (hts _ q140) rfl hK hP hD hS hA (fun cA => rfl) (by decide) rfl (by decide) (Nat.le_of_ble_eq_true rfl) (Nat.le_of_ble_eq_true rfl) dX2_init_12 (fun q1 cA H hK2 hP hD hS => ?_)
  obtain rfl : cA = G.2 0 := aT_eq hK hK2 0 rfl rfl (fun _ h => h)
  have hP : va_P G.1 vwCl [(h0, .inr (11, [.int 112, .int 0, .int 0, .null])), (q1, .inl (G.2 0, 3, .inl (fun _ => 0)))] H := hP
  have hD : va_D A [(h0, .inr (11, [.int 112, .int 0, .int 0, .null])), (q1, .inl (G.2 0, 3, .inl (fun _ => 0)))] := hD
  refine lv_dup hx hb dX2_init_14 rfl ?_
  refine lv_iconst (v := 0) hx hb dX2_init_15 (by decide) ?_
  refine lv_iconst (v := 4) hx hb dX2_init_16 (by decide) ?_
  refine va_iast hx hb hK hP hD hS 1 0 rfl rfl (gi_in (by decide)) dX2_init_17 (fun H locs hP hD hS => ?_)
  have hP : va_P G.1 vwCl [(h0, .inr (11, [.int 112, .int 0, .int 0, .null])), (q1, .inl (G.2 0, 3, .inl (upd (fun _ => 0) (0 : Int32).toNatClampNeg 4)))] H := hP
  have hD : va_D A [(h0, .inr (11, [.int 112, .int 0, .int 0, .null])), (q1, .inl (G.2 0, 3, .inl (upd (fun _ => 0) (0 : Int32).toNatClampNeg 4)))] := hD
  refine lv_dup hx hb dX2_init_18 rfl ?_
  refine lv_iconst (v := 1) hx hb dX2_init_19 (by decide) ?_
  refine lv_bipush (v := 100) hx hb dX2_init_20 (by decide) ?_
  refine va_iast hx hb hK hP hD hS 1 0 rfl rfl (gi_in (by decide)) dX2_init_22 (fun H locs hP hD hS => ?_)
  have hP : va_P G.1 vwCl [(h0, .inr (11, [.int 112, .int 0, .int 0, .null])), (q1, .inl (G.2 0, 3, .inl (upd (upd (fun _ => 0) (0 : Int32).toNatClampNeg 4) (1 : Int32).toNatClampNeg 100)))] H := hP
  have hD : va_D A [(h0, .inr (11, [.int 112, .int 0, .int 0, .null])), (q1, .inl (G.2 0, 3, .inl (upd (upd (fun _ => 0) (0 : Int32).toNatClampNeg 4) (1 : Int32).toNatClampNeg 100)))] := hD
  refine lv_dup hx hb dX2_init_23 rfl ?_
  refine lv_iconst (v := 2) hx hb dX2_init_24 (by decide) ?_
  refine lv_bipush (v := 60) hx hb dX2_init_25 (by decide) ?_
  refine va_iast hx hb hK hP hD hS 1 0 rfl rfl (gi_in (by decide)) dX2_init_27 (fun H locs hP hD hS => ?_)
  have hP : va_P G.1 vwCl [(h0, .inr (11, [.int 112, .int 0, .int 0, .null])), (q1, .inl (G.2 0, 3, .inl (upd (upd (upd (fun _ => 0) (0 : Int32).toNatClampNeg 4) (1 : Int32).toNatClampNeg 100) (2 : Int32).toNatClampNeg 60)))] H := hP
  have hD : va_D A [(h0, .inr (11, [.int 112, .int 0, .int 0, .null])), (q1, .inl (G.2 0, 3, .inl (upd (upd (upd (fun _ => 0) (0 : Int32).toNatClampNeg 4) (1 : Int32).toNatClampNeg 100) (2 : Int32).toNatClampNeg 60)))] := hD
  refine va_putF (D := G.1) (ci := 11) (v := .ref q1) (ty := (.array .int)) (C := RX2) (T := TX2) (N := 4) hx hb hts in_X2 tyX2 tyX2_ok nmX2 hown hK hP hD hS 0 rfl rfl 3 (by decide) (hts _ q158) (fun _ h => h) rfl hin rfl (by decide +kernel) rfl rfl (Nat.le_of_ble_eq_true rfl) dX2_init_28 (fun H locs hP hD hS => ?_)
  have hP : va_P G.1 vwCl [(h0, .inr (11, [.int 112, .int 0, .int 0, .ref q1])), (q1, .inl (G.2 0, 3, .inl (upd (upd (upd (fun _ => 0) (0 : Int32).toNatClampNeg 4) (1 : Int32).toNatClampNeg 100) (2 : Int32).toNatClampNeg 60)))] H := hP
  have hD : va_D A [(h0, .inr (11, [.int 112, .int 0, .int 0, .ref q1])), (q1, .inl (G.2 0, 3, .inl (upd (upd (upd (fun _ => 0) (0 : Int32).toNatClampNeg 4) (1 : Int32).toNatClampNeg 100) (2 : Int32).toNatClampNeg 60)))] := hD
  refine W.widen (k := 1) (n := 3) (Nat.le_of_ble_eq_true rfl) (Nat.le_of_ble_eq_true rfl) ?_
  exact W.vret hx hb hr (fun t ht hW => ⟨⟨fun i => if i = 1 then q1 else 0, rfl, trivial, by rw [ht]; exact hP, hD⟩, hS.F ht⟩) hS.2.2 dX2_init_31 hlocks
set_option maxHeartbeats 4000000 in
theorem metI_Trace_14 (l : Launch) (G : kG) (h0 sz : Nat) : Met l yX1_init (ws_ yX1_init cX1_init 1 none) ({ frames := 1, cells := 1, slots := 20, locals := 12 } : Room) (iPc G [(h0, .inr (14, [.null, .int 0]))] sz [.ref h0]) (iQc G [(h0, .inr (14, [.null, .int 0]))] sz (fun u => [(h0, .inr (14, [.ref (u 1), .int 0])), ((u 1), .inl (G.2 0, 20, .inl (fun _ => 0)))])) 1 20 (va_A [(h0, .inr (14, [.null, .int 0]))] sz) := by
  refine Met.ofW (cc := cX1_init) (maxL := 1) (ret := none) (by decide) rfl ?_
  intro p e s m args below meth c s₁ B hml hv
  obtain ⟨rfl, hsz, hP, hK, hkA, hD0⟩ := hv
  have hx := B.exec
  have hb := B.bytes
  have hr := B.returns
  have hts := atoms_spec (ws := ws_ yX1_init cX1_init 1 none) B.pre
  have hts : ∀ w ∈ lw_all, w.before _ s = true := fun w h => hts w (List.mem_cons_of_mem _ h)
  have hown : s.vm.findClass RX1 = some m.cls := findClass_of_methodNamed B.named
  have hlocks := B.notSynchronized
  have hin : meth.name = "<init>" := (name_of_methodNamed B.named B.method).1
  subst hsz
  have hD := hD0.self (sz := s.heap.size)
  obtain ⟨A, hAe⟩ : ∃ A, A = va_A [(h0, .inr (14, [.null, .int 0]))] s.heap.size := ⟨_, rfl⟩
  unfold iQc
  rw [← hAe] at hD ⊢
  have hA : ∀ q : Nat, s.heap.size ≤ q → A q := fun q h => by rw [hAe]; exact Or.inr h
  have hS : va_S A s.heap s.heap [] := va_S.rf
  clear hAe
  have hl := lv_entry ([.ref h0]) (n := 1) (Nat.le_of_ble_eq_true rfl)
  rw [lg_entry_eq]
  generalize (lg_sl ([.ref h0]) ++ List.replicate (1 - (lg_sl ([.ref h0])).length) Slot.unset).toArray = ls at hl ⊢
  have hl : lv_has ls 1 [(0, .ref h0)] := hl
  obtain ⟨H, hH⟩ : ∃ H, H = s.heap := ⟨_, rfl⟩
  have hP : va_P G.1 vwCl [(h0, .inr (14, [.null, .int 0]))] H := by rw [hH]; exact hP
  have hS : va_S A s.heap H [] := by rw [hH]; exact hS
  suffices hZ : W p l e ({ frames := 1, cells := 1, slots := 20, locals := 12 } : Room) s m _ below meth c H [] 0 0 _ (F0 m 0 ls []) by rw [hH] at hZ; exact hZ
  clear hH
  refine lv_aload_n hx hb dX1_init_0 rfl (lv_at hl 0 rfl) ?_
  refine W.objInit hx hb hown (hts _ q130) (hts _ q121) (hts _ q122) rfl (by rw [hml]; exact hl.1) rfl dX1_init_1 (Nat.le_of_ble_eq_true rfl) (Nat.le_of_ble_eq_true rfl) ?_
  refine W.eq (g2 := F0 m 4 ls []) rfl ?_
  refine lv_aload_n hx hb dX1_init_4 rfl (lv_at hl 0 rfl) ?_
  refine lv_bipush (v := 20) hx hb dX1_init_5 (by decide) ?_
  refine va_newa (atype := .int) (ty := .int) (a0 := (20, .inl (fun _ => 0))) hx hb (hts _ q140) rfl hK hP hD hS hA (fun cA => rfl) (by decide) rfl (by decide) (Nat.le_of_ble_eq_true rfl) (Nat.le_of_ble_eq_true rfl) dX1_init_7 (fun q1 cA H hK2 hP hD hS => ?_)
  obtain rfl : cA = G.2 0 := aT_eq hK hK2 0 rfl rfl (fun _ h => h)
  have hP : va_P G.1 vwCl [(h0, .inr (14, [.null, .int 0])), (q1, .inl (G.2 0, 20, .inl (fun _ => 0)))] H := hP
  have hD : va_D A [(h0, .inr (14, [.null, .int 0])), (q1, .inl (G.2 0, 20, .inl (fun _ => 0)))] := hD
  refine va_putF (D := G.1) (ci := 14) (v := .ref q1) (ty := (.array .int)) (C := RX1) (T := TX1) (N := 2) hx hb hts in_X1 tyX1 tyX1_ok nmX1 hown hK hP hD hS 0 rfl rfl 0 (by decide) (hts _ q131) (fun _ h => h) rfl hin rfl (by decide +kernel) rfl rfl (Nat.le_of_ble_eq_true rfl) dX1_init_9 (fun H locs hP hD hS => ?_)
  have hP : va_P G.1 vwCl [(h0, .inr (14, [.ref q1, .int 0])), (q1, .inl (G.2 0, 20, .inl (fun _ => 0)))] H := hP
  have hD : va_D A [(h0, .inr (14, [.ref q1, .int 0])), (q1, .inl (G.2 0, 20, .inl (fun _ => 0)))] := hD
  refine W.widen (k := 1) (n := 20) (Nat.le_of_ble_eq_true rfl) (Nat.le_of_ble_eq_true rfl) ?_
  exact W.vret hx hb hr (fun t ht hW => ⟨⟨fun i => if i = 1 then q1 else 0, rfl, trivial, by rw [ht]; exact hP, hD⟩, hS.F ht⟩) hS.2.2 dX1_init_12 hlocks
set_option maxHeartbeats 4000000 in
theorem metI_Shelf_13 (l : Launch) (G : kG) (h0 sz : Nat) : Met l yX4_init (ws_ yX4_init cX4_init 1 none) ({ frames := 1, cells := 0, slots := 0, locals := 12 } : Room) (iPc G [(h0, .inr (13, [.null]))] sz [.ref h0]) (iQc G [(h0, .inr (13, [.null]))] sz (fun u => [(h0, .inr (13, [.null]))])) 0 0 (va_A [(h0, .inr (13, [.null]))] sz) := by
  refine Met.ofW (cc := cX4_init) (maxL := 1) (ret := none) (by decide) rfl ?_
  intro p e s m args below meth c s₁ B hml hv
  obtain ⟨rfl, hsz, hP, hK, hkA, hD0⟩ := hv
  have hx := B.exec
  have hb := B.bytes
  have hr := B.returns
  have hts := atoms_spec (ws := ws_ yX4_init cX4_init 1 none) B.pre
  have hts : ∀ w ∈ lw_all, w.before _ s = true := fun w h => hts w (List.mem_cons_of_mem _ h)
  have hown : s.vm.findClass RX4 = some m.cls := findClass_of_methodNamed B.named
  have hlocks := B.notSynchronized
  have hin : meth.name = "<init>" := (name_of_methodNamed B.named B.method).1
  subst hsz
  have hD := hD0.self (sz := s.heap.size)
  obtain ⟨A, hAe⟩ : ∃ A, A = va_A [(h0, .inr (13, [.null]))] s.heap.size := ⟨_, rfl⟩
  unfold iQc
  rw [← hAe] at hD ⊢
  have hA : ∀ q : Nat, s.heap.size ≤ q → A q := fun q h => by rw [hAe]; exact Or.inr h
  have hS : va_S A s.heap s.heap [] := va_S.rf
  clear hAe
  have hl := lv_entry ([.ref h0]) (n := 1) (Nat.le_of_ble_eq_true rfl)
  rw [lg_entry_eq]
  generalize (lg_sl ([.ref h0]) ++ List.replicate (1 - (lg_sl ([.ref h0])).length) Slot.unset).toArray = ls at hl ⊢
  have hl : lv_has ls 1 [(0, .ref h0)] := hl
  obtain ⟨H, hH⟩ : ∃ H, H = s.heap := ⟨_, rfl⟩
  have hP : va_P G.1 vwCl [(h0, .inr (13, [.null]))] H := by rw [hH]; exact hP
  have hS : va_S A s.heap H [] := by rw [hH]; exact hS
  suffices hZ : W p l e ({ frames := 1, cells := 0, slots := 0, locals := 12 } : Room) s m _ below meth c H [] 0 0 _ (F0 m 0 ls []) by rw [hH] at hZ; exact hZ
  clear hH
  refine lv_aload_n hx hb dX4_init_0 rfl (lv_at hl 0 rfl) ?_
  refine W.objInit hx hb hown (hts _ q232) (hts _ q121) (hts _ q122) rfl (by rw [hml]; exact hl.1) rfl dX4_init_1 (Nat.le_of_ble_eq_true rfl) (Nat.le_of_ble_eq_true rfl) ?_
  refine W.eq (g2 := F0 m 4 ls []) rfl ?_
  refine W.widen (k := 0) (n := 0) (Nat.le_of_ble_eq_true rfl) (Nat.le_of_ble_eq_true rfl) ?_
  exact W.vret hx hb hr (fun t ht hW => ⟨⟨fun i => 0, rfl, trivial, by rw [ht]; exact hP, hD⟩, hS.F ht⟩) hS.2.2 dX4_init_4 hlocks
set_option maxHeartbeats 4000000 in
theorem metI_Room_12 (l : Launch) (G : kG) (h0 sz : Nat) : Met l yX3_init (ws_ yX3_init cX3_init 1 none) ({ frames := 2, cells := 7, slots := 42, locals := 32 } : Room) (iPc G [(h0, .inr (12, [.int 0, .int 0, .int 0, .int 0, .null, .null, .null, .null, .null, .null]))] sz [.ref h0]) (iQc G [(h0, .inr (12, [.int 0, .int 0, .int 0, .int 0, .null, .null, .null, .null, .null, .null]))] sz (fun u => [(h0, .inr (12, [.int 0, .int 1, .int (-1), .int 1, .ref (u 1), .ref (u 3), .ref (u 4), .ref (u 5), .ref (u 6), .ref (u 7)])), ((u 1), .inr (11, [.int 112, .int 0, .int 0, .ref (u 2)])), ((u 2), .inl (G.2 0, 3, .inl (upd (upd (upd (fun _ => 0) (0 : Int32).toNatClampNeg 4) (1 : Int32).toNatClampNeg 100) (2 : Int32).toNatClampNeg 60))), ((u 3), .inl (G.2 6, 8, .inr (.inr (.inr (.inr (fun _ => none)))))), ((u 4), .inl (G.2 0, 8, .inl (fun _ => 0))), ((u 5), .inl (G.2 0, 8, .inl (fun _ => 0))), ((u 6), .inl (G.2 2, 8, .inl (fun _ => 0))), ((u 7), .inl (G.2 0, 3, .inl (fun _ => 0)))])) 7 42 (va_A [(h0, .inr (12, [.int 0, .int 0, .int 0, .int 0, .null, .null, .null, .null, .null, .null]))] sz) := by
  refine Met.ofW (cc := cX3_init) (maxL := 1) (ret := none) (by decide) rfl ?_
  intro p e s m args below meth c s₁ B hml hv
  obtain ⟨rfl, hsz, hP, hK, hkA, hD0⟩ := hv
  have hx := B.exec
  have hb := B.bytes
  have hr := B.returns
  have hts := atoms_spec (ws := ws_ yX3_init cX3_init 1 none) B.pre
  have hts : ∀ w ∈ lw_all, w.before _ s = true := fun w h => hts w (List.mem_cons_of_mem _ h)
  have hown : s.vm.findClass RX3 = some m.cls := findClass_of_methodNamed B.named
  have hlocks := B.notSynchronized
  have hin : meth.name = "<init>" := (name_of_methodNamed B.named B.method).1
  subst hsz
  have hD := hD0.self (sz := s.heap.size)
  obtain ⟨A, hAe⟩ : ∃ A, A = va_A [(h0, .inr (12, [.int 0, .int 0, .int 0, .int 0, .null, .null, .null, .null, .null, .null]))] s.heap.size := ⟨_, rfl⟩
  unfold iQc
  rw [← hAe] at hD ⊢
  have hA : ∀ q : Nat, s.heap.size ≤ q → A q := fun q h => by rw [hAe]; exact Or.inr h
  have hS : va_S A s.heap s.heap [] := va_S.rf
  clear hAe
  have hl := lv_entry ([.ref h0]) (n := 1) (Nat.le_of_ble_eq_true rfl)
  rw [lg_entry_eq]
  generalize (lg_sl ([.ref h0]) ++ List.replicate (1 - (lg_sl ([.ref h0])).length) Slot.unset).toArray = ls at hl ⊢
  have hl : lv_has ls 1 [(0, .ref h0)] := hl
  obtain ⟨H, hH⟩ : ∃ H, H = s.heap := ⟨_, rfl⟩
  have hP : va_P G.1 vwCl [(h0, .inr (12, [.int 0, .int 0, .int 0, .int 0, .null, .null, .null, .null, .null, .null]))] H := by rw [hH]; exact hP
  have hS : va_S A s.heap H [] := by rw [hH]; exact hS
  suffices hZ : W p l e ({ frames := 2, cells := 7, slots := 42, locals := 32 } : Room) s m _ below meth c H [] 0 0 _ (F0 m 0 ls []) by rw [hH] at hZ; exact hZ
  clear hH
  refine lv_aload_n hx hb dX3_init_0 rfl (lv_at hl 0 rfl) ?_
  refine W.objInit hx hb hown (hts _ q175) (hts _ q121) (hts _ q122) rfl (by rw [hml]; exact hl.1) rfl dX3_init_1 (Nat.le_of_ble_eq_true rfl) (Nat.le_of_ble_eq_true rfl) ?_
  refine W.eq (g2 := F0 m 4 ls []) rfl ?_
  refine lv_aload_n hx hb dX3_init_4 rfl (lv_at hl 0 rfl) ?_
  refine lv_iconst (v := 1) hx hb dX3_init_5 (by decide) ?_
  refine va_put (D := G.1) (ci := 12) (v := .int 1) (ty := .int) (C := RX3) (T := TX3) (N := 10) hx hb hts in_X3 tyX3 tyX3_ok nmX3 hown hK hP hD hS 0 rfl rfl 1 (by decide) (hts _ q183) (fun _ h => h) rfl (by decide +kernel) rfl rfl (Nat.le_of_ble_eq_true rfl) dX3_init_6 (fun H locs hP hD hS => ?_)
  have hP : va_P G.1 vwCl [(h0, .inr (12, [.int 0, .int 1, .int 0, .int 0, .null, .null, .null, .null, .null, .null]))] H := hP
  have hD : va_D A [(h0, .inr (12, [.int 0, .int 1, .int 0, .int 0, .null, .null, .null, .null, .null, .null]))] := hD
  refine lv_aload_n hx hb dX3_init_9 rfl (lv_at hl 0 rfl) ?_
  refine lv_iconst (v := (-1)) hx hb dX3_init_10 (by decide) ?_
  refine va_put (D := G.1) (ci := 12) (v := .int (-1)) (ty := .int) (C := RX3) (T := TX3) (N := 10) hx hb hts in_X3 tyX3 tyX3_ok nmX3 hown hK hP hD hS 0 rfl rfl 2 (by decide) (hts _ q185) (fun _ h => h) rfl (by decide +kernel) rfl rfl (Nat.le_of_ble_eq_true rfl) dX3_init_11 (fun H locs hP hD hS => ?_)
  have hP : va_P G.1 vwCl [(h0, .inr (12, [.int 0, .int 1, .int (-1), .int 0, .null, .null, .null, .null, .null, .null]))] H := hP
  have hD : va_D A [(h0, .inr (12, [.int 0, .int 1, .int (-1), .int 0, .null, .null, .null, .null, .null, .null]))] := hD
  refine lv_aload_n hx hb dX3_init_14 rfl (lv_at hl 0 rfl) ?_
  refine lv_iconst (v := 1) hx hb dX3_init_15 (by decide) ?_
  refine va_put (D := G.1) (ci := 12) (v := .int 1) (ty := .int) (C := RX3) (T := TX3) (N := 10) hx hb hts in_X3 tyX3 tyX3_ok nmX3 hown hK hP hD hS 0 rfl rfl 3 (by decide) (hts _ q187) (fun _ h => h) rfl (by decide +kernel) rfl rfl (Nat.le_of_ble_eq_true rfl) dX3_init_16 (fun H locs hP hD hS => ?_)
  have hP : va_P G.1 vwCl [(h0, .inr (12, [.int 0, .int 1, .int (-1), .int 1, .null, .null, .null, .null, .null, .null]))] H := hP
  have hD : va_D A [(h0, .inr (12, [.int 0, .int 1, .int (-1), .int 1, .null, .null, .null, .null, .null, .null]))] := hD
  refine lv_aload_n hx hb dX3_init_19 rfl (lv_at hl 0 rfl) ?_
  refine va_new (D := G.1) (ci := 11) (fs := [.int 0, .int 0, .int 0, .null]) (C := RX2) (T := TX2) (N := 4) hx hb hts in_X2 tyX2 tyX2_ok hown (hts _ q176) (hts _ q142) (hts _ q82) hK hP hD hS hA rfl (fun j hj => by
    have h9 : j = 0 ∨ j = 1 ∨ j = 2 ∨ j = 3 := by omega
    rcases h9 with rfl | rfl | rfl | rfl <;> rfl) (Nat.le_of_ble_eq_true rfl) (Nat.le_of_ble_eq_true rfl) dX3_init_20 (fun q1 H hP hD hS => ?_)
  have hP : va_P G.1 vwCl [(h0, .inr (12, [.int 0, .int 1, .int (-1), .int 1, .null, .null, .null, .null, .null, .null])), (q1, .inr (11, [.int 0, .int 0, .int 0, .null]))] H := hP
  have hD : va_D A [(h0, .inr (12, [.int 0, .int 1, .int (-1), .int 1, .null, .null, .null, .null, .null, .null])), (q1, .inr (11, [.int 0, .int 0, .int 0, .null]))] := hD
  refine lv_dup hx hb dX3_init_23 rfl ?_
  have hPc := hP.sub (ws' := [(q1, .inr (11, [.int 0, .int 0, .int 0, .null]))]) [1] rfl
  have hDc := hD.sub (ws' := [(q1, .inr (11, [.int 0, .int 0, .int 0, .null]))]) [1] (by decide) rfl
  have hFc := va_free (wc := [(q1, .inr (11, [.int 0, .int 0, .int 0, .null]))]) hD hS hA [1] rfl
  refine va_callv (va_runI (As := []) (rest := [.ref q1, .ref h0]) ⟨hx, hb, hml, hown, hts⟩ (metI_Pet_11 l G q1 H.size) (cwI 0 hts (lw_meth q145) rfl rfl rfl (hts _ q82) (hts _ q177) (hts _ q144) rfl (by decide +kernel) ⟨Nat.le_of_ble_eq_true rfl, Nat.le_of_ble_eq_true rfl⟩) (i_pre hPc hDc hK hkA) rfl rfl hl.1 rfl (lv_room (Nat.le_of_ble_eq_true rfl)) dX3_init_24 ⟨Nat.le_of_ble_eq_true rfl, Nat.le_of_ble_eq_true rfl⟩) hS (fun q _ h => hFc q h) hFc (fun u t H1 locs ht hvm hw1 hB hz1 hk1 hS => ?_)
  obtain ⟨u2, rfl⟩ : ∃ z, z = u := ⟨_, rfl⟩
  obtain ⟨hP1, hD1⟩ := hB
  rw [ht] at hP1
  obtain ⟨hP, hD⟩ := va_join (wr := [(h0, .inr (12, [.int 0, .int 1, .int (-1), .int 1, .null, .null, .null, .null, .null, .null]))]) (w1 := [(q1, .inr (11, [.int 112, .int 0, .int 0, .ref (u2 1)])), ((u2 1), .inl (G.2 0, 3, .inl (upd (upd (upd (fun _ => 0) (0 : Int32).toNatClampNeg 4) (1 : Int32).toNatClampNeg 100) (2 : Int32).toNatClampNeg 60)))]) hP hD [1] [0] rfl rfl (by decide) (by decide) hk1 hFc hP1 hD1
  generalize H1 = H at hP hS ⊢
  have hP : va_P G.1 vwCl [(h0, .inr (12, [.int 0, .int 1, .int (-1), .int 1, .null, .null, .null, .null, .null, .null])), (q1, .inr (11, [.int 112, .int 0, .int 0, .ref (u2 1)])), ((u2 1), .inl (G.2 0, 3, .inl (upd (upd (upd (fun _ => 0) (0 : Int32).toNatClampNeg 4) (1 : Int32).toNatClampNeg 100) (2 : Int32).toNatClampNeg 60)))] H := hP
  have hD : va_D A [(h0, .inr (12, [.int 0, .int 1, .int (-1), .int 1, .null, .null, .null, .null, .null, .null])), (q1, .inr (11, [.int 112, .int 0, .int 0, .ref (u2 1)])), ((u2 1), .inl (G.2 0, 3, .inl (upd (upd (upd (fun _ => 0) (0 : Int32).toNatClampNeg 4) (1 : Int32).toNatClampNeg 100) (2 : Int32).toNatClampNeg 60)))] := hD
  refine va_putF (D := G.1) (ci := 12) (v := .ref q1) (ty := (.object "HamsterWeekends$Pet")) (C := RX3) (T := TX3) (N := 10) hx hb hts in_X3 tyX3 tyX3_ok nmX3 hown hK hP hD hS 0 rfl rfl 4 (by decide) (hts _ q189) (fun _ h => h) rfl hin rfl (by decide +kernel) rfl rfl (Nat.le_of_ble_eq_true rfl) dX3_init_27 (fun H locs hP hD hS => ?_)
  have hP : va_P G.1 vwCl [(h0, .inr (12, [.int 0, .int 1, .int (-1), .int 1, .ref q1, .null, .null, .null, .null, .null])), (q1, .inr (11, [.int 112, .int 0, .int 0, .ref (u2 1)])), ((u2 1), .inl (G.2 0, 3, .inl (upd (upd (upd (fun _ => 0) (0 : Int32).toNatClampNeg 4) (1 : Int32).toNatClampNeg 100) (2 : Int32).toNatClampNeg 60)))] H := hP
  have hD : va_D A [(h0, .inr (12, [.int 0, .int 1, .int (-1), .int 1, .ref q1, .null, .null, .null, .null, .null])), (q1, .inr (11, [.int 112, .int 0, .int 0, .ref (u2 1)])), ((u2 1), .inl (G.2 0, 3, .inl (upd (upd (upd (fun _ => 0) (0 : Int32).toNatClampNeg 4) (1 : Int32).toNatClampNeg 100) (2 : Int32).toNatClampNeg 60)))] := hD
  refine lv_aload_n hx hb dX3_init_30 rfl (lv_at hl 0 rfl) ?_
  refine lv_bipush (v := 8) hx hb dX3_init_31 (by decide) ?_
  refine va_newq hx hb hown (hts _ q178) hkA.2.1 hK hP hD hS hA (by decide) rfl (by decide) (Nat.le_of_ble_eq_true rfl) (Nat.le_of_ble_eq_true rfl) dX3_init_33 (fun q3 cA H hK2 hP hD hS => ?_)
  obtain rfl : cA = G.2 6 := aT_eqO hK hK2 6 rfl rfl
  have hP : va_P G.1 vwCl [(h0, .inr (12, [.int 0, .int 1, .int (-1), .int 1, .ref q1, .null, .null, .null, .null, .null])), (q1, .inr (11, [.int 112, .int 0, .int 0, .ref (u2 1)])), ((u2 1), .inl (G.2 0, 3, .inl (upd (upd (upd (fun _ => 0) (0 : Int32).toNatClampNeg 4) (1 : Int32).toNatClampNeg 100) (2 : Int32).toNatClampNeg 60))), (q3, .inl (G.2 6, 8, .inr (.inr (.inr (.inr (fun _ => none))))))] H := hP
  have hD : va_D A [(h0, .inr (12, [.int 0, .int 1, .int (-1), .int 1, .ref q1, .null, .null, .null, .null, .null])), (q1, .inr (11, [.int 112, .int 0, .int 0, .ref (u2 1)])), ((u2 1), .inl (G.2 0, 3, .inl (upd (upd (upd (fun _ => 0) (0 : Int32).toNatClampNeg 4) (1 : Int32).toNatClampNeg 100) (2 : Int32).toNatClampNeg 60))), (q3, .inl (G.2 6, 8, .inr (.inr (.inr (.inr (fun _ => none))))))] := hD
  refine va_putF (D := G.1) (ci := 12) (v := .ref q3) (ty := (.array (.object "HamsterWeekends$Home"))) (C := RX3) (T := TX3) (N := 10) hx hb hts in_X3 tyX3 tyX3_ok nmX3 hown hK hP hD hS 0 rfl rfl 5 (by decide) (hts _ q192) (fun _ h => h) rfl hin rfl (by decide +kernel) rfl rfl (Nat.le_of_ble_eq_true rfl) dX3_init_36 (fun H locs hP hD hS => ?_)
  have hP : va_P G.1 vwCl [(h0, .inr (12, [.int 0, .int 1, .int (-1), .int 1, .ref q1, .ref q3, .null, .null, .null, .null])), (q1, .inr (11, [.int 112, .int 0, .int 0, .ref (u2 1)])), ((u2 1), .inl (G.2 0, 3, .inl (upd (upd (upd (fun _ => 0) (0 : Int32).toNatClampNeg 4) (1 : Int32).toNatClampNeg 100) (2 : Int32).toNatClampNeg 60))), (q3, .inl (G.2 6, 8, .inr (.inr (.inr (.inr (fun _ => none))))))] H := hP
  have hD : va_D A [(h0, .inr (12, [.int 0, .int 1, .int (-1), .int 1, .ref q1, .ref q3, .null, .null, .null, .null])), (q1, .inr (11, [.int 112, .int 0, .int 0, .ref (u2 1)])), ((u2 1), .inl (G.2 0, 3, .inl (upd (upd (upd (fun _ => 0) (0 : Int32).toNatClampNeg 4) (1 : Int32).toNatClampNeg 100) (2 : Int32).toNatClampNeg 60))), (q3, .inl (G.2 6, 8, .inr (.inr (.inr (.inr (fun _ => none))))))] := hD
  refine lv_aload_n hx hb dX3_init_39 rfl (lv_at hl 0 rfl) ?_
  refine lv_bipush (v := 8) hx hb dX3_init_40 (by decide) ?_
  refine va_newa (atype := .int) (ty := .int) (a0 := (8, .inl (fun _ => 0))) hx hb (hts _ q140) rfl hK hP hD hS hA (fun cA => rfl) (by decide) rfl (by decide) (Nat.le_of_ble_eq_true rfl) (Nat.le_of_ble_eq_true rfl) dX3_init_42 (fun q4 cA H hK2 hP hD hS => ?_)
  obtain rfl : cA = G.2 0 := aT_eq hK hK2 0 rfl rfl (fun _ h => h)
  have hP : va_P G.1 vwCl [(h0, .inr (12, [.int 0, .int 1, .int (-1), .int 1, .ref q1, .ref q3, .null, .null, .null, .null])), (q1, .inr (11, [.int 112, .int 0, .int 0, .ref (u2 1)])), ((u2 1), .inl (G.2 0, 3, .inl (upd (upd (upd (fun _ => 0) (0 : Int32).toNatClampNeg 4) (1 : Int32).toNatClampNeg 100) (2 : Int32).toNatClampNeg 60))), (q3, .inl (G.2 6, 8, .inr (.inr (.inr (.inr (fun _ => none)))))), (q4, .inl (G.2 0, 8, .inl (fun _ => 0)))] H := hP
  have hD : va_D A [(h0, .inr (12, [.int 0, .int 1, .int (-1), .int 1, .ref q1, .ref q3, .null, .null, .null, .null])), (q1, .inr (11, [.int 112, .int 0, .int 0, .ref (u2 1)])), ((u2 1), .inl (G.2 0, 3, .inl (upd (upd (upd (fun _ => 0) (0 : Int32).toNatClampNeg 4) (1 : Int32).toNatClampNeg 100) (2 : Int32).toNatClampNeg 60))), (q3, .inl (G.2 6, 8, .inr (.inr (.inr (.inr (fun _ => none)))))), (q4, .inl (G.2 0, 8, .inl (fun _ => 0)))] := hD
  refine va_putF (D := G.1) (ci := 12) (v := .ref q4) (ty := (.array .int)) (C := RX3) (T := TX3) (N := 10) hx hb hts in_X3 tyX3 tyX3_ok nmX3 hown hK hP hD hS 0 rfl rfl 6 (by decide) (hts _ q194) (fun _ h => h) rfl hin rfl (by decide +kernel) rfl rfl (Nat.le_of_ble_eq_true rfl) dX3_init_44 (fun H locs hP hD hS => ?_)
  have hP : va_P G.1 vwCl [(h0, .inr (12, [.int 0, .int 1, .int (-1), .int 1, .ref q1, .ref q3, .ref q4, .null, .null, .null])), (q1, .inr (11, [.int 112, .int 0, .int 0, .ref (u2 1)])), ((u2 1), .inl (G.2 0, 3, .inl (upd (upd (upd (fun _ => 0) (0 : Int32).toNatClampNeg 4) (1 : Int32).toNatClampNeg 100) (2 : Int32).toNatClampNeg 60))), (q3, .inl (G.2 6, 8, .inr (.inr (.inr (.inr (fun _ => none)))))), (q4, .inl (G.2 0, 8, .inl (fun _ => 0)))] H := hP
  have hD : va_D A [(h0, .inr (12, [.int 0, .int 1, .int (-1), .int 1, .ref q1, .ref q3, .ref q4, .null, .null, .null])), (q1, .inr (11, [.int 112, .int 0, .int 0, .ref (u2 1)])), ((u2 1), .inl (G.2 0, 3, .inl (upd (upd (upd (fun _ => 0) (0 : Int32).toNatClampNeg 4) (1 : Int32).toNatClampNeg 100) (2 : Int32).toNatClampNeg 60))), (q3, .inl (G.2 6, 8, .inr (.inr (.inr (.inr (fun _ => none)))))), (q4, .inl (G.2 0, 8, .inl (fun _ => 0)))] := hD
  refine lv_aload_n hx hb dX3_init_47 rfl (lv_at hl 0 rfl) ?_
  refine lv_bipush (v := 8) hx hb dX3_init_48 (by decide) ?_
  refine va_newa (atype := .int) (ty := .int) (a0 := (8, .inl (fun _ => 0))) hx hb (hts _ q140) rfl hK hP hD hS hA (fun cA => rfl) (by decide) rfl (by decide) (Nat.le_of_ble_eq_true rfl) (Nat.le_of_ble_eq_true rfl) dX3_init_50 (fun q5 cA H hK2 hP hD hS => ?_)
  obtain rfl : cA = G.2 0 := aT_eq hK hK2 0 rfl rfl (fun _ h => h)
  have hP : va_P G.1 vwCl [(h0, .inr (12, [.int 0, .int 1, .int (-1), .int 1, .ref q1, .ref q3, .ref q4, .null, .null, .null])), (q1, .inr (11, [.int 112, .int 0, .int 0, .ref (u2 1)])), ((u2 1), .inl (G.2 0, 3, .inl (upd (upd (upd (fun _ => 0) (0 : Int32).toNatClampNeg 4) (1 : Int32).toNatClampNeg 100) (2 : Int32).toNatClampNeg 60))), (q3, .inl (G.2 6, 8, .inr (.inr (.inr (.inr (fun _ => none)))))), (q4, .inl (G.2 0, 8, .inl (fun _ => 0))), (q5, .inl (G.2 0, 8, .inl (fun _ => 0)))] H := hP
  have hD : va_D A [(h0, .inr (12, [.int 0, .int 1, .int (-1), .int 1, .ref q1, .ref q3, .ref q4, .null, .null, .null])), (q1, .inr (11, [.int 112, .int 0, .int 0, .ref (u2 1)])), ((u2 1), .inl (G.2 0, 3, .inl (upd (upd (upd (fun _ => 0) (0 : Int32).toNatClampNeg 4) (1 : Int32).toNatClampNeg 100) (2 : Int32).toNatClampNeg 60))), (q3, .inl (G.2 6, 8, .inr (.inr (.inr (.inr (fun _ => none)))))), (q4, .inl (G.2 0, 8, .inl (fun _ => 0))), (q5, .inl (G.2 0, 8, .inl (fun _ => 0)))] := hD
  refine va_putF (D := G.1) (ci := 12) (v := .ref q5) (ty := (.array .int)) (C := RX3) (T := TX3) (N := 10) hx hb hts in_X3 tyX3 tyX3_ok nmX3 hown hK hP hD hS 0 rfl rfl 7 (by decide) (hts _ q197) (fun _ h => h) rfl hin rfl (by decide +kernel) rfl rfl (Nat.le_of_ble_eq_true rfl) dX3_init_52 (fun H locs hP hD hS => ?_)
  have hP : va_P G.1 vwCl [(h0, .inr (12, [.int 0, .int 1, .int (-1), .int 1, .ref q1, .ref q3, .ref q4, .ref q5, .null, .null])), (q1, .inr (11, [.int 112, .int 0, .int 0, .ref (u2 1)])), ((u2 1), .inl (G.2 0, 3, .inl (upd (upd (upd (fun _ => 0) (0 : Int32).toNatClampNeg 4) (1 : Int32).toNatClampNeg 100) (2 : Int32).toNatClampNeg 60))), (q3, .inl (G.2 6, 8, .inr (.inr (.inr (.inr (fun _ => none)))))), (q4, .inl (G.2 0, 8, .inl (fun _ => 0))), (q5, .inl (G.2 0, 8, .inl (fun _ => 0)))] H := hP
  have hD : va_D A [(h0, .inr (12, [.int 0, .int 1, .int (-1), .int 1, .ref q1, .ref q3, .ref q4, .ref q5, .null, .null])), (q1, .inr (11, [.int 112, .int 0, .int 0, .ref (u2 1)])), ((u2 1), .inl (G.2 0, 3, .inl (upd (upd (upd (fun _ => 0) (0 : Int32).toNatClampNeg 4) (1 : Int32).toNatClampNeg 100) (2 : Int32).toNatClampNeg 60))), (q3, .inl (G.2 6, 8, .inr (.inr (.inr (.inr (fun _ => none)))))), (q4, .inl (G.2 0, 8, .inl (fun _ => 0))), (q5, .inl (G.2 0, 8, .inl (fun _ => 0)))] := hD
  refine lv_aload_n hx hb dX3_init_55 rfl (lv_at hl 0 rfl) ?_
  refine lv_bipush (v := 8) hx hb dX3_init_56 (by decide) ?_
  refine va_newa (atype := .boolean) (ty := .boolean) (a0 := (8, .inl (fun _ => 0))) hx hb (hts _ q226) rfl hK hP hD hS hA (fun cA => rfl) (by decide) rfl (by decide) (Nat.le_of_ble_eq_true rfl) (Nat.le_of_ble_eq_true rfl) dX3_init_58 (fun q6 cA H hK2 hP hD hS => ?_)
  obtain rfl : cA = G.2 2 := aT_eq hK hK2 2 rfl rfl (fun _ h => h)
  have hP : va_P G.1 vwCl [(h0, .inr (12, [.int 0, .int 1, .int (-1), .int 1, .ref q1, .ref q3, .ref q4, .ref q5, .null, .null])), (q1, .inr (11, [.int 112, .int 0, .int 0, .ref (u2 1)])), ((u2 1), .inl (G.2 0, 3, .inl (upd (upd (upd (fun _ => 0) (0 : Int32).toNatClampNeg 4) (1 : Int32).toNatClampNeg 100) (2 : Int32).toNatClampNeg 60))), (q3, .inl (G.2 6, 8, .inr (.inr (.inr (.inr (fun _ => none)))))), (q4, .inl (G.2 0, 8, .inl (fun _ => 0))), (q5, .inl (G.2 0, 8, .inl (fun _ => 0))), (q6, .inl (G.2 2, 8, .inl (fun _ => 0)))] H := hP
  have hD : va_D A [(h0, .inr (12, [.int 0, .int 1, .int (-1), .int 1, .ref q1, .ref q3, .ref q4, .ref q5, .null, .null])), (q1, .inr (11, [.int 112, .int 0, .int 0, .ref (u2 1)])), ((u2 1), .inl (G.2 0, 3, .inl (upd (upd (upd (fun _ => 0) (0 : Int32).toNatClampNeg 4) (1 : Int32).toNatClampNeg 100) (2 : Int32).toNatClampNeg 60))), (q3, .inl (G.2 6, 8, .inr (.inr (.inr (.inr (fun _ => none)))))), (q4, .inl (G.2 0, 8, .inl (fun _ => 0))), (q5, .inl (G.2 0, 8, .inl (fun _ => 0))), (q6, .inl (G.2 2, 8, .inl (fun _ => 0)))] := hD
  refine va_putF (D := G.1) (ci := 12) (v := .ref q6) (ty := (.array .boolean)) (C := RX3) (T := TX3) (N := 10) hx hb hts in_X3 tyX3 tyX3_ok nmX3 hown hK hP hD hS 0 rfl rfl 8 (by decide) (hts _ q200) (fun _ h => h) rfl hin rfl (by decide +kernel) rfl rfl (Nat.le_of_ble_eq_true rfl) dX3_init_60 (fun H locs hP hD hS => ?_)
  have hP : va_P G.1 vwCl [(h0, .inr (12, [.int 0, .int 1, .int (-1), .int 1, .ref q1, .ref q3, .ref q4, .ref q5, .ref q6, .null])), (q1, .inr (11, [.int 112, .int 0, .int 0, .ref (u2 1)])), ((u2 1), .inl (G.2 0, 3, .inl (upd (upd (upd (fun _ => 0) (0 : Int32).toNatClampNeg 4) (1 : Int32).toNatClampNeg 100) (2 : Int32).toNatClampNeg 60))), (q3, .inl (G.2 6, 8, .inr (.inr (.inr (.inr (fun _ => none)))))), (q4, .inl (G.2 0, 8, .inl (fun _ => 0))), (q5, .inl (G.2 0, 8, .inl (fun _ => 0))), (q6, .inl (G.2 2, 8, .inl (fun _ => 0)))] H := hP
  have hD : va_D A [(h0, .inr (12, [.int 0, .int 1, .int (-1), .int 1, .ref q1, .ref q3, .ref q4, .ref q5, .ref q6, .null])), (q1, .inr (11, [.int 112, .int 0, .int 0, .ref (u2 1)])), ((u2 1), .inl (G.2 0, 3, .inl (upd (upd (upd (fun _ => 0) (0 : Int32).toNatClampNeg 4) (1 : Int32).toNatClampNeg 100) (2 : Int32).toNatClampNeg 60))), (q3, .inl (G.2 6, 8, .inr (.inr (.inr (.inr (fun _ => none)))))), (q4, .inl (G.2 0, 8, .inl (fun _ => 0))), (q5, .inl (G.2 0, 8, .inl (fun _ => 0))), (q6, .inl (G.2 2, 8, .inl (fun _ => 0)))] := hD
  refine lv_aload_n hx hb dX3_init_63 rfl (lv_at hl 0 rfl) ?_
  refine lv_iconst (v := 3) hx hb dX3_init_64 (by decide) ?_
  refine va_newa (atype := .int) (ty := .int) (a0 := (3, .inl (fun _ => 0))) hx hb (hts _ q140) rfl hK hP hD hS hA (fun cA => rfl) (by decide) rfl (by decide) (Nat.le_of_ble_eq_true rfl) (Nat.le_of_ble_eq_true rfl) dX3_init_65 (fun q7 cA H hK2 hP hD hS => ?_)
  obtain rfl : cA = G.2 0 := aT_eq hK hK2 0 rfl rfl (fun _ h => h)
  have hP : va_P G.1 vwCl [(h0, .inr (12, [.int 0, .int 1, .int (-1), .int 1, .ref q1, .ref q3, .ref q4, .ref q5, .ref q6, .null])), (q1, .inr (11, [.int 112, .int 0, .int 0, .ref (u2 1)])), ((u2 1), .inl (G.2 0, 3, .inl (upd (upd (upd (fun _ => 0) (0 : Int32).toNatClampNeg 4) (1 : Int32).toNatClampNeg 100) (2 : Int32).toNatClampNeg 60))), (q3, .inl (G.2 6, 8, .inr (.inr (.inr (.inr (fun _ => none)))))), (q4, .inl (G.2 0, 8, .inl (fun _ => 0))), (q5, .inl (G.2 0, 8, .inl (fun _ => 0))), (q6, .inl (G.2 2, 8, .inl (fun _ => 0))), (q7, .inl (G.2 0, 3, .inl (fun _ => 0)))] H := hP
  have hD : va_D A [(h0, .inr (12, [.int 0, .int 1, .int (-1), .int 1, .ref q1, .ref q3, .ref q4, .ref q5, .ref q6, .null])), (q1, .inr (11, [.int 112, .int 0, .int 0, .ref (u2 1)])), ((u2 1), .inl (G.2 0, 3, .inl (upd (upd (upd (fun _ => 0) (0 : Int32).toNatClampNeg 4) (1 : Int32).toNatClampNeg 100) (2 : Int32).toNatClampNeg 60))), (q3, .inl (G.2 6, 8, .inr (.inr (.inr (.inr (fun _ => none)))))), (q4, .inl (G.2 0, 8, .inl (fun _ => 0))), (q5, .inl (G.2 0, 8, .inl (fun _ => 0))), (q6, .inl (G.2 2, 8, .inl (fun _ => 0))), (q7, .inl (G.2 0, 3, .inl (fun _ => 0)))] := hD
  refine va_putF (D := G.1) (ci := 12) (v := .ref q7) (ty := (.array .int)) (C := RX3) (T := TX3) (N := 10) hx hb hts in_X3 tyX3 tyX3_ok nmX3 hown hK hP hD hS 0 rfl rfl 9 (by decide) (hts _ q203) (fun _ h => h) rfl hin rfl (by decide +kernel) rfl rfl (Nat.le_of_ble_eq_true rfl) dX3_init_67 (fun H locs hP hD hS => ?_)
  have hP : va_P G.1 vwCl [(h0, .inr (12, [.int 0, .int 1, .int (-1), .int 1, .ref q1, .ref q3, .ref q4, .ref q5, .ref q6, .ref q7])), (q1, .inr (11, [.int 112, .int 0, .int 0, .ref (u2 1)])), ((u2 1), .inl (G.2 0, 3, .inl (upd (upd (upd (fun _ => 0) (0 : Int32).toNatClampNeg 4) (1 : Int32).toNatClampNeg 100) (2 : Int32).toNatClampNeg 60))), (q3, .inl (G.2 6, 8, .inr (.inr (.inr (.inr (fun _ => none)))))), (q4, .inl (G.2 0, 8, .inl (fun _ => 0))), (q5, .inl (G.2 0, 8, .inl (fun _ => 0))), (q6, .inl (G.2 2, 8, .inl (fun _ => 0))), (q7, .inl (G.2 0, 3, .inl (fun _ => 0)))] H := hP
  have hD : va_D A [(h0, .inr (12, [.int 0, .int 1, .int (-1), .int 1, .ref q1, .ref q3, .ref q4, .ref q5, .ref q6, .ref q7])), (q1, .inr (11, [.int 112, .int 0, .int 0, .ref (u2 1)])), ((u2 1), .inl (G.2 0, 3, .inl (upd (upd (upd (fun _ => 0) (0 : Int32).toNatClampNeg 4) (1 : Int32).toNatClampNeg 100) (2 : Int32).toNatClampNeg 60))), (q3, .inl (G.2 6, 8, .inr (.inr (.inr (.inr (fun _ => none)))))), (q4, .inl (G.2 0, 8, .inl (fun _ => 0))), (q5, .inl (G.2 0, 8, .inl (fun _ => 0))), (q6, .inl (G.2 2, 8, .inl (fun _ => 0))), (q7, .inl (G.2 0, 3, .inl (fun _ => 0)))] := hD
  refine W.widen (k := 7) (n := 42) (Nat.le_of_ble_eq_true rfl) (Nat.le_of_ble_eq_true rfl) ?_
  exact W.vret hx hb hr (fun t ht hW => ⟨⟨fun i => if i = 1 then q1 else if i = 2 then (u2 1) else if i = 3 then q3 else if i = 4 then q4 else if i = 5 then q5 else if i = 6 then q6 else if i = 7 then q7 else 0, rfl, trivial, by rw [ht]; exact hP, hD⟩, hS.F ht⟩) hS.2.2 dX3_init_70 hlocks
