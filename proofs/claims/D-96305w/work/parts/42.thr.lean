set_option maxRecDepth 100000
/-- the two statics that Throwable's constructor reads, outside the cells A -/
def ZZ (A : Nat → Prop) (U : State) (H : Heap) : Prop := vx_Zq "java/lang/Throwable" "UNASSIGNED_STACK" "[Ljava/lang/StackTraceElement;" A U H ∧ vx_Zq "java/lang/Throwable" "SUPPRESSED_SENTINEL" "Ljava/util/List;" A U H
theorem ZZ.moved {A : Nat → Prop} {u U : State} {H : Heap} (hvm : u.vm.Alike U.vm) (h : ZZ A u H) : ZZ A U H := ⟨h.1.moved hvm, h.2.moved hvm⟩
theorem ZZ.kept {A : Nat → Prop} {U : State} {H H1 : Heap} (h : ZZ A U H) (hq : ∀ a : Nat, a < H.size → ¬ A a → H1[a]? = H[a]?) : ZZ A U H1 := ⟨h.1.kept hq, h.2.kept hq⟩
theorem ZZ.narrow {A B : Nat → Prop} {U : State} {H : Heap} (h : ZZ A U H) (hAB : ∀ q, B q → A q) : ZZ B U H := ⟨h.1.narrow hAB, h.2.narrow hAB⟩
theorem zq_val {C n d : String} {A : Nat → Prop} {U : State} {H : Heap} (h : vx_Zq C n d A U H) : ∃ v : Value, (v = .null ∨ ∃ a, v = .ref a) ∧ va_Z C n d v A U H := by
  rcases h.1 with h | ⟨t, h⟩
  · exact ⟨_, Or.inl rfl, h⟩
  · exact ⟨_, Or.inr ⟨t, rfl⟩, h⟩
def ePc (G : kG) (k : Nat) (fs : List Value) (q : Nat) (As : List Value) : Array Value → State → Prop := fun v U => v = As.toArray ∧ va_P G.1 vwCl [(q, .inr (k, fs))] U.heap ∧ mK G U ∧ ZZ (nA [q]) U U.heap
def eQc (G : kG) (k : Nat) (fs : List Value) (q : Nat) : Array Value → State → Outcome → State → Prop := fun _ st oc t => oc = .returned none ∧ va_P G.1 vwCl [(q, .inr (k, fs))] t.heap ∧ va_F (nA [q]) st t
theorem ePc_blind {G : kG} {k : Nat} {fs : List Value} {q : Nat} {As : List Value} : FrameBlind (ePc G k fs q As) := fun a U g mk h => ⟨h.1, h.2.1, va_K.moved (u := U) (U := U.calling g mk a) (Vm.Alike.refl U.vm) h.2.2.1, ZZ.moved (u := U) (U := U.calling g mk a) (Vm.Alike.refl U.vm) h.2.2.2⟩
theorem eD {q : Nat} {e : va_E} : va_D (nA [q]) [(q, e)] := va_D_of (by simp) (fun z hz => hz)
theorem e_after {p : Program} {l : Launch} {e : Env} {R : Room} {s : State} {m : MethodId} {args : Array Value} {below : List Frame} {meth : Method} {c : Code} {H : Heap} {locs : List Loc} {cells slots : Nat} {Q : State → Prop} {pc : Nat} {ls : Array Slot} {rest st : List Value} {G : kG} {k q : Nat} {fs : List Value} {a : Array Value} (hS : va_S (nA [q]) s.heap H locs) (hr : va_Run p l e R s m args below meth c H locs cells slots 0 0 (F0 m pc ls st) rest (eQc G k fs q a) (nA [q]))
    (kk : ∀ (H1 : Heap) (locs1 : List Loc), va_P G.1 vwCl [(q, .inr (k, fs))] H1 → va_S (nA [q]) s.heap H1 locs1 → W p l e R s m args below meth c H1 locs1 cells slots Q (F0 m (pc + 3) ls rest)) : W p l e R s m args below meth c H locs cells slots Q (F0 m pc ls st) := by
  intro T hT X
  obtain ⟨v, st₀, t, T', L1, e0, X', hL, e1, e2, ⟨hv, hP1, hz, hk⟩, stp⟩ := hr T hT X
  cases hv
  rw [e0] at hz hk
  obtain ⟨t2, a1, b1⟩ := kk T'.heap (locs ++ L1) (by rw [e1]; exact hP1)
    ⟨Nat.le_trans hS.1 (by rw [e1]; exact hz), fun q h1 h2 => by rw [e1, hk q (Nat.lt_of_lt_of_le h1 hS.1) h2]; exact hS.2.1 q h1 h2, fun q hq => by
      rcases List.mem_append.mp hq with h | h
      · exact hS.2.2 q h
      · exact hL q h⟩ T' rfl X'
  exact ⟨t2, stp t2 a1, b1⟩
set_option maxHeartbeats 4000000 in
theorem metE_thr_18 (l : Launch) (G : kG) (q : Nat) (c0 c1 c2 c3 bt : Value) (dp : Int32) (wy : Int32) : Met l yJ0_init_3 (ws_ yJ0_init_3 cJ0_init_3 5 none) ({ frames := 1, cells := 0, slots := 0, locals := 20 } : Room) (ePc G 18 [c0, c1, c2, c3, bt, .int dp, .int wy] q [.ref q, .null, .null, .int 0, .int 0]) (eQc G 18 [.null, .null, .null, .null, bt, .int dp, .int wy] q) 0 0 (nA [q]) := by
  refine Met.ofW (cc := cJ0_init_3) (maxL := 5) (ret := none) (by decide) rfl ?_
  intro p e s m args below meth c s₁ B hml hv
  obtain ⟨rfl, hP, hK, hZ⟩ := hv
  have hx := B.exec
  have hb := B.bytes
  have hr := B.returns
  have hts := atoms_spec (ws := ws_ yJ0_init_3 cJ0_init_3 5 none) B.pre
  have hts : ∀ w ∈ lw_all, w.before _ s = true := fun w h => hts w (List.mem_cons_of_mem _ h)
  have hown : s.vm.findClass RJ0 = some m.cls := findClass_of_methodNamed B.named
  have hlocks := B.notSynchronized
  have hin : meth.name = "<init>" := (name_of_methodNamed B.named B.method).1
  have hS : va_S (nA [q]) s.heap s.heap [] := va_S.rf
  have hD : va_D (nA [q]) [(q, (.inr (18, [c0, c1, c2, c3, bt, .int dp, .int wy]) : va_E))] := eD
  have hl := lv_entry ([.ref q, .null, .null, .int 0, .int 0]) (n := 5) (Nat.le_of_ble_eq_true rfl)
  rw [lg_entry_eq]
  generalize (lg_sl ([.ref q, .null, .null, .int 0, .int 0]) ++ List.replicate (5 - (lg_sl ([.ref q, .null, .null, .int 0, .int 0])).length) Slot.unset).toArray = ls at hl ⊢
  have hl : lv_has ls 5 [(0, .ref q), (1, .null), (2, .null), (3, .int 0), (4, .int 0)] := hl
  refine lv_aload_n hx hb dJ0_init_3_0 rfl (lv_at hl 0 rfl) ?_
  refine W.objInit hx hb hown (hts _ q312) (hts _ q121) (hts _ q122) rfl (by rw [hml]; exact hl.1) rfl dJ0_init_3_1 (Nat.le_of_ble_eq_true rfl) (Nat.le_of_ble_eq_true rfl) ?_
  refine W.eq (g2 := F0 m 4 ls []) rfl ?_
  refine lv_aload_n hx hb dJ0_init_3_4 rfl (lv_at hl 0 rfl) ?_
  refine lv_aload_n hx hb dJ0_init_3_5 rfl (lv_at hl 0 rfl) ?_
  refine va_put (D := G.1) (ci := 18) (v := .ref q) (ty := (.object "java/lang/Throwable")) (C := RX6) (T := TX6) (N := 7) hx hb hts in_X6 tyX6 tyX6_ok nmX6 hown hK hP hD hS 0 rfl rfl 0 (by decide) (hts _ q333) (fun _ h => h) rfl (by decide +kernel) rfl rfl (Nat.le_of_ble_eq_true rfl) dJ0_init_3_6 (fun H locs hP hD hS => ?_)
  obtain ⟨v1, hv1, hz1⟩ := zq_val hZ.1
  obtain ⟨v2, hv2, hz2⟩ := zq_val hZ.2
  refine lv_aload_n hx hb dJ0_init_3_9 rfl (lv_at hl 0 rfl) ?_
  refine va_gets hx hb hz1 hS hown (hts _ q313) (fun _ h => h) dJ0_init_3_10 ?_
  refine va_put (D := G.1) (ci := 18) (v := v1) (ty := (.array (.object "java/lang/StackTraceElement"))) (C := RX6) (T := TX6) (N := 7) hx hb hts in_X6 tyX6 tyX6_ok nmX6 hown hK hP hD hS 0 rfl rfl 1 (by decide) (hts _ q334) (fun _ h => h) rfl (by decide +kernel) (by rcases hv1 with rfl | ⟨a, rfl⟩ <;> rfl) (by rcases hv1 with rfl | ⟨a, rfl⟩ <;> rfl) (Nat.le_of_ble_eq_true rfl) dJ0_init_3_13 (fun H locs hP hD hS => ?_)
  refine lv_aload_n hx hb dJ0_init_3_16 rfl (lv_at hl 0 rfl) ?_
  refine va_gets hx hb hz2 hS hown (hts _ q315) (fun _ h => h) dJ0_init_3_17 ?_
  refine va_put (D := G.1) (ci := 18) (v := v2) (ty := (.object "java/util/List")) (C := RX6) (T := TX6) (N := 7) hx hb hts in_X6 tyX6 tyX6_ok nmX6 hown hK hP hD hS 0 rfl rfl 2 (by decide) (hts _ q335) (fun _ h => h) rfl (by decide +kernel) (by rcases hv2 with rfl | ⟨a, rfl⟩ <;> rfl) (by rcases hv2 with rfl | ⟨a, rfl⟩ <;> rfl) (Nat.le_of_ble_eq_true rfl) dJ0_init_3_20 (fun H locs hP hD hS => ?_)
  refine lv_iload hx hb dJ0_init_3_23 (lv_at hl 4 rfl) ?_
  refine lv_if_eq (tgt := 36) hx hb dJ0_init_3_25 (by decide) (fun _ => ?_) (fun c => absurd rfl c)
  refine lv_aload_n hx hb dJ0_init_3_36 rfl (lv_at hl 0 rfl) ?_
  refine lv_null hx hb dJ0_init_3_37 ?_
  refine va_put (D := G.1) (ci := 18) (v := .null) (ty := (.array (.object "java/lang/StackTraceElement"))) (C := RX6) (T := TX6) (N := 7) hx hb hts in_X6 tyX6 tyX6_ok nmX6 hown hK hP hD hS 0 rfl rfl 1 (by decide) (hts _ q334) (fun _ h => h) rfl (by decide +kernel) rfl rfl (Nat.le_of_ble_eq_true rfl) dJ0_init_3_38 (fun H locs hP hD hS => ?_)
  refine lv_aload_n hx hb dJ0_init_3_41 rfl (lv_at hl 0 rfl) ?_
  refine lv_aload_nN hx hb dJ0_init_3_42 rfl (lv_at hl 1 rfl) ?_
  refine va_put (D := G.1) (ci := 18) (v := .null) (ty := (.object "java/lang/String")) (C := RX6) (T := TX6) (N := 7) hx hb hts in_X6 tyX6 tyX6_ok nmX6 hown hK hP hD hS 0 rfl rfl 3 (by decide) (hts _ q332) (fun _ h => h) rfl (by decide +kernel) rfl rfl (Nat.le_of_ble_eq_true rfl) dJ0_init_3_43 (fun H locs hP hD hS => ?_)
  refine lv_aload_n hx hb dJ0_init_3_46 rfl (lv_at hl 0 rfl) ?_
  refine lv_aload_nN hx hb dJ0_init_3_47 rfl (lv_at hl 2 rfl) ?_
  refine va_put (D := G.1) (ci := 18) (v := .null) (ty := (.object "java/lang/Throwable")) (C := RX6) (T := TX6) (N := 7) hx hb hts in_X6 tyX6 tyX6_ok nmX6 hown hK hP hD hS 0 rfl rfl 0 (by decide) (hts _ q333) (fun _ h => h) rfl (by decide +kernel) rfl rfl (Nat.le_of_ble_eq_true rfl) dJ0_init_3_48 (fun H locs hP hD hS => ?_)
  refine lv_iload_n hx hb dJ0_init_3_51 rfl (lv_at hl 3 rfl) ?_
  refine lv_if_ne (tgt := 60) hx hb dJ0_init_3_52 (by decide) (fun c => absurd rfl c) (fun _ => ?_)
  refine lv_aload_n hx hb dJ0_init_3_55 rfl (lv_at hl 0 rfl) ?_
  refine lv_null hx hb dJ0_init_3_56 ?_
  refine va_put (D := G.1) (ci := 18) (v := .null) (ty := (.object "java/util/List")) (C := RX6) (T := TX6) (N := 7) hx hb hts in_X6 tyX6 tyX6_ok nmX6 hown hK hP hD hS 0 rfl rfl 2 (by decide) (hts _ q335) (fun _ h => h) rfl (by decide +kernel) rfl rfl (Nat.le_of_ble_eq_true rfl) dJ0_init_3_57 (fun H locs hP hD hS => ?_)
  exact W.vret hx hb hr (fun t ht hW => ⟨rfl, by rw [ht]; exact hP, hS.F ht⟩) hS.2.2 dJ0_init_3_60 hlocks
set_option maxHeartbeats 4000000 in
theorem metE_exc_18 (l : Launch) (G : kG) (q : Nat) (c0 c1 c2 c3 bt : Value) (dp : Int32) (wy : Int32) : Met l yJ1_init_2 (ws_ yJ1_init_2 cJ1_init_2 5 none) ({ frames := 2, cells := 0, slots := 0, locals := 50 } : Room) (ePc G 18 [c0, c1, c2, c3, bt, .int dp, .int wy] q [.ref q, .null, .null, .int 0, .int 0]) (eQc G 18 [.null, .null, .null, .null, bt, .int dp, .int wy] q) 0 0 (nA [q]) := by
  refine Met.ofW (cc := cJ1_init_2) (maxL := 5) (ret := none) (by decide) rfl ?_
  intro p e s m args below meth c s₁ B hml hv
  obtain ⟨rfl, hP, hK, hZ⟩ := hv
  have hx := B.exec
  have hb := B.bytes
  have hr := B.returns
  have hts := atoms_spec (ws := ws_ yJ1_init_2 cJ1_init_2 5 none) B.pre
  have hts : ∀ w ∈ lw_all, w.before _ s = true := fun w h => hts w (List.mem_cons_of_mem _ h)
  have hown : s.vm.findClass RJ1 = some m.cls := findClass_of_methodNamed B.named
  have hlocks := B.notSynchronized
  have hin : meth.name = "<init>" := (name_of_methodNamed B.named B.method).1
  have hS : va_S (nA [q]) s.heap s.heap [] := va_S.rf
  have hD : va_D (nA [q]) [(q, (.inr (18, [c0, c1, c2, c3, bt, .int dp, .int wy]) : va_E))] := eD
  have hl := lv_entry ([.ref q, .null, .null, .int 0, .int 0]) (n := 5) (Nat.le_of_ble_eq_true rfl)
  rw [lg_entry_eq]
  generalize (lg_sl ([.ref q, .null, .null, .int 0, .int 0]) ++ List.replicate (5 - (lg_sl ([.ref q, .null, .null, .int 0, .int 0])).length) Slot.unset).toArray = ls at hl ⊢
  have hl : lv_has ls 5 [(0, .ref q), (1, .null), (2, .null), (3, .int 0), (4, .int 0)] := hl
  refine lv_aload_n hx hb dJ1_init_2_0 rfl (lv_at hl 0 rfl) ?_
  refine lv_aload_nN hx hb dJ1_init_2_1 rfl (lv_at hl 1 rfl) ?_
  refine lv_aload_nN hx hb dJ1_init_2_2 rfl (lv_at hl 2 rfl) ?_
  refine lv_iload_n hx hb dJ1_init_2_3 rfl (lv_at hl 3 rfl) ?_
  refine lv_iload hx hb dJ1_init_2_4 (lv_at hl 4 rfl) ?_
  refine e_after (k := 18) hS (va_runI (As := [.null, .null, .int 0, .int 0]) (rest := []) ⟨hx, hb, hml, hown, hts⟩ (metE_thr_18 l G q _ _ _ _ _ _ _) (cwI 4 hts (lw_meth q390) rfl rfl rfl (hts _ q86) (hts _ q388) (hts _ q389) rfl (by decide +kernel) ⟨Nat.le_of_ble_eq_true rfl, Nat.le_of_ble_eq_true rfl⟩) ⟨ePc_blind, fun U hU hW => ⟨rfl, by rw [hU]; exact hP, va_K.moved hW.alike hK, by rw [hU]; exact (hZ.moved hW.alike).kept (fun a h1 h2 => hS.2.1 a h1 h2)⟩⟩ rfl rfl hl.1 rfl (lv_room (Nat.le_of_ble_eq_true rfl)) dJ1_init_2_6 ⟨Nat.le_refl _, Nat.le_refl _⟩) (fun H locs hP hS => ?_)
  exact W.vret hx hb hr (fun t ht hW => ⟨rfl, by rw [ht]; exact hP, hS.F ht⟩) hS.2.2 dJ1_init_2_9 hlocks
set_option maxHeartbeats 4000000 in
theorem metE_own_18 (l : Launch) (G : kG) (q : Nat) (c0 c1 c2 c3 bt : Value) (dp : Int32) (wy p1 : Int32) : Met l yX6_init (ws_ yX6_init cX6_init 2 none) ({ frames := 3, cells := 0, slots := 0, locals := 80 } : Room) (ePc G 18 [c0, c1, c2, c3, bt, .int dp, .int wy] q [.ref q, .int p1]) (eQc G 18 [.null, .null, .null, .null, bt, .int dp, .int p1] q) 0 0 (nA [q]) := by
  refine Met.ofW (cc := cX6_init) (maxL := 2) (ret := none) (by decide) rfl ?_
  intro p e s m args below meth c s₁ B hml hv
  obtain ⟨rfl, hP, hK, hZ⟩ := hv
  have hx := B.exec
  have hb := B.bytes
  have hr := B.returns
  have hts := atoms_spec (ws := ws_ yX6_init cX6_init 2 none) B.pre
  have hts : ∀ w ∈ lw_all, w.before _ s = true := fun w h => hts w (List.mem_cons_of_mem _ h)
  have hown : s.vm.findClass RX6 = some m.cls := findClass_of_methodNamed B.named
  have hlocks := B.notSynchronized
  have hin : meth.name = "<init>" := (name_of_methodNamed B.named B.method).1
  have hS : va_S (nA [q]) s.heap s.heap [] := va_S.rf
  have hD : va_D (nA [q]) [(q, (.inr (18, [c0, c1, c2, c3, bt, .int dp, .int wy]) : va_E))] := eD
  have hl := lv_entry ([.ref q, .int p1]) (n := 2) (Nat.le_of_ble_eq_true rfl)
  rw [lg_entry_eq]
  generalize (lg_sl ([.ref q, .int p1]) ++ List.replicate (2 - (lg_sl ([.ref q, .int p1])).length) Slot.unset).toArray = ls at hl ⊢
  have hl : lv_has ls 2 [(0, .ref q), (1, .int p1)] := hl
  refine lv_aload_n hx hb dX6_init_0 rfl (lv_at hl 0 rfl) ?_
  refine lv_null hx hb dX6_init_1 ?_
  refine lv_null hx hb dX6_init_2 ?_
  refine lv_iconst (v := 0) hx hb dX6_init_3 (by decide) ?_
  refine lv_iconst (v := 0) hx hb dX6_init_4 (by decide) ?_
  refine e_after (k := 18) hS (va_runI (As := [.null, .null, .int 0, .int 0]) (rest := []) ⟨hx, hb, hml, hown, hts⟩ (metE_exc_18 l G q _ _ _ _ _ _ _) (cwI 4 hts (lw_meth q387) rfl rfl rfl (hts _ q87) (hts _ q385) (hts _ q386) rfl (by decide +kernel) ⟨Nat.le_of_ble_eq_true rfl, Nat.le_of_ble_eq_true rfl⟩) ⟨ePc_blind, fun U hU hW => ⟨rfl, by rw [hU]; exact hP, va_K.moved hW.alike hK, by rw [hU]; exact (hZ.moved hW.alike).kept (fun a h1 h2 => hS.2.1 a h1 h2)⟩⟩ rfl rfl hl.1 rfl (lv_room (Nat.le_of_ble_eq_true rfl)) dX6_init_5 ⟨Nat.le_refl _, Nat.le_refl _⟩) (fun H locs hP hS => ?_)
  refine lv_aload_n hx hb dX6_init_8 rfl (lv_at hl 0 rfl) ?_
  refine lv_iload_n hx hb dX6_init_9 rfl (lv_at hl 1 rfl) ?_
  refine va_putF (D := G.1) (ci := 18) (v := .int p1) (ty := .int) (C := RX6) (T := TX6) (N := 7) hx hb hts in_X6 tyX6 tyX6_ok nmX6 hown hK hP eD hS 0 rfl rfl 6 (by decide) (hts _ q391) (fun _ h => h) rfl hin rfl (by decide +kernel) rfl rfl (Nat.le_of_ble_eq_true rfl) dX6_init_10 (fun H locs hP hD hS => ?_)
  exact W.vret hx hb hr (fun t ht hW => ⟨rfl, by rw [ht]; exact hP, hS.F ht⟩) hS.2.2 dX6_init_13 hlocks
set_option maxHeartbeats 4000000 in
theorem metE_thr_19 (l : Launch) (G : kG) (q : Nat) (c0 c1 c2 c3 bt : Value) (dp : Int32) (wy : Int32) : Met l yJ0_init_3 (ws_ yJ0_init_3 cJ0_init_3 5 none) ({ frames := 1, cells := 0, slots := 0, locals := 20 } : Room) (ePc G 19 [c0, c1, c2, c3, bt, .int dp, .int wy] q [.ref q, .null, .null, .int 0, .int 0]) (eQc G 19 [.null, .null, .null, .null, bt, .int dp, .int wy] q) 0 0 (nA [q]) := by
  refine Met.ofW (cc := cJ0_init_3) (maxL := 5) (ret := none) (by decide) rfl ?_
  intro p e s m args below meth c s₁ B hml hv
  obtain ⟨rfl, hP, hK, hZ⟩ := hv
  have hx := B.exec
  have hb := B.bytes
  have hr := B.returns
  have hts := atoms_spec (ws := ws_ yJ0_init_3 cJ0_init_3 5 none) B.pre
  have hts : ∀ w ∈ lw_all, w.before _ s = true := fun w h => hts w (List.mem_cons_of_mem _ h)
  have hown : s.vm.findClass RJ0 = some m.cls := findClass_of_methodNamed B.named
  have hlocks := B.notSynchronized
  have hin : meth.name = "<init>" := (name_of_methodNamed B.named B.method).1
  have hS : va_S (nA [q]) s.heap s.heap [] := va_S.rf
  have hD : va_D (nA [q]) [(q, (.inr (19, [c0, c1, c2, c3, bt, .int dp, .int wy]) : va_E))] := eD
  have hl := lv_entry ([.ref q, .null, .null, .int 0, .int 0]) (n := 5) (Nat.le_of_ble_eq_true rfl)
  rw [lg_entry_eq]
  generalize (lg_sl ([.ref q, .null, .null, .int 0, .int 0]) ++ List.replicate (5 - (lg_sl ([.ref q, .null, .null, .int 0, .int 0])).length) Slot.unset).toArray = ls at hl ⊢
  have hl : lv_has ls 5 [(0, .ref q), (1, .null), (2, .null), (3, .int 0), (4, .int 0)] := hl
  refine lv_aload_n hx hb dJ0_init_3_0 rfl (lv_at hl 0 rfl) ?_
  refine W.objInit hx hb hown (hts _ q312) (hts _ q121) (hts _ q122) rfl (by rw [hml]; exact hl.1) rfl dJ0_init_3_1 (Nat.le_of_ble_eq_true rfl) (Nat.le_of_ble_eq_true rfl) ?_
  refine W.eq (g2 := F0 m 4 ls []) rfl ?_
  refine lv_aload_n hx hb dJ0_init_3_4 rfl (lv_at hl 0 rfl) ?_
  refine lv_aload_n hx hb dJ0_init_3_5 rfl (lv_at hl 0 rfl) ?_
  refine va_put (D := G.1) (ci := 19) (v := .ref q) (ty := (.object "java/lang/Throwable")) (C := RX20) (T := TX20) (N := 7) hx hb hts in_X20 tyX20 tyX20_ok nmX20 hown hK hP hD hS 0 rfl rfl 0 (by decide) (hts _ q333) (fun _ h => h) rfl (by decide +kernel) rfl rfl (Nat.le_of_ble_eq_true rfl) dJ0_init_3_6 (fun H locs hP hD hS => ?_)
  obtain ⟨v1, hv1, hz1⟩ := zq_val hZ.1
  obtain ⟨v2, hv2, hz2⟩ := zq_val hZ.2
  refine lv_aload_n hx hb dJ0_init_3_9 rfl (lv_at hl 0 rfl) ?_
  refine va_gets hx hb hz1 hS hown (hts _ q313) (fun _ h => h) dJ0_init_3_10 ?_
  refine va_put (D := G.1) (ci := 19) (v := v1) (ty := (.array (.object "java/lang/StackTraceElement"))) (C := RX20) (T := TX20) (N := 7) hx hb hts in_X20 tyX20 tyX20_ok nmX20 hown hK hP hD hS 0 rfl rfl 1 (by decide) (hts _ q334) (fun _ h => h) rfl (by decide +kernel) (by rcases hv1 with rfl | ⟨a, rfl⟩ <;> rfl) (by rcases hv1 with rfl | ⟨a, rfl⟩ <;> rfl) (Nat.le_of_ble_eq_true rfl) dJ0_init_3_13 (fun H locs hP hD hS => ?_)
  refine lv_aload_n hx hb dJ0_init_3_16 rfl (lv_at hl 0 rfl) ?_
  refine va_gets hx hb hz2 hS hown (hts _ q315) (fun _ h => h) dJ0_init_3_17 ?_
  refine va_put (D := G.1) (ci := 19) (v := v2) (ty := (.object "java/util/List")) (C := RX20) (T := TX20) (N := 7) hx hb hts in_X20 tyX20 tyX20_ok nmX20 hown hK hP hD hS 0 rfl rfl 2 (by decide) (hts _ q335) (fun _ h => h) rfl (by decide +kernel) (by rcases hv2 with rfl | ⟨a, rfl⟩ <;> rfl) (by rcases hv2 with rfl | ⟨a, rfl⟩ <;> rfl) (Nat.le_of_ble_eq_true rfl) dJ0_init_3_20 (fun H locs hP hD hS => ?_)
  refine lv_iload hx hb dJ0_init_3_23 (lv_at hl 4 rfl) ?_
  refine lv_if_eq (tgt := 36) hx hb dJ0_init_3_25 (by decide) (fun _ => ?_) (fun c => absurd rfl c)
  refine lv_aload_n hx hb dJ0_init_3_36 rfl (lv_at hl 0 rfl) ?_
  refine lv_null hx hb dJ0_init_3_37 ?_
  refine va_put (D := G.1) (ci := 19) (v := .null) (ty := (.array (.object "java/lang/StackTraceElement"))) (C := RX20) (T := TX20) (N := 7) hx hb hts in_X20 tyX20 tyX20_ok nmX20 hown hK hP hD hS 0 rfl rfl 1 (by decide) (hts _ q334) (fun _ h => h) rfl (by decide +kernel) rfl rfl (Nat.le_of_ble_eq_true rfl) dJ0_init_3_38 (fun H locs hP hD hS => ?_)
  refine lv_aload_n hx hb dJ0_init_3_41 rfl (lv_at hl 0 rfl) ?_
  refine lv_aload_nN hx hb dJ0_init_3_42 rfl (lv_at hl 1 rfl) ?_
  refine va_put (D := G.1) (ci := 19) (v := .null) (ty := (.object "java/lang/String")) (C := RX20) (T := TX20) (N := 7) hx hb hts in_X20 tyX20 tyX20_ok nmX20 hown hK hP hD hS 0 rfl rfl 3 (by decide) (hts _ q332) (fun _ h => h) rfl (by decide +kernel) rfl rfl (Nat.le_of_ble_eq_true rfl) dJ0_init_3_43 (fun H locs hP hD hS => ?_)
  refine lv_aload_n hx hb dJ0_init_3_46 rfl (lv_at hl 0 rfl) ?_
  refine lv_aload_nN hx hb dJ0_init_3_47 rfl (lv_at hl 2 rfl) ?_
  refine va_put (D := G.1) (ci := 19) (v := .null) (ty := (.object "java/lang/Throwable")) (C := RX20) (T := TX20) (N := 7) hx hb hts in_X20 tyX20 tyX20_ok nmX20 hown hK hP hD hS 0 rfl rfl 0 (by decide) (hts _ q333) (fun _ h => h) rfl (by decide +kernel) rfl rfl (Nat.le_of_ble_eq_true rfl) dJ0_init_3_48 (fun H locs hP hD hS => ?_)
  refine lv_iload_n hx hb dJ0_init_3_51 rfl (lv_at hl 3 rfl) ?_
  refine lv_if_ne (tgt := 60) hx hb dJ0_init_3_52 (by decide) (fun c => absurd rfl c) (fun _ => ?_)
  refine lv_aload_n hx hb dJ0_init_3_55 rfl (lv_at hl 0 rfl) ?_
  refine lv_null hx hb dJ0_init_3_56 ?_
  refine va_put (D := G.1) (ci := 19) (v := .null) (ty := (.object "java/util/List")) (C := RX20) (T := TX20) (N := 7) hx hb hts in_X20 tyX20 tyX20_ok nmX20 hown hK hP hD hS 0 rfl rfl 2 (by decide) (hts _ q335) (fun _ h => h) rfl (by decide +kernel) rfl rfl (Nat.le_of_ble_eq_true rfl) dJ0_init_3_57 (fun H locs hP hD hS => ?_)
  exact W.vret hx hb hr (fun t ht hW => ⟨rfl, by rw [ht]; exact hP, hS.F ht⟩) hS.2.2 dJ0_init_3_60 hlocks
set_option maxHeartbeats 4000000 in
theorem metE_exc_19 (l : Launch) (G : kG) (q : Nat) (c0 c1 c2 c3 bt : Value) (dp : Int32) (wy : Int32) : Met l yJ1_init_2 (ws_ yJ1_init_2 cJ1_init_2 5 none) ({ frames := 2, cells := 0, slots := 0, locals := 50 } : Room) (ePc G 19 [c0, c1, c2, c3, bt, .int dp, .int wy] q [.ref q, .null, .null, .int 0, .int 0]) (eQc G 19 [.null, .null, .null, .null, bt, .int dp, .int wy] q) 0 0 (nA [q]) := by
  refine Met.ofW (cc := cJ1_init_2) (maxL := 5) (ret := none) (by decide) rfl ?_
  intro p e s m args below meth c s₁ B hml hv
  obtain ⟨rfl, hP, hK, hZ⟩ := hv
  have hx := B.exec
  have hb := B.bytes
  have hr := B.returns
  have hts := atoms_spec (ws := ws_ yJ1_init_2 cJ1_init_2 5 none) B.pre
  have hts : ∀ w ∈ lw_all, w.before _ s = true := fun w h => hts w (List.mem_cons_of_mem _ h)
  have hown : s.vm.findClass RJ1 = some m.cls := findClass_of_methodNamed B.named
  have hlocks := B.notSynchronized
  have hin : meth.name = "<init>" := (name_of_methodNamed B.named B.method).1
  have hS : va_S (nA [q]) s.heap s.heap [] := va_S.rf
  have hD : va_D (nA [q]) [(q, (.inr (19, [c0, c1, c2, c3, bt, .int dp, .int wy]) : va_E))] := eD
  have hl := lv_entry ([.ref q, .null, .null, .int 0, .int 0]) (n := 5) (Nat.le_of_ble_eq_true rfl)
  rw [lg_entry_eq]
  generalize (lg_sl ([.ref q, .null, .null, .int 0, .int 0]) ++ List.replicate (5 - (lg_sl ([.ref q, .null, .null, .int 0, .int 0])).length) Slot.unset).toArray = ls at hl ⊢
  have hl : lv_has ls 5 [(0, .ref q), (1, .null), (2, .null), (3, .int 0), (4, .int 0)] := hl
  refine lv_aload_n hx hb dJ1_init_2_0 rfl (lv_at hl 0 rfl) ?_
  refine lv_aload_nN hx hb dJ1_init_2_1 rfl (lv_at hl 1 rfl) ?_
  refine lv_aload_nN hx hb dJ1_init_2_2 rfl (lv_at hl 2 rfl) ?_
  refine lv_iload_n hx hb dJ1_init_2_3 rfl (lv_at hl 3 rfl) ?_
  refine lv_iload hx hb dJ1_init_2_4 (lv_at hl 4 rfl) ?_
  refine e_after (k := 19) hS (va_runI (As := [.null, .null, .int 0, .int 0]) (rest := []) ⟨hx, hb, hml, hown, hts⟩ (metE_thr_19 l G q _ _ _ _ _ _ _) (cwI 4 hts (lw_meth q390) rfl rfl rfl (hts _ q86) (hts _ q388) (hts _ q389) rfl (by decide +kernel) ⟨Nat.le_of_ble_eq_true rfl, Nat.le_of_ble_eq_true rfl⟩) ⟨ePc_blind, fun U hU hW => ⟨rfl, by rw [hU]; exact hP, va_K.moved hW.alike hK, by rw [hU]; exact (hZ.moved hW.alike).kept (fun a h1 h2 => hS.2.1 a h1 h2)⟩⟩ rfl rfl hl.1 rfl (lv_room (Nat.le_of_ble_eq_true rfl)) dJ1_init_2_6 ⟨Nat.le_refl _, Nat.le_refl _⟩) (fun H locs hP hS => ?_)
  exact W.vret hx hb hr (fun t ht hW => ⟨rfl, by rw [ht]; exact hP, hS.F ht⟩) hS.2.2 dJ1_init_2_9 hlocks
set_option maxHeartbeats 4000000 in
theorem metE_own_19 (l : Launch) (G : kG) (q : Nat) (c0 c1 c2 c3 bt : Value) (dp : Int32) (wy p1 : Int32) : Met l yX20_init (ws_ yX20_init cX20_init 2 none) ({ frames := 3, cells := 0, slots := 0, locals := 80 } : Room) (ePc G 19 [c0, c1, c2, c3, bt, .int dp, .int wy] q [.ref q, .int p1]) (eQc G 19 [.null, .null, .null, .null, bt, .int dp, .int p1] q) 0 0 (nA [q]) := by
  refine Met.ofW (cc := cX20_init) (maxL := 2) (ret := none) (by decide) rfl ?_
  intro p e s m args below meth c s₁ B hml hv
  obtain ⟨rfl, hP, hK, hZ⟩ := hv
  have hx := B.exec
  have hb := B.bytes
  have hr := B.returns
  have hts := atoms_spec (ws := ws_ yX20_init cX20_init 2 none) B.pre
  have hts : ∀ w ∈ lw_all, w.before _ s = true := fun w h => hts w (List.mem_cons_of_mem _ h)
  have hown : s.vm.findClass RX20 = some m.cls := findClass_of_methodNamed B.named
  have hlocks := B.notSynchronized
  have hin : meth.name = "<init>" := (name_of_methodNamed B.named B.method).1
  have hS : va_S (nA [q]) s.heap s.heap [] := va_S.rf
  have hD : va_D (nA [q]) [(q, (.inr (19, [c0, c1, c2, c3, bt, .int dp, .int wy]) : va_E))] := eD
  have hl := lv_entry ([.ref q, .int p1]) (n := 2) (Nat.le_of_ble_eq_true rfl)
  rw [lg_entry_eq]
  generalize (lg_sl ([.ref q, .int p1]) ++ List.replicate (2 - (lg_sl ([.ref q, .int p1])).length) Slot.unset).toArray = ls at hl ⊢
  have hl : lv_has ls 2 [(0, .ref q), (1, .int p1)] := hl
  refine lv_aload_n hx hb dX20_init_0 rfl (lv_at hl 0 rfl) ?_
  refine lv_null hx hb dX20_init_1 ?_
  refine lv_null hx hb dX20_init_2 ?_
  refine lv_iconst (v := 0) hx hb dX20_init_3 (by decide) ?_
  refine lv_iconst (v := 0) hx hb dX20_init_4 (by decide) ?_
  refine e_after (k := 19) hS (va_runI (As := [.null, .null, .int 0, .int 0]) (rest := []) ⟨hx, hb, hml, hown, hts⟩ (metE_exc_19 l G q _ _ _ _ _ _ _) (cwI 4 hts (lw_meth q387) rfl rfl rfl (hts _ q87) (hts _ q933) (hts _ q386) rfl (by decide +kernel) ⟨Nat.le_of_ble_eq_true rfl, Nat.le_of_ble_eq_true rfl⟩) ⟨ePc_blind, fun U hU hW => ⟨rfl, by rw [hU]; exact hP, va_K.moved hW.alike hK, by rw [hU]; exact (hZ.moved hW.alike).kept (fun a h1 h2 => hS.2.1 a h1 h2)⟩⟩ rfl rfl hl.1 rfl (lv_room (Nat.le_of_ble_eq_true rfl)) dX20_init_5 ⟨Nat.le_refl _, Nat.le_refl _⟩) (fun H locs hP hS => ?_)
  refine lv_aload_n hx hb dX20_init_8 rfl (lv_at hl 0 rfl) ?_
  refine lv_iload_n hx hb dX20_init_9 rfl (lv_at hl 1 rfl) ?_
  refine va_putF (D := G.1) (ci := 19) (v := .int p1) (ty := .int) (C := RX20) (T := TX20) (N := 7) hx hb hts in_X20 tyX20 tyX20_ok nmX20 hown hK hP eD hS 0 rfl rfl 6 (by decide) (hts _ q934) (fun _ h => h) rfl hin rfl (by decide +kernel) rfl rfl (Nat.le_of_ble_eq_true rfl) dX20_init_10 (fun H locs hP hD hS => ?_)
  exact W.vret hx hb hr (fun t ht hW => ⟨rfl, by rw [ht]; exact hP, hS.F ht⟩) hS.2.2 dX20_init_13 hlocks
