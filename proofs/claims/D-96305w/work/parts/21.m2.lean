set_option maxRecDepth 100000
def sM_tries_h21 (x1 : Int32) (f_feed : Int32) (f_life : Int32) (f_low : Int32) (a_kind : Nat → Int32) (a_part : Nat → Int32) (a_order : Nat → Int32) : Nat → Int32 → Int32 → Int32 → Int32 → Int32 → Int32 → Int32 → Int32 → Option (Int32 × Int32 × Int32 × Int32 × Int32 × Int32 × Int32)
  | 0, _, _, _, _, _, _, _, _ => none
  | fuel + 1, x2, x3, f_heft, f_alarm, f_old, f_died, f_ofWhat, f_heavy =>
    if x1 ≤ x3 then
      some (x2, f_heft, f_alarm, f_old, f_died, f_ofWhat, f_heavy)
    else
      if gi x3 6 then
      (sM_goes f_feed f_life f_low f_heft f_alarm f_old f_died f_ofWhat f_heavy a_kind a_part (a_order (x3).toNatClampNeg)).bind fun r2203 =>
      @Option.bind (Int32) _ (
        if x2 ≤ r2203.2.1 then
          some x2
        else
          some r2203.2.1) fun u2205 =>
      sM_tries_h21 x1 f_feed f_life f_low a_kind a_part a_order fuel u2205 (x3 + 1) r2203.2.1 r2203.2.2.1 r2203.2.2.2.1 r2203.2.2.2.2.1 r2203.2.2.2.2.2.1 r2203.2.2.2.2.2.2
      else none
def sM_tries_h127 (x1 : Int32) (a_order : Nat → Int32) : Nat → Int32 → (Nat → Int32) → Option ((Nat → Int32))
  | 0, _, _ => none
  | fuel + 1, x3, a_best =>
    if x1 ≤ x3 then
      some a_best
    else
      if gi x3 6 then
      if gi x3 6 then
      sM_tries_h127 x1 a_order fuel (x3 + 1) (upd a_best (x3).toNatClampNeg (a_order (x3).toNatClampNeg))
      else none
      else none
def sM_tries (f_weight : Int32) (f_fright : Int32) (f_age : Int32) (f_feed : Int32) (f_life : Int32) (f_low : Int32) (f_heft : Int32) (f_alarm : Int32) (f_old : Int32) (f_died : Int32) (f_ofWhat : Int32) (f_heavy : Int32) (f_fewest : Int32) (f_leanest : Int32) (a_kind : Nat → Int32) (a_part : Nat → Int32) (a_order : Nat → Int32) (a_best : Nat → Int32) (p1 : Int32) : Option (Int32 × Int32 × Int32 × Int32 × Int32 × Int32 × Int32 × Int32 × (Nat → Int32)) :=
  (sM_begins f_weight f_fright f_age f_heft f_alarm f_old f_died f_ofWhat f_heavy).bind fun r1 =>
  @Option.bind (Int32) _ (
    if p1 = 0 then
      some r1.1
    else
      some 400) fun u3 =>
  (sM_tries_h21 p1 f_feed f_life f_low a_kind a_part a_order 2000 u3 0 r1.1 r1.2.1 r1.2.2.1 r1.2.2.2.1 r1.2.2.2.2.1 r1.2.2.2.2.2).bind fun u4 =>
  @Option.bind (Int32) _ (
    if u4.2.2.2.2.1 ≤ 0 then
      some u4.1
    else
      some 0) fun u6 =>
  @Option.bind (Bool) _ (
    if f_fewest = (-1) then
      some false
    else
      if f_fewest < u4.2.2.2.2.1 then
        some true
      else
        if u4.2.2.2.2.1 = f_fewest then
          if f_leanest < u6 then
            some false
          else
            some true
        else
          some false) fun u8 =>
  if u8 = true then
    some (u4.2.1, u4.2.2.1, u4.2.2.2.1, u4.2.2.2.2.1, u4.2.2.2.2.2.1, u4.2.2.2.2.2.2, f_fewest, f_leanest, a_best)
  else
    (sM_tries_h127 p1 a_order 2000 0 a_best).bind fun u12 =>
    some (u4.2.1, u4.2.2.1, u4.2.2.2.1, u4.2.2.2.2.1, u4.2.2.2.2.2.1, u4.2.2.2.2.2.2, u4.2.2.2.2.1, u6, u12)
set_option maxHeartbeats 4000000 in
theorem wM_tries_h21 {p : Program} {l : Launch} {e : Env} {s : State} {m : MethodId} {args : Array Value} {below : List Frame} {meth : Method} {c : Code} {G : kG} {h0 : Nat} {ad : Nat → Nat} {Q : State → Prop} (C : mC p s m args c cX5_tries G h0 ad) (hml : c.maxLocals = 4) (F : Nat → Int32) (A : Nat → Nat → Int32) (L : Nat → Nat → Int64) (x1 : Int32) (f_fewest : Int32) (f_leanest : Int32) (a_best : Nat → Int32) (res : Int32 × Int32 × Int32 × Int32 × Int32 × Int32 × Int32) :
    ∀ (fuel : Nat) (x2 : Int32) (x3 : Int32) (f_heft : Int32) (f_alarm : Int32) (f_old : Int32) (f_died : Int32) (f_ofWhat : Int32) (f_heavy : Int32) (H : Heap) (locs : List Loc) (ls : Array Slot), sM_tries_h21 x1 (F 5) (F 6) (F 7) (A 12) (A 13) (A 41) fuel x2 x3 f_heft f_alarm f_old f_died f_ofWhat f_heavy = some res → mPw G h0 ad (upd (upd (upd (upd (upd (upd (upd (upd F 35 f_heft) 36 f_alarm) 37 f_old) 38 f_died) 39 f_ofWhat) 40 f_heavy) 43 f_fewest) 44 f_leanest) (va_up A 42 a_best) L H → va_S (mA h0 ad) s.heap H locs → lv_has ls 4 [(0, .ref h0), (1, .int x1), (2, .int x2), (3, .int x3)] → (∀ (H : Heap) (locs : List Loc) (ls : Array Slot), mPw G h0 ad (upd (upd (upd (upd (upd (upd (upd (upd F 35 res.2.1) 36 res.2.2.1) 37 res.2.2.2.1) 38 res.2.2.2.2.1) 39 res.2.2.2.2.2.1) 40 res.2.2.2.2.2.2) 43 f_fewest) 44 f_leanest) (va_up A 42 a_best) L H → va_S (mA h0 ad) s.heap H locs → lv_has ls 4 [(0, .ref h0), (1, .int x1), (2, .int res.1)] → W p l e ({ frames := 3, cells := 0, slots := 0, locals := 65 } : Room) s m args below meth c H locs 0 0 Q (F0 m 60 ls [])) → W p l e ({ frames := 3, cells := 0, slots := 0, locals := 65 } : Room) s m args below meth c H locs 0 0 Q (F0 m 21 ls []) := by
  intro fuel
  induction fuel with
  | zero =>
    intro x2 x3 f_heft f_alarm f_old f_died f_ofWhat f_heavy H locs ls hE
    exact it_n hE
  | succ fuel ih =>
    intro x2 x3 f_heft f_alarm f_old f_died f_ofWhat f_heavy H locs ls hE hP hS hl hX
    rw [sM_tries_h21] at hE
    refine lv_iload_n C.1 C.2.1 dX5_tries_21 rfl (lv_at hl 3 rfl) ?_
    refine lv_iload_n C.1 C.2.1 dX5_tries_22 rfl (lv_at hl 1 rfl) ?_
    refine lv_icmp_ge (tgt := 60) C.1 C.2.1 dX5_tries_23 (by decide) (fun c2201 => ?_) (fun c2201 => ?_)
    · have hE := it_t c2201 hE
      obtain rfl := Option.some.inj hE
      exact hX H locs ls hP hS (lv_sub hl [0, 1, 2] rfl)
    · have hE := it_f c2201 hE
      refine lv_aload_n C.1 C.2.1 dX5_tries_26 rfl (lv_at hl 0 rfl) ?_
      refine lv_aload_n C.1 C.2.1 dX5_tries_27 rfl (lv_at hl 0 rfl) ?_
      refine ma_41 C hP dX5_tries_28 ?_
      refine lv_iload_n C.1 C.2.1 dX5_tries_31 rfl (lv_at hl 3 rfl) ?_
      obtain ⟨g2202, hE⟩ := it_g hE
      refine ml_41 (v := ((A 41) (x3).toNatClampNeg)) C hP (gi_in g2202) rfl dX5_tries_32 ?_
      obtain ⟨r2203, hr2203, hE⟩ := it_b hE
      refine m_call (n := 1) (As := [.int ((A 41) (x3).toNatClampNeg)]) (rest := []) C hP hS hml (metM_goes l G h0 ad _ _ _ ((A 41) (x3).toNatClampNeg) r2203 hr2203) q1607 q1609 qs51 q1610 rfl rfl (by decide +kernel) ⟨Nat.le_of_ble_eq_true rfl, Nat.le_of_ble_eq_true rfl⟩ ⟨Nat.le_refl _, Nat.le_refl _⟩ rfl hl.1 rfl (Nat.le_of_ble_eq_true rfl) dX5_tries_33 (fun H locs hP hS => ?_)
      refine lv_pop C.1 C.2.1 dX5_tries_36 rfl ?_
      refine lv_aload_n C.1 C.2.1 dX5_tries_37 rfl (lv_at hl 0 rfl) ?_
      refine mg_35 (v := r2203.2.1) C hP rfl dX5_tries_38 ?_
      refine lv_iload_n C.1 C.2.1 dX5_tries_41 rfl (lv_at hl 2 rfl) ?_
      obtain ⟨u2205, hR, hE⟩ := it_b hE
      have hJ53u2205 : ∀ (H : Heap) (locs : List Loc) (ls : Array Slot), mPw G h0 ad (upd (upd (upd (upd (upd (upd (upd (upd F 35 r2203.2.1) 36 r2203.2.2.1) 37 r2203.2.2.2.1) 38 r2203.2.2.2.2.1) 39 r2203.2.2.2.2.2.1) 40 r2203.2.2.2.2.2.2) 43 f_fewest) 44 f_leanest) (va_up A 42 a_best) L H → va_S (mA h0 ad) s.heap H locs → lv_has ls 4 [(0, .ref h0), (1, .int x1), (3, .int x3)] → W p l e ({ frames := 3, cells := 0, slots := 0, locals := 65 } : Room) s m args below meth c H locs 0 0 Q (F0 m 53 ls [.int u2205]) := by
        intro H locs ls hP hS hl
        refine lv_istore_n (lv' := [(2, .int u2205), (0, .ref h0), (1, .int x1), (3, .int x3)]) C.1 C.2.1 dX5_tries_53 rfl hl (by decide) rfl (fun ls hl => ?_)
        refine lv_iinc (v := (x3 + 1)) (lv' := [(3, .int (x3 + 1)), (2, .int u2205), (0, .ref h0), (1, .int x1)]) C.1 C.2.1 dX5_tries_54 hl (k := 3) rfl rfl (by decide) rfl (fun ls hl => ?_)
        refine lv_goto (tgt := 21) C.1 C.2.1 dX5_tries_57 (by decide) ?_
        exact ih u2205 (x3 + 1) r2203.2.1 r2203.2.2.1 r2203.2.2.2.1 r2203.2.2.2.2.1 r2203.2.2.2.2.2.1 r2203.2.2.2.2.2.2 _ _ _ hE hP hS (lv_sub hl [2, 3, 1, 0] rfl) hX
      have hE := hR
      refine lv_icmp_ge (tgt := 52) C.1 C.2.1 dX5_tries_42 (by decide) (fun c2204 => ?_) (fun c2204 => ?_)
      · have hE := it_t c2204 hE
        refine lv_iload_n C.1 C.2.1 dX5_tries_52 rfl (lv_at hl 2 rfl) ?_
        obtain rfl := Option.some.inj hE
        exact hJ53u2205 H locs ls hP hS (lv_sub hl [0, 1, 3] rfl)
      · have hE := it_f c2204 hE
        refine lv_aload_n C.1 C.2.1 dX5_tries_45 rfl (lv_at hl 0 rfl) ?_
        refine mg_35 (v := r2203.2.1) C hP rfl dX5_tries_46 ?_
        refine lv_goto (tgt := 53) C.1 C.2.1 dX5_tries_49 (by decide) ?_
        obtain rfl := Option.some.inj hE
        exact hJ53u2205 H locs ls hP hS (lv_sub hl [0, 1, 3] rfl)
set_option maxHeartbeats 4000000 in
theorem wM_tries_h127 {p : Program} {l : Launch} {e : Env} {s : State} {m : MethodId} {args : Array Value} {below : List Frame} {meth : Method} {c : Code} {G : kG} {h0 : Nat} {ad : Nat → Nat} {Q : State → Prop} (C : mC p s m args c cX5_tries G h0 ad) (hml : c.maxLocals = 4) (F : Nat → Int32) (A : Nat → Nat → Int32) (L : Nat → Nat → Int64) (x1 : Int32) (f_heft : Int32) (f_alarm : Int32) (f_old : Int32) (f_died : Int32) (f_ofWhat : Int32) (f_heavy : Int32) (f_fewest : Int32) (f_leanest : Int32) (res : (Nat → Int32)) :
    ∀ (fuel : Nat) (x3 : Int32) (a_best : Nat → Int32) (H : Heap) (locs : List Loc) (ls : Array Slot), sM_tries_h127 x1 (A 41) fuel x3 a_best = some res → mPw G h0 ad (upd (upd (upd (upd (upd (upd (upd (upd F 35 f_heft) 36 f_alarm) 37 f_old) 38 f_died) 39 f_ofWhat) 40 f_heavy) 43 f_fewest) 44 f_leanest) (va_up A 42 a_best) L H → va_S (mA h0 ad) s.heap H locs → lv_has ls 4 [(0, .ref h0), (1, .int x1), (3, .int x3)] → (∀ (H : Heap) (locs : List Loc) (ls : Array Slot), mPw G h0 ad (upd (upd (upd (upd (upd (upd (upd (upd F 35 f_heft) 36 f_alarm) 37 f_old) 38 f_died) 39 f_ofWhat) 40 f_heavy) 43 f_fewest) 44 f_leanest) (va_up A 42 res) L H → va_S (mA h0 ad) s.heap H locs → lv_has ls 4 [] → W p l e ({ frames := 3, cells := 0, slots := 0, locals := 65 } : Room) s m args below meth c H locs 0 0 Q (F0 m 150 ls [])) → W p l e ({ frames := 3, cells := 0, slots := 0, locals := 65 } : Room) s m args below meth c H locs 0 0 Q (F0 m 127 ls []) := by
  intro fuel
  induction fuel with
  | zero =>
    intro x3 a_best H locs ls hE
    exact it_n hE
  | succ fuel ih =>
    intro x3 a_best H locs ls hE hP hS hl hX
    rw [sM_tries_h127] at hE
    refine lv_iload_n C.1 C.2.1 dX5_tries_127 rfl (lv_at hl 2 rfl) ?_
    refine lv_iload_n C.1 C.2.1 dX5_tries_128 rfl (lv_at hl 1 rfl) ?_
    refine lv_icmp_ge (tgt := 150) C.1 C.2.1 dX5_tries_129 (by decide) (fun c12801 => ?_) (fun c12801 => ?_)
    · have hE := it_t c12801 hE
      obtain rfl := Option.some.inj hE
      exact hX H locs ls hP hS (lv_sub hl [] rfl)
    · have hE := it_f c12801 hE
      refine lv_aload_n C.1 C.2.1 dX5_tries_132 rfl (lv_at hl 0 rfl) ?_
      refine ma_42 C hP dX5_tries_133 ?_
      refine lv_iload_n C.1 C.2.1 dX5_tries_136 rfl (lv_at hl 2 rfl) ?_
      refine lv_aload_n C.1 C.2.1 dX5_tries_137 rfl (lv_at hl 0 rfl) ?_
      refine ma_41 C hP dX5_tries_138 ?_
      refine lv_iload_n C.1 C.2.1 dX5_tries_141 rfl (lv_at hl 2 rfl) ?_
      obtain ⟨g12802, hE⟩ := it_g hE
      refine ml_41 (v := ((A 41) (x3).toNatClampNeg)) C hP (gi_in g12802) rfl dX5_tries_142 ?_
      obtain ⟨g12803, hE⟩ := it_g hE
      refine ms_42 (a := a_best) C hP hS (gi_in g12803) rfl dX5_tries_143 (fun H locs hP hS => ?_)
      refine lv_iinc (v := (x3 + 1)) (lv' := [(3, .int (x3 + 1)), (0, .ref h0), (1, .int x1)]) C.1 C.2.1 dX5_tries_144 hl (k := 2) rfl rfl (by decide) rfl (fun ls hl => ?_)
      refine lv_goto (tgt := 127) C.1 C.2.1 dX5_tries_147 (by decide) ?_
      exact ih (x3 + 1) (upd a_best (x3).toNatClampNeg ((A 41) (x3).toNatClampNeg)) _ _ _ hE hP hS (lv_sub hl [1, 2, 0] rfl) hX
set_option maxHeartbeats 4000000 in
theorem metM_tries (l : Launch) (G : kG) (h0 : Nat) (ad : Nat → Nat) (F : Nat → Int32) (A : Nat → Nat → Int32) (L : Nat → Nat → Int64) (p1 : Int32) (res : Int32 × Int32 × Int32 × Int32 × Int32 × Int32 × Int32 × Int32 × (Nat → Int32)) (hE : sM_tries (F 1) (F 2) (F 3) (F 5) (F 6) (F 7) (F 35) (F 36) (F 37) (F 38) (F 39) (F 40) (F 43) (F 44) (A 12) (A 13) (A 41) (A 42) p1 = some res) : Met l yX5_tries (ws_ yX5_tries cX5_tries 4 none) ({ frames := 3, cells := 0, slots := 0, locals := 65 } : Room) (mPc G h0 ad F A L [.int p1]) (mQc G h0 ad (upd (upd (upd (upd (upd (upd (upd (upd F 35 res.1) 36 res.2.1) 37 res.2.2.1) 38 res.2.2.2.1) 39 res.2.2.2.2.1) 40 res.2.2.2.2.2.1) 43 res.2.2.2.2.2.2.1) 44 res.2.2.2.2.2.2.2.1) (va_up A 42 res.2.2.2.2.2.2.2.2) L none) 0 0 (mA h0 ad) := by
  refine m_ofW (by decide) rfl (Nat.le_of_ble_eq_true rfl) ?_
  intro p e s m args below meth c ls C hml hP hS hl hr hlocks
  have hl : lv_has ls 4 [(0, .ref h0), (1, .int p1)] := hl
  obtain ⟨Q, hQ⟩ : ∃ Q, Q = MQ below (mQc G h0 ad (upd (upd (upd (upd (upd (upd (upd (upd F 35 res.1) 36 res.2.1) 37 res.2.2.1) 38 res.2.2.2.1) 39 res.2.2.2.2.1) 40 res.2.2.2.2.2.1) 43 res.2.2.2.2.2.2.1) 44 res.2.2.2.2.2.2.2.1) (va_up A 42 res.2.2.2.2.2.2.2.2) L none) args s 0 0 (mA h0 ad) := ⟨_, rfl⟩
  rw [← hQ]
  have hret : ∀ (pc : Nat) (ls : Array Slot) (H : Heap) (locs : List Loc), decode cX5_tries pc = .ok (.return_, 1) → mPw G h0 ad (upd (upd (upd (upd (upd (upd (upd (upd F 35 res.1) 36 res.2.1) 37 res.2.2.1) 38 res.2.2.2.1) 39 res.2.2.2.2.1) 40 res.2.2.2.2.2.1) 43 res.2.2.2.2.2.2.1) 44 res.2.2.2.2.2.2.2.1) (va_up A 42 res.2.2.2.2.2.2.2.2) L H → va_S (mA h0 ad) s.heap H locs → W p l e ({ frames := 3, cells := 0, slots := 0, locals := 65 } : Room) s m args below meth c H locs 0 0 Q (F0 m pc ls []) := by
    intro pc ls H locs hd hP hS
    rw [hQ]
    exact m_vret C hr hlocks hd hP hS
  clear hQ
  obtain ⟨H, hH⟩ : ∃ H, H = s.heap := ⟨_, rfl⟩
  obtain ⟨locs, hlo⟩ : ∃ locs : List Loc, locs = [] := ⟨_, rfl⟩
  have hP : mPw G h0 ad F A L H := by rw [hH]; exact hP
  have hS : va_S (mA h0 ad) s.heap H locs := by rw [hH, hlo]; exact hS
  suffices hZ : W p l e ({ frames := 3, cells := 0, slots := 0, locals := 65 } : Room) s m args below meth c H locs 0 0 Q (F0 m 0 ls []) by rw [hH, hlo] at hZ; exact hZ
  clear hH hlo
  unfold sM_tries at hE
  refine lv_aload_n C.1 C.2.1 dX5_tries_0 rfl (lv_at hl 0 rfl) ?_
  obtain ⟨r1, hr1, hE⟩ := it_b hE
  refine m_call (n := 0) (As := []) (rest := []) C hP hS hml (metM_begins l G h0 ad _ _ _ r1 hr1) q1603 q1605 qs50 q1606 rfl rfl (by decide +kernel) ⟨Nat.le_of_ble_eq_true rfl, Nat.le_of_ble_eq_true rfl⟩ ⟨Nat.le_refl _, Nat.le_refl _⟩ rfl hl.1 rfl (Nat.le_of_ble_eq_true rfl) dX5_tries_1 (fun H locs hP hS => ?_)
  refine lv_iload_n C.1 C.2.1 dX5_tries_4 rfl (lv_at hl 1 rfl) ?_
  obtain ⟨u3, hR, hE⟩ := it_b hE
  have hJ18u3 : ∀ (H : Heap) (locs : List Loc) (ls : Array Slot), mPw G h0 ad (upd (upd (upd (upd (upd (upd F 35 r1.1) 36 r1.2.1) 37 r1.2.2.1) 38 r1.2.2.2.1) 39 r1.2.2.2.2.1) 40 r1.2.2.2.2.2) A L H → va_S (mA h0 ad) s.heap H locs → lv_has ls 4 [(0, .ref h0), (1, .int p1)] → W p l e ({ frames := 3, cells := 0, slots := 0, locals := 65 } : Room) s m args below meth c H locs 0 0 Q (F0 m 18 ls [.int u3]) := by
    intro H locs ls hP hS hl
    refine lv_istore_n (lv' := [(2, .int u3), (0, .ref h0), (1, .int p1)]) C.1 C.2.1 dX5_tries_18 rfl hl (by decide) rfl (fun ls hl => ?_)
    refine lv_iconst (v := 0) C.1 C.2.1 dX5_tries_19 (by decide) ?_
    refine lv_istore_n (lv' := [(3, .int 0), (2, .int u3), (0, .ref h0), (1, .int p1)]) C.1 C.2.1 dX5_tries_20 rfl hl (by decide) rfl (fun ls hl => ?_)
    obtain ⟨u4, hu4, hE⟩ := it_b hE
    refine wM_tries_h21 C hml F A L p1 (F 43) (F 44) (A 42) u4 2000 u3 0 r1.1 r1.2.1 r1.2.2.1 r1.2.2.2.1 r1.2.2.2.2.1 r1.2.2.2.2.2 H locs ls hu4 hP hS (lv_sub hl [2, 3, 1, 0] rfl) (fun H locs ls hP hS hl => ?_)
    refine lv_aload_n C.1 C.2.1 dX5_tries_60 rfl (lv_at hl 0 rfl) ?_
    refine mg_38 (v := u4.2.2.2.2.1) C hP rfl dX5_tries_61 ?_
    obtain ⟨u6, hR, hE⟩ := it_b hE
    have hJ72u6 : ∀ (H : Heap) (locs : List Loc) (ls : Array Slot), mPw G h0 ad (upd (upd (upd (upd (upd (upd F 35 u4.2.1) 36 u4.2.2.1) 37 u4.2.2.2.1) 38 u4.2.2.2.2.1) 39 u4.2.2.2.2.2.1) 40 u4.2.2.2.2.2.2) A L H → va_S (mA h0 ad) s.heap H locs → lv_has ls 4 [(0, .ref h0), (1, .int p1)] → W p l e ({ frames := 3, cells := 0, slots := 0, locals := 65 } : Room) s m args below meth c H locs 0 0 Q (F0 m 72 ls [.int u6]) := by
      intro H locs ls hP hS hl
      refine lv_istore_n (lv' := [(2, .int u6), (0, .ref h0), (1, .int p1)]) C.1 C.2.1 dX5_tries_72 rfl hl (by decide) rfl (fun ls hl => ?_)
      refine lv_aload_n C.1 C.2.1 dX5_tries_73 rfl (lv_at hl 1 rfl) ?_
      refine mg_43 (v := (F 43)) C hP rfl dX5_tries_74 ?_
      refine lv_iconst (v := (-1)) C.1 C.2.1 dX5_tries_77 (by decide) ?_
      obtain ⟨u8, hR, hE⟩ := it_b hE
      have hJ111u8 : u8 = true → ∀ (H : Heap) (locs : List Loc) (ls : Array Slot), mPw G h0 ad (upd (upd (upd (upd (upd (upd F 35 u4.2.1) 36 u4.2.2.1) 37 u4.2.2.2.1) 38 u4.2.2.2.2.1) 39 u4.2.2.2.2.2.1) 40 u4.2.2.2.2.2.2) A L H → va_S (mA h0 ad) s.heap H locs → lv_has ls 4 [] → W p l e ({ frames := 3, cells := 0, slots := 0, locals := 65 } : Room) s m args below meth c H locs 0 0 Q (F0 m 111 ls []) := by
        intro hu H locs ls hP hS hl
        have hE := it_t hu hE
        obtain rfl := Option.some.inj hE
        exact hret _ _ _ _ dX5_tries_111 hP hS
      have hJ112u8 : ¬ u8 = true → ∀ (H : Heap) (locs : List Loc) (ls : Array Slot), mPw G h0 ad (upd (upd (upd (upd (upd (upd F 35 u4.2.1) 36 u4.2.2.1) 37 u4.2.2.2.1) 38 u4.2.2.2.2.1) 39 u4.2.2.2.2.2.1) 40 u4.2.2.2.2.2.2) A L H → va_S (mA h0 ad) s.heap H locs → lv_has ls 4 [(0, .ref h0), (1, .int p1), (2, .int u6)] → W p l e ({ frames := 3, cells := 0, slots := 0, locals := 65 } : Room) s m args below meth c H locs 0 0 Q (F0 m 112 ls []) := by
        intro hu H locs ls hP hS hl
        have hE := it_f hu hE
        refine lv_aload_n C.1 C.2.1 dX5_tries_112 rfl (lv_at hl 0 rfl) ?_
        refine lv_aload_n C.1 C.2.1 dX5_tries_113 rfl (lv_at hl 0 rfl) ?_
        refine mg_38 (v := u4.2.2.2.2.1) C hP rfl dX5_tries_114 ?_
        refine mp_43 C hP hS dX5_tries_117 (fun H locs hP hS => ?_)
        refine lv_aload_n C.1 C.2.1 dX5_tries_120 rfl (lv_at hl 0 rfl) ?_
        refine lv_iload_n C.1 C.2.1 dX5_tries_121 rfl (lv_at hl 2 rfl) ?_
        refine mp_44 C hP hS dX5_tries_122 (fun H locs hP hS => ?_)
        refine lv_iconst (v := 0) C.1 C.2.1 dX5_tries_125 (by decide) ?_
        refine lv_istore_n (lv' := [(3, .int 0), (0, .ref h0), (1, .int p1), (2, .int u6)]) C.1 C.2.1 dX5_tries_126 rfl hl (by decide) rfl (fun ls hl => ?_)
        obtain ⟨u12, hu12, hE⟩ := it_b hE
        refine wM_tries_h127 C hml F A L p1 u4.2.1 u4.2.2.1 u4.2.2.2.1 u4.2.2.2.2.1 u4.2.2.2.2.2.1 u4.2.2.2.2.2.2 u4.2.2.2.2.1 u6 u12 2000 0 (A 42) H locs ls hu12 hP hS (lv_sub hl [1, 2, 0] rfl) (fun H locs ls hP hS hl => ?_)
        obtain rfl := Option.some.inj hE
        exact hret _ _ _ _ dX5_tries_150 hP hS
      have hE := hR
      refine lv_icmp_eq (tgt := 112) C.1 C.2.1 dX5_tries_78 (by decide) (fun c7 => ?_) (fun c7 => ?_)
      · have hE := it_t c7 hE
        obtain rfl := Option.some.inj hE
        exact hJ112u8 (by decide) H locs ls hP hS (lv_sub hl [1, 2, 0] rfl)
      · have hE := it_f c7 hE
        refine lv_aload_n C.1 C.2.1 dX5_tries_81 rfl (lv_at hl 1 rfl) ?_
        refine mg_38 (v := u4.2.2.2.2.1) C hP rfl dX5_tries_82 ?_
        refine lv_aload_n C.1 C.2.1 dX5_tries_85 rfl (lv_at hl 1 rfl) ?_
        refine mg_43 (v := (F 43)) C hP rfl dX5_tries_86 ?_
        refine lv_icmp_gt (tgt := 111) C.1 C.2.1 dX5_tries_89 (by decide) (fun c9 => ?_) (fun c9 => ?_)
        · have hE := it_t c9 hE
          obtain rfl := Option.some.inj hE
          exact hJ111u8 rfl H locs ls hP hS (lv_sub hl [] rfl)
        · have hE := it_f c9 hE
          refine lv_aload_n C.1 C.2.1 dX5_tries_92 rfl (lv_at hl 1 rfl) ?_
          refine mg_38 (v := u4.2.2.2.2.1) C hP rfl dX5_tries_93 ?_
          refine lv_aload_n C.1 C.2.1 dX5_tries_96 rfl (lv_at hl 1 rfl) ?_
          refine mg_43 (v := (F 43)) C hP rfl dX5_tries_97 ?_
          refine lv_icmp_ne (tgt := 112) C.1 C.2.1 dX5_tries_100 (by decide) (fun c10 => ?_) (fun c10 => ?_)
          · have hE := it_f c10 hE
            obtain rfl := Option.some.inj hE
            exact hJ112u8 (by decide) H locs ls hP hS (lv_sub hl [1, 2, 0] rfl)
          · have hE := it_t c10 hE
            refine lv_iload_n C.1 C.2.1 dX5_tries_103 rfl (lv_at hl 0 rfl) ?_
            refine lv_aload_n C.1 C.2.1 dX5_tries_104 rfl (lv_at hl 1 rfl) ?_
            refine mg_44 (v := (F 44)) C hP rfl dX5_tries_105 ?_
            refine lv_icmp_gt (tgt := 112) C.1 C.2.1 dX5_tries_108 (by decide) (fun c11 => ?_) (fun c11 => ?_)
            · have hE := it_t c11 hE
              obtain rfl := Option.some.inj hE
              exact hJ112u8 (by decide) H locs ls hP hS (lv_sub hl [1, 2, 0] rfl)
            · have hE := it_f c11 hE
              obtain rfl := Option.some.inj hE
              exact hJ111u8 rfl H locs ls hP hS (lv_sub hl [] rfl)
    have hE := hR
    refine lv_if_le (tgt := 71) C.1 C.2.1 dX5_tries_64 (by decide) (fun c5 => ?_) (fun c5 => ?_)
    · have hE := it_t c5 hE
      refine lv_iload_n C.1 C.2.1 dX5_tries_71 rfl (lv_at hl 2 rfl) ?_
      obtain rfl := Option.some.inj hE
      exact hJ72u6 H locs ls hP hS (lv_sub hl [0, 1] rfl)
    · have hE := it_f c5 hE
      refine lv_iconst (v := 0) C.1 C.2.1 dX5_tries_67 (by decide) ?_
      refine lv_goto (tgt := 72) C.1 C.2.1 dX5_tries_68 (by decide) ?_
      obtain rfl := Option.some.inj hE
      exact hJ72u6 H locs ls hP hS (lv_sub hl [0, 1] rfl)
  have hE := hR
  refine lv_if_ne (tgt := 15) C.1 C.2.1 dX5_tries_5 (by decide) (fun c2 => ?_) (fun c2 => ?_)
  · have hE := it_f c2 hE
    refine lv_sipush (v := 400) C.1 C.2.1 dX5_tries_15 (by decide) ?_
    obtain rfl := Option.some.inj hE
    exact hJ18u3 H locs ls hP hS (lv_sub hl [0, 1] rfl)
  · have hE := it_t c2 hE
    refine lv_aload_n C.1 C.2.1 dX5_tries_8 rfl (lv_at hl 0 rfl) ?_
    refine mg_35 (v := r1.1) C hP rfl dX5_tries_9 ?_
    refine lv_goto (tgt := 18) C.1 C.2.1 dX5_tries_12 (by decide) ?_
    obtain rfl := Option.some.inj hE
    exact hJ18u3 H locs ls hP hS (lv_sub hl [0, 1] rfl)
def sM_was_h38 (x1 : Int32) (x2 : Int32) (x4 : Int32) (f_fright : Int32) : Nat → Int32 → Int32 → Int32 → Int32 → Option (Int32 × Int32 × Int32)
  | 0, _, _, _, _ => none
  | fuel + 1, x3, x5, f_heft, f_alarm =>
    if 10 ≤ x5 then
      some (x3, f_heft, f_alarm)
    else
      (sM_weekend x1 (f_fright / 2) x4 x5).bind fun r3902 =>
      @Option.bind (Int32) _ (
        if r3902.1 = x2 then
          some (x3 ||| (1 <<< (x4 &&& 31)))
        else
          some x3) fun u3904 =>
      sM_was_h38 x1 x2 x4 f_fright fuel u3904 (x5 + 1) r3902.1 r3902.2
def sM_was_h28 (x1 : Int32) (x2 : Int32) (f_fright : Int32) : Nat → Int32 → Int32 → Int32 → Int32 → Option (Int32 × Int32 × Int32)
  | 0, _, _, _, _ => none
  | fuel + 1, x3, x4, f_heft, f_alarm =>
    if 7 ≤ x4 then
      some (x3, f_heft, f_alarm)
    else
      (sM_was_h38 x1 x2 x4 f_fright 2000 x3 0 f_heft f_alarm).bind fun u2902 =>
      sM_was_h28 x1 x2 f_fright fuel u2902.1 (x4 + 1) u2902.2.1 u2902.2.2
def sM_was (f_fright : Int32) (f_heft : Int32) (f_alarm : Int32) (a_refused : Nat → Int32) (p1 : Int32) (p2 : Int32) : Option (Int32 × Int32 × Int32 × (Nat → Int32)) :=
  (sM_isWeight p1).bind fun r1 =>
  if r1 = 0 then
    (sM_no a_refused (-6)).bind fun r3 =>
    some (r3.1, f_heft, f_alarm, r3.2)
  else
    (sM_isWeight p2).bind fun r4 =>
    if r4 = 0 then
      (sM_no a_refused (-6)).bind fun r7 =>
      some (r7.1, f_heft, f_alarm, r7.2)
    else
      (sM_was_h28 p1 p2 f_fright 2000 0 0 f_heft f_alarm).bind fun u6 =>
      some (u6.1, u6.2.1, u6.2.2, a_refused)
set_option maxHeartbeats 4000000 in
theorem wM_was_h38 {p : Program} {l : Launch} {e : Env} {s : State} {m : MethodId} {args : Array Value} {below : List Frame} {meth : Method} {c : Code} {G : kG} {h0 : Nat} {ad : Nat → Nat} {Q : State → Prop} (C : mC p s m args c cX5_was G h0 ad) (hml : c.maxLocals = 6) (F : Nat → Int32) (A : Nat → Nat → Int32) (L : Nat → Nat → Int64) (x1 : Int32) (x2 : Int32) (x4 : Int32) (a_refused : Nat → Int32) (res : Int32 × Int32 × Int32) :
    ∀ (fuel : Nat) (x3 : Int32) (x5 : Int32) (f_heft : Int32) (f_alarm : Int32) (H : Heap) (locs : List Loc) (ls : Array Slot), sM_was_h38 x1 x2 x4 (F 2) fuel x3 x5 f_heft f_alarm = some res → mPw G h0 ad (upd (upd F 35 f_heft) 36 f_alarm) (va_up A 11 a_refused) L H → va_S (mA h0 ad) s.heap H locs → lv_has ls 6 [(0, .ref h0), (1, .int x1), (2, .int x2), (3, .int x3), (4, .int x4), (5, .int x5)] → (∀ (H : Heap) (locs : List Loc) (ls : Array Slot), mPw G h0 ad (upd (upd F 35 res.2.1) 36 res.2.2) (va_up A 11 a_refused) L H → va_S (mA h0 ad) s.heap H locs → lv_has ls 6 [(0, .ref h0), (1, .int x1), (2, .int x2), (3, .int res.1), (4, .int x4)] → W p l e ({ frames := 2, cells := 0, slots := 0, locals := 44 } : Room) s m args below meth c H locs 0 0 Q (F0 m 89 ls [])) → W p l e ({ frames := 2, cells := 0, slots := 0, locals := 44 } : Room) s m args below meth c H locs 0 0 Q (F0 m 38 ls []) := by
  intro fuel
  induction fuel with
  | zero =>
    intro x3 x5 f_heft f_alarm H locs ls hE
    exact it_n hE
  | succ fuel ih =>
    intro x3 x5 f_heft f_alarm H locs ls hE hP hS hl hX
    rw [sM_was_h38] at hE
    refine lv_iload C.1 C.2.1 dX5_was_38 (lv_at hl 5 rfl) ?_
    refine lv_bipush (v := 10) C.1 C.2.1 dX5_was_40 (by decide) ?_
    refine lv_icmp_ge (tgt := 89) C.1 C.2.1 dX5_was_42 (by decide) (fun c3901 => ?_) (fun c3901 => ?_)
    · have hE := it_t c3901 hE
      obtain rfl := Option.some.inj hE
      exact hX H locs ls hP hS (lv_sub hl [0, 1, 2, 3, 4] rfl)
    · have hE := it_f c3901 hE
      refine lv_aload_n C.1 C.2.1 dX5_was_45 rfl (lv_at hl 0 rfl) ?_
      refine lv_iload_n C.1 C.2.1 dX5_was_46 rfl (lv_at hl 1 rfl) ?_
      refine mp_35 C hP hS dX5_was_47 (fun H locs hP hS => ?_)
      refine lv_aload_n C.1 C.2.1 dX5_was_50 rfl (lv_at hl 0 rfl) ?_
      refine lv_aload_n C.1 C.2.1 dX5_was_51 rfl (lv_at hl 0 rfl) ?_
      refine mg_2 (v := (F 2)) C hP rfl dX5_was_52 ?_
      refine lv_iconst (v := 2) C.1 C.2.1 dX5_was_55 (by decide) ?_
      refine lv_idiv C.1 C.2.1 dX5_was_56 (by decide) ?_
      refine mp_36 C hP hS dX5_was_57 (fun H locs hP hS => ?_)
      refine lv_aload_n C.1 C.2.1 dX5_was_60 rfl (lv_at hl 0 rfl) ?_
      refine lv_iload C.1 C.2.1 dX5_was_61 (lv_at hl 4 rfl) ?_
      refine lv_iload C.1 C.2.1 dX5_was_63 (lv_at hl 5 rfl) ?_
      obtain ⟨r3902, hr3902, hE⟩ := it_b hE
      refine m_call (n := 2) (As := [.int x4, .int x5]) (rest := []) C hP hS hml (metM_weekend l G h0 ad _ _ _ x4 x5 r3902 hr3902) q1619 q1621 qs54 q1622 rfl rfl (by decide +kernel) ⟨Nat.le_of_ble_eq_true rfl, Nat.le_of_ble_eq_true rfl⟩ ⟨Nat.le_refl _, Nat.le_refl _⟩ rfl hl.1 rfl (Nat.le_of_ble_eq_true rfl) dX5_was_65 (fun H locs hP hS => ?_)
      refine lv_aload_n C.1 C.2.1 dX5_was_68 rfl (lv_at hl 0 rfl) ?_
      refine mg_35 (v := r3902.1) C hP rfl dX5_was_69 ?_
      refine lv_iload_n C.1 C.2.1 dX5_was_72 rfl (lv_at hl 2 rfl) ?_
      obtain ⟨u3904, hR, hE⟩ := it_b hE
      have hJ83u3904 : ∀ (H : Heap) (locs : List Loc) (ls : Array Slot), mPw G h0 ad (upd (upd F 35 r3902.1) 36 r3902.2) (va_up A 11 a_refused) L H → va_S (mA h0 ad) s.heap H locs → lv_has ls 6 [(0, .ref h0), (1, .int x1), (2, .int x2), (3, .int u3904), (4, .int x4), (5, .int x5)] → W p l e ({ frames := 2, cells := 0, slots := 0, locals := 44 } : Room) s m args below meth c H locs 0 0 Q (F0 m 83 ls []) := by
        intro H locs ls hP hS hl
        refine lv_iinc (v := (x5 + 1)) (lv' := [(5, .int (x5 + 1)), (0, .ref h0), (1, .int x1), (2, .int x2), (3, .int u3904), (4, .int x4)]) C.1 C.2.1 dX5_was_83 hl (k := 5) rfl rfl (by decide) rfl (fun ls hl => ?_)
        refine lv_goto (tgt := 38) C.1 C.2.1 dX5_was_86 (by decide) ?_
        exact ih u3904 (x5 + 1) r3902.1 r3902.2 _ _ _ hE hP hS (lv_sub hl [1, 2, 3, 4, 5, 0] rfl) hX
      have hE := hR
      refine lv_icmp_ne (tgt := 83) C.1 C.2.1 dX5_was_73 (by decide) (fun c3903 => ?_) (fun c3903 => ?_)
      · have hE := it_f c3903 hE
        obtain rfl := Option.some.inj hE
        exact hJ83u3904 H locs ls hP hS (lv_sub hl [0, 1, 2, 3, 4, 5] rfl)
      · have hE := it_t c3903 hE
        refine lv_iload_n C.1 C.2.1 dX5_was_76 rfl (lv_at hl 3 rfl) ?_
        refine lv_iconst (v := 1) C.1 C.2.1 dX5_was_77 (by decide) ?_
        refine lv_iload C.1 C.2.1 dX5_was_78 (lv_at hl 4 rfl) ?_
        refine lv_ishl C.1 C.2.1 dX5_was_80 ?_
        refine lv_ior C.1 C.2.1 dX5_was_81 ?_
        refine lv_istore_n (lv' := [(3, .int (x3 ||| (1 <<< (x4 &&& 31)))), (0, .ref h0), (1, .int x1), (2, .int x2), (4, .int x4), (5, .int x5)]) C.1 C.2.1 dX5_was_82 rfl hl (by decide) rfl (fun ls hl => ?_)
        obtain rfl := Option.some.inj hE
        exact hJ83u3904 H locs ls hP hS (lv_sub hl [1, 2, 3, 0, 4, 5] rfl)
set_option maxHeartbeats 4000000 in
theorem wM_was_h28 {p : Program} {l : Launch} {e : Env} {s : State} {m : MethodId} {args : Array Value} {below : List Frame} {meth : Method} {c : Code} {G : kG} {h0 : Nat} {ad : Nat → Nat} {Q : State → Prop} (C : mC p s m args c cX5_was G h0 ad) (hml : c.maxLocals = 6) (F : Nat → Int32) (A : Nat → Nat → Int32) (L : Nat → Nat → Int64) (x1 : Int32) (x2 : Int32) (a_refused : Nat → Int32) (res : Int32 × Int32 × Int32) :
    ∀ (fuel : Nat) (x3 : Int32) (x4 : Int32) (f_heft : Int32) (f_alarm : Int32) (H : Heap) (locs : List Loc) (ls : Array Slot), sM_was_h28 x1 x2 (F 2) fuel x3 x4 f_heft f_alarm = some res → mPw G h0 ad (upd (upd F 35 f_heft) 36 f_alarm) (va_up A 11 a_refused) L H → va_S (mA h0 ad) s.heap H locs → lv_has ls 6 [(0, .ref h0), (1, .int x1), (2, .int x2), (3, .int x3), (4, .int x4)] → (∀ (H : Heap) (locs : List Loc) (ls : Array Slot), mPw G h0 ad (upd (upd F 35 res.2.1) 36 res.2.2) (va_up A 11 a_refused) L H → va_S (mA h0 ad) s.heap H locs → lv_has ls 6 [(3, .int res.1)] → W p l e ({ frames := 2, cells := 0, slots := 0, locals := 44 } : Room) s m args below meth c H locs 0 0 Q (F0 m 95 ls [])) → W p l e ({ frames := 2, cells := 0, slots := 0, locals := 44 } : Room) s m args below meth c H locs 0 0 Q (F0 m 28 ls []) := by
  intro fuel
  induction fuel with
  | zero =>
    intro x3 x4 f_heft f_alarm H locs ls hE
    exact it_n hE
  | succ fuel ih =>
    intro x3 x4 f_heft f_alarm H locs ls hE hP hS hl hX
    rw [sM_was_h28] at hE
    refine lv_iload C.1 C.2.1 dX5_was_28 (lv_at hl 4 rfl) ?_
    refine lv_bipush (v := 7) C.1 C.2.1 dX5_was_30 (by decide) ?_
    refine lv_icmp_ge (tgt := 95) C.1 C.2.1 dX5_was_32 (by decide) (fun c2901 => ?_) (fun c2901 => ?_)
    · have hE := it_t c2901 hE
      obtain rfl := Option.some.inj hE
      exact hX H locs ls hP hS (lv_sub hl [3] rfl)
    · have hE := it_f c2901 hE
      refine lv_iconst (v := 0) C.1 C.2.1 dX5_was_35 (by decide) ?_
      refine lv_istore (lv' := [(5, .int 0), (0, .ref h0), (1, .int x1), (2, .int x2), (3, .int x3), (4, .int x4)]) C.1 C.2.1 dX5_was_36 hl (by decide) rfl (fun ls hl => ?_)
      obtain ⟨u2902, hu2902, hE⟩ := it_b hE
      refine wM_was_h38 C hml F A L x1 x2 x4 a_refused u2902 2000 x3 0 f_heft f_alarm H locs ls hu2902 hP hS (lv_sub hl [1, 2, 3, 4, 5, 0] rfl) (fun H locs ls hP hS hl => ?_)
      refine lv_iinc (v := (x4 + 1)) (lv' := [(4, .int (x4 + 1)), (0, .ref h0), (1, .int x1), (2, .int x2), (3, .int u2902.1)]) C.1 C.2.1 dX5_was_89 hl (k := 4) rfl rfl (by decide) rfl (fun ls hl => ?_)
      refine lv_goto (tgt := 28) C.1 C.2.1 dX5_was_92 (by decide) ?_
      exact ih u2902.1 (x4 + 1) u2902.2.1 u2902.2.2 _ _ _ hE hP hS (lv_sub hl [1, 2, 3, 4, 0] rfl) hX
set_option maxHeartbeats 4000000 in
theorem metM_was (l : Launch) (G : kG) (h0 : Nat) (ad : Nat → Nat) (F : Nat → Int32) (A : Nat → Nat → Int32) (L : Nat → Nat → Int64) (p1 : Int32) (p2 : Int32) (res : Int32 × Int32 × Int32 × (Nat → Int32)) (hE : sM_was (F 2) (F 35) (F 36) (A 11) p1 p2 = some res) : Met l yX5_was (ws_ yX5_was cX5_was 6 (some .int)) ({ frames := 2, cells := 0, slots := 0, locals := 44 } : Room) (mPc G h0 ad F A L [.int p1, .int p2]) (mQc G h0 ad (upd (upd F 35 res.2.1) 36 res.2.2.1) (va_up A 11 res.2.2.2) L (some (.int res.1))) 0 0 (mA h0 ad) := by
  refine m_ofW (by decide) rfl (Nat.le_of_ble_eq_true rfl) ?_
  intro p e s m args below meth c ls C hml hP hS hl hr hlocks
  have hl : lv_has ls 6 [(0, .ref h0), (1, .int p1), (2, .int p2)] := hl
  obtain ⟨Q, hQ⟩ : ∃ Q, Q = MQ below (mQc G h0 ad (upd (upd F 35 res.2.1) 36 res.2.2.1) (va_up A 11 res.2.2.2) L (some (.int res.1))) args s 0 0 (mA h0 ad) := ⟨_, rfl⟩
  rw [← hQ]
  have hret : ∀ (pc : Nat) (ls : Array Slot) (H : Heap) (locs : List Loc), decode cX5_was pc = .ok (.ireturn, 1) → mPw G h0 ad (upd (upd F 35 res.2.1) 36 res.2.2.1) (va_up A 11 res.2.2.2) L H → va_S (mA h0 ad) s.heap H locs → W p l e ({ frames := 2, cells := 0, slots := 0, locals := 44 } : Room) s m args below meth c H locs 0 0 Q (F0 m pc ls [.int res.1]) := by
    intro pc ls H locs hd hP hS
    rw [hQ]
    exact m_iret C hr hlocks hd hP hS
  clear hQ
  obtain ⟨H, hH⟩ : ∃ H, H = s.heap := ⟨_, rfl⟩
  obtain ⟨locs, hlo⟩ : ∃ locs : List Loc, locs = [] := ⟨_, rfl⟩
  have hP : mPw G h0 ad F A L H := by rw [hH]; exact hP
  have hS : va_S (mA h0 ad) s.heap H locs := by rw [hH, hlo]; exact hS
  suffices hZ : W p l e ({ frames := 2, cells := 0, slots := 0, locals := 44 } : Room) s m args below meth c H locs 0 0 Q (F0 m 0 ls []) by rw [hH, hlo] at hZ; exact hZ
  clear hH hlo
  unfold sM_was at hE
  refine lv_aload_n C.1 C.2.1 dX5_was_0 rfl (lv_at hl 0 rfl) ?_
  refine lv_iload_n C.1 C.2.1 dX5_was_1 rfl (lv_at hl 1 rfl) ?_
  obtain ⟨r1, hr1, hE⟩ := it_b hE
  refine m_call (n := 1) (As := [.int p1]) (rest := []) C hP hS hml (metM_isWeight l G h0 ad _ _ _ p1 r1 hr1) q1707 q1709 qs68 q1710 rfl rfl (by decide +kernel) ⟨Nat.le_of_ble_eq_true rfl, Nat.le_of_ble_eq_true rfl⟩ ⟨Nat.le_refl _, Nat.le_refl _⟩ rfl hl.1 rfl (Nat.le_of_ble_eq_true rfl) dX5_was_2 (fun H locs hP hS => ?_)
  refine lv_if_eq (tgt := 16) C.1 C.2.1 dX5_was_5 (by decide) (fun c2 => ?_) (fun c2 => ?_)
  · have hE := it_t c2 hE
    refine lv_aload_n C.1 C.2.1 dX5_was_16 rfl (lv_at hl 0 rfl) ?_
    refine lv_bipush (v := (-6)) C.1 C.2.1 dX5_was_17 (by decide) ?_
    obtain ⟨r3, hr3, hE⟩ := it_b hE
    refine m_call (n := 1) (As := [.int (-6)]) (rest := []) C hP hS hml (metM_no l G h0 ad _ _ _ (-6) r3 hr3) q1483 q1485 qs32 q1486 rfl rfl (by decide +kernel) ⟨Nat.le_of_ble_eq_true rfl, Nat.le_of_ble_eq_true rfl⟩ ⟨Nat.le_refl _, Nat.le_refl _⟩ rfl hl.1 rfl (Nat.le_of_ble_eq_true rfl) dX5_was_19 (fun H locs hP hS => ?_)
    obtain rfl := Option.some.inj hE
    exact hret _ _ _ _ dX5_was_22 hP hS
  · have hE := it_f c2 hE
    refine lv_aload_n C.1 C.2.1 dX5_was_8 rfl (lv_at hl 0 rfl) ?_
    refine lv_iload_n C.1 C.2.1 dX5_was_9 rfl (lv_at hl 2 rfl) ?_
    obtain ⟨r4, hr4, hE⟩ := it_b hE
    refine m_call (n := 1) (As := [.int p2]) (rest := []) C hP hS hml (metM_isWeight l G h0 ad _ _ _ p2 r4 hr4) q1707 q1709 qs68 q1710 rfl rfl (by decide +kernel) ⟨Nat.le_of_ble_eq_true rfl, Nat.le_of_ble_eq_true rfl⟩ ⟨Nat.le_refl _, Nat.le_refl _⟩ rfl hl.1 rfl (Nat.le_of_ble_eq_true rfl) dX5_was_10 (fun H locs hP hS => ?_)
    refine lv_if_ne (tgt := 23) C.1 C.2.1 dX5_was_13 (by decide) (fun c5 => ?_) (fun c5 => ?_)
    · have hE := it_f c5 hE
      refine lv_iconst (v := 0) C.1 C.2.1 dX5_was_23 (by decide) ?_
      refine lv_istore_n (lv' := [(3, .int 0), (0, .ref h0), (1, .int p1), (2, .int p2)]) C.1 C.2.1 dX5_was_24 rfl hl (by decide) rfl (fun ls hl => ?_)
      refine lv_iconst (v := 0) C.1 C.2.1 dX5_was_25 (by decide) ?_
      refine lv_istore (lv' := [(4, .int 0), (3, .int 0), (0, .ref h0), (1, .int p1), (2, .int p2)]) C.1 C.2.1 dX5_was_26 hl (by decide) rfl (fun ls hl => ?_)
      obtain ⟨u6, hu6, hE⟩ := it_b hE
      refine wM_was_h28 C hml F A L p1 p2 (A 11) u6 2000 0 0 (F 35) (F 36) H locs ls hu6 hP hS (lv_sub hl [2, 3, 4, 1, 0] rfl) (fun H locs ls hP hS hl => ?_)
      refine lv_iload_n C.1 C.2.1 dX5_was_95 rfl (lv_at hl 0 rfl) ?_
      obtain rfl := Option.some.inj hE
      exact hret _ _ _ _ dX5_was_96 hP hS
    · have hE := it_t c5 hE
      refine lv_aload_n C.1 C.2.1 dX5_was_16 rfl (lv_at hl 0 rfl) ?_
      refine lv_bipush (v := (-6)) C.1 C.2.1 dX5_was_17 (by decide) ?_
      obtain ⟨r7, hr7, hE⟩ := it_b hE
      refine m_call (n := 1) (As := [.int (-6)]) (rest := []) C hP hS hml (metM_no l G h0 ad _ _ _ (-6) r7 hr7) q1483 q1485 qs32 q1486 rfl rfl (by decide +kernel) ⟨Nat.le_of_ble_eq_true rfl, Nat.le_of_ble_eq_true rfl⟩ ⟨Nat.le_refl _, Nat.le_refl _⟩ rfl hl.1 rfl (Nat.le_of_ble_eq_true rfl) dX5_was_19 (fun H locs hP hS => ?_)
      obtain rfl := Option.some.inj hE
      exact hret _ _ _ _ dX5_was_22 hP hS
def sM_fit_h19 (x1 : Int32) (f_many : Int32) (f_weight : Int32) (f_fright : Int32) (f_age : Int32) (f_feed : Int32) (f_life : Int32) (f_low : Int32) (a_kind : Nat → Int32) (a_part : Nat → Int32) (a_ill : Nat → Int32) : Nat → Int32 → Int32 → Int32 → Int32 → Int32 → Int32 → Int32 → Int32 → Option (Int32 × Int32 × Int32 × Int32 × Int32 × Int32 × Int32)
  | 0, _, _, _, _, _, _, _, _ => none
  | fuel + 1, x2, x3, f_heft, f_alarm, f_old, f_died, f_ofWhat, f_heavy =>
    if f_many ≤ x3 then
      some (x2, f_heft, f_alarm, f_old, f_died, f_ofWhat, f_heavy)
    else
      @Option.bind (Int32 × Int32 × Int32 × Int32 × Int32 × Int32 × Int32) _ (
        if x3 = (-1) then
          (sM_begins f_weight f_fright f_age f_heft f_alarm f_old f_died f_ofWhat f_heavy).bind fun r2004 =>
          (sM_goes f_feed f_life f_low r2004.1 r2004.2.1 r2004.2.2.1 r2004.2.2.2.1 r2004.2.2.2.2.1 r2004.2.2.2.2.2 a_kind a_part x3).bind fun r2005 =>
          if r2005.1 = 0 then
            if r2005.2.1 = x1 then
              @Option.bind (Int32) _ (
                if x3 = (-1) then
                  some 256
                else
                  some (1 <<< (x3 &&& 31))) fun u2009 =>
              some ((x2 ||| u2009), r2005.2.1, r2005.2.2.1, r2005.2.2.2.1, r2005.2.2.2.2.1, r2005.2.2.2.2.2.1, r2005.2.2.2.2.2.2)
            else
              some (x2, r2005.2.1, r2005.2.2.1, r2005.2.2.2.1, r2005.2.2.2.2.1, r2005.2.2.2.2.2.1, r2005.2.2.2.2.2.2)
          else
            some (x2, r2005.2.1, r2005.2.2.1, r2005.2.2.2.1, r2005.2.2.2.2.1, r2005.2.2.2.2.2.1, r2005.2.2.2.2.2.2)
        else
          (sM_may f_many a_ill x3).bind fun r2010 =>
          if r2010 = 0 then
            some (x2, f_heft, f_alarm, f_old, f_died, f_ofWhat, f_heavy)
          else
            (sM_begins f_weight f_fright f_age f_heft f_alarm f_old f_died f_ofWhat f_heavy).bind fun r2012 =>
            (sM_goes f_feed f_life f_low r2012.1 r2012.2.1 r2012.2.2.1 r2012.2.2.2.1 r2012.2.2.2.2.1 r2012.2.2.2.2.2 a_kind a_part x3).bind fun r2013 =>
            if r2013.1 = 0 then
              if r2013.2.1 = x1 then
                @Option.bind (Int32) _ (
                  if x3 = (-1) then
                    some 256
                  else
                    some (1 <<< (x3 &&& 31))) fun u2017 =>
                some ((x2 ||| u2017), r2013.2.1, r2013.2.2.1, r2013.2.2.2.1, r2013.2.2.2.2.1, r2013.2.2.2.2.2.1, r2013.2.2.2.2.2.2)
              else
                some (x2, r2013.2.1, r2013.2.2.1, r2013.2.2.2.1, r2013.2.2.2.2.1, r2013.2.2.2.2.2.1, r2013.2.2.2.2.2.2)
            else
              some (x2, r2013.2.1, r2013.2.2.1, r2013.2.2.2.1, r2013.2.2.2.2.1, r2013.2.2.2.2.2.1, r2013.2.2.2.2.2.2)) fun u2003 =>
      sM_fit_h19 x1 f_many f_weight f_fright f_age f_feed f_life f_low a_kind a_part a_ill fuel u2003.1 (x3 + 1) u2003.2.1 u2003.2.2.1 u2003.2.2.2.1 u2003.2.2.2.2.1 u2003.2.2.2.2.2.1 u2003.2.2.2.2.2.2
def sM_fit (f_many : Int32) (f_weight : Int32) (f_fright : Int32) (f_age : Int32) (f_feed : Int32) (f_life : Int32) (f_low : Int32) (f_heft : Int32) (f_alarm : Int32) (f_old : Int32) (f_died : Int32) (f_ofWhat : Int32) (f_heavy : Int32) (a_refused : Nat → Int32) (a_kind : Nat → Int32) (a_part : Nat → Int32) (a_ill : Nat → Int32) (p1 : Int32) : Option (Int32 × Int32 × Int32 × Int32 × Int32 × Int32 × Int32 × (Nat → Int32)) :=
  (sM_isWeight p1).bind fun r1 =>
  if r1 = 0 then
    (sM_no a_refused (-6)).bind fun r4 =>
    some (r4.1, f_heft, f_alarm, f_old, f_died, f_ofWhat, f_heavy, r4.2)
  else
    (sM_fit_h19 p1 f_many f_weight f_fright f_age f_feed f_life f_low a_kind a_part a_ill 2000 0 (-1) f_heft f_alarm f_old f_died f_ofWhat f_heavy).bind fun u3 =>
    some (u3.1, u3.2.1, u3.2.2.1, u3.2.2.2.1, u3.2.2.2.2.1, u3.2.2.2.2.2.1, u3.2.2.2.2.2.2, a_refused)
set_option maxHeartbeats 4000000 in
theorem wM_fit_h19 {p : Program} {l : Launch} {e : Env} {s : State} {m : MethodId} {args : Array Value} {below : List Frame} {meth : Method} {c : Code} {G : kG} {h0 : Nat} {ad : Nat → Nat} {Q : State → Prop} (C : mC p s m args c cX5_fit G h0 ad) (hml : c.maxLocals = 4) (F : Nat → Int32) (A : Nat → Nat → Int32) (L : Nat → Nat → Int64) (x1 : Int32) (a_refused : Nat → Int32) (res : Int32 × Int32 × Int32 × Int32 × Int32 × Int32 × Int32) :
    ∀ (fuel : Nat) (x2 : Int32) (x3 : Int32) (f_heft : Int32) (f_alarm : Int32) (f_old : Int32) (f_died : Int32) (f_ofWhat : Int32) (f_heavy : Int32) (H : Heap) (locs : List Loc) (ls : Array Slot), sM_fit_h19 x1 (F 0) (F 1) (F 2) (F 3) (F 5) (F 6) (F 7) (A 12) (A 13) (A 15) fuel x2 x3 f_heft f_alarm f_old f_died f_ofWhat f_heavy = some res → mPw G h0 ad (upd (upd (upd (upd (upd (upd F 35 f_heft) 36 f_alarm) 37 f_old) 38 f_died) 39 f_ofWhat) 40 f_heavy) (va_up A 11 a_refused) L H → va_S (mA h0 ad) s.heap H locs → lv_has ls 4 [(0, .ref h0), (1, .int x1), (2, .int x2), (3, .int x3)] → (∀ (H : Heap) (locs : List Loc) (ls : Array Slot), mPw G h0 ad (upd (upd (upd (upd (upd (upd F 35 res.2.1) 36 res.2.2.1) 37 res.2.2.2.1) 38 res.2.2.2.2.1) 39 res.2.2.2.2.2.1) 40 res.2.2.2.2.2.2) (va_up A 11 a_refused) L H → va_S (mA h0 ad) s.heap H locs → lv_has ls 4 [(2, .int res.1)] → W p l e ({ frames := 3, cells := 0, slots := 0, locals := 65 } : Room) s m args below meth c H locs 0 0 Q (F0 m 86 ls [])) → W p l e ({ frames := 3, cells := 0, slots := 0, locals := 65 } : Room) s m args below meth c H locs 0 0 Q (F0 m 19 ls []) := by
  intro fuel
  induction fuel with
  | zero =>
    intro x2 x3 f_heft f_alarm f_old f_died f_ofWhat f_heavy H locs ls hE
    exact it_n hE
  | succ fuel ih =>
    intro x2 x3 f_heft f_alarm f_old f_died f_ofWhat f_heavy H locs ls hE hP hS hl hX
    rw [sM_fit_h19] at hE
    refine lv_iload_n C.1 C.2.1 dX5_fit_19 rfl (lv_at hl 3 rfl) ?_
    refine lv_aload_n C.1 C.2.1 dX5_fit_20 rfl (lv_at hl 0 rfl) ?_
    refine mg_0 (v := (F 0)) C hP rfl dX5_fit_21 ?_
    refine lv_icmp_ge (tgt := 86) C.1 C.2.1 dX5_fit_24 (by decide) (fun c2001 => ?_) (fun c2001 => ?_)
    · have hE := it_t c2001 hE
      obtain rfl := Option.some.inj hE
      exact hX H locs ls hP hS (lv_sub hl [2] rfl)
    · have hE := it_f c2001 hE
      refine lv_iload_n C.1 C.2.1 dX5_fit_27 rfl (lv_at hl 3 rfl) ?_
      refine lv_iconst (v := (-1)) C.1 C.2.1 dX5_fit_28 (by decide) ?_
      obtain ⟨u2003, hR, hE⟩ := it_b hE
      have hJ80u2003 : ∀ (H : Heap) (locs : List Loc) (ls : Array Slot), mPw G h0 ad (upd (upd (upd (upd (upd (upd F 35 u2003.2.1) 36 u2003.2.2.1) 37 u2003.2.2.2.1) 38 u2003.2.2.2.2.1) 39 u2003.2.2.2.2.2.1) 40 u2003.2.2.2.2.2.2) (va_up A 11 a_refused) L H → va_S (mA h0 ad) s.heap H locs → lv_has ls 4 [(0, .ref h0), (1, .int x1), (2, .int u2003.1), (3, .int x3)] → W p l e ({ frames := 3, cells := 0, slots := 0, locals := 65 } : Room) s m args below meth c H locs 0 0 Q (F0 m 80 ls []) := by
        intro H locs ls hP hS hl
        refine lv_iinc (v := (x3 + 1)) (lv' := [(3, .int (x3 + 1)), (0, .ref h0), (1, .int x1), (2, .int u2003.1)]) C.1 C.2.1 dX5_fit_80 hl (k := 3) rfl rfl (by decide) rfl (fun ls hl => ?_)
        refine lv_goto (tgt := 19) C.1 C.2.1 dX5_fit_83 (by decide) ?_
        exact ih u2003.1 (x3 + 1) u2003.2.1 u2003.2.2.1 u2003.2.2.2.1 u2003.2.2.2.2.1 u2003.2.2.2.2.2.1 u2003.2.2.2.2.2.2 _ _ _ hE hP hS (lv_sub hl [1, 2, 3, 0] rfl) hX
      have hE := hR
      refine lv_icmp_eq (tgt := 43) C.1 C.2.1 dX5_fit_29 (by decide) (fun c2002 => ?_) (fun c2002 => ?_)
      · have hE := it_t c2002 hE
        refine lv_aload_n C.1 C.2.1 dX5_fit_43 rfl (lv_at hl 0 rfl) ?_
        obtain ⟨r2004, hr2004, hE⟩ := it_b hE
        refine m_call (n := 0) (As := []) (rest := []) C hP hS hml (metM_begins l G h0 ad _ _ _ r2004 hr2004) q1603 q1605 qs50 q1606 rfl rfl (by decide +kernel) ⟨Nat.le_of_ble_eq_true rfl, Nat.le_of_ble_eq_true rfl⟩ ⟨Nat.le_refl _, Nat.le_refl _⟩ rfl hl.1 rfl (Nat.le_of_ble_eq_true rfl) dX5_fit_44 (fun H locs hP hS => ?_)
        refine lv_aload_n C.1 C.2.1 dX5_fit_47 rfl (lv_at hl 0 rfl) ?_
        refine lv_iload_n C.1 C.2.1 dX5_fit_48 rfl (lv_at hl 3 rfl) ?_
        obtain ⟨r2005, hr2005, hE⟩ := it_b hE
        refine m_call (n := 1) (As := [.int x3]) (rest := []) C hP hS hml (metM_goes l G h0 ad _ _ _ x3 r2005 hr2005) q1607 q1609 qs51 q1610 rfl rfl (by decide +kernel) ⟨Nat.le_of_ble_eq_true rfl, Nat.le_of_ble_eq_true rfl⟩ ⟨Nat.le_refl _, Nat.le_refl _⟩ rfl hl.1 rfl (Nat.le_of_ble_eq_true rfl) dX5_fit_49 (fun H locs hP hS => ?_)
        refine lv_if_ne (tgt := 80) C.1 C.2.1 dX5_fit_52 (by decide) (fun c2006 => ?_) (fun c2006 => ?_)
        · have hE := it_f c2006 hE
          obtain rfl := Option.some.inj hE
          exact hJ80u2003 H locs ls hP hS (lv_sub hl [0, 1, 2, 3] rfl)
        · have hE := it_t c2006 hE
          refine lv_aload_n C.1 C.2.1 dX5_fit_55 rfl (lv_at hl 0 rfl) ?_
          refine mg_35 (v := r2005.2.1) C hP rfl dX5_fit_56 ?_
          refine lv_iload_n C.1 C.2.1 dX5_fit_59 rfl (lv_at hl 1 rfl) ?_
          refine lv_icmp_ne (tgt := 80) C.1 C.2.1 dX5_fit_60 (by decide) (fun c2007 => ?_) (fun c2007 => ?_)
          · have hE := it_f c2007 hE
            obtain rfl := Option.some.inj hE
            exact hJ80u2003 H locs ls hP hS (lv_sub hl [0, 1, 2, 3] rfl)
          · have hE := it_t c2007 hE
            refine lv_iload_n C.1 C.2.1 dX5_fit_63 rfl (lv_at hl 2 rfl) ?_
            refine lv_iload_n C.1 C.2.1 dX5_fit_64 rfl (lv_at hl 3 rfl) ?_
            refine lv_iconst (v := (-1)) C.1 C.2.1 dX5_fit_65 (by decide) ?_
            obtain ⟨u2009, hR, hE⟩ := it_b hE
            have hJ78u2009 : ∀ (H : Heap) (locs : List Loc) (ls : Array Slot), mPw G h0 ad (upd (upd (upd (upd (upd (upd F 35 r2005.2.1) 36 r2005.2.2.1) 37 r2005.2.2.2.1) 38 r2005.2.2.2.2.1) 39 r2005.2.2.2.2.2.1) 40 r2005.2.2.2.2.2.2) (va_up A 11 a_refused) L H → va_S (mA h0 ad) s.heap H locs → lv_has ls 4 [(0, .ref h0), (1, .int x1), (3, .int x3)] → W p l e ({ frames := 3, cells := 0, slots := 0, locals := 65 } : Room) s m args below meth c H locs 0 0 Q (F0 m 78 ls [.int u2009, .int x2]) := by
              intro H locs ls hP hS hl
              refine lv_ior C.1 C.2.1 dX5_fit_78 ?_
              refine lv_istore_n (lv' := [(2, .int (x2 ||| u2009)), (0, .ref h0), (1, .int x1), (3, .int x3)]) C.1 C.2.1 dX5_fit_79 rfl hl (by decide) rfl (fun ls hl => ?_)
              obtain rfl := Option.some.inj hE
              exact hJ80u2003 H locs ls hP hS (lv_sub hl [1, 2, 0, 3] rfl)
            have hE := hR
            refine lv_icmp_ne (tgt := 75) C.1 C.2.1 dX5_fit_66 (by decide) (fun c2008 => ?_) (fun c2008 => ?_)
            · have hE := it_f c2008 hE
              refine lv_iconst (v := 1) C.1 C.2.1 dX5_fit_75 (by decide) ?_
              refine lv_iload_n C.1 C.2.1 dX5_fit_76 rfl (lv_at hl 3 rfl) ?_
              refine lv_ishl C.1 C.2.1 dX5_fit_77 ?_
              obtain rfl := Option.some.inj hE
              exact hJ78u2009 H locs ls hP hS (lv_sub hl [0, 1, 3] rfl)
            · have hE := it_t c2008 hE
              refine lv_sipush (v := 256) C.1 C.2.1 dX5_fit_69 (by decide) ?_
              refine lv_goto (tgt := 78) C.1 C.2.1 dX5_fit_72 (by decide) ?_
              obtain rfl := Option.some.inj hE
              exact hJ78u2009 H locs ls hP hS (lv_sub hl [0, 1, 3] rfl)
      · have hE := it_f c2002 hE
        refine lv_aload_n C.1 C.2.1 dX5_fit_32 rfl (lv_at hl 0 rfl) ?_
        refine lv_iload_n C.1 C.2.1 dX5_fit_33 rfl (lv_at hl 3 rfl) ?_
        obtain ⟨r2010, hr2010, hE⟩ := it_b hE
        refine m_call (n := 1) (As := [.int x3]) (rest := []) C hP hS hml (metM_may l G h0 ad _ _ _ x3 r2010 hr2010) q1595 q1597 qs48 q1598 rfl rfl (by decide +kernel) ⟨Nat.le_of_ble_eq_true rfl, Nat.le_of_ble_eq_true rfl⟩ ⟨Nat.le_refl _, Nat.le_refl _⟩ rfl hl.1 rfl (Nat.le_of_ble_eq_true rfl) dX5_fit_34 (fun H locs hP hS => ?_)
        refine lv_if_ne (tgt := 43) C.1 C.2.1 dX5_fit_37 (by decide) (fun c2011 => ?_) (fun c2011 => ?_)
        · have hE := it_f c2011 hE
          refine lv_aload_n C.1 C.2.1 dX5_fit_43 rfl (lv_at hl 0 rfl) ?_
          obtain ⟨r2012, hr2012, hE⟩ := it_b hE
          refine m_call (n := 0) (As := []) (rest := []) C hP hS hml (metM_begins l G h0 ad _ _ _ r2012 hr2012) q1603 q1605 qs50 q1606 rfl rfl (by decide +kernel) ⟨Nat.le_of_ble_eq_true rfl, Nat.le_of_ble_eq_true rfl⟩ ⟨Nat.le_refl _, Nat.le_refl _⟩ rfl hl.1 rfl (Nat.le_of_ble_eq_true rfl) dX5_fit_44 (fun H locs hP hS => ?_)
          refine lv_aload_n C.1 C.2.1 dX5_fit_47 rfl (lv_at hl 0 rfl) ?_
          refine lv_iload_n C.1 C.2.1 dX5_fit_48 rfl (lv_at hl 3 rfl) ?_
          obtain ⟨r2013, hr2013, hE⟩ := it_b hE
          refine m_call (n := 1) (As := [.int x3]) (rest := []) C hP hS hml (metM_goes l G h0 ad _ _ _ x3 r2013 hr2013) q1607 q1609 qs51 q1610 rfl rfl (by decide +kernel) ⟨Nat.le_of_ble_eq_true rfl, Nat.le_of_ble_eq_true rfl⟩ ⟨Nat.le_refl _, Nat.le_refl _⟩ rfl hl.1 rfl (Nat.le_of_ble_eq_true rfl) dX5_fit_49 (fun H locs hP hS => ?_)
          refine lv_if_ne (tgt := 80) C.1 C.2.1 dX5_fit_52 (by decide) (fun c2014 => ?_) (fun c2014 => ?_)
          · have hE := it_f c2014 hE
            obtain rfl := Option.some.inj hE
            exact hJ80u2003 H locs ls hP hS (lv_sub hl [0, 1, 2, 3] rfl)
          · have hE := it_t c2014 hE
            refine lv_aload_n C.1 C.2.1 dX5_fit_55 rfl (lv_at hl 0 rfl) ?_
            refine mg_35 (v := r2013.2.1) C hP rfl dX5_fit_56 ?_
            refine lv_iload_n C.1 C.2.1 dX5_fit_59 rfl (lv_at hl 1 rfl) ?_
            refine lv_icmp_ne (tgt := 80) C.1 C.2.1 dX5_fit_60 (by decide) (fun c2015 => ?_) (fun c2015 => ?_)
            · have hE := it_f c2015 hE
              obtain rfl := Option.some.inj hE
              exact hJ80u2003 H locs ls hP hS (lv_sub hl [0, 1, 2, 3] rfl)
            · have hE := it_t c2015 hE
              refine lv_iload_n C.1 C.2.1 dX5_fit_63 rfl (lv_at hl 2 rfl) ?_
              refine lv_iload_n C.1 C.2.1 dX5_fit_64 rfl (lv_at hl 3 rfl) ?_
              refine lv_iconst (v := (-1)) C.1 C.2.1 dX5_fit_65 (by decide) ?_
              obtain ⟨u2017, hR, hE⟩ := it_b hE
              have hJ78u2017 : ∀ (H : Heap) (locs : List Loc) (ls : Array Slot), mPw G h0 ad (upd (upd (upd (upd (upd (upd F 35 r2013.2.1) 36 r2013.2.2.1) 37 r2013.2.2.2.1) 38 r2013.2.2.2.2.1) 39 r2013.2.2.2.2.2.1) 40 r2013.2.2.2.2.2.2) (va_up A 11 a_refused) L H → va_S (mA h0 ad) s.heap H locs → lv_has ls 4 [(0, .ref h0), (1, .int x1), (3, .int x3)] → W p l e ({ frames := 3, cells := 0, slots := 0, locals := 65 } : Room) s m args below meth c H locs 0 0 Q (F0 m 78 ls [.int u2017, .int x2]) := by
                intro H locs ls hP hS hl
                refine lv_ior C.1 C.2.1 dX5_fit_78 ?_
                refine lv_istore_n (lv' := [(2, .int (x2 ||| u2017)), (0, .ref h0), (1, .int x1), (3, .int x3)]) C.1 C.2.1 dX5_fit_79 rfl hl (by decide) rfl (fun ls hl => ?_)
                obtain rfl := Option.some.inj hE
                exact hJ80u2003 H locs ls hP hS (lv_sub hl [1, 2, 0, 3] rfl)
              have hE := hR
              refine lv_icmp_ne (tgt := 75) C.1 C.2.1 dX5_fit_66 (by decide) (fun c2016 => ?_) (fun c2016 => ?_)
              · have hE := it_f c2016 hE
                refine lv_iconst (v := 1) C.1 C.2.1 dX5_fit_75 (by decide) ?_
                refine lv_iload_n C.1 C.2.1 dX5_fit_76 rfl (lv_at hl 3 rfl) ?_
                refine lv_ishl C.1 C.2.1 dX5_fit_77 ?_
                obtain rfl := Option.some.inj hE
                exact hJ78u2017 H locs ls hP hS (lv_sub hl [0, 1, 3] rfl)
              · have hE := it_t c2016 hE
                refine lv_sipush (v := 256) C.1 C.2.1 dX5_fit_69 (by decide) ?_
                refine lv_goto (tgt := 78) C.1 C.2.1 dX5_fit_72 (by decide) ?_
                obtain rfl := Option.some.inj hE
                exact hJ78u2017 H locs ls hP hS (lv_sub hl [0, 1, 3] rfl)
        · have hE := it_t c2011 hE
          refine lv_goto (tgt := 80) C.1 C.2.1 dX5_fit_40 (by decide) ?_
          obtain rfl := Option.some.inj hE
          exact hJ80u2003 H locs ls hP hS (lv_sub hl [0, 1, 2, 3] rfl)
set_option maxHeartbeats 4000000 in
theorem metM_fit (l : Launch) (G : kG) (h0 : Nat) (ad : Nat → Nat) (F : Nat → Int32) (A : Nat → Nat → Int32) (L : Nat → Nat → Int64) (p1 : Int32) (res : Int32 × Int32 × Int32 × Int32 × Int32 × Int32 × Int32 × (Nat → Int32)) (hE : sM_fit (F 0) (F 1) (F 2) (F 3) (F 5) (F 6) (F 7) (F 35) (F 36) (F 37) (F 38) (F 39) (F 40) (A 11) (A 12) (A 13) (A 15) p1 = some res) : Met l yX5_fit (ws_ yX5_fit cX5_fit 4 (some .int)) ({ frames := 3, cells := 0, slots := 0, locals := 65 } : Room) (mPc G h0 ad F A L [.int p1]) (mQc G h0 ad (upd (upd (upd (upd (upd (upd F 35 res.2.1) 36 res.2.2.1) 37 res.2.2.2.1) 38 res.2.2.2.2.1) 39 res.2.2.2.2.2.1) 40 res.2.2.2.2.2.2.1) (va_up A 11 res.2.2.2.2.2.2.2) L (some (.int res.1))) 0 0 (mA h0 ad) := by
  refine m_ofW (by decide) rfl (Nat.le_of_ble_eq_true rfl) ?_
  intro p e s m args below meth c ls C hml hP hS hl hr hlocks
  have hl : lv_has ls 4 [(0, .ref h0), (1, .int p1)] := hl
  obtain ⟨Q, hQ⟩ : ∃ Q, Q = MQ below (mQc G h0 ad (upd (upd (upd (upd (upd (upd F 35 res.2.1) 36 res.2.2.1) 37 res.2.2.2.1) 38 res.2.2.2.2.1) 39 res.2.2.2.2.2.1) 40 res.2.2.2.2.2.2.1) (va_up A 11 res.2.2.2.2.2.2.2) L (some (.int res.1))) args s 0 0 (mA h0 ad) := ⟨_, rfl⟩
  rw [← hQ]
  have hret : ∀ (pc : Nat) (ls : Array Slot) (H : Heap) (locs : List Loc), decode cX5_fit pc = .ok (.ireturn, 1) → mPw G h0 ad (upd (upd (upd (upd (upd (upd F 35 res.2.1) 36 res.2.2.1) 37 res.2.2.2.1) 38 res.2.2.2.2.1) 39 res.2.2.2.2.2.1) 40 res.2.2.2.2.2.2.1) (va_up A 11 res.2.2.2.2.2.2.2) L H → va_S (mA h0 ad) s.heap H locs → W p l e ({ frames := 3, cells := 0, slots := 0, locals := 65 } : Room) s m args below meth c H locs 0 0 Q (F0 m pc ls [.int res.1]) := by
    intro pc ls H locs hd hP hS
    rw [hQ]
    exact m_iret C hr hlocks hd hP hS
  clear hQ
  obtain ⟨H, hH⟩ : ∃ H, H = s.heap := ⟨_, rfl⟩
  obtain ⟨locs, hlo⟩ : ∃ locs : List Loc, locs = [] := ⟨_, rfl⟩
  have hP : mPw G h0 ad F A L H := by rw [hH]; exact hP
  have hS : va_S (mA h0 ad) s.heap H locs := by rw [hH, hlo]; exact hS
  suffices hZ : W p l e ({ frames := 3, cells := 0, slots := 0, locals := 65 } : Room) s m args below meth c H locs 0 0 Q (F0 m 0 ls []) by rw [hH, hlo] at hZ; exact hZ
  clear hH hlo
  unfold sM_fit at hE
  refine lv_aload_n C.1 C.2.1 dX5_fit_0 rfl (lv_at hl 0 rfl) ?_
  refine lv_iload_n C.1 C.2.1 dX5_fit_1 rfl (lv_at hl 1 rfl) ?_
  obtain ⟨r1, hr1, hE⟩ := it_b hE
  refine m_call (n := 1) (As := [.int p1]) (rest := []) C hP hS hml (metM_isWeight l G h0 ad _ _ _ p1 r1 hr1) q1707 q1709 qs68 q1710 rfl rfl (by decide +kernel) ⟨Nat.le_of_ble_eq_true rfl, Nat.le_of_ble_eq_true rfl⟩ ⟨Nat.le_refl _, Nat.le_refl _⟩ rfl hl.1 rfl (Nat.le_of_ble_eq_true rfl) dX5_fit_2 (fun H locs hP hS => ?_)
  refine lv_if_ne (tgt := 15) C.1 C.2.1 dX5_fit_5 (by decide) (fun c2 => ?_) (fun c2 => ?_)
  · have hE := it_f c2 hE
    refine lv_iconst (v := 0) C.1 C.2.1 dX5_fit_15 (by decide) ?_
    refine lv_istore_n (lv' := [(2, .int 0), (0, .ref h0), (1, .int p1)]) C.1 C.2.1 dX5_fit_16 rfl hl (by decide) rfl (fun ls hl => ?_)
    refine lv_iconst (v := (-1)) C.1 C.2.1 dX5_fit_17 (by decide) ?_
    refine lv_istore_n (lv' := [(3, .int (-1)), (2, .int 0), (0, .ref h0), (1, .int p1)]) C.1 C.2.1 dX5_fit_18 rfl hl (by decide) rfl (fun ls hl => ?_)
    obtain ⟨u3, hu3, hE⟩ := it_b hE
    refine wM_fit_h19 C hml F A L p1 (A 11) u3 2000 0 (-1) (F 35) (F 36) (F 37) (F 38) (F 39) (F 40) H locs ls hu3 hP hS (lv_sub hl [2, 3, 1, 0] rfl) (fun H locs ls hP hS hl => ?_)
    refine lv_iload_n C.1 C.2.1 dX5_fit_86 rfl (lv_at hl 0 rfl) ?_
    obtain rfl := Option.some.inj hE
    exact hret _ _ _ _ dX5_fit_87 hP hS
  · have hE := it_t c2 hE
    refine lv_aload_n C.1 C.2.1 dX5_fit_8 rfl (lv_at hl 0 rfl) ?_
    refine lv_bipush (v := (-6)) C.1 C.2.1 dX5_fit_9 (by decide) ?_
    obtain ⟨r4, hr4, hE⟩ := it_b hE
    refine m_call (n := 1) (As := [.int (-6)]) (rest := []) C hP hS hml (metM_no l G h0 ad _ _ _ (-6) r4 hr4) q1483 q1485 qs32 q1486 rfl rfl (by decide +kernel) ⟨Nat.le_of_ble_eq_true rfl, Nat.le_of_ble_eq_true rfl⟩ ⟨Nat.le_refl _, Nat.le_refl _⟩ rfl hl.1 rfl (Nat.le_of_ble_eq_true rfl) dX5_fit_11 (fun H locs hP hS => ?_)
    obtain rfl := Option.some.inj hE
    exact hret _ _ _ _ dX5_fit_14 hP hS
def sM_dying_h13  : Nat → Int32 → (Nat → Int32) → Option ((Nat → Int32))
  | 0, _, _ => none
  | fuel + 1, x5, a_blamed =>
    if 8 ≤ x5 then
      some a_blamed
    else
      if gi x5 8 then
      sM_dying_h13  fuel (x5 + 1) (upd a_blamed (x5).toNatClampNeg 0)
      else none
def sM_dying_h37 (x1 : Int32) (x2 : Int32) : Nat → Int32 → Int32 → Option (Int32)
  | 0, _, _ => none
  | fuel + 1, x3, x5 =>
    if x1 ≤ x5 then
      some x3
    else
      sM_dying_h37 x1 x2 fuel (x3 * x2) (x5 + 1)
def sM_dying_h73 (x1 : Int32) (x2 : Int32) (f_many : Int32) (f_feed : Int32) (f_life : Int32) (f_low : Int32) (a_kind : Nat → Int32) (a_part : Nat → Int32) (a_ill : Nat → Int32) : Nat → Int32 → Int32 → Int32 → Int32 → Int32 → Int32 → Int32 → Int32 → Int32 → (Nat → Int32) → Option (Int32 × Int32 × Int32 × Int32 × Int32 × Int32 × Int32 × (Nat → Int32))
  | 0, _, _, _, _, _, _, _, _, _, _ => none
  | fuel + 1, x4, x6, x7, f_heft, f_alarm, f_old, f_died, f_ofWhat, f_heavy, a_blamed =>
    if x1 ≤ x7 then
      some (x4, f_heft, f_alarm, f_old, f_died, f_ofWhat, f_heavy, a_blamed)
    else
      if ¬ x2 = 0 then
      (sM_mayAt f_many a_ill (x6 - x6 / x2 * x2)).bind fun r7403 =>
      if ¬ x2 = 0 then
      (sM_goes f_feed f_life f_low f_heft f_alarm f_old f_died f_ofWhat f_heavy a_kind a_part r7403).bind fun r7405 =>
      @Option.bind (Int32 × Int32 × (Nat → Int32)) _ (
        if r7405.1 = 0 then
          some (x4, x7, a_blamed)
        else
          if gi r7403 8 then
          if gi r7403 8 then
          some ((x4 + 1), x1, (upd a_blamed (r7403).toNatClampNeg ((a_blamed (r7403).toNatClampNeg) + 1)))
          else none
          else none) fun u7407 =>
      sM_dying_h73 x1 x2 f_many f_feed f_life f_low a_kind a_part a_ill fuel u7407.1 (x6 / x2) (u7407.2.1 + 1) r7405.2.1 r7405.2.2.1 r7405.2.2.2.1 r7405.2.2.2.2.1 r7405.2.2.2.2.2.1 r7405.2.2.2.2.2.2 u7407.2.2
      else none
      else none
def sM_dying_h56 (x1 : Int32) (x2 : Int32) (x3 : Int32) (f_many : Int32) (f_weight : Int32) (f_fright : Int32) (f_age : Int32) (f_feed : Int32) (f_life : Int32) (f_low : Int32) (a_kind : Nat → Int32) (a_part : Nat → Int32) (a_ill : Nat → Int32) : Nat → Int32 → Int32 → Int32 → Int32 → Int32 → Int32 → Int32 → Int32 → (Nat → Int32) → Option (Int32 × Int32 × Int32 × Int32 × Int32 × Int32 × Int32 × (Nat → Int32))
  | 0, _, _, _, _, _, _, _, _, _ => none
  | fuel + 1, x4, x5, f_heft, f_alarm, f_old, f_died, f_ofWhat, f_heavy, a_blamed =>
    if x3 ≤ x5 then
      some (x4, f_heft, f_alarm, f_old, f_died, f_ofWhat, f_heavy, a_blamed)
    else
      (sM_begins f_weight f_fright f_age f_heft f_alarm f_old f_died f_ofWhat f_heavy).bind fun r5702 =>
      (sM_dying_h73 x1 x2 f_many f_feed f_life f_low a_kind a_part a_ill 5000 x4 x5 0 r5702.1 r5702.2.1 r5702.2.2.1 r5702.2.2.2.1 r5702.2.2.2.2.1 r5702.2.2.2.2.2 a_blamed).bind fun u5703 =>
      sM_dying_h56 x1 x2 x3 f_many f_weight f_fright f_age f_feed f_life f_low a_kind a_part a_ill fuel u5703.1 (x5 + 1) u5703.2.1 u5703.2.2.1 u5703.2.2.2.1 u5703.2.2.2.2.1 u5703.2.2.2.2.2.1 u5703.2.2.2.2.2.2.1 u5703.2.2.2.2.2.2.2
def sM_dying (f_many : Int32) (f_weight : Int32) (f_fright : Int32) (f_age : Int32) (f_feed : Int32) (f_life : Int32) (f_low : Int32) (f_heft : Int32) (f_alarm : Int32) (f_old : Int32) (f_died : Int32) (f_ofWhat : Int32) (f_heavy : Int32) (a_kind : Nat → Int32) (a_part : Nat → Int32) (a_ill : Nat → Int32) (a_blamed : Nat → Int32) (p1 : Int32) : Option (Int32 × Int32 × Int32 × Int32 × Int32 × Int32 × Int32 × (Nat → Int32)) :=
  (sM_mays f_many a_ill).bind fun r1 =>
  (sM_dying_h13  5000 0 a_blamed).bind fun u2 =>
  (sM_dying_h37 p1 r1 5000 1 0).bind fun u3 =>
  (sM_dying_h56 p1 r1 u3 f_many f_weight f_fright f_age f_feed f_life f_low a_kind a_part a_ill 5000 0 0 f_heft f_alarm f_old f_died f_ofWhat f_heavy u2).bind fun u4 =>
  some (u4.1, u4.2.1, u4.2.2.1, u4.2.2.2.1, u4.2.2.2.2.1, u4.2.2.2.2.2.1, u4.2.2.2.2.2.2.1, u4.2.2.2.2.2.2.2)
set_option maxHeartbeats 4000000 in
theorem wM_dying_h13 {p : Program} {l : Launch} {e : Env} {s : State} {m : MethodId} {args : Array Value} {below : List Frame} {meth : Method} {c : Code} {G : kG} {h0 : Nat} {ad : Nat → Nat} {Q : State → Prop} (C : mC p s m args c cX5_dying G h0 ad) (hml : c.maxLocals = 9) (F : Nat → Int32) (A : Nat → Nat → Int32) (L : Nat → Nat → Int64) (x1 : Int32) (x2 : Int32) (x3 : Int32) (x4 : Int32) (f_heft : Int32) (f_alarm : Int32) (f_old : Int32) (f_died : Int32) (f_ofWhat : Int32) (f_heavy : Int32) (res : (Nat → Int32)) :
    ∀ (fuel : Nat) (x5 : Int32) (a_blamed : Nat → Int32) (H : Heap) (locs : List Loc) (ls : Array Slot), sM_dying_h13  fuel x5 a_blamed = some res → mPw G h0 ad (upd (upd (upd (upd (upd (upd F 35 f_heft) 36 f_alarm) 37 f_old) 38 f_died) 39 f_ofWhat) 40 f_heavy) (va_up A 45 a_blamed) L H → va_S (mA h0 ad) s.heap H locs → lv_has ls 9 [(0, .ref h0), (1, .int x1), (2, .int x2), (3, .int x3), (4, .int x4), (5, .int x5)] → (∀ (H : Heap) (locs : List Loc) (ls : Array Slot), mPw G h0 ad (upd (upd (upd (upd (upd (upd F 35 f_heft) 36 f_alarm) 37 f_old) 38 f_died) 39 f_ofWhat) 40 f_heavy) (va_up A 45 res) L H → va_S (mA h0 ad) s.heap H locs → lv_has ls 9 [(0, .ref h0), (1, .int x1), (2, .int x2), (3, .int x3), (4, .int x4)] → W p l e ({ frames := 3, cells := 0, slots := 0, locals := 65 } : Room) s m args below meth c H locs 0 0 Q (F0 m 34 ls [])) → W p l e ({ frames := 3, cells := 0, slots := 0, locals := 65 } : Room) s m args below meth c H locs 0 0 Q (F0 m 13 ls []) := by
  intro fuel
  induction fuel with
  | zero =>
    intro x5 a_blamed H locs ls hE
    exact it_n hE
  | succ fuel ih =>
    intro x5 a_blamed H locs ls hE hP hS hl hX
    rw [sM_dying_h13] at hE
    refine lv_iload C.1 C.2.1 dX5_dying_13 (lv_at hl 5 rfl) ?_
    refine lv_bipush (v := 8) C.1 C.2.1 dX5_dying_15 (by decide) ?_
    refine lv_icmp_ge (tgt := 34) C.1 C.2.1 dX5_dying_17 (by decide) (fun c1401 => ?_) (fun c1401 => ?_)
    · have hE := it_t c1401 hE
      obtain rfl := Option.some.inj hE
      exact hX H locs ls hP hS (lv_sub hl [0, 1, 2, 3, 4] rfl)
    · have hE := it_f c1401 hE
      refine lv_aload_n C.1 C.2.1 dX5_dying_20 rfl (lv_at hl 0 rfl) ?_
      refine ma_45 C hP dX5_dying_21 ?_
      refine lv_iload C.1 C.2.1 dX5_dying_24 (lv_at hl 5 rfl) ?_
      refine lv_iconst (v := 0) C.1 C.2.1 dX5_dying_26 (by decide) ?_
      obtain ⟨g1402, hE⟩ := it_g hE
      refine ms_45 (a := a_blamed) C hP hS (gi_in g1402) rfl dX5_dying_27 (fun H locs hP hS => ?_)
      refine lv_iinc (v := (x5 + 1)) (lv' := [(5, .int (x5 + 1)), (0, .ref h0), (1, .int x1), (2, .int x2), (3, .int x3), (4, .int x4)]) C.1 C.2.1 dX5_dying_28 hl (k := 5) rfl rfl (by decide) rfl (fun ls hl => ?_)
      refine lv_goto (tgt := 13) C.1 C.2.1 dX5_dying_31 (by decide) ?_
      exact ih (x5 + 1) (upd a_blamed (x5).toNatClampNeg 0) _ _ _ hE hP hS (lv_sub hl [1, 2, 3, 4, 5, 0] rfl) hX
set_option maxHeartbeats 4000000 in
theorem wM_dying_h37 {p : Program} {l : Launch} {e : Env} {s : State} {m : MethodId} {args : Array Value} {below : List Frame} {meth : Method} {c : Code} {G : kG} {h0 : Nat} {ad : Nat → Nat} {Q : State → Prop} (C : mC p s m args c cX5_dying G h0 ad) (hml : c.maxLocals = 9) (F : Nat → Int32) (A : Nat → Nat → Int32) (L : Nat → Nat → Int64) (x1 : Int32) (x2 : Int32) (x4 : Int32) (f_heft : Int32) (f_alarm : Int32) (f_old : Int32) (f_died : Int32) (f_ofWhat : Int32) (f_heavy : Int32) (a_blamed : Nat → Int32) (res : Int32) :
    ∀ (fuel : Nat) (x3 : Int32) (x5 : Int32) (H : Heap) (locs : List Loc) (ls : Array Slot), sM_dying_h37 x1 x2 fuel x3 x5 = some res → mPw G h0 ad (upd (upd (upd (upd (upd (upd F 35 f_heft) 36 f_alarm) 37 f_old) 38 f_died) 39 f_ofWhat) 40 f_heavy) (va_up A 45 a_blamed) L H → va_S (mA h0 ad) s.heap H locs → lv_has ls 9 [(0, .ref h0), (1, .int x1), (2, .int x2), (3, .int x3), (4, .int x4), (5, .int x5)] → (∀ (H : Heap) (locs : List Loc) (ls : Array Slot), mPw G h0 ad (upd (upd (upd (upd (upd (upd F 35 f_heft) 36 f_alarm) 37 f_old) 38 f_died) 39 f_ofWhat) 40 f_heavy) (va_up A 45 a_blamed) L H → va_S (mA h0 ad) s.heap H locs → lv_has ls 9 [(0, .ref h0), (1, .int x1), (2, .int x2), (3, .int res), (4, .int x4)] → W p l e ({ frames := 3, cells := 0, slots := 0, locals := 65 } : Room) s m args below meth c H locs 0 0 Q (F0 m 53 ls [])) → W p l e ({ frames := 3, cells := 0, slots := 0, locals := 65 } : Room) s m args below meth c H locs 0 0 Q (F0 m 37 ls []) := by
  intro fuel
  induction fuel with
  | zero =>
    intro x3 x5 H locs ls hE
    exact it_n hE
  | succ fuel ih =>
    intro x3 x5 H locs ls hE hP hS hl hX
    rw [sM_dying_h37] at hE
    refine lv_iload C.1 C.2.1 dX5_dying_37 (lv_at hl 5 rfl) ?_
    refine lv_iload_n C.1 C.2.1 dX5_dying_39 rfl (lv_at hl 1 rfl) ?_
    refine lv_icmp_ge (tgt := 53) C.1 C.2.1 dX5_dying_40 (by decide) (fun c3801 => ?_) (fun c3801 => ?_)
    · have hE := it_t c3801 hE
      obtain rfl := Option.some.inj hE
      exact hX H locs ls hP hS (lv_sub hl [0, 1, 2, 3, 4] rfl)
    · have hE := it_f c3801 hE
      refine lv_iload_n C.1 C.2.1 dX5_dying_43 rfl (lv_at hl 3 rfl) ?_
      refine lv_iload_n C.1 C.2.1 dX5_dying_44 rfl (lv_at hl 2 rfl) ?_
      refine lv_imul C.1 C.2.1 dX5_dying_45 ?_
      refine lv_istore_n (lv' := [(3, .int (x3 * x2)), (0, .ref h0), (1, .int x1), (2, .int x2), (4, .int x4), (5, .int x5)]) C.1 C.2.1 dX5_dying_46 rfl hl (by decide) rfl (fun ls hl => ?_)
      refine lv_iinc (v := (x5 + 1)) (lv' := [(5, .int (x5 + 1)), (3, .int (x3 * x2)), (0, .ref h0), (1, .int x1), (2, .int x2), (4, .int x4)]) C.1 C.2.1 dX5_dying_47 hl (k := 5) rfl rfl (by decide) rfl (fun ls hl => ?_)
      refine lv_goto (tgt := 37) C.1 C.2.1 dX5_dying_50 (by decide) ?_
      exact ih (x3 * x2) (x5 + 1) _ _ _ hE hP hS (lv_sub hl [2, 3, 4, 1, 5, 0] rfl) hX
set_option maxHeartbeats 4000000 in
theorem wM_dying_h73 {p : Program} {l : Launch} {e : Env} {s : State} {m : MethodId} {args : Array Value} {below : List Frame} {meth : Method} {c : Code} {G : kG} {h0 : Nat} {ad : Nat → Nat} {Q : State → Prop} (C : mC p s m args c cX5_dying G h0 ad) (hml : c.maxLocals = 9) (F : Nat → Int32) (A : Nat → Nat → Int32) (L : Nat → Nat → Int64) (x1 : Int32) (x2 : Int32) (x3 : Int32) (x5 : Int32) (res : Int32 × Int32 × Int32 × Int32 × Int32 × Int32 × Int32 × (Nat → Int32)) :
    ∀ (fuel : Nat) (x4 : Int32) (x6 : Int32) (x7 : Int32) (f_heft : Int32) (f_alarm : Int32) (f_old : Int32) (f_died : Int32) (f_ofWhat : Int32) (f_heavy : Int32) (a_blamed : Nat → Int32) (H : Heap) (locs : List Loc) (ls : Array Slot), sM_dying_h73 x1 x2 (F 0) (F 5) (F 6) (F 7) (A 12) (A 13) (A 15) fuel x4 x6 x7 f_heft f_alarm f_old f_died f_ofWhat f_heavy a_blamed = some res → mPw G h0 ad (upd (upd (upd (upd (upd (upd F 35 f_heft) 36 f_alarm) 37 f_old) 38 f_died) 39 f_ofWhat) 40 f_heavy) (va_up A 45 a_blamed) L H → va_S (mA h0 ad) s.heap H locs → lv_has ls 9 [(0, .ref h0), (1, .int x1), (2, .int x2), (3, .int x3), (4, .int x4), (5, .int x5), (6, .int x6), (7, .int x7)] → (∀ (H : Heap) (locs : List Loc) (ls : Array Slot), mPw G h0 ad (upd (upd (upd (upd (upd (upd F 35 res.2.1) 36 res.2.2.1) 37 res.2.2.2.1) 38 res.2.2.2.2.1) 39 res.2.2.2.2.2.1) 40 res.2.2.2.2.2.2.1) (va_up A 45 res.2.2.2.2.2.2.2) L H → va_S (mA h0 ad) s.heap H locs → lv_has ls 9 [(0, .ref h0), (1, .int x1), (2, .int x2), (3, .int x3), (4, .int res.1), (5, .int x5)] → W p l e ({ frames := 3, cells := 0, slots := 0, locals := 65 } : Room) s m args below meth c H locs 0 0 Q (F0 m 130 ls [])) → W p l e ({ frames := 3, cells := 0, slots := 0, locals := 65 } : Room) s m args below meth c H locs 0 0 Q (F0 m 73 ls []) := by
  intro fuel
  induction fuel with
  | zero =>
    intro x4 x6 x7 f_heft f_alarm f_old f_died f_ofWhat f_heavy a_blamed H locs ls hE
    exact it_n hE
  | succ fuel ih =>
    intro x4 x6 x7 f_heft f_alarm f_old f_died f_ofWhat f_heavy a_blamed H locs ls hE hP hS hl hX
    rw [sM_dying_h73] at hE
    refine lv_iload C.1 C.2.1 dX5_dying_73 (lv_at hl 7 rfl) ?_
    refine lv_iload_n C.1 C.2.1 dX5_dying_75 rfl (lv_at hl 1 rfl) ?_
    refine lv_icmp_ge (tgt := 130) C.1 C.2.1 dX5_dying_76 (by decide) (fun c7401 => ?_) (fun c7401 => ?_)
    · have hE := it_t c7401 hE
      obtain rfl := Option.some.inj hE
      exact hX H locs ls hP hS (lv_sub hl [0, 1, 2, 3, 4, 5] rfl)
    · have hE := it_f c7401 hE
      refine lv_aload_n C.1 C.2.1 dX5_dying_79 rfl (lv_at hl 0 rfl) ?_
      refine lv_iload C.1 C.2.1 dX5_dying_80 (lv_at hl 6 rfl) ?_
      refine lv_iload_n C.1 C.2.1 dX5_dying_82 rfl (lv_at hl 2 rfl) ?_
      obtain ⟨g7402, hE⟩ := it_g hE
      refine lv_irem C.1 C.2.1 dX5_dying_83 g7402 ?_
      obtain ⟨r7403, hr7403, hE⟩ := it_b hE
      refine m_call (n := 1) (As := [.int (x6 - x6 / x2 * x2)]) (rest := []) C hP hS hml (metM_mayAt l G h0 ad _ _ _ (x6 - x6 / x2 * x2) r7403 hr7403) q1695 q1697 qs67 q1698 rfl rfl (by decide +kernel) ⟨Nat.le_of_ble_eq_true rfl, Nat.le_of_ble_eq_true rfl⟩ ⟨Nat.le_refl _, Nat.le_refl _⟩ rfl hl.1 rfl (Nat.le_of_ble_eq_true rfl) dX5_dying_84 (fun H locs hP hS => ?_)
      refine lv_istore (lv' := [(8, .int r7403), (0, .ref h0), (1, .int x1), (2, .int x2), (3, .int x3), (4, .int x4), (5, .int x5), (6, .int x6), (7, .int x7)]) C.1 C.2.1 dX5_dying_87 hl (by decide) rfl (fun ls hl => ?_)
      refine lv_iload C.1 C.2.1 dX5_dying_89 (lv_at hl 7 rfl) ?_
      refine lv_iload_n C.1 C.2.1 dX5_dying_91 rfl (lv_at hl 3 rfl) ?_
      obtain ⟨g7404, hE⟩ := it_g hE
      refine lv_idiv C.1 C.2.1 dX5_dying_92 g7404 ?_
      refine lv_istore (lv' := [(6, .int (x6 / x2)), (8, .int r7403), (0, .ref h0), (1, .int x1), (2, .int x2), (3, .int x3), (4, .int x4), (5, .int x5), (7, .int x7)]) C.1 C.2.1 dX5_dying_93 hl (by decide) rfl (fun ls hl => ?_)
      refine lv_aload_n C.1 C.2.1 dX5_dying_95 rfl (lv_at hl 2 rfl) ?_
      refine lv_iload C.1 C.2.1 dX5_dying_96 (lv_at hl 1 rfl) ?_
      obtain ⟨r7405, hr7405, hE⟩ := it_b hE
      refine m_call (n := 1) (As := [.int r7403]) (rest := []) C hP hS hml (metM_goes l G h0 ad _ _ _ r7403 r7405 hr7405) q1607 q1609 qs51 q1610 rfl rfl (by decide +kernel) ⟨Nat.le_of_ble_eq_true rfl, Nat.le_of_ble_eq_true rfl⟩ ⟨Nat.le_refl _, Nat.le_refl _⟩ rfl hl.1 rfl (Nat.le_of_ble_eq_true rfl) dX5_dying_98 (fun H locs hP hS => ?_)
      obtain ⟨u7407, hR, hE⟩ := it_b hE
      have hJ124u7407 : ∀ (H : Heap) (locs : List Loc) (ls : Array Slot), mPw G h0 ad (upd (upd (upd (upd (upd (upd F 35 r7405.2.1) 36 r7405.2.2.1) 37 r7405.2.2.2.1) 38 r7405.2.2.2.2.1) 39 r7405.2.2.2.2.2.1) 40 r7405.2.2.2.2.2.2) (va_up A 45 u7407.2.2) L H → va_S (mA h0 ad) s.heap H locs → lv_has ls 9 [(0, .ref h0), (1, .int x1), (2, .int x2), (3, .int x3), (4, .int u7407.1), (5, .int x5), (6, .int (x6 / x2)), (7, .int u7407.2.1)] → W p l e ({ frames := 3, cells := 0, slots := 0, locals := 65 } : Room) s m args below meth c H locs 0 0 Q (F0 m 124 ls []) := by
        intro H locs ls hP hS hl
        refine lv_iinc (v := (u7407.2.1 + 1)) (lv' := [(7, .int (u7407.2.1 + 1)), (0, .ref h0), (1, .int x1), (2, .int x2), (3, .int x3), (4, .int u7407.1), (5, .int x5), (6, .int (x6 / x2))]) C.1 C.2.1 dX5_dying_124 hl (k := 7) rfl rfl (by decide) rfl (fun ls hl => ?_)
        refine lv_goto (tgt := 73) C.1 C.2.1 dX5_dying_127 (by decide) ?_
        exact ih u7407.1 (x6 / x2) (u7407.2.1 + 1) r7405.2.1 r7405.2.2.1 r7405.2.2.2.1 r7405.2.2.2.2.1 r7405.2.2.2.2.2.1 r7405.2.2.2.2.2.2 u7407.2.2 _ _ _ hE hP hS (lv_sub hl [1, 2, 3, 4, 5, 6, 7, 0] rfl) hX
      have hE := hR
      refine lv_if_ne (tgt := 107) C.1 C.2.1 dX5_dying_101 (by decide) (fun c7406 => ?_) (fun c7406 => ?_)
      · have hE := it_f c7406 hE
        refine lv_aload_n C.1 C.2.1 dX5_dying_107 rfl (lv_at hl 2 rfl) ?_
        refine ma_45 C hP dX5_dying_108 ?_
        refine lv_iload C.1 C.2.1 dX5_dying_111 (lv_at hl 1 rfl) ?_
        refine lv_dup2_11 C.1 C.2.1 dX5_dying_113 rfl rfl ?_
        obtain ⟨g7408, hE⟩ := it_g hE
        refine ml_45 (v := (a_blamed (r7403).toNatClampNeg)) C hP (gi_in g7408) rfl dX5_dying_114 ?_
        refine lv_iconst (v := 1) C.1 C.2.1 dX5_dying_115 (by decide) ?_
        refine lv_iadd C.1 C.2.1 dX5_dying_116 ?_
        obtain ⟨g7409, hE⟩ := it_g hE
        refine ms_45 (a := a_blamed) C hP hS (gi_in g7409) rfl dX5_dying_117 (fun H locs hP hS => ?_)
        refine lv_iinc (v := (x4 + 1)) (lv' := [(4, .int (x4 + 1)), (6, .int (x6 / x2)), (8, .int r7403), (0, .ref h0), (1, .int x1), (2, .int x2), (3, .int x3), (5, .int x5), (7, .int x7)]) C.1 C.2.1 dX5_dying_118 hl (k := 6) rfl rfl (by decide) rfl (fun ls hl => ?_)
        refine lv_iload_n C.1 C.2.1 dX5_dying_121 rfl (lv_at hl 4 rfl) ?_
        refine lv_istore (lv' := [(7, .int x1), (4, .int (x4 + 1)), (6, .int (x6 / x2)), (8, .int r7403), (0, .ref h0), (1, .int x1), (2, .int x2), (3, .int x3), (5, .int x5)]) C.1 C.2.1 dX5_dying_122 hl (by decide) rfl (fun ls hl => ?_)
        obtain rfl := Option.some.inj hE
        exact hJ124u7407 H locs ls hP hS (lv_sub hl [4, 5, 6, 7, 1, 8, 2, 0] rfl)
      · have hE := it_t c7406 hE
        refine lv_goto (tgt := 124) C.1 C.2.1 dX5_dying_104 (by decide) ?_
        obtain rfl := Option.some.inj hE
        exact hJ124u7407 H locs ls hP hS (lv_sub hl [2, 3, 4, 5, 6, 7, 0, 8] rfl)
set_option maxHeartbeats 4000000 in
theorem wM_dying_h56 {p : Program} {l : Launch} {e : Env} {s : State} {m : MethodId} {args : Array Value} {below : List Frame} {meth : Method} {c : Code} {G : kG} {h0 : Nat} {ad : Nat → Nat} {Q : State → Prop} (C : mC p s m args c cX5_dying G h0 ad) (hml : c.maxLocals = 9) (F : Nat → Int32) (A : Nat → Nat → Int32) (L : Nat → Nat → Int64) (x1 : Int32) (x2 : Int32) (x3 : Int32) (res : Int32 × Int32 × Int32 × Int32 × Int32 × Int32 × Int32 × (Nat → Int32)) :
    ∀ (fuel : Nat) (x4 : Int32) (x5 : Int32) (f_heft : Int32) (f_alarm : Int32) (f_old : Int32) (f_died : Int32) (f_ofWhat : Int32) (f_heavy : Int32) (a_blamed : Nat → Int32) (H : Heap) (locs : List Loc) (ls : Array Slot), sM_dying_h56 x1 x2 x3 (F 0) (F 1) (F 2) (F 3) (F 5) (F 6) (F 7) (A 12) (A 13) (A 15) fuel x4 x5 f_heft f_alarm f_old f_died f_ofWhat f_heavy a_blamed = some res → mPw G h0 ad (upd (upd (upd (upd (upd (upd F 35 f_heft) 36 f_alarm) 37 f_old) 38 f_died) 39 f_ofWhat) 40 f_heavy) (va_up A 45 a_blamed) L H → va_S (mA h0 ad) s.heap H locs → lv_has ls 9 [(0, .ref h0), (1, .int x1), (2, .int x2), (3, .int x3), (4, .int x4), (5, .int x5)] → (∀ (H : Heap) (locs : List Loc) (ls : Array Slot), mPw G h0 ad (upd (upd (upd (upd (upd (upd F 35 res.2.1) 36 res.2.2.1) 37 res.2.2.2.1) 38 res.2.2.2.2.1) 39 res.2.2.2.2.2.1) 40 res.2.2.2.2.2.2.1) (va_up A 45 res.2.2.2.2.2.2.2) L H → va_S (mA h0 ad) s.heap H locs → lv_has ls 9 [(4, .int res.1)] → W p l e ({ frames := 3, cells := 0, slots := 0, locals := 65 } : Room) s m args below meth c H locs 0 0 Q (F0 m 136 ls [])) → W p l e ({ frames := 3, cells := 0, slots := 0, locals := 65 } : Room) s m args below meth c H locs 0 0 Q (F0 m 56 ls []) := by
  intro fuel
  induction fuel with
  | zero =>
    intro x4 x5 f_heft f_alarm f_old f_died f_ofWhat f_heavy a_blamed H locs ls hE
    exact it_n hE
  | succ fuel ih =>
    intro x4 x5 f_heft f_alarm f_old f_died f_ofWhat f_heavy a_blamed H locs ls hE hP hS hl hX
    rw [sM_dying_h56] at hE
    refine lv_iload C.1 C.2.1 dX5_dying_56 (lv_at hl 5 rfl) ?_
    refine lv_iload_n C.1 C.2.1 dX5_dying_58 rfl (lv_at hl 3 rfl) ?_
    refine lv_icmp_ge (tgt := 136) C.1 C.2.1 dX5_dying_59 (by decide) (fun c5701 => ?_) (fun c5701 => ?_)
    · have hE := it_t c5701 hE
      obtain rfl := Option.some.inj hE
      exact hX H locs ls hP hS (lv_sub hl [4] rfl)
    · have hE := it_f c5701 hE
      refine lv_iload C.1 C.2.1 dX5_dying_62 (lv_at hl 5 rfl) ?_
      refine lv_istore (lv' := [(6, .int x5), (0, .ref h0), (1, .int x1), (2, .int x2), (3, .int x3), (4, .int x4), (5, .int x5)]) C.1 C.2.1 dX5_dying_64 hl (by decide) rfl (fun ls hl => ?_)
      refine lv_aload_n C.1 C.2.1 dX5_dying_66 rfl (lv_at hl 1 rfl) ?_
      obtain ⟨r5702, hr5702, hE⟩ := it_b hE
      refine m_call (n := 0) (As := []) (rest := []) C hP hS hml (metM_begins l G h0 ad _ _ _ r5702 hr5702) q1603 q1605 qs50 q1606 rfl rfl (by decide +kernel) ⟨Nat.le_of_ble_eq_true rfl, Nat.le_of_ble_eq_true rfl⟩ ⟨Nat.le_refl _, Nat.le_refl _⟩ rfl hl.1 rfl (Nat.le_of_ble_eq_true rfl) dX5_dying_67 (fun H locs hP hS => ?_)
      refine lv_iconst (v := 0) C.1 C.2.1 dX5_dying_70 (by decide) ?_
      refine lv_istore (lv' := [(7, .int 0), (6, .int x5), (0, .ref h0), (1, .int x1), (2, .int x2), (3, .int x3), (4, .int x4), (5, .int x5)]) C.1 C.2.1 dX5_dying_71 hl (by decide) rfl (fun ls hl => ?_)
      obtain ⟨u5703, hu5703, hE⟩ := it_b hE
      refine wM_dying_h73 C hml F A L x1 x2 x3 x5 u5703 5000 x4 x5 0 r5702.1 r5702.2.1 r5702.2.2.1 r5702.2.2.2.1 r5702.2.2.2.2.1 r5702.2.2.2.2.2 a_blamed H locs ls hu5703 hP hS (lv_sub hl [2, 3, 4, 5, 6, 7, 1, 0] rfl) (fun H locs ls hP hS hl => ?_)
      refine lv_iinc (v := (x5 + 1)) (lv' := [(5, .int (x5 + 1)), (0, .ref h0), (1, .int x1), (2, .int x2), (3, .int x3), (4, .int u5703.1)]) C.1 C.2.1 dX5_dying_130 hl (k := 5) rfl rfl (by decide) rfl (fun ls hl => ?_)
      refine lv_goto (tgt := 56) C.1 C.2.1 dX5_dying_133 (by decide) ?_
      exact ih u5703.1 (x5 + 1) u5703.2.1 u5703.2.2.1 u5703.2.2.2.1 u5703.2.2.2.2.1 u5703.2.2.2.2.2.1 u5703.2.2.2.2.2.2.1 u5703.2.2.2.2.2.2.2 _ _ _ hE hP hS (lv_sub hl [1, 2, 3, 4, 5, 0] rfl) hX
set_option maxHeartbeats 4000000 in
theorem metM_dying (l : Launch) (G : kG) (h0 : Nat) (ad : Nat → Nat) (F : Nat → Int32) (A : Nat → Nat → Int32) (L : Nat → Nat → Int64) (p1 : Int32) (res : Int32 × Int32 × Int32 × Int32 × Int32 × Int32 × Int32 × (Nat → Int32)) (hE : sM_dying (F 0) (F 1) (F 2) (F 3) (F 5) (F 6) (F 7) (F 35) (F 36) (F 37) (F 38) (F 39) (F 40) (A 12) (A 13) (A 15) (A 45) p1 = some res) : Met l yX5_dying (ws_ yX5_dying cX5_dying 9 (some .int)) ({ frames := 3, cells := 0, slots := 0, locals := 65 } : Room) (mPc G h0 ad F A L [.int p1]) (mQc G h0 ad (upd (upd (upd (upd (upd (upd F 35 res.2.1) 36 res.2.2.1) 37 res.2.2.2.1) 38 res.2.2.2.2.1) 39 res.2.2.2.2.2.1) 40 res.2.2.2.2.2.2.1) (va_up A 45 res.2.2.2.2.2.2.2) L (some (.int res.1))) 0 0 (mA h0 ad) := by
  refine m_ofW (by decide) rfl (Nat.le_of_ble_eq_true rfl) ?_
  intro p e s m args below meth c ls C hml hP hS hl hr hlocks
  have hl : lv_has ls 9 [(0, .ref h0), (1, .int p1)] := hl
  obtain ⟨Q, hQ⟩ : ∃ Q, Q = MQ below (mQc G h0 ad (upd (upd (upd (upd (upd (upd F 35 res.2.1) 36 res.2.2.1) 37 res.2.2.2.1) 38 res.2.2.2.2.1) 39 res.2.2.2.2.2.1) 40 res.2.2.2.2.2.2.1) (va_up A 45 res.2.2.2.2.2.2.2) L (some (.int res.1))) args s 0 0 (mA h0 ad) := ⟨_, rfl⟩
  rw [← hQ]
  have hret : ∀ (pc : Nat) (ls : Array Slot) (H : Heap) (locs : List Loc), decode cX5_dying pc = .ok (.ireturn, 1) → mPw G h0 ad (upd (upd (upd (upd (upd (upd F 35 res.2.1) 36 res.2.2.1) 37 res.2.2.2.1) 38 res.2.2.2.2.1) 39 res.2.2.2.2.2.1) 40 res.2.2.2.2.2.2.1) (va_up A 45 res.2.2.2.2.2.2.2) L H → va_S (mA h0 ad) s.heap H locs → W p l e ({ frames := 3, cells := 0, slots := 0, locals := 65 } : Room) s m args below meth c H locs 0 0 Q (F0 m pc ls [.int res.1]) := by
    intro pc ls H locs hd hP hS
    rw [hQ]
    exact m_iret C hr hlocks hd hP hS
  clear hQ
  obtain ⟨H, hH⟩ : ∃ H, H = s.heap := ⟨_, rfl⟩
  obtain ⟨locs, hlo⟩ : ∃ locs : List Loc, locs = [] := ⟨_, rfl⟩
  have hP : mPw G h0 ad F A L H := by rw [hH]; exact hP
  have hS : va_S (mA h0 ad) s.heap H locs := by rw [hH, hlo]; exact hS
  suffices hZ : W p l e ({ frames := 3, cells := 0, slots := 0, locals := 65 } : Room) s m args below meth c H locs 0 0 Q (F0 m 0 ls []) by rw [hH, hlo] at hZ; exact hZ
  clear hH hlo
  unfold sM_dying at hE
  refine lv_aload_n C.1 C.2.1 dX5_dying_0 rfl (lv_at hl 0 rfl) ?_
  obtain ⟨r1, hr1, hE⟩ := it_b hE
  refine m_call (n := 0) (As := []) (rest := []) C hP hS hml (metM_mays l G h0 ad _ _ _ r1 hr1) q1671 q1673 qs62 q1674 rfl rfl (by decide +kernel) ⟨Nat.le_of_ble_eq_true rfl, Nat.le_of_ble_eq_true rfl⟩ ⟨Nat.le_refl _, Nat.le_refl _⟩ rfl hl.1 rfl (Nat.le_of_ble_eq_true rfl) dX5_dying_1 (fun H locs hP hS => ?_)
  refine lv_istore_n (lv' := [(2, .int r1), (0, .ref h0), (1, .int p1)]) C.1 C.2.1 dX5_dying_4 rfl hl (by decide) rfl (fun ls hl => ?_)
  refine lv_iconst (v := 1) C.1 C.2.1 dX5_dying_5 (by decide) ?_
  refine lv_istore_n (lv' := [(3, .int 1), (2, .int r1), (0, .ref h0), (1, .int p1)]) C.1 C.2.1 dX5_dying_6 rfl hl (by decide) rfl (fun ls hl => ?_)
  refine lv_iconst (v := 0) C.1 C.2.1 dX5_dying_7 (by decide) ?_
  refine lv_istore (lv' := [(4, .int 0), (3, .int 1), (2, .int r1), (0, .ref h0), (1, .int p1)]) C.1 C.2.1 dX5_dying_8 hl (by decide) rfl (fun ls hl => ?_)
  refine lv_iconst (v := 0) C.1 C.2.1 dX5_dying_10 (by decide) ?_
  refine lv_istore (lv' := [(5, .int 0), (4, .int 0), (3, .int 1), (2, .int r1), (0, .ref h0), (1, .int p1)]) C.1 C.2.1 dX5_dying_11 hl (by decide) rfl (fun ls hl => ?_)
  obtain ⟨u2, hu2, hE⟩ := it_b hE
  refine wM_dying_h13 C hml F A L p1 r1 1 0 (F 35) (F 36) (F 37) (F 38) (F 39) (F 40) u2 5000 0 (A 45) H locs ls hu2 hP hS (lv_sub hl [4, 5, 3, 2, 1, 0] rfl) (fun H locs ls hP hS hl => ?_)
  refine lv_iconst (v := 0) C.1 C.2.1 dX5_dying_34 (by decide) ?_
  refine lv_istore (lv' := [(5, .int 0), (0, .ref h0), (1, .int p1), (2, .int r1), (3, .int 1), (4, .int 0)]) C.1 C.2.1 dX5_dying_35 hl (by decide) rfl (fun ls hl => ?_)
  obtain ⟨u3, hu3, hE⟩ := it_b hE
  refine wM_dying_h37 C hml F A L p1 r1 0 (F 35) (F 36) (F 37) (F 38) (F 39) (F 40) u2 u3 5000 1 0 H locs ls hu3 hP hS (lv_sub hl [1, 2, 3, 4, 5, 0] rfl) (fun H locs ls hP hS hl => ?_)
  refine lv_iconst (v := 0) C.1 C.2.1 dX5_dying_53 (by decide) ?_
  refine lv_istore (lv' := [(5, .int 0), (0, .ref h0), (1, .int p1), (2, .int r1), (3, .int u3), (4, .int 0)]) C.1 C.2.1 dX5_dying_54 hl (by decide) rfl (fun ls hl => ?_)
  obtain ⟨u4, hu4, hE⟩ := it_b hE
  refine wM_dying_h56 C hml F A L p1 r1 u3 u4 5000 0 0 (F 35) (F 36) (F 37) (F 38) (F 39) (F 40) u2 H locs ls hu4 hP hS (lv_sub hl [1, 2, 3, 4, 5, 0] rfl) (fun H locs ls hP hS hl => ?_)
  refine lv_iload C.1 C.2.1 dX5_dying_136 (lv_at hl 0 rfl) ?_
  obtain rfl := Option.some.inj hE
  exact hret _ _ _ _ dX5_dying_138 hP hS
def sM_isFew (p1 : Int32) : Option (Int32) :=
  if p1 < 1 then
    some 0
  else
    if 4 < p1 then
      some 0
    else
      some 1
set_option maxHeartbeats 4000000 in
theorem metM_isFew (l : Launch) (G : kG) (h0 : Nat) (ad : Nat → Nat) (F : Nat → Int32) (A : Nat → Nat → Int32) (L : Nat → Nat → Int64) (p1 : Int32) (res : Int32) (hE : sM_isFew p1 = some res) : Met l yX5_isFew (ws_ yX5_isFew cX5_isFew 2 (some .boolean)) ({ frames := 0, cells := 0, slots := 0, locals := 0 } : Room) (mPc G h0 ad F A L [.int p1]) (mQc G h0 ad F A L (some (.int res))) 0 0 (mA h0 ad) := by
  refine m_ofW (by decide) rfl (Nat.le_of_ble_eq_true rfl) ?_
  intro p e s m args below meth c ls C hml hP hS hl hr hlocks
  have hl : lv_has ls 2 [(0, .ref h0), (1, .int p1)] := hl
  obtain ⟨Q, hQ⟩ : ∃ Q, Q = MQ below (mQc G h0 ad F A L (some (.int res))) args s 0 0 (mA h0 ad) := ⟨_, rfl⟩
  rw [← hQ]
  have hret : ∀ (pc : Nat) (ls : Array Slot) (H : Heap) (locs : List Loc), narrow .boolean (.int res) = .int res → decode cX5_isFew pc = .ok (.ireturn, 1) → mPw G h0 ad F A L H → va_S (mA h0 ad) s.heap H locs → W p l e ({ frames := 0, cells := 0, slots := 0, locals := 0 } : Room) s m args below meth c H locs 0 0 Q (F0 m pc ls [.int res]) := by
    intro pc ls H locs hn hd hP hS
    rw [hQ]
    exact m_zret C hr hlocks hn hd hP hS
  clear hQ
  obtain ⟨H, hH⟩ : ∃ H, H = s.heap := ⟨_, rfl⟩
  obtain ⟨locs, hlo⟩ : ∃ locs : List Loc, locs = [] := ⟨_, rfl⟩
  have hP : mPw G h0 ad F A L H := by rw [hH]; exact hP
  have hS : va_S (mA h0 ad) s.heap H locs := by rw [hH, hlo]; exact hS
  suffices hZ : W p l e ({ frames := 0, cells := 0, slots := 0, locals := 0 } : Room) s m args below meth c H locs 0 0 Q (F0 m 0 ls []) by rw [hH, hlo] at hZ; exact hZ
  clear hH hlo
  unfold sM_isFew at hE
  refine lv_iload_n C.1 C.2.1 dX5_isFew_0 rfl (lv_at hl 1 rfl) ?_
  refine lv_iconst (v := 1) C.1 C.2.1 dX5_isFew_1 (by decide) ?_
  refine lv_icmp_lt (tgt := 14) C.1 C.2.1 dX5_isFew_2 (by decide) (fun c1 => ?_) (fun c1 => ?_)
  · have hE := it_t c1 hE
    refine lv_iconst (v := 0) C.1 C.2.1 dX5_isFew_14 (by decide) ?_
    obtain rfl := Option.some.inj hE
    exact hret _ _ _ _ (nbz (Or.inl rfl)) dX5_isFew_15 hP hS
  · have hE := it_f c1 hE
    refine lv_iload_n C.1 C.2.1 dX5_isFew_5 rfl (lv_at hl 1 rfl) ?_
    refine lv_iconst (v := 4) C.1 C.2.1 dX5_isFew_6 (by decide) ?_
    refine lv_icmp_gt (tgt := 14) C.1 C.2.1 dX5_isFew_7 (by decide) (fun c2 => ?_) (fun c2 => ?_)
    · have hE := it_t c2 hE
      refine lv_iconst (v := 0) C.1 C.2.1 dX5_isFew_14 (by decide) ?_
      obtain rfl := Option.some.inj hE
      exact hret _ _ _ _ (nbz (Or.inl rfl)) dX5_isFew_15 hP hS
    · have hE := it_f c2 hE
      refine lv_iconst (v := 1) C.1 C.2.1 dX5_isFew_10 (by decide) ?_
      refine lv_goto (tgt := 15) C.1 C.2.1 dX5_isFew_11 (by decide) ?_
      obtain rfl := Option.some.inj hE
      exact hret _ _ _ _ (nbz (Or.inr rfl)) dX5_isFew_15 hP hS
def sM_chance (f_many : Int32) (f_weight : Int32) (f_fright : Int32) (f_age : Int32) (f_feed : Int32) (f_life : Int32) (f_low : Int32) (f_heft : Int32) (f_alarm : Int32) (f_old : Int32) (f_died : Int32) (f_ofWhat : Int32) (f_heavy : Int32) (a_refused : Nat → Int32) (a_kind : Nat → Int32) (a_part : Nat → Int32) (a_ill : Nat → Int32) (a_blamed : Nat → Int32) (p1 : Int32) : Option (Int32 × Int32 × Int32 × Int32 × Int32 × Int32 × Int32 × (Nat → Int32) × (Nat → Int32)) :=
  (sM_mays f_many a_ill).bind fun r1 =>
  if r1 = 0 then
    (sM_no a_refused (-5)).bind fun r7 =>
    some (r7.1, f_heft, f_alarm, f_old, f_died, f_ofWhat, f_heavy, r7.2, a_blamed)
  else
    (sM_isFew p1).bind fun r3 =>
    if r3 = 0 then
      (sM_no a_refused (-6)).bind fun r5 =>
      some (r5.1, f_heft, f_alarm, f_old, f_died, f_ofWhat, f_heavy, r5.2, a_blamed)
    else
      (sM_dying f_many f_weight f_fright f_age f_feed f_life f_low f_heft f_alarm f_old f_died f_ofWhat f_heavy a_kind a_part a_ill a_blamed p1).bind fun r6 =>
      some (r6.1, r6.2.1, r6.2.2.1, r6.2.2.2.1, r6.2.2.2.2.1, r6.2.2.2.2.2.1, r6.2.2.2.2.2.2.1, a_refused, r6.2.2.2.2.2.2.2)
set_option maxHeartbeats 4000000 in
theorem metM_chance (l : Launch) (G : kG) (h0 : Nat) (ad : Nat → Nat) (F : Nat → Int32) (A : Nat → Nat → Int32) (L : Nat → Nat → Int64) (p1 : Int32) (res : Int32 × Int32 × Int32 × Int32 × Int32 × Int32 × Int32 × (Nat → Int32) × (Nat → Int32)) (hE : sM_chance (F 0) (F 1) (F 2) (F 3) (F 5) (F 6) (F 7) (F 35) (F 36) (F 37) (F 38) (F 39) (F 40) (A 11) (A 12) (A 13) (A 15) (A 45) p1 = some res) : Met l yX5_chance (ws_ yX5_chance cX5_chance 2 (some .int)) ({ frames := 4, cells := 0, slots := 0, locals := 93 } : Room) (mPc G h0 ad F A L [.int p1]) (mQc G h0 ad (upd (upd (upd (upd (upd (upd F 35 res.2.1) 36 res.2.2.1) 37 res.2.2.2.1) 38 res.2.2.2.2.1) 39 res.2.2.2.2.2.1) 40 res.2.2.2.2.2.2.1) (va_up (va_up A 11 res.2.2.2.2.2.2.2.1) 45 res.2.2.2.2.2.2.2.2) L (some (.int res.1))) 0 0 (mA h0 ad) := by
  refine m_ofW (by decide) rfl (Nat.le_of_ble_eq_true rfl) ?_
  intro p e s m args below meth c ls C hml hP hS hl hr hlocks
  have hl : lv_has ls 2 [(0, .ref h0), (1, .int p1)] := hl
  obtain ⟨Q, hQ⟩ : ∃ Q, Q = MQ below (mQc G h0 ad (upd (upd (upd (upd (upd (upd F 35 res.2.1) 36 res.2.2.1) 37 res.2.2.2.1) 38 res.2.2.2.2.1) 39 res.2.2.2.2.2.1) 40 res.2.2.2.2.2.2.1) (va_up (va_up A 11 res.2.2.2.2.2.2.2.1) 45 res.2.2.2.2.2.2.2.2) L (some (.int res.1))) args s 0 0 (mA h0 ad) := ⟨_, rfl⟩
  rw [← hQ]
  have hret : ∀ (pc : Nat) (ls : Array Slot) (H : Heap) (locs : List Loc), decode cX5_chance pc = .ok (.ireturn, 1) → mPw G h0 ad (upd (upd (upd (upd (upd (upd F 35 res.2.1) 36 res.2.2.1) 37 res.2.2.2.1) 38 res.2.2.2.2.1) 39 res.2.2.2.2.2.1) 40 res.2.2.2.2.2.2.1) (va_up (va_up A 11 res.2.2.2.2.2.2.2.1) 45 res.2.2.2.2.2.2.2.2) L H → va_S (mA h0 ad) s.heap H locs → W p l e ({ frames := 4, cells := 0, slots := 0, locals := 93 } : Room) s m args below meth c H locs 0 0 Q (F0 m pc ls [.int res.1]) := by
    intro pc ls H locs hd hP hS
    rw [hQ]
    exact m_iret C hr hlocks hd hP hS
  clear hQ
  obtain ⟨H, hH⟩ : ∃ H, H = s.heap := ⟨_, rfl⟩
  obtain ⟨locs, hlo⟩ : ∃ locs : List Loc, locs = [] := ⟨_, rfl⟩
  have hP : mPw G h0 ad F A L H := by rw [hH]; exact hP
  have hS : va_S (mA h0 ad) s.heap H locs := by rw [hH, hlo]; exact hS
  suffices hZ : W p l e ({ frames := 4, cells := 0, slots := 0, locals := 93 } : Room) s m args below meth c H locs 0 0 Q (F0 m 0 ls []) by rw [hH, hlo] at hZ; exact hZ
  clear hH hlo
  unfold sM_chance at hE
  refine lv_aload_n C.1 C.2.1 dX5_chance_0 rfl (lv_at hl 0 rfl) ?_
  obtain ⟨r1, hr1, hE⟩ := it_b hE
  refine m_call (n := 0) (As := []) (rest := []) C hP hS hml (metM_mays l G h0 ad _ _ _ r1 hr1) q1671 q1673 qs62 q1674 rfl rfl (by decide +kernel) ⟨Nat.le_of_ble_eq_true rfl, Nat.le_of_ble_eq_true rfl⟩ ⟨Nat.le_refl _, Nat.le_refl _⟩ rfl hl.1 rfl (Nat.le_of_ble_eq_true rfl) dX5_chance_1 (fun H locs hP hS => ?_)
  refine lv_if_ne (tgt := 14) C.1 C.2.1 dX5_chance_4 (by decide) (fun c2 => ?_) (fun c2 => ?_)
  · have hE := it_f c2 hE
    refine lv_aload_n C.1 C.2.1 dX5_chance_14 rfl (lv_at hl 0 rfl) ?_
    refine lv_iload_n C.1 C.2.1 dX5_chance_15 rfl (lv_at hl 1 rfl) ?_
    obtain ⟨r3, hr3, hE⟩ := it_b hE
    refine m_call (n := 1) (As := [.int p1]) (rest := []) C hP hS hml (metM_isFew l G h0 ad _ _ _ p1 r3 hr3) q1719 q1721 qs69 q1722 rfl rfl (by decide +kernel) ⟨Nat.le_of_ble_eq_true rfl, Nat.le_of_ble_eq_true rfl⟩ ⟨Nat.le_refl _, Nat.le_refl _⟩ rfl hl.1 rfl (Nat.le_of_ble_eq_true rfl) dX5_chance_16 (fun H locs hP hS => ?_)
    refine lv_if_eq (tgt := 30) C.1 C.2.1 dX5_chance_19 (by decide) (fun c4 => ?_) (fun c4 => ?_)
    · have hE := it_t c4 hE
      refine lv_aload_n C.1 C.2.1 dX5_chance_30 rfl (lv_at hl 0 rfl) ?_
      refine lv_bipush (v := (-6)) C.1 C.2.1 dX5_chance_31 (by decide) ?_
      obtain ⟨r5, hr5, hE⟩ := it_b hE
      refine m_call (n := 1) (As := [.int (-6)]) (rest := []) C hP hS hml (metM_no l G h0 ad _ _ _ (-6) r5 hr5) q1483 q1485 qs32 q1486 rfl rfl (by decide +kernel) ⟨Nat.le_of_ble_eq_true rfl, Nat.le_of_ble_eq_true rfl⟩ ⟨Nat.le_refl _, Nat.le_refl _⟩ rfl hl.1 rfl (Nat.le_of_ble_eq_true rfl) dX5_chance_33 (fun H locs hP hS => ?_)
      obtain rfl := Option.some.inj hE
      exact hret _ _ _ _ dX5_chance_36 hP hS
    · have hE := it_f c4 hE
      refine lv_aload_n C.1 C.2.1 dX5_chance_22 rfl (lv_at hl 0 rfl) ?_
      refine lv_iload_n C.1 C.2.1 dX5_chance_23 rfl (lv_at hl 1 rfl) ?_
      obtain ⟨r6, hr6, hE⟩ := it_b hE
      refine m_call (n := 1) (As := [.int p1]) (rest := []) C hP hS hml (metM_dying l G h0 ad _ _ _ p1 r6 hr6) q1723 q1725 qs70 q1726 rfl rfl (by decide +kernel) ⟨Nat.le_of_ble_eq_true rfl, Nat.le_of_ble_eq_true rfl⟩ ⟨Nat.le_refl _, Nat.le_refl _⟩ rfl hl.1 rfl (Nat.le_of_ble_eq_true rfl) dX5_chance_24 (fun H locs hP hS => ?_)
      refine lv_goto (tgt := 36) C.1 C.2.1 dX5_chance_27 (by decide) ?_
      obtain rfl := Option.some.inj hE
      exact hret _ _ _ _ dX5_chance_36 hP hS
  · have hE := it_t c2 hE
    refine lv_aload_n C.1 C.2.1 dX5_chance_7 rfl (lv_at hl 0 rfl) ?_
    refine lv_bipush (v := (-5)) C.1 C.2.1 dX5_chance_8 (by decide) ?_
    obtain ⟨r7, hr7, hE⟩ := it_b hE
    refine m_call (n := 1) (As := [.int (-5)]) (rest := []) C hP hS hml (metM_no l G h0 ad _ _ _ (-5) r7 hr7) q1483 q1485 qs32 q1486 rfl rfl (by decide +kernel) ⟨Nat.le_of_ble_eq_true rfl, Nat.le_of_ble_eq_true rfl⟩ ⟨Nat.le_refl _, Nat.le_refl _⟩ rfl hl.1 rfl (Nat.le_of_ble_eq_true rfl) dX5_chance_10 (fun H locs hP hS => ?_)
    obtain rfl := Option.some.inj hE
    exact hret _ _ _ _ dX5_chance_13 hP hS
def sM_last (f_many : Int32) (f_weight : Int32) (f_fright : Int32) (f_age : Int32) (f_feed : Int32) (f_life : Int32) (f_low : Int32) (f_heft : Int32) (f_alarm : Int32) (f_old : Int32) (f_died : Int32) (f_ofWhat : Int32) (f_heavy : Int32) (a_refused : Nat → Int32) (a_kind : Nat → Int32) (a_part : Nat → Int32) (a_ill : Nat → Int32) (a_blamed : Nat → Int32) (p1 : Int32) (p2 : Int32) (p3 : Int32) : Option (Int32 × Int32 × Int32 × Int32 × Int32 × Int32 × Int32 × (Nat → Int32) × (Nat → Int32)) :=
  (sM_isHome f_many p1).bind fun r1 =>
  if r1 = 0 then
    (sM_no a_refused (-1)).bind fun r19 =>
    some (r19.1, f_heft, f_alarm, f_old, f_died, f_ofWhat, f_heavy, r19.2, a_blamed)
  else
    if p3 < 0 then
      (sM_no a_refused (-5)).bind fun r4 =>
      some (r4.1, f_heft, f_alarm, f_old, f_died, f_ofWhat, f_heavy, r4.2, a_blamed)
    else
      if 1 < p3 then
        (sM_no a_refused (-5)).bind fun r6 =>
        some (r6.1, f_heft, f_alarm, f_old, f_died, f_ofWhat, f_heavy, r6.2, a_blamed)
      else
        (sM_mays f_many a_ill).bind fun r7 =>
        if r7 = 0 then
          (sM_no a_refused (-5)).bind fun r18 =>
          some (r18.1, f_heft, f_alarm, f_old, f_died, f_ofWhat, f_heavy, r18.2, a_blamed)
        else
          (sM_isFew p2).bind fun r9 =>
          if r9 = 0 then
            (sM_no a_refused (-6)).bind fun r17 =>
            some (r17.1, f_heft, f_alarm, f_old, f_died, f_ofWhat, f_heavy, r17.2, a_blamed)
          else
            (sM_dying f_many f_weight f_fright f_age f_feed f_life f_low f_heft f_alarm f_old f_died f_ofWhat f_heavy a_kind a_part a_ill a_blamed p2).bind fun r11 =>
            if p3 = 0 then
              if gi p1 8 then
              some ((r11.2.2.2.2.2.2.2 (p1).toNatClampNeg), r11.2.1, r11.2.2.1, r11.2.2.2.1, r11.2.2.2.2.1, r11.2.2.2.2.2.1, r11.2.2.2.2.2.2.1, a_refused, r11.2.2.2.2.2.2.2)
              else none
            else
              if r11.1 = 0 then
                some (0, r11.2.1, r11.2.2.1, r11.2.2.2.1, r11.2.2.2.2.1, r11.2.2.2.2.2.1, r11.2.2.2.2.2.2.1, a_refused, r11.2.2.2.2.2.2.2)
              else
                if gi p1 8 then
                if ¬ r11.1 = 0 then
                some (((1000 * (r11.2.2.2.2.2.2.2 (p1).toNatClampNeg)) / r11.1), r11.2.1, r11.2.2.1, r11.2.2.2.1, r11.2.2.2.2.1, r11.2.2.2.2.2.1, r11.2.2.2.2.2.2.1, a_refused, r11.2.2.2.2.2.2.2)
                else none
                else none
set_option maxHeartbeats 4000000 in
theorem metM_last (l : Launch) (G : kG) (h0 : Nat) (ad : Nat → Nat) (F : Nat → Int32) (A : Nat → Nat → Int32) (L : Nat → Nat → Int64) (p1 : Int32) (p2 : Int32) (p3 : Int32) (res : Int32 × Int32 × Int32 × Int32 × Int32 × Int32 × Int32 × (Nat → Int32) × (Nat → Int32)) (hE : sM_last (F 0) (F 1) (F 2) (F 3) (F 5) (F 6) (F 7) (F 35) (F 36) (F 37) (F 38) (F 39) (F 40) (A 11) (A 12) (A 13) (A 15) (A 45) p1 p2 p3 = some res) : Met l yX5_last (ws_ yX5_last cX5_last 5 (some .int)) ({ frames := 4, cells := 0, slots := 0, locals := 93 } : Room) (mPc G h0 ad F A L [.int p1, .int p2, .int p3]) (mQc G h0 ad (upd (upd (upd (upd (upd (upd F 35 res.2.1) 36 res.2.2.1) 37 res.2.2.2.1) 38 res.2.2.2.2.1) 39 res.2.2.2.2.2.1) 40 res.2.2.2.2.2.2.1) (va_up (va_up A 11 res.2.2.2.2.2.2.2.1) 45 res.2.2.2.2.2.2.2.2) L (some (.int res.1))) 0 0 (mA h0 ad) := by
  refine m_ofW (by decide) rfl (Nat.le_of_ble_eq_true rfl) ?_
  intro p e s m args below meth c ls C hml hP hS hl hr hlocks
  have hl : lv_has ls 5 [(0, .ref h0), (1, .int p1), (2, .int p2), (3, .int p3)] := hl
  obtain ⟨Q, hQ⟩ : ∃ Q, Q = MQ below (mQc G h0 ad (upd (upd (upd (upd (upd (upd F 35 res.2.1) 36 res.2.2.1) 37 res.2.2.2.1) 38 res.2.2.2.2.1) 39 res.2.2.2.2.2.1) 40 res.2.2.2.2.2.2.1) (va_up (va_up A 11 res.2.2.2.2.2.2.2.1) 45 res.2.2.2.2.2.2.2.2) L (some (.int res.1))) args s 0 0 (mA h0 ad) := ⟨_, rfl⟩
  rw [← hQ]
  have hret : ∀ (pc : Nat) (ls : Array Slot) (H : Heap) (locs : List Loc), decode cX5_last pc = .ok (.ireturn, 1) → mPw G h0 ad (upd (upd (upd (upd (upd (upd F 35 res.2.1) 36 res.2.2.1) 37 res.2.2.2.1) 38 res.2.2.2.2.1) 39 res.2.2.2.2.2.1) 40 res.2.2.2.2.2.2.1) (va_up (va_up A 11 res.2.2.2.2.2.2.2.1) 45 res.2.2.2.2.2.2.2.2) L H → va_S (mA h0 ad) s.heap H locs → W p l e ({ frames := 4, cells := 0, slots := 0, locals := 93 } : Room) s m args below meth c H locs 0 0 Q (F0 m pc ls [.int res.1]) := by
    intro pc ls H locs hd hP hS
    rw [hQ]
    exact m_iret C hr hlocks hd hP hS
  clear hQ
  obtain ⟨H, hH⟩ : ∃ H, H = s.heap := ⟨_, rfl⟩
  obtain ⟨locs, hlo⟩ : ∃ locs : List Loc, locs = [] := ⟨_, rfl⟩
  have hP : mPw G h0 ad F A L H := by rw [hH]; exact hP
  have hS : va_S (mA h0 ad) s.heap H locs := by rw [hH, hlo]; exact hS
  suffices hZ : W p l e ({ frames := 4, cells := 0, slots := 0, locals := 93 } : Room) s m args below meth c H locs 0 0 Q (F0 m 0 ls []) by rw [hH, hlo] at hZ; exact hZ
  clear hH hlo
  unfold sM_last at hE
  refine lv_aload_n C.1 C.2.1 dX5_last_0 rfl (lv_at hl 0 rfl) ?_
  refine lv_iload_n C.1 C.2.1 dX5_last_1 rfl (lv_at hl 1 rfl) ?_
  obtain ⟨r1, hr1, hE⟩ := it_b hE
  refine m_call (n := 1) (As := [.int p1]) (rest := []) C hP hS hml (metM_isHome l G h0 ad _ _ _ p1 r1 hr1) q1503 q1505 qs33 q1506 rfl rfl (by decide +kernel) ⟨Nat.le_of_ble_eq_true rfl, Nat.le_of_ble_eq_true rfl⟩ ⟨Nat.le_refl _, Nat.le_refl _⟩ rfl hl.1 rfl (Nat.le_of_ble_eq_true rfl) dX5_last_2 (fun H locs hP hS => ?_)
  refine lv_if_ne (tgt := 14) C.1 C.2.1 dX5_last_5 (by decide) (fun c2 => ?_) (fun c2 => ?_)
  · have hE := it_f c2 hE
    refine lv_iload_n C.1 C.2.1 dX5_last_14 rfl (lv_at hl 3 rfl) ?_
    refine lv_if_lt (tgt := 30) C.1 C.2.1 dX5_last_15 (by decide) (fun c3 => ?_) (fun c3 => ?_)
    · have hE := it_t c3 hE
      refine lv_aload_n C.1 C.2.1 dX5_last_30 rfl (lv_at hl 0 rfl) ?_
      refine lv_bipush (v := (-5)) C.1 C.2.1 dX5_last_31 (by decide) ?_
      obtain ⟨r4, hr4, hE⟩ := it_b hE
      refine m_call (n := 1) (As := [.int (-5)]) (rest := []) C hP hS hml (metM_no l G h0 ad _ _ _ (-5) r4 hr4) q1483 q1485 qs32 q1486 rfl rfl (by decide +kernel) ⟨Nat.le_of_ble_eq_true rfl, Nat.le_of_ble_eq_true rfl⟩ ⟨Nat.le_refl _, Nat.le_refl _⟩ rfl hl.1 rfl (Nat.le_of_ble_eq_true rfl) dX5_last_33 (fun H locs hP hS => ?_)
      obtain rfl := Option.some.inj hE
      exact hret _ _ _ _ dX5_last_36 hP hS
    · have hE := it_f c3 hE
      refine lv_iload_n C.1 C.2.1 dX5_last_18 rfl (lv_at hl 3 rfl) ?_
      refine lv_iconst (v := 1) C.1 C.2.1 dX5_last_19 (by decide) ?_
      refine lv_icmp_gt (tgt := 30) C.1 C.2.1 dX5_last_20 (by decide) (fun c5 => ?_) (fun c5 => ?_)
      · have hE := it_t c5 hE
        refine lv_aload_n C.1 C.2.1 dX5_last_30 rfl (lv_at hl 0 rfl) ?_
        refine lv_bipush (v := (-5)) C.1 C.2.1 dX5_last_31 (by decide) ?_
        obtain ⟨r6, hr6, hE⟩ := it_b hE
        refine m_call (n := 1) (As := [.int (-5)]) (rest := []) C hP hS hml (metM_no l G h0 ad _ _ _ (-5) r6 hr6) q1483 q1485 qs32 q1486 rfl rfl (by decide +kernel) ⟨Nat.le_of_ble_eq_true rfl, Nat.le_of_ble_eq_true rfl⟩ ⟨Nat.le_refl _, Nat.le_refl _⟩ rfl hl.1 rfl (Nat.le_of_ble_eq_true rfl) dX5_last_33 (fun H locs hP hS => ?_)
        obtain rfl := Option.some.inj hE
        exact hret _ _ _ _ dX5_last_36 hP hS
      · have hE := it_f c5 hE
        refine lv_aload_n C.1 C.2.1 dX5_last_23 rfl (lv_at hl 0 rfl) ?_
        obtain ⟨r7, hr7, hE⟩ := it_b hE
        refine m_call (n := 0) (As := []) (rest := []) C hP hS hml (metM_mays l G h0 ad _ _ _ r7 hr7) q1671 q1673 qs62 q1674 rfl rfl (by decide +kernel) ⟨Nat.le_of_ble_eq_true rfl, Nat.le_of_ble_eq_true rfl⟩ ⟨Nat.le_refl _, Nat.le_refl _⟩ rfl hl.1 rfl (Nat.le_of_ble_eq_true rfl) dX5_last_24 (fun H locs hP hS => ?_)
        refine lv_if_ne (tgt := 37) C.1 C.2.1 dX5_last_27 (by decide) (fun c8 => ?_) (fun c8 => ?_)
        · have hE := it_f c8 hE
          refine lv_aload_n C.1 C.2.1 dX5_last_37 rfl (lv_at hl 0 rfl) ?_
          refine lv_iload_n C.1 C.2.1 dX5_last_38 rfl (lv_at hl 2 rfl) ?_
          obtain ⟨r9, hr9, hE⟩ := it_b hE
          refine m_call (n := 1) (As := [.int p2]) (rest := []) C hP hS hml (metM_isFew l G h0 ad _ _ _ p2 r9 hr9) q1719 q1721 qs69 q1722 rfl rfl (by decide +kernel) ⟨Nat.le_of_ble_eq_true rfl, Nat.le_of_ble_eq_true rfl⟩ ⟨Nat.le_refl _, Nat.le_refl _⟩ rfl hl.1 rfl (Nat.le_of_ble_eq_true rfl) dX5_last_39 (fun H locs hP hS => ?_)
          refine lv_if_ne (tgt := 52) C.1 C.2.1 dX5_last_42 (by decide) (fun c10 => ?_) (fun c10 => ?_)
          · have hE := it_f c10 hE
            refine lv_aload_n C.1 C.2.1 dX5_last_52 rfl (lv_at hl 0 rfl) ?_
            refine lv_iload_n C.1 C.2.1 dX5_last_53 rfl (lv_at hl 2 rfl) ?_
            obtain ⟨r11, hr11, hE⟩ := it_b hE
            refine m_call (n := 1) (As := [.int p2]) (rest := []) C hP hS hml (metM_dying l G h0 ad _ _ _ p2 r11 hr11) q1723 q1725 qs70 q1726 rfl rfl (by decide +kernel) ⟨Nat.le_of_ble_eq_true rfl, Nat.le_of_ble_eq_true rfl⟩ ⟨Nat.le_refl _, Nat.le_refl _⟩ rfl hl.1 rfl (Nat.le_of_ble_eq_true rfl) dX5_last_54 (fun H locs hP hS => ?_)
            refine lv_istore (lv' := [(4, .int r11.1), (0, .ref h0), (1, .int p1), (2, .int p2), (3, .int p3)]) C.1 C.2.1 dX5_last_57 hl (by decide) rfl (fun ls hl => ?_)
            refine lv_iload_n C.1 C.2.1 dX5_last_59 rfl (lv_at hl 4 rfl) ?_
            refine lv_if_ne (tgt := 72) C.1 C.2.1 dX5_last_60 (by decide) (fun c12 => ?_) (fun c12 => ?_)
            · have hE := it_f c12 hE
              refine lv_iload C.1 C.2.1 dX5_last_72 (lv_at hl 0 rfl) ?_
              refine lv_if_ne (tgt := 81) C.1 C.2.1 dX5_last_74 (by decide) (fun c13 => ?_) (fun c13 => ?_)
              · have hE := it_f c13 hE
                refine lv_sipush (v := 1000) C.1 C.2.1 dX5_last_81 (by decide) ?_
                refine lv_aload_n C.1 C.2.1 dX5_last_84 rfl (lv_at hl 1 rfl) ?_
                refine ma_45 C hP dX5_last_85 ?_
                refine lv_iload_n C.1 C.2.1 dX5_last_88 rfl (lv_at hl 2 rfl) ?_
                obtain ⟨g14, hE⟩ := it_g hE
                refine ml_45 (v := (r11.2.2.2.2.2.2.2 (p1).toNatClampNeg)) C hP (gi_in g14) rfl dX5_last_89 ?_
                refine lv_imul C.1 C.2.1 dX5_last_90 ?_
                refine lv_iload C.1 C.2.1 dX5_last_91 (lv_at hl 0 rfl) ?_
                obtain ⟨g15, hE⟩ := it_g hE
                refine lv_idiv C.1 C.2.1 dX5_last_93 g15 ?_
                obtain rfl := Option.some.inj hE
                exact hret _ _ _ _ dX5_last_94 hP hS
              · have hE := it_t c13 hE
                refine lv_iconst (v := 0) C.1 C.2.1 dX5_last_77 (by decide) ?_
                refine lv_goto (tgt := 94) C.1 C.2.1 dX5_last_78 (by decide) ?_
                obtain rfl := Option.some.inj hE
                exact hret _ _ _ _ dX5_last_94 hP hS
            · have hE := it_t c12 hE
              refine lv_aload_n C.1 C.2.1 dX5_last_63 rfl (lv_at hl 1 rfl) ?_
              refine ma_45 C hP dX5_last_64 ?_
              refine lv_iload_n C.1 C.2.1 dX5_last_67 rfl (lv_at hl 2 rfl) ?_
              obtain ⟨g16, hE⟩ := it_g hE
              refine ml_45 (v := (r11.2.2.2.2.2.2.2 (p1).toNatClampNeg)) C hP (gi_in g16) rfl dX5_last_68 ?_
              refine lv_goto (tgt := 94) C.1 C.2.1 dX5_last_69 (by decide) ?_
              obtain rfl := Option.some.inj hE
              exact hret _ _ _ _ dX5_last_94 hP hS
          · have hE := it_t c10 hE
            refine lv_aload_n C.1 C.2.1 dX5_last_45 rfl (lv_at hl 0 rfl) ?_
            refine lv_bipush (v := (-6)) C.1 C.2.1 dX5_last_46 (by decide) ?_
            obtain ⟨r17, hr17, hE⟩ := it_b hE
            refine m_call (n := 1) (As := [.int (-6)]) (rest := []) C hP hS hml (metM_no l G h0 ad _ _ _ (-6) r17 hr17) q1483 q1485 qs32 q1486 rfl rfl (by decide +kernel) ⟨Nat.le_of_ble_eq_true rfl, Nat.le_of_ble_eq_true rfl⟩ ⟨Nat.le_refl _, Nat.le_refl _⟩ rfl hl.1 rfl (Nat.le_of_ble_eq_true rfl) dX5_last_48 (fun H locs hP hS => ?_)
            obtain rfl := Option.some.inj hE
            exact hret _ _ _ _ dX5_last_51 hP hS
        · have hE := it_t c8 hE
          refine lv_aload_n C.1 C.2.1 dX5_last_30 rfl (lv_at hl 0 rfl) ?_
          refine lv_bipush (v := (-5)) C.1 C.2.1 dX5_last_31 (by decide) ?_
          obtain ⟨r18, hr18, hE⟩ := it_b hE
          refine m_call (n := 1) (As := [.int (-5)]) (rest := []) C hP hS hml (metM_no l G h0 ad _ _ _ (-5) r18 hr18) q1483 q1485 qs32 q1486 rfl rfl (by decide +kernel) ⟨Nat.le_of_ble_eq_true rfl, Nat.le_of_ble_eq_true rfl⟩ ⟨Nat.le_refl _, Nat.le_refl _⟩ rfl hl.1 rfl (Nat.le_of_ble_eq_true rfl) dX5_last_33 (fun H locs hP hS => ?_)
          obtain rfl := Option.some.inj hE
          exact hret _ _ _ _ dX5_last_36 hP hS
  · have hE := it_t c2 hE
    refine lv_aload_n C.1 C.2.1 dX5_last_8 rfl (lv_at hl 0 rfl) ?_
    refine lv_iconst (v := (-1)) C.1 C.2.1 dX5_last_9 (by decide) ?_
    obtain ⟨r19, hr19, hE⟩ := it_b hE
    refine m_call (n := 1) (As := [.int (-1)]) (rest := []) C hP hS hml (metM_no l G h0 ad _ _ _ (-1) r19 hr19) q1483 q1485 qs32 q1486 rfl rfl (by decide +kernel) ⟨Nat.le_of_ble_eq_true rfl, Nat.le_of_ble_eq_true rfl⟩ ⟨Nat.le_refl _, Nat.le_refl _⟩ rfl hl.1 rfl (Nat.le_of_ble_eq_true rfl) dX5_last_10 (fun H locs hP hS => ?_)
    obtain rfl := Option.some.inj hE
    exact hret _ _ _ _ dX5_last_13 hP hS
def sM_carried_h74 (x2 : Int32) (f_feed : Int32) : Nat → Int32 → Int32 → Int32 → Int32 → Option (Int32 × Int32 × Int32)
  | 0, _, _, _, _ => none
  | fuel + 1, x5, f_heft, f_alarm, f_old =>
    if x2 ≤ x5 then
      some (f_heft, f_alarm, f_old)
    else
      (sM_school f_feed f_heft f_alarm f_old).bind fun r7502 =>
      sM_carried_h74 x2 f_feed fuel (x5 + 1) r7502.1 r7502.2.1 r7502.2.2
def sM_carried_h36 (x1 : Int32) (x2 : Int32) (f_weight : Int32) (f_fright : Int32) (f_age : Int32) (f_feed : Int32) (a_kind : Nat → Int32) (a_part : Nat → Int32) : Nat → Int32 → Int32 → Int32 → Int32 → Int32 → Int32 → Int32 → Int32 → Option (Int32 × Int32 × Int32 × Int32 × Int32 × Int32 × Int32)
  | 0, _, _, _, _, _, _, _, _ => none
  | fuel + 1, x3, x4, f_heft, f_alarm, f_old, f_died, f_ofWhat, f_heavy =>
    if 2 ≤ x4 then
      some (x3, f_heft, f_alarm, f_old, f_died, f_ofWhat, f_heavy)
    else
      (sM_begins f_weight f_fright f_age f_heft f_alarm f_old f_died f_ofWhat f_heavy).bind fun r3702 =>
      (sM_school f_feed r3702.1 r3702.2.1 r3702.2.2.1).bind fun r3703 =>
      @Option.bind (Int32 × Int32) _ (
        if x4 = 0 then
          if gi x1 8 then
          if gi x1 8 then
          (sM_weekend r3703.1 r3703.2.1 (a_kind (x1).toNatClampNeg) (a_part (x1).toNatClampNeg)).bind fun r3708 =>
          some (r3708.1, r3708.2)
          else none
          else none
        else
          some (r3703.1, r3703.2.1)) fun u3705 =>
      (sM_carried_h74 x2 f_feed 2000 0 u3705.1 u3705.2 r3703.2.2).bind fun u3709 =>
      @Option.bind (Int32) _ (
        if x4 = 0 then
          some u3709.1
        else
          some x3) fun u3711 =>
      sM_carried_h36 x1 x2 f_weight f_fright f_age f_feed a_kind a_part fuel u3711 (x4 + 1) u3709.1 u3709.2.1 u3709.2.2 r3702.2.2.2.1 r3702.2.2.2.2.1 r3702.2.2.2.2.2
def sM_carried (f_many : Int32) (f_weight : Int32) (f_fright : Int32) (f_age : Int32) (f_feed : Int32) (f_heft : Int32) (f_alarm : Int32) (f_old : Int32) (f_died : Int32) (f_ofWhat : Int32) (f_heavy : Int32) (a_refused : Nat → Int32) (a_kind : Nat → Int32) (a_part : Nat → Int32) (p1 : Int32) (p2 : Int32) : Option (Int32 × Int32 × Int32 × Int32 × Int32 × Int32 × Int32 × (Nat → Int32)) :=
  (sM_isHome f_many p1).bind fun r1 =>
  if r1 = 0 then
    (sM_noFar a_refused (-1)).bind fun r8 =>
    some (r8.1, f_heft, f_alarm, f_old, f_died, f_ofWhat, f_heavy, r8.2)
  else
    if p2 < 0 then
      (sM_noFar a_refused (-6)).bind fun r4 =>
      some (r4.1, f_heft, f_alarm, f_old, f_died, f_ofWhat, f_heavy, r4.2)
    else
      if p2 ≤ 40 then
        (sM_carried_h36 p1 p2 f_weight f_fright f_age f_feed a_kind a_part 2000 0 0 f_heft f_alarm f_old f_died f_ofWhat f_heavy).bind fun u6 =>
        some ((u6.2.1 - u6.1), u6.2.1, u6.2.2.1, u6.2.2.2.1, u6.2.2.2.2.1, u6.2.2.2.2.2.1, u6.2.2.2.2.2.2, a_refused)
      else
        (sM_noFar a_refused (-6)).bind fun r7 =>
        some (r7.1, f_heft, f_alarm, f_old, f_died, f_ofWhat, f_heavy, r7.2)
set_option maxHeartbeats 4000000 in
theorem wM_carried_h74 {p : Program} {l : Launch} {e : Env} {s : State} {m : MethodId} {args : Array Value} {below : List Frame} {meth : Method} {c : Code} {G : kG} {h0 : Nat} {ad : Nat → Nat} {Q : State → Prop} (C : mC p s m args c cX5_carried G h0 ad) (hml : c.maxLocals = 6) (F : Nat → Int32) (A : Nat → Nat → Int32) (L : Nat → Nat → Int64) (x1 : Int32) (x2 : Int32) (x3 : Int32) (x4 : Int32) (f_died : Int32) (f_ofWhat : Int32) (f_heavy : Int32) (a_refused : Nat → Int32) (res : Int32 × Int32 × Int32) :
    ∀ (fuel : Nat) (x5 : Int32) (f_heft : Int32) (f_alarm : Int32) (f_old : Int32) (H : Heap) (locs : List Loc) (ls : Array Slot), sM_carried_h74 x2 (F 5) fuel x5 f_heft f_alarm f_old = some res → mPw G h0 ad (upd (upd (upd (upd (upd (upd F 35 f_heft) 36 f_alarm) 37 f_old) 38 f_died) 39 f_ofWhat) 40 f_heavy) (va_up A 11 a_refused) L H → va_S (mA h0 ad) s.heap H locs → lv_has ls 6 [(0, .ref h0), (1, .int x1), (2, .int x2), (3, .int x3), (4, .int x4), (5, .int x5)] → (∀ (H : Heap) (locs : List Loc) (ls : Array Slot), mPw G h0 ad (upd (upd (upd (upd (upd (upd F 35 res.1) 36 res.2.1) 37 res.2.2) 38 f_died) 39 f_ofWhat) 40 f_heavy) (va_up A 11 a_refused) L H → va_S (mA h0 ad) s.heap H locs → lv_has ls 6 [(0, .ref h0), (1, .int x1), (2, .int x2), (3, .int x3), (4, .int x4)] → W p l e ({ frames := 2, cells := 0, slots := 0, locals := 44 } : Room) s m args below meth c H locs 0 0 Q (F0 m 90 ls [])) → W p l e ({ frames := 2, cells := 0, slots := 0, locals := 44 } : Room) s m args below meth c H locs 0 0 Q (F0 m 74 ls []) := by
  intro fuel
  induction fuel with
  | zero =>
    intro x5 f_heft f_alarm f_old H locs ls hE
    exact it_n hE
  | succ fuel ih =>
    intro x5 f_heft f_alarm f_old H locs ls hE hP hS hl hX
    rw [sM_carried_h74] at hE
    refine lv_iload C.1 C.2.1 dX5_carried_74 (lv_at hl 5 rfl) ?_
    refine lv_iload_n C.1 C.2.1 dX5_carried_76 rfl (lv_at hl 2 rfl) ?_
    refine lv_icmp_ge (tgt := 90) C.1 C.2.1 dX5_carried_77 (by decide) (fun c7501 => ?_) (fun c7501 => ?_)
    · have hE := it_t c7501 hE
      obtain rfl := Option.some.inj hE
      exact hX H locs ls hP hS (lv_sub hl [0, 1, 2, 3, 4] rfl)
    · have hE := it_f c7501 hE
      refine lv_aload_n C.1 C.2.1 dX5_carried_80 rfl (lv_at hl 0 rfl) ?_
      obtain ⟨r7502, hr7502, hE⟩ := it_b hE
      refine m_call (n := 0) (As := []) (rest := []) C hP hS hml (metM_school l G h0 ad _ _ _ r7502 hr7502) q1611 q1613 qs52 q1614 rfl rfl (by decide +kernel) ⟨Nat.le_of_ble_eq_true rfl, Nat.le_of_ble_eq_true rfl⟩ ⟨Nat.le_refl _, Nat.le_refl _⟩ rfl hl.1 rfl (Nat.le_of_ble_eq_true rfl) dX5_carried_81 (fun H locs hP hS => ?_)
      refine lv_iinc (v := (x5 + 1)) (lv' := [(5, .int (x5 + 1)), (0, .ref h0), (1, .int x1), (2, .int x2), (3, .int x3), (4, .int x4)]) C.1 C.2.1 dX5_carried_84 hl (k := 5) rfl rfl (by decide) rfl (fun ls hl => ?_)
      refine lv_goto (tgt := 74) C.1 C.2.1 dX5_carried_87 (by decide) ?_
      exact ih (x5 + 1) r7502.1 r7502.2.1 r7502.2.2 _ _ _ hE hP hS (lv_sub hl [1, 2, 3, 4, 5, 0] rfl) hX
set_option maxHeartbeats 4000000 in
theorem wM_carried_h36 {p : Program} {l : Launch} {e : Env} {s : State} {m : MethodId} {args : Array Value} {below : List Frame} {meth : Method} {c : Code} {G : kG} {h0 : Nat} {ad : Nat → Nat} {Q : State → Prop} (C : mC p s m args c cX5_carried G h0 ad) (hml : c.maxLocals = 6) (F : Nat → Int32) (A : Nat → Nat → Int32) (L : Nat → Nat → Int64) (x1 : Int32) (x2 : Int32) (a_refused : Nat → Int32) (res : Int32 × Int32 × Int32 × Int32 × Int32 × Int32 × Int32) :
    ∀ (fuel : Nat) (x3 : Int32) (x4 : Int32) (f_heft : Int32) (f_alarm : Int32) (f_old : Int32) (f_died : Int32) (f_ofWhat : Int32) (f_heavy : Int32) (H : Heap) (locs : List Loc) (ls : Array Slot), sM_carried_h36 x1 x2 (F 1) (F 2) (F 3) (F 5) (A 12) (A 13) fuel x3 x4 f_heft f_alarm f_old f_died f_ofWhat f_heavy = some res → mPw G h0 ad (upd (upd (upd (upd (upd (upd F 35 f_heft) 36 f_alarm) 37 f_old) 38 f_died) 39 f_ofWhat) 40 f_heavy) (va_up A 11 a_refused) L H → va_S (mA h0 ad) s.heap H locs → lv_has ls 6 [(0, .ref h0), (1, .int x1), (2, .int x2), (3, .int x3), (4, .int x4)] → (∀ (H : Heap) (locs : List Loc) (ls : Array Slot), mPw G h0 ad (upd (upd (upd (upd (upd (upd F 35 res.2.1) 36 res.2.2.1) 37 res.2.2.2.1) 38 res.2.2.2.2.1) 39 res.2.2.2.2.2.1) 40 res.2.2.2.2.2.2) (va_up A 11 a_refused) L H → va_S (mA h0 ad) s.heap H locs → lv_has ls 6 [(0, .ref h0), (3, .int res.1)] → W p l e ({ frames := 2, cells := 0, slots := 0, locals := 44 } : Room) s m args below meth c H locs 0 0 Q (F0 m 106 ls [])) → W p l e ({ frames := 2, cells := 0, slots := 0, locals := 44 } : Room) s m args below meth c H locs 0 0 Q (F0 m 36 ls []) := by
  intro fuel
  induction fuel with
  | zero =>
    intro x3 x4 f_heft f_alarm f_old f_died f_ofWhat f_heavy H locs ls hE
    exact it_n hE
  | succ fuel ih =>
    intro x3 x4 f_heft f_alarm f_old f_died f_ofWhat f_heavy H locs ls hE hP hS hl hX
    rw [sM_carried_h36] at hE
    refine lv_iload C.1 C.2.1 dX5_carried_36 (lv_at hl 4 rfl) ?_
    refine lv_iconst (v := 2) C.1 C.2.1 dX5_carried_38 (by decide) ?_
    refine lv_icmp_ge (tgt := 106) C.1 C.2.1 dX5_carried_39 (by decide) (fun c3701 => ?_) (fun c3701 => ?_)
    · have hE := it_t c3701 hE
      obtain rfl := Option.some.inj hE
      exact hX H locs ls hP hS (lv_sub hl [0, 3] rfl)
    · have hE := it_f c3701 hE
      refine lv_aload_n C.1 C.2.1 dX5_carried_42 rfl (lv_at hl 0 rfl) ?_
      obtain ⟨r3702, hr3702, hE⟩ := it_b hE
      refine m_call (n := 0) (As := []) (rest := []) C hP hS hml (metM_begins l G h0 ad _ _ _ r3702 hr3702) q1603 q1605 qs50 q1606 rfl rfl (by decide +kernel) ⟨Nat.le_of_ble_eq_true rfl, Nat.le_of_ble_eq_true rfl⟩ ⟨Nat.le_refl _, Nat.le_refl _⟩ rfl hl.1 rfl (Nat.le_of_ble_eq_true rfl) dX5_carried_43 (fun H locs hP hS => ?_)
      refine lv_aload_n C.1 C.2.1 dX5_carried_46 rfl (lv_at hl 0 rfl) ?_
      obtain ⟨r3703, hr3703, hE⟩ := it_b hE
      refine m_call (n := 0) (As := []) (rest := []) C hP hS hml (metM_school l G h0 ad _ _ _ r3703 hr3703) q1611 q1613 qs52 q1614 rfl rfl (by decide +kernel) ⟨Nat.le_of_ble_eq_true rfl, Nat.le_of_ble_eq_true rfl⟩ ⟨Nat.le_refl _, Nat.le_refl _⟩ rfl hl.1 rfl (Nat.le_of_ble_eq_true rfl) dX5_carried_47 (fun H locs hP hS => ?_)
      refine lv_iload C.1 C.2.1 dX5_carried_50 (lv_at hl 4 rfl) ?_
      obtain ⟨u3705, hR, hE⟩ := it_b hE
      have hJ71u3705 : ∀ (H : Heap) (locs : List Loc) (ls : Array Slot), mPw G h0 ad (upd (upd (upd (upd (upd (upd F 35 u3705.1) 36 u3705.2) 37 r3703.2.2) 38 r3702.2.2.2.1) 39 r3702.2.2.2.2.1) 40 r3702.2.2.2.2.2) (va_up A 11 a_refused) L H → va_S (mA h0 ad) s.heap H locs → lv_has ls 6 [(0, .ref h0), (1, .int x1), (2, .int x2), (3, .int x3), (4, .int x4)] → W p l e ({ frames := 2, cells := 0, slots := 0, locals := 44 } : Room) s m args below meth c H locs 0 0 Q (F0 m 71 ls []) := by
        intro H locs ls hP hS hl
        refine lv_iconst (v := 0) C.1 C.2.1 dX5_carried_71 (by decide) ?_
        refine lv_istore (lv' := [(5, .int 0), (0, .ref h0), (1, .int x1), (2, .int x2), (3, .int x3), (4, .int x4)]) C.1 C.2.1 dX5_carried_72 hl (by decide) rfl (fun ls hl => ?_)
        obtain ⟨u3709, hu3709, hE⟩ := it_b hE
        refine wM_carried_h74 C hml F A L x1 x2 x3 x4 r3702.2.2.2.1 r3702.2.2.2.2.1 r3702.2.2.2.2.2 a_refused u3709 2000 0 u3705.1 u3705.2 r3703.2.2 H locs ls hu3709 hP hS (lv_sub hl [1, 2, 3, 4, 5, 0] rfl) (fun H locs ls hP hS hl => ?_)
        refine lv_iload C.1 C.2.1 dX5_carried_90 (lv_at hl 4 rfl) ?_
        obtain ⟨u3711, hR, hE⟩ := it_b hE
        have hJ100u3711 : ∀ (H : Heap) (locs : List Loc) (ls : Array Slot), mPw G h0 ad (upd (upd (upd (upd (upd (upd F 35 u3709.1) 36 u3709.2.1) 37 u3709.2.2) 38 r3702.2.2.2.1) 39 r3702.2.2.2.2.1) 40 r3702.2.2.2.2.2) (va_up A 11 a_refused) L H → va_S (mA h0 ad) s.heap H locs → lv_has ls 6 [(0, .ref h0), (1, .int x1), (2, .int x2), (3, .int u3711), (4, .int x4)] → W p l e ({ frames := 2, cells := 0, slots := 0, locals := 44 } : Room) s m args below meth c H locs 0 0 Q (F0 m 100 ls []) := by
          intro H locs ls hP hS hl
          refine lv_iinc (v := (x4 + 1)) (lv' := [(4, .int (x4 + 1)), (0, .ref h0), (1, .int x1), (2, .int x2), (3, .int u3711)]) C.1 C.2.1 dX5_carried_100 hl (k := 4) rfl rfl (by decide) rfl (fun ls hl => ?_)
          refine lv_goto (tgt := 36) C.1 C.2.1 dX5_carried_103 (by decide) ?_
          exact ih u3711 (x4 + 1) u3709.1 u3709.2.1 u3709.2.2 r3702.2.2.2.1 r3702.2.2.2.2.1 r3702.2.2.2.2.2 _ _ _ hE hP hS (lv_sub hl [1, 2, 3, 4, 0] rfl) hX
        have hE := hR
        refine lv_if_ne (tgt := 100) C.1 C.2.1 dX5_carried_92 (by decide) (fun c3710 => ?_) (fun c3710 => ?_)
        · have hE := it_f c3710 hE
          obtain rfl := Option.some.inj hE
          exact hJ100u3711 H locs ls hP hS (lv_sub hl [0, 1, 2, 3, 4] rfl)
        · have hE := it_t c3710 hE
          refine lv_aload_n C.1 C.2.1 dX5_carried_95 rfl (lv_at hl 0 rfl) ?_
          refine mg_35 (v := u3709.1) C hP rfl dX5_carried_96 ?_
          refine lv_istore_n (lv' := [(3, .int u3709.1), (0, .ref h0), (1, .int x1), (2, .int x2), (4, .int x4)]) C.1 C.2.1 dX5_carried_99 rfl hl (by decide) rfl (fun ls hl => ?_)
          obtain rfl := Option.some.inj hE
          exact hJ100u3711 H locs ls hP hS (lv_sub hl [1, 2, 3, 0, 4] rfl)
      have hE := hR
      refine lv_if_ne (tgt := 71) C.1 C.2.1 dX5_carried_52 (by decide) (fun c3704 => ?_) (fun c3704 => ?_)
      · have hE := it_f c3704 hE
        obtain rfl := Option.some.inj hE
        exact hJ71u3705 H locs ls hP hS (lv_sub hl [0, 1, 2, 3, 4] rfl)
      · have hE := it_t c3704 hE
        refine lv_aload_n C.1 C.2.1 dX5_carried_55 rfl (lv_at hl 0 rfl) ?_
        refine lv_aload_n C.1 C.2.1 dX5_carried_56 rfl (lv_at hl 0 rfl) ?_
        refine ma_12 C hP dX5_carried_57 ?_
        refine lv_iload_n C.1 C.2.1 dX5_carried_60 rfl (lv_at hl 1 rfl) ?_
        obtain ⟨g3706, hE⟩ := it_g hE
        refine ml_12 (v := ((A 12) (x1).toNatClampNeg)) C hP (gi_in g3706) rfl dX5_carried_61 ?_
        refine lv_aload_n C.1 C.2.1 dX5_carried_62 rfl (lv_at hl 0 rfl) ?_
        refine ma_13 C hP dX5_carried_63 ?_
        refine lv_iload_n C.1 C.2.1 dX5_carried_66 rfl (lv_at hl 1 rfl) ?_
        obtain ⟨g3707, hE⟩ := it_g hE
        refine ml_13 (v := ((A 13) (x1).toNatClampNeg)) C hP (gi_in g3707) rfl dX5_carried_67 ?_
        obtain ⟨r3708, hr3708, hE⟩ := it_b hE
        refine m_call (n := 2) (As := [.int ((A 12) (x1).toNatClampNeg), .int ((A 13) (x1).toNatClampNeg)]) (rest := []) C hP hS hml (metM_weekend l G h0 ad _ _ _ ((A 12) (x1).toNatClampNeg) ((A 13) (x1).toNatClampNeg) r3708 hr3708) q1619 q1621 qs54 q1622 rfl rfl (by decide +kernel) ⟨Nat.le_of_ble_eq_true rfl, Nat.le_of_ble_eq_true rfl⟩ ⟨Nat.le_refl _, Nat.le_refl _⟩ rfl hl.1 rfl (Nat.le_of_ble_eq_true rfl) dX5_carried_68 (fun H locs hP hS => ?_)
        obtain rfl := Option.some.inj hE
        exact hJ71u3705 H locs ls hP hS (lv_sub hl [0, 1, 2, 3, 4] rfl)
set_option maxHeartbeats 4000000 in
theorem metM_carried (l : Launch) (G : kG) (h0 : Nat) (ad : Nat → Nat) (F : Nat → Int32) (A : Nat → Nat → Int32) (L : Nat → Nat → Int64) (p1 : Int32) (p2 : Int32) (res : Int32 × Int32 × Int32 × Int32 × Int32 × Int32 × Int32 × (Nat → Int32)) (hE : sM_carried (F 0) (F 1) (F 2) (F 3) (F 5) (F 35) (F 36) (F 37) (F 38) (F 39) (F 40) (A 11) (A 12) (A 13) p1 p2 = some res) : Met l yX5_carried (ws_ yX5_carried cX5_carried 6 (some .int)) ({ frames := 2, cells := 0, slots := 0, locals := 44 } : Room) (mPc G h0 ad F A L [.int p1, .int p2]) (mQc G h0 ad (upd (upd (upd (upd (upd (upd F 35 res.2.1) 36 res.2.2.1) 37 res.2.2.2.1) 38 res.2.2.2.2.1) 39 res.2.2.2.2.2.1) 40 res.2.2.2.2.2.2.1) (va_up A 11 res.2.2.2.2.2.2.2) L (some (.int res.1))) 0 0 (mA h0 ad) := by
  refine m_ofW (by decide) rfl (Nat.le_of_ble_eq_true rfl) ?_
  intro p e s m args below meth c ls C hml hP hS hl hr hlocks
  have hl : lv_has ls 6 [(0, .ref h0), (1, .int p1), (2, .int p2)] := hl
  obtain ⟨Q, hQ⟩ : ∃ Q, Q = MQ below (mQc G h0 ad (upd (upd (upd (upd (upd (upd F 35 res.2.1) 36 res.2.2.1) 37 res.2.2.2.1) 38 res.2.2.2.2.1) 39 res.2.2.2.2.2.1) 40 res.2.2.2.2.2.2.1) (va_up A 11 res.2.2.2.2.2.2.2) L (some (.int res.1))) args s 0 0 (mA h0 ad) := ⟨_, rfl⟩
  rw [← hQ]
  have hret : ∀ (pc : Nat) (ls : Array Slot) (H : Heap) (locs : List Loc), decode cX5_carried pc = .ok (.ireturn, 1) → mPw G h0 ad (upd (upd (upd (upd (upd (upd F 35 res.2.1) 36 res.2.2.1) 37 res.2.2.2.1) 38 res.2.2.2.2.1) 39 res.2.2.2.2.2.1) 40 res.2.2.2.2.2.2.1) (va_up A 11 res.2.2.2.2.2.2.2) L H → va_S (mA h0 ad) s.heap H locs → W p l e ({ frames := 2, cells := 0, slots := 0, locals := 44 } : Room) s m args below meth c H locs 0 0 Q (F0 m pc ls [.int res.1]) := by
    intro pc ls H locs hd hP hS
    rw [hQ]
    exact m_iret C hr hlocks hd hP hS
  clear hQ
  obtain ⟨H, hH⟩ : ∃ H, H = s.heap := ⟨_, rfl⟩
  obtain ⟨locs, hlo⟩ : ∃ locs : List Loc, locs = [] := ⟨_, rfl⟩
  have hP : mPw G h0 ad F A L H := by rw [hH]; exact hP
  have hS : va_S (mA h0 ad) s.heap H locs := by rw [hH, hlo]; exact hS
  suffices hZ : W p l e ({ frames := 2, cells := 0, slots := 0, locals := 44 } : Room) s m args below meth c H locs 0 0 Q (F0 m 0 ls []) by rw [hH, hlo] at hZ; exact hZ
  clear hH hlo
  unfold sM_carried at hE
  refine lv_aload_n C.1 C.2.1 dX5_carried_0 rfl (lv_at hl 0 rfl) ?_
  refine lv_iload_n C.1 C.2.1 dX5_carried_1 rfl (lv_at hl 1 rfl) ?_
  obtain ⟨r1, hr1, hE⟩ := it_b hE
  refine m_call (n := 1) (As := [.int p1]) (rest := []) C hP hS hml (metM_isHome l G h0 ad _ _ _ p1 r1 hr1) q1503 q1505 qs33 q1506 rfl rfl (by decide +kernel) ⟨Nat.le_of_ble_eq_true rfl, Nat.le_of_ble_eq_true rfl⟩ ⟨Nat.le_refl _, Nat.le_refl _⟩ rfl hl.1 rfl (Nat.le_of_ble_eq_true rfl) dX5_carried_2 (fun H locs hP hS => ?_)
  refine lv_if_ne (tgt := 14) C.1 C.2.1 dX5_carried_5 (by decide) (fun c2 => ?_) (fun c2 => ?_)
  · have hE := it_f c2 hE
    refine lv_iload_n C.1 C.2.1 dX5_carried_14 rfl (lv_at hl 2 rfl) ?_
    refine lv_if_lt (tgt := 24) C.1 C.2.1 dX5_carried_15 (by decide) (fun c3 => ?_) (fun c3 => ?_)
    · have hE := it_t c3 hE
      refine lv_aload_n C.1 C.2.1 dX5_carried_24 rfl (lv_at hl 0 rfl) ?_
      refine lv_bipush (v := (-6)) C.1 C.2.1 dX5_carried_25 (by decide) ?_
      obtain ⟨r4, hr4, hE⟩ := it_b hE
      refine m_call (n := 1) (As := [.int (-6)]) (rest := []) C hP hS hml (metM_noFar l G h0 ad _ _ _ (-6) r4 hr4) q1735 q1737 qs71 q1738 rfl rfl (by decide +kernel) ⟨Nat.le_of_ble_eq_true rfl, Nat.le_of_ble_eq_true rfl⟩ ⟨Nat.le_refl _, Nat.le_refl _⟩ rfl hl.1 rfl (Nat.le_of_ble_eq_true rfl) dX5_carried_27 (fun H locs hP hS => ?_)
      obtain rfl := Option.some.inj hE
      exact hret _ _ _ _ dX5_carried_30 hP hS
    · have hE := it_f c3 hE
      refine lv_iload_n C.1 C.2.1 dX5_carried_18 rfl (lv_at hl 2 rfl) ?_
      refine lv_bipush (v := 40) C.1 C.2.1 dX5_carried_19 (by decide) ?_
      refine lv_icmp_le (tgt := 31) C.1 C.2.1 dX5_carried_21 (by decide) (fun c5 => ?_) (fun c5 => ?_)
      · have hE := it_t c5 hE
        refine lv_iconst (v := 0) C.1 C.2.1 dX5_carried_31 (by decide) ?_
        refine lv_istore_n (lv' := [(3, .int 0), (0, .ref h0), (1, .int p1), (2, .int p2)]) C.1 C.2.1 dX5_carried_32 rfl hl (by decide) rfl (fun ls hl => ?_)
        refine lv_iconst (v := 0) C.1 C.2.1 dX5_carried_33 (by decide) ?_
        refine lv_istore (lv' := [(4, .int 0), (3, .int 0), (0, .ref h0), (1, .int p1), (2, .int p2)]) C.1 C.2.1 dX5_carried_34 hl (by decide) rfl (fun ls hl => ?_)
        obtain ⟨u6, hu6, hE⟩ := it_b hE
        refine wM_carried_h36 C hml F A L p1 p2 (A 11) u6 2000 0 0 (F 35) (F 36) (F 37) (F 38) (F 39) (F 40) H locs ls hu6 hP hS (lv_sub hl [2, 3, 4, 1, 0] rfl) (fun H locs ls hP hS hl => ?_)
        refine lv_aload_n C.1 C.2.1 dX5_carried_106 rfl (lv_at hl 0 rfl) ?_
        refine mg_35 (v := u6.2.1) C hP rfl dX5_carried_107 ?_
        refine lv_iload_n C.1 C.2.1 dX5_carried_110 rfl (lv_at hl 1 rfl) ?_
        refine lv_isub C.1 C.2.1 dX5_carried_111 ?_
        obtain rfl := Option.some.inj hE
        exact hret _ _ _ _ dX5_carried_112 hP hS
      · have hE := it_f c5 hE
        refine lv_aload_n C.1 C.2.1 dX5_carried_24 rfl (lv_at hl 0 rfl) ?_
        refine lv_bipush (v := (-6)) C.1 C.2.1 dX5_carried_25 (by decide) ?_
        obtain ⟨r7, hr7, hE⟩ := it_b hE
        refine m_call (n := 1) (As := [.int (-6)]) (rest := []) C hP hS hml (metM_noFar l G h0 ad _ _ _ (-6) r7 hr7) q1735 q1737 qs71 q1738 rfl rfl (by decide +kernel) ⟨Nat.le_of_ble_eq_true rfl, Nat.le_of_ble_eq_true rfl⟩ ⟨Nat.le_refl _, Nat.le_refl _⟩ rfl hl.1 rfl (Nat.le_of_ble_eq_true rfl) dX5_carried_27 (fun H locs hP hS => ?_)
        obtain rfl := Option.some.inj hE
        exact hret _ _ _ _ dX5_carried_30 hP hS
  · have hE := it_t c2 hE
    refine lv_aload_n C.1 C.2.1 dX5_carried_8 rfl (lv_at hl 0 rfl) ?_
    refine lv_iconst (v := (-1)) C.1 C.2.1 dX5_carried_9 (by decide) ?_
    obtain ⟨r8, hr8, hE⟩ := it_b hE
    refine m_call (n := 1) (As := [.int (-1)]) (rest := []) C hP hS hml (metM_noFar l G h0 ad _ _ _ (-1) r8 hr8) q1735 q1737 qs71 q1738 rfl rfl (by decide +kernel) ⟨Nat.le_of_ble_eq_true rfl, Nat.le_of_ble_eq_true rfl⟩ ⟨Nat.le_refl _, Nat.le_refl _⟩ rfl hl.1 rfl (Nat.le_of_ble_eq_true rfl) dX5_carried_10 (fun H locs hP hS => ?_)
    obtain rfl := Option.some.inj hE
    exact hret _ _ _ _ dX5_carried_13 hP hS
def sM_isFed_h7 (x1 : Int32) (x2 : Int32) (x3 : Int32) (f_feed : Int32) (f_life : Int32) (f_low : Int32) (a_kind : Nat → Int32) (a_part : Nat → Int32) (l_cells : Nat → Int64) : Nat → Int32 → Int32 → Int32 → Int32 → Int32 → Int32 → Int32 → Option (Int32 × Int32 × Int32 × Int32 × Int32 × Int32 × Int32)
  | 0, _, _, _, _, _, _, _ => none
  | fuel + 1, x4, f_heft, f_alarm, f_old, f_died, f_ofWhat, f_heavy =>
    if x2 ≤ x4 then
      some (1, f_heft, f_alarm, f_old, f_died, f_ofWhat, f_heavy)
    else
      (sM_intAt l_cells x1 x4).bind fun r802 =>
      (sM_goes f_feed f_life f_low f_heft f_alarm f_old f_died f_ofWhat f_heavy a_kind a_part r802).bind fun r803 =>
      if r803.1 = 0 then
        if x3 ≤ r803.2.1 then
          sM_isFed_h7 x1 x2 x3 f_feed f_life f_low a_kind a_part l_cells fuel (x4 + 1) r803.2.1 r803.2.2.1 r803.2.2.2.1 r803.2.2.2.2.1 r803.2.2.2.2.2.1 r803.2.2.2.2.2.2
        else
          some (0, r803.2.1, r803.2.2.1, r803.2.2.2.1, r803.2.2.2.2.1, r803.2.2.2.2.2.1, r803.2.2.2.2.2.2)
      else
        some (0, r803.2.1, r803.2.2.1, r803.2.2.2.1, r803.2.2.2.2.1, r803.2.2.2.2.2.1, r803.2.2.2.2.2.2)
def sM_isFed (f_weight : Int32) (f_fright : Int32) (f_age : Int32) (f_feed : Int32) (f_life : Int32) (f_low : Int32) (f_heft : Int32) (f_alarm : Int32) (f_old : Int32) (f_died : Int32) (f_ofWhat : Int32) (f_heavy : Int32) (a_kind : Nat → Int32) (a_part : Nat → Int32) (l_cells : Nat → Int64) (p1 : Int32) (p2 : Int32) (p3 : Int32) : Option (Int32 × Int32 × Int32 × Int32 × Int32 × Int32 × Int32) :=
  (sM_begins f_weight f_fright f_age f_heft f_alarm f_old f_died f_ofWhat f_heavy).bind fun r1 =>
  sM_isFed_h7 p1 p2 p3 f_feed f_life f_low a_kind a_part l_cells 2000 0 r1.1 r1.2.1 r1.2.2.1 r1.2.2.2.1 r1.2.2.2.2.1 r1.2.2.2.2.2
set_option maxHeartbeats 4000000 in
theorem wM_isFed_h7 {p : Program} {l : Launch} {e : Env} {s : State} {m : MethodId} {args : Array Value} {below : List Frame} {meth : Method} {c : Code} {G : kG} {h0 : Nat} {ad : Nat → Nat} {Q : State → Prop} (C : mC p s m args c cX5_isFed G h0 ad) (hml : c.maxLocals = 5) (F : Nat → Int32) (A : Nat → Nat → Int32) (L : Nat → Nat → Int64) (x1 : Int32) (x2 : Int32) (x3 : Int32) (res : Int32 × Int32 × Int32 × Int32 × Int32 × Int32 × Int32) :
    ∀ (fuel : Nat) (x4 : Int32) (f_heft : Int32) (f_alarm : Int32) (f_old : Int32) (f_died : Int32) (f_ofWhat : Int32) (f_heavy : Int32) (H : Heap) (locs : List Loc) (ls : Array Slot), sM_isFed_h7 x1 x2 x3 (F 5) (F 6) (F 7) (A 12) (A 13) (L 22) fuel x4 f_heft f_alarm f_old f_died f_ofWhat f_heavy = some res → mPw G h0 ad (upd (upd (upd (upd (upd (upd F 35 f_heft) 36 f_alarm) 37 f_old) 38 f_died) 39 f_ofWhat) 40 f_heavy) A L H → va_S (mA h0 ad) s.heap H locs → lv_has ls 5 [(0, .ref h0), (1, .int x1), (2, .int x2), (3, .int x3), (4, .int x4)] → (∀ (pc : Nat) (ls : Array Slot) (H : Heap) (locs : List Loc), narrow .boolean (.int res.1) = .int res.1 → decode cX5_isFed pc = .ok (.ireturn, 1) → mPw G h0 ad (upd (upd (upd (upd (upd (upd F 35 res.2.1) 36 res.2.2.1) 37 res.2.2.2.1) 38 res.2.2.2.2.1) 39 res.2.2.2.2.2.1) 40 res.2.2.2.2.2.2) A L H → va_S (mA h0 ad) s.heap H locs → W p l e ({ frames := 3, cells := 0, slots := 0, locals := 65 } : Room) s m args below meth c H locs 0 0 Q (F0 m pc ls [.int res.1])) → W p l e ({ frames := 3, cells := 0, slots := 0, locals := 65 } : Room) s m args below meth c H locs 0 0 Q (F0 m 7 ls []) := by
  intro fuel
  induction fuel with
  | zero =>
    intro x4 f_heft f_alarm f_old f_died f_ofWhat f_heavy H locs ls hE
    exact it_n hE
  | succ fuel ih =>
    intro x4 f_heft f_alarm f_old f_died f_ofWhat f_heavy H locs ls hE hP hS hl hret
    rw [sM_isFed_h7] at hE
    refine lv_iload C.1 C.2.1 dX5_isFed_7 (lv_at hl 4 rfl) ?_
    refine lv_iload_n C.1 C.2.1 dX5_isFed_9 rfl (lv_at hl 2 rfl) ?_
    refine lv_icmp_ge (tgt := 43) C.1 C.2.1 dX5_isFed_10 (by decide) (fun c801 => ?_) (fun c801 => ?_)
    · have hE := it_t c801 hE
      refine lv_iconst (v := 1) C.1 C.2.1 dX5_isFed_43 (by decide) ?_
      obtain rfl := Option.some.inj hE
      exact hret _ _ _ _ (nbz (Or.inr rfl)) dX5_isFed_44 hP hS
    · have hE := it_f c801 hE
      refine lv_aload_n C.1 C.2.1 dX5_isFed_13 rfl (lv_at hl 0 rfl) ?_
      refine lv_aload_n C.1 C.2.1 dX5_isFed_14 rfl (lv_at hl 0 rfl) ?_
      refine lv_iload_n C.1 C.2.1 dX5_isFed_15 rfl (lv_at hl 1 rfl) ?_
      refine lv_iload C.1 C.2.1 dX5_isFed_16 (lv_at hl 4 rfl) ?_
      obtain ⟨r802, hr802, hE⟩ := it_b hE
      refine m_call (n := 2) (As := [.int x1, .int x4]) (rest := [.ref h0]) C hP hS hml (metM_intAt l G h0 ad _ _ _ x1 x4 r802 hr802) q1655 q1657 qs60 q1658 rfl rfl (by decide +kernel) ⟨Nat.le_of_ble_eq_true rfl, Nat.le_of_ble_eq_true rfl⟩ ⟨Nat.le_refl _, Nat.le_refl _⟩ rfl hl.1 rfl (Nat.le_of_ble_eq_true rfl) dX5_isFed_18 (fun H locs hP hS => ?_)
      obtain ⟨r803, hr803, hE⟩ := it_b hE
      refine m_call (n := 1) (As := [.int r802]) (rest := []) C hP hS hml (metM_goes l G h0 ad _ _ _ r802 r803 hr803) q1607 q1609 qs51 q1610 rfl rfl (by decide +kernel) ⟨Nat.le_of_ble_eq_true rfl, Nat.le_of_ble_eq_true rfl⟩ ⟨Nat.le_refl _, Nat.le_refl _⟩ rfl hl.1 rfl (Nat.le_of_ble_eq_true rfl) dX5_isFed_21 (fun H locs hP hS => ?_)
      refine lv_if_ne (tgt := 35) C.1 C.2.1 dX5_isFed_24 (by decide) (fun c804 => ?_) (fun c804 => ?_)
      · have hE := it_f c804 hE
        refine lv_iconst (v := 0) C.1 C.2.1 dX5_isFed_35 (by decide) ?_
        obtain rfl := Option.some.inj hE
        exact hret _ _ _ _ (nbz (Or.inl rfl)) dX5_isFed_36 hP hS
      · have hE := it_t c804 hE
        refine lv_aload_n C.1 C.2.1 dX5_isFed_27 rfl (lv_at hl 0 rfl) ?_
        refine mg_35 (v := r803.2.1) C hP rfl dX5_isFed_28 ?_
        refine lv_iload_n C.1 C.2.1 dX5_isFed_31 rfl (lv_at hl 3 rfl) ?_
        refine lv_icmp_ge (tgt := 37) C.1 C.2.1 dX5_isFed_32 (by decide) (fun c805 => ?_) (fun c805 => ?_)
        · have hE := it_t c805 hE
          refine lv_iinc (v := (x4 + 1)) (lv' := [(4, .int (x4 + 1)), (0, .ref h0), (1, .int x1), (2, .int x2), (3, .int x3)]) C.1 C.2.1 dX5_isFed_37 hl (k := 4) rfl rfl (by decide) rfl (fun ls hl => ?_)
          refine lv_goto (tgt := 7) C.1 C.2.1 dX5_isFed_40 (by decide) ?_
          exact ih (x4 + 1) r803.2.1 r803.2.2.1 r803.2.2.2.1 r803.2.2.2.2.1 r803.2.2.2.2.2.1 r803.2.2.2.2.2.2 _ _ _ hE hP hS (lv_sub hl [1, 2, 3, 4, 0] rfl) hret
        · have hE := it_f c805 hE
          refine lv_iconst (v := 0) C.1 C.2.1 dX5_isFed_35 (by decide) ?_
          obtain rfl := Option.some.inj hE
          exact hret _ _ _ _ (nbz (Or.inl rfl)) dX5_isFed_36 hP hS
set_option maxHeartbeats 4000000 in
theorem metM_isFed (l : Launch) (G : kG) (h0 : Nat) (ad : Nat → Nat) (F : Nat → Int32) (A : Nat → Nat → Int32) (L : Nat → Nat → Int64) (p1 : Int32) (p2 : Int32) (p3 : Int32) (res : Int32 × Int32 × Int32 × Int32 × Int32 × Int32 × Int32) (hE : sM_isFed (F 1) (F 2) (F 3) (F 5) (F 6) (F 7) (F 35) (F 36) (F 37) (F 38) (F 39) (F 40) (A 12) (A 13) (L 22) p1 p2 p3 = some res) : Met l yX5_isFed (ws_ yX5_isFed cX5_isFed 5 (some .boolean)) ({ frames := 3, cells := 0, slots := 0, locals := 65 } : Room) (mPc G h0 ad F A L [.int p1, .int p2, .int p3]) (mQc G h0 ad (upd (upd (upd (upd (upd (upd F 35 res.2.1) 36 res.2.2.1) 37 res.2.2.2.1) 38 res.2.2.2.2.1) 39 res.2.2.2.2.2.1) 40 res.2.2.2.2.2.2) A L (some (.int res.1))) 0 0 (mA h0 ad) := by
  refine m_ofW (by decide) rfl (Nat.le_of_ble_eq_true rfl) ?_
  intro p e s m args below meth c ls C hml hP hS hl hr hlocks
  have hl : lv_has ls 5 [(0, .ref h0), (1, .int p1), (2, .int p2), (3, .int p3)] := hl
  obtain ⟨Q, hQ⟩ : ∃ Q, Q = MQ below (mQc G h0 ad (upd (upd (upd (upd (upd (upd F 35 res.2.1) 36 res.2.2.1) 37 res.2.2.2.1) 38 res.2.2.2.2.1) 39 res.2.2.2.2.2.1) 40 res.2.2.2.2.2.2) A L (some (.int res.1))) args s 0 0 (mA h0 ad) := ⟨_, rfl⟩
  rw [← hQ]
  have hret : ∀ (pc : Nat) (ls : Array Slot) (H : Heap) (locs : List Loc), narrow .boolean (.int res.1) = .int res.1 → decode cX5_isFed pc = .ok (.ireturn, 1) → mPw G h0 ad (upd (upd (upd (upd (upd (upd F 35 res.2.1) 36 res.2.2.1) 37 res.2.2.2.1) 38 res.2.2.2.2.1) 39 res.2.2.2.2.2.1) 40 res.2.2.2.2.2.2) A L H → va_S (mA h0 ad) s.heap H locs → W p l e ({ frames := 3, cells := 0, slots := 0, locals := 65 } : Room) s m args below meth c H locs 0 0 Q (F0 m pc ls [.int res.1]) := by
    intro pc ls H locs hn hd hP hS
    rw [hQ]
    exact m_zret C hr hlocks hn hd hP hS
  clear hQ
  obtain ⟨H, hH⟩ : ∃ H, H = s.heap := ⟨_, rfl⟩
  obtain ⟨locs, hlo⟩ : ∃ locs : List Loc, locs = [] := ⟨_, rfl⟩
  have hP : mPw G h0 ad F A L H := by rw [hH]; exact hP
  have hS : va_S (mA h0 ad) s.heap H locs := by rw [hH, hlo]; exact hS
  suffices hZ : W p l e ({ frames := 3, cells := 0, slots := 0, locals := 65 } : Room) s m args below meth c H locs 0 0 Q (F0 m 0 ls []) by rw [hH, hlo] at hZ; exact hZ
  clear hH hlo
  unfold sM_isFed at hE
  refine lv_aload_n C.1 C.2.1 dX5_isFed_0 rfl (lv_at hl 0 rfl) ?_
  obtain ⟨r1, hr1, hE⟩ := it_b hE
  refine m_call (n := 0) (As := []) (rest := []) C hP hS hml (metM_begins l G h0 ad _ _ _ r1 hr1) q1603 q1605 qs50 q1606 rfl rfl (by decide +kernel) ⟨Nat.le_of_ble_eq_true rfl, Nat.le_of_ble_eq_true rfl⟩ ⟨Nat.le_refl _, Nat.le_refl _⟩ rfl hl.1 rfl (Nat.le_of_ble_eq_true rfl) dX5_isFed_1 (fun H locs hP hS => ?_)
  refine lv_iconst (v := 0) C.1 C.2.1 dX5_isFed_4 (by decide) ?_
  refine lv_istore (lv' := [(4, .int 0), (0, .ref h0), (1, .int p1), (2, .int p2), (3, .int p3)]) C.1 C.2.1 dX5_isFed_5 hl (by decide) rfl (fun ls hl => ?_)
  exact wM_isFed_h7 C hml F A L p1 p2 p3 res 2000 0 r1.1 r1.2.1 r1.2.2.1 r1.2.2.2.1 r1.2.2.2.2.1 r1.2.2.2.2.2 H locs ls hE hP hS (lv_sub hl [1, 2, 3, 4, 0] rfl) hret
def sM_leastFeed_h51 (x1 : Int32) (x2 : Int32) (x3 : Int32) (f_weight : Int32) (f_fright : Int32) (f_age : Int32) (f_life : Int32) (f_low : Int32) (a_kind : Nat → Int32) (a_part : Nat → Int32) (l_cells : Nat → Int64) : Nat → Int32 → Int32 → Int32 → Int32 → Int32 → Int32 → Int32 → Int32 → Option (Int32 × Int32 × Int32 × Int32 × Int32 × Int32 × Int32 × Int32)
  | 0, _, _, _, _, _, _, _, _ => none
  | fuel + 1, x6, f_feed, f_heft, f_alarm, f_old, f_died, f_ofWhat, f_heavy =>
    if 10 ≤ f_feed then
      some (x6, f_feed, f_heft, f_alarm, f_old, f_died, f_ofWhat, f_heavy)
    else
      if x6 = (-1) then
        (sM_isFed f_weight f_fright f_age f_feed f_life f_low f_heft f_alarm f_old f_died f_ofWhat f_heavy a_kind a_part l_cells x1 x2 x3).bind fun r5203 =>
        @Option.bind (Int32) _ (
          if r5203.1 = 0 then
            some x6
          else
            some f_feed) fun u5205 =>
        sM_leastFeed_h51 x1 x2 x3 f_weight f_fright f_age f_life f_low a_kind a_part l_cells fuel u5205 (f_feed + 1) r5203.2.1 r5203.2.2.1 r5203.2.2.2.1 r5203.2.2.2.2.1 r5203.2.2.2.2.2.1 r5203.2.2.2.2.2.2
      else
        some (x6, f_feed, f_heft, f_alarm, f_old, f_died, f_ofWhat, f_heavy)
def sM_leastFeed (f_many : Int32) (f_weight : Int32) (f_fright : Int32) (f_age : Int32) (f_feed : Int32) (f_life : Int32) (f_low : Int32) (f_heft : Int32) (f_alarm : Int32) (f_old : Int32) (f_died : Int32) (f_ofWhat : Int32) (f_heavy : Int32) (a_refused : Nat → Int32) (a_kind : Nat → Int32) (a_part : Nat → Int32) (a_ill : Nat → Int32) (a_held : Nat → Int32) (a_size : Nat → Int32) (l_cells : Nat → Int64) (p1 : Int32) (p2 : Int32) (p3 : Int32) : Option (Int32 × Int32 × Int32 × Int32 × Int32 × Int32 × Int32 × Int32 × (Nat → Int32)) :=
  (sM_barsRight f_many a_ill a_held a_size l_cells p1 p2).bind fun r1 =>
  @Option.bind (Int32) _ (
    if r1 = 0 then
      (sM_isWeight p3).bind fun r4 =>
      if r4 = 0 then
        some (-6)
      else
        some r1
    else
      some r1) fun u3 =>
  if u3 = 0 then
    (sM_leastFeed_h51 p1 p2 p3 f_weight f_fright f_age f_life f_low a_kind a_part l_cells 2000 (-1) 0 f_heft f_alarm f_old f_died f_ofWhat f_heavy).bind fun u7 =>
    some (u7.1, f_feed, u7.2.2.1, u7.2.2.2.1, u7.2.2.2.2.1, u7.2.2.2.2.2.1, u7.2.2.2.2.2.2.1, u7.2.2.2.2.2.2.2, a_refused)
  else
    (sM_noTen a_refused u3).bind fun r8 =>
    some (r8.1, f_feed, f_heft, f_alarm, f_old, f_died, f_ofWhat, f_heavy, r8.2)
set_option maxHeartbeats 4000000 in
theorem wM_leastFeed_h51 {p : Program} {l : Launch} {e : Env} {s : State} {m : MethodId} {args : Array Value} {below : List Frame} {meth : Method} {c : Code} {G : kG} {h0 : Nat} {ad : Nat → Nat} {Q : State → Prop} (C : mC p s m args c cX5_leastFeed G h0 ad) (hml : c.maxLocals = 7) (F : Nat → Int32) (A : Nat → Nat → Int32) (L : Nat → Nat → Int64) (x1 : Int32) (x2 : Int32) (x3 : Int32) (x5 : Int32) (a_refused : Nat → Int32) (res : Int32 × Int32 × Int32 × Int32 × Int32 × Int32 × Int32 × Int32) :
    ∀ (fuel : Nat) (x6 : Int32) (f_feed : Int32) (f_heft : Int32) (f_alarm : Int32) (f_old : Int32) (f_died : Int32) (f_ofWhat : Int32) (f_heavy : Int32) (H : Heap) (locs : List Loc) (ls : Array Slot), sM_leastFeed_h51 x1 x2 x3 (F 1) (F 2) (F 3) (F 6) (F 7) (A 12) (A 13) (L 22) fuel x6 f_feed f_heft f_alarm f_old f_died f_ofWhat f_heavy = some res → mPw G h0 ad (upd (upd (upd (upd (upd (upd (upd F 5 f_feed) 35 f_heft) 36 f_alarm) 37 f_old) 38 f_died) 39 f_ofWhat) 40 f_heavy) (va_up A 11 a_refused) L H → va_S (mA h0 ad) s.heap H locs → lv_has ls 7 [(0, .ref h0), (1, .int x1), (2, .int x2), (3, .int x3), (5, .int x5), (6, .int x6)] → (∀ (H : Heap) (locs : List Loc) (ls : Array Slot), mPw G h0 ad (upd (upd (upd (upd (upd (upd (upd F 5 res.2.1) 35 res.2.2.1) 36 res.2.2.2.1) 37 res.2.2.2.2.1) 38 res.2.2.2.2.2.1) 39 res.2.2.2.2.2.2.1) 40 res.2.2.2.2.2.2.2) (va_up A 11 a_refused) L H → va_S (mA h0 ad) s.heap H locs → lv_has ls 7 [(0, .ref h0), (5, .int x5), (6, .int res.1)] → W p l e ({ frames := 5, cells := 0, slots := 0, locals := 111 } : Room) s m args below meth c H locs 0 0 Q (F0 m 95 ls [])) → W p l e ({ frames := 5, cells := 0, slots := 0, locals := 111 } : Room) s m args below meth c H locs 0 0 Q (F0 m 51 ls []) := by
  intro fuel
  induction fuel with
  | zero =>
    intro x6 f_feed f_heft f_alarm f_old f_died f_ofWhat f_heavy H locs ls hE
    exact it_n hE
  | succ fuel ih =>
    intro x6 f_feed f_heft f_alarm f_old f_died f_ofWhat f_heavy H locs ls hE hP hS hl hX
    rw [sM_leastFeed_h51] at hE
    refine lv_aload_n C.1 C.2.1 dX5_leastFeed_51 rfl (lv_at hl 0 rfl) ?_
    refine mg_5 (v := f_feed) C hP rfl dX5_leastFeed_52 ?_
    refine lv_bipush (v := 10) C.1 C.2.1 dX5_leastFeed_55 (by decide) ?_
    refine lv_icmp_ge (tgt := 95) C.1 C.2.1 dX5_leastFeed_57 (by decide) (fun c5201 => ?_) (fun c5201 => ?_)
    · have hE := it_t c5201 hE
      obtain rfl := Option.some.inj hE
      exact hX H locs ls hP hS (lv_sub hl [0, 4, 5] rfl)
    · have hE := it_f c5201 hE
      refine lv_iload C.1 C.2.1 dX5_leastFeed_60 (lv_at hl 5 rfl) ?_
      refine lv_iconst (v := (-1)) C.1 C.2.1 dX5_leastFeed_62 (by decide) ?_
      refine lv_icmp_ne (tgt := 95) C.1 C.2.1 dX5_leastFeed_63 (by decide) (fun c5202 => ?_) (fun c5202 => ?_)
      · have hE := it_f c5202 hE
        obtain rfl := Option.some.inj hE
        exact hX H locs ls hP hS (lv_sub hl [0, 4, 5] rfl)
      · have hE := it_t c5202 hE
        refine lv_aload_n C.1 C.2.1 dX5_leastFeed_66 rfl (lv_at hl 0 rfl) ?_
        refine lv_iload_n C.1 C.2.1 dX5_leastFeed_67 rfl (lv_at hl 1 rfl) ?_
        refine lv_iload_n C.1 C.2.1 dX5_leastFeed_68 rfl (lv_at hl 2 rfl) ?_
        refine lv_iload_n C.1 C.2.1 dX5_leastFeed_69 rfl (lv_at hl 3 rfl) ?_
        obtain ⟨r5203, hr5203, hE⟩ := it_b hE
        refine m_call (n := 3) (As := [.int x1, .int x2, .int x3]) (rest := []) C hP hS hml (metM_isFed l G h0 ad _ _ _ x1 x2 x3 r5203 hr5203) q1743 q1745 qs72 q1746 rfl rfl (by decide +kernel) ⟨Nat.le_of_ble_eq_true rfl, Nat.le_of_ble_eq_true rfl⟩ ⟨Nat.le_refl _, Nat.le_refl _⟩ rfl hl.1 rfl (Nat.le_of_ble_eq_true rfl) dX5_leastFeed_70 (fun H locs hP hS => ?_)
        obtain ⟨u5205, hR, hE⟩ := it_b hE
        have hJ82u5205 : ∀ (H : Heap) (locs : List Loc) (ls : Array Slot), mPw G h0 ad (upd (upd (upd (upd (upd (upd (upd F 5 f_feed) 35 r5203.2.1) 36 r5203.2.2.1) 37 r5203.2.2.2.1) 38 r5203.2.2.2.2.1) 39 r5203.2.2.2.2.2.1) 40 r5203.2.2.2.2.2.2) (va_up A 11 a_refused) L H → va_S (mA h0 ad) s.heap H locs → lv_has ls 7 [(0, .ref h0), (1, .int x1), (2, .int x2), (3, .int x3), (5, .int x5), (6, .int u5205)] → W p l e ({ frames := 5, cells := 0, slots := 0, locals := 111 } : Room) s m args below meth c H locs 0 0 Q (F0 m 82 ls []) := by
          intro H locs ls hP hS hl
          refine lv_aload_n C.1 C.2.1 dX5_leastFeed_82 rfl (lv_at hl 0 rfl) ?_
          refine lv_dup C.1 C.2.1 dX5_leastFeed_83 rfl ?_
          refine mg_5 (v := f_feed) C hP rfl dX5_leastFeed_84 ?_
          refine lv_iconst (v := 1) C.1 C.2.1 dX5_leastFeed_87 (by decide) ?_
          refine lv_iadd C.1 C.2.1 dX5_leastFeed_88 ?_
          refine mp_5 C hP hS dX5_leastFeed_89 (fun H locs hP hS => ?_)
          refine lv_goto (tgt := 51) C.1 C.2.1 dX5_leastFeed_92 (by decide) ?_
          exact ih u5205 (f_feed + 1) r5203.2.1 r5203.2.2.1 r5203.2.2.2.1 r5203.2.2.2.2.1 r5203.2.2.2.2.2.1 r5203.2.2.2.2.2.2 _ _ _ hE hP hS (lv_sub hl [0, 1, 2, 3, 4, 5] rfl) hX
        have hE := hR
        refine lv_if_eq (tgt := 82) C.1 C.2.1 dX5_leastFeed_73 (by decide) (fun c5204 => ?_) (fun c5204 => ?_)
        · have hE := it_t c5204 hE
          obtain rfl := Option.some.inj hE
          exact hJ82u5205 H locs ls hP hS (lv_sub hl [0, 1, 2, 3, 4, 5] rfl)
        · have hE := it_f c5204 hE
          refine lv_aload_n C.1 C.2.1 dX5_leastFeed_76 rfl (lv_at hl 0 rfl) ?_
          refine mg_5 (v := f_feed) C hP rfl dX5_leastFeed_77 ?_
          refine lv_istore (lv' := [(6, .int f_feed), (0, .ref h0), (1, .int x1), (2, .int x2), (3, .int x3), (5, .int x5)]) C.1 C.2.1 dX5_leastFeed_80 hl (by decide) rfl (fun ls hl => ?_)
          obtain rfl := Option.some.inj hE
          exact hJ82u5205 H locs ls hP hS (lv_sub hl [1, 2, 3, 4, 5, 0] rfl)
set_option maxHeartbeats 4000000 in
theorem metM_leastFeed (l : Launch) (G : kG) (h0 : Nat) (ad : Nat → Nat) (F : Nat → Int32) (A : Nat → Nat → Int32) (L : Nat → Nat → Int64) (p1 : Int32) (p2 : Int32) (p3 : Int32) (res : Int32 × Int32 × Int32 × Int32 × Int32 × Int32 × Int32 × Int32 × (Nat → Int32)) (hE : sM_leastFeed (F 0) (F 1) (F 2) (F 3) (F 5) (F 6) (F 7) (F 35) (F 36) (F 37) (F 38) (F 39) (F 40) (A 11) (A 12) (A 13) (A 15) (A 18) (A 20) (L 22) p1 p2 p3 = some res) : Met l yX5_leastFeed (ws_ yX5_leastFeed cX5_leastFeed 7 (some .int)) ({ frames := 5, cells := 0, slots := 0, locals := 111 } : Room) (mPc G h0 ad F A L [.int p1, .int p2, .int p3]) (mQc G h0 ad (upd (upd (upd (upd (upd (upd (upd F 5 res.2.1) 35 res.2.2.1) 36 res.2.2.2.1) 37 res.2.2.2.2.1) 38 res.2.2.2.2.2.1) 39 res.2.2.2.2.2.2.1) 40 res.2.2.2.2.2.2.2.1) (va_up A 11 res.2.2.2.2.2.2.2.2) L (some (.int res.1))) 0 0 (mA h0 ad) := by
  refine m_ofW (by decide) rfl (Nat.le_of_ble_eq_true rfl) ?_
  intro p e s m args below meth c ls C hml hP hS hl hr hlocks
  have hl : lv_has ls 7 [(0, .ref h0), (1, .int p1), (2, .int p2), (3, .int p3)] := hl
  obtain ⟨Q, hQ⟩ : ∃ Q, Q = MQ below (mQc G h0 ad (upd (upd (upd (upd (upd (upd (upd F 5 res.2.1) 35 res.2.2.1) 36 res.2.2.2.1) 37 res.2.2.2.2.1) 38 res.2.2.2.2.2.1) 39 res.2.2.2.2.2.2.1) 40 res.2.2.2.2.2.2.2.1) (va_up A 11 res.2.2.2.2.2.2.2.2) L (some (.int res.1))) args s 0 0 (mA h0 ad) := ⟨_, rfl⟩
  rw [← hQ]
  have hret : ∀ (pc : Nat) (ls : Array Slot) (H : Heap) (locs : List Loc), decode cX5_leastFeed pc = .ok (.ireturn, 1) → mPw G h0 ad (upd (upd (upd (upd (upd (upd (upd F 5 res.2.1) 35 res.2.2.1) 36 res.2.2.2.1) 37 res.2.2.2.2.1) 38 res.2.2.2.2.2.1) 39 res.2.2.2.2.2.2.1) 40 res.2.2.2.2.2.2.2.1) (va_up A 11 res.2.2.2.2.2.2.2.2) L H → va_S (mA h0 ad) s.heap H locs → W p l e ({ frames := 5, cells := 0, slots := 0, locals := 111 } : Room) s m args below meth c H locs 0 0 Q (F0 m pc ls [.int res.1]) := by
    intro pc ls H locs hd hP hS
    rw [hQ]
    exact m_iret C hr hlocks hd hP hS
  clear hQ
  obtain ⟨H, hH⟩ : ∃ H, H = s.heap := ⟨_, rfl⟩
  obtain ⟨locs, hlo⟩ : ∃ locs : List Loc, locs = [] := ⟨_, rfl⟩
  have hP : mPw G h0 ad F A L H := by rw [hH]; exact hP
  have hS : va_S (mA h0 ad) s.heap H locs := by rw [hH, hlo]; exact hS
  suffices hZ : W p l e ({ frames := 5, cells := 0, slots := 0, locals := 111 } : Room) s m args below meth c H locs 0 0 Q (F0 m 0 ls []) by rw [hH, hlo] at hZ; exact hZ
  clear hH hlo
  unfold sM_leastFeed at hE
  refine lv_aload_n C.1 C.2.1 dX5_leastFeed_0 rfl (lv_at hl 0 rfl) ?_
  refine lv_iload_n C.1 C.2.1 dX5_leastFeed_1 rfl (lv_at hl 1 rfl) ?_
  refine lv_iload_n C.1 C.2.1 dX5_leastFeed_2 rfl (lv_at hl 2 rfl) ?_
  obtain ⟨r1, hr1, hE⟩ := it_b hE
  refine m_call (n := 2) (As := [.int p1, .int p2]) (rest := []) C hP hS hml (metM_barsRight l G h0 ad _ _ _ p1 p2 r1 hr1) q1663 q1665 qs61 q1666 rfl rfl (by decide +kernel) ⟨Nat.le_of_ble_eq_true rfl, Nat.le_of_ble_eq_true rfl⟩ ⟨Nat.le_refl _, Nat.le_refl _⟩ rfl hl.1 rfl (Nat.le_of_ble_eq_true rfl) dX5_leastFeed_3 (fun H locs hP hS => ?_)
  refine lv_istore (lv' := [(4, .int r1), (0, .ref h0), (1, .int p1), (2, .int p2), (3, .int p3)]) C.1 C.2.1 dX5_leastFeed_6 hl (by decide) rfl (fun ls hl => ?_)
  refine lv_iload C.1 C.2.1 dX5_leastFeed_8 (lv_at hl 0 rfl) ?_
  obtain ⟨u3, hR, hE⟩ := it_b hE
  have hJ25u3 : ∀ (H : Heap) (locs : List Loc) (ls : Array Slot), mPw G h0 ad F A L H → va_S (mA h0 ad) s.heap H locs → lv_has ls 7 [(0, .ref h0), (1, .int p1), (2, .int p2), (3, .int p3), (4, .int u3)] → W p l e ({ frames := 5, cells := 0, slots := 0, locals := 111 } : Room) s m args below meth c H locs 0 0 Q (F0 m 25 ls []) := by
    intro H locs ls hP hS hl
    refine lv_iload C.1 C.2.1 dX5_leastFeed_25 (lv_at hl 4 rfl) ?_
    refine lv_if_eq (tgt := 37) C.1 C.2.1 dX5_leastFeed_27 (by decide) (fun c6 => ?_) (fun c6 => ?_)
    · have hE := it_t c6 hE
      refine lv_aload_n C.1 C.2.1 dX5_leastFeed_37 rfl (lv_at hl 0 rfl) ?_
      refine mg_5 (v := (F 5)) C hP rfl dX5_leastFeed_38 ?_
      refine lv_istore (lv' := [(5, .int (F 5)), (0, .ref h0), (1, .int p1), (2, .int p2), (3, .int p3), (4, .int u3)]) C.1 C.2.1 dX5_leastFeed_41 hl (by decide) rfl (fun ls hl => ?_)
      refine lv_iconst (v := (-1)) C.1 C.2.1 dX5_leastFeed_43 (by decide) ?_
      refine lv_istore (lv' := [(6, .int (-1)), (5, .int (F 5)), (0, .ref h0), (1, .int p1), (2, .int p2), (3, .int p3), (4, .int u3)]) C.1 C.2.1 dX5_leastFeed_44 hl (by decide) rfl (fun ls hl => ?_)
      refine lv_aload_n C.1 C.2.1 dX5_leastFeed_46 rfl (lv_at hl 2 rfl) ?_
      refine lv_iconst (v := 0) C.1 C.2.1 dX5_leastFeed_47 (by decide) ?_
      refine mp_5 C hP hS dX5_leastFeed_48 (fun H locs hP hS => ?_)
      obtain ⟨u7, hu7, hE⟩ := it_b hE
      refine wM_leastFeed_h51 C hml F A L p1 p2 p3 (F 5) (A 11) u7 2000 (-1) 0 (F 35) (F 36) (F 37) (F 38) (F 39) (F 40) H locs ls hu7 hP hS (lv_sub hl [2, 3, 4, 5, 1, 0] rfl) (fun H locs ls hP hS hl => ?_)
      refine lv_aload_n C.1 C.2.1 dX5_leastFeed_95 rfl (lv_at hl 0 rfl) ?_
      refine lv_iload C.1 C.2.1 dX5_leastFeed_96 (lv_at hl 1 rfl) ?_
      refine mp_5 C hP hS dX5_leastFeed_98 (fun H locs hP hS => ?_)
      refine lv_iload C.1 C.2.1 dX5_leastFeed_101 (lv_at hl 2 rfl) ?_
      obtain rfl := Option.some.inj hE
      exact hret _ _ _ _ dX5_leastFeed_103 hP hS
    · have hE := it_f c6 hE
      refine lv_aload_n C.1 C.2.1 dX5_leastFeed_30 rfl (lv_at hl 0 rfl) ?_
      refine lv_iload C.1 C.2.1 dX5_leastFeed_31 (lv_at hl 4 rfl) ?_
      obtain ⟨r8, hr8, hE⟩ := it_b hE
      refine m_call (n := 1) (As := [.int u3]) (rest := []) C hP hS hml (metM_noTen l G h0 ad _ _ _ u3 r8 hr8) q1647 q1649 qs58 q1650 rfl rfl (by decide +kernel) ⟨Nat.le_of_ble_eq_true rfl, Nat.le_of_ble_eq_true rfl⟩ ⟨Nat.le_refl _, Nat.le_refl _⟩ rfl hl.1 rfl (Nat.le_of_ble_eq_true rfl) dX5_leastFeed_33 (fun H locs hP hS => ?_)
      obtain rfl := Option.some.inj hE
      exact hret _ _ _ _ dX5_leastFeed_36 hP hS
  have hE := hR
  refine lv_if_ne (tgt := 25) C.1 C.2.1 dX5_leastFeed_10 (by decide) (fun c2 => ?_) (fun c2 => ?_)
  · have hE := it_f c2 hE
    obtain rfl := Option.some.inj hE
    exact hJ25u3 H locs ls hP hS (lv_sub hl [1, 2, 3, 4, 0] rfl)
  · have hE := it_t c2 hE
    refine lv_aload_n C.1 C.2.1 dX5_leastFeed_13 rfl (lv_at hl 1 rfl) ?_
    refine lv_iload_n C.1 C.2.1 dX5_leastFeed_14 rfl (lv_at hl 4 rfl) ?_
    obtain ⟨r4, hr4, hE⟩ := it_b hE
    refine m_call (n := 1) (As := [.int p3]) (rest := []) C hP hS hml (metM_isWeight l G h0 ad _ _ _ p3 r4 hr4) q1707 q1709 qs68 q1710 rfl rfl (by decide +kernel) ⟨Nat.le_of_ble_eq_true rfl, Nat.le_of_ble_eq_true rfl⟩ ⟨Nat.le_refl _, Nat.le_refl _⟩ rfl hl.1 rfl (Nat.le_of_ble_eq_true rfl) dX5_leastFeed_15 (fun H locs hP hS => ?_)
    refine lv_if_ne (tgt := 25) C.1 C.2.1 dX5_leastFeed_18 (by decide) (fun c5 => ?_) (fun c5 => ?_)
    · have hE := it_f c5 hE
      obtain rfl := Option.some.inj hE
      exact hJ25u3 H locs ls hP hS (lv_sub hl [1, 2, 3, 4, 0] rfl)
    · have hE := it_t c5 hE
      refine lv_bipush (v := (-6)) C.1 C.2.1 dX5_leastFeed_21 (by decide) ?_
      refine lv_istore (lv' := [(4, .int (-6)), (0, .ref h0), (1, .int p1), (2, .int p2), (3, .int p3)]) C.1 C.2.1 dX5_leastFeed_23 hl (by decide) rfl (fun ls hl => ?_)
      obtain rfl := Option.some.inj hE
      exact hJ25u3 H locs ls hP hS (lv_sub hl [1, 2, 3, 4, 0] rfl)
def sM_lasts_h6 (f_feed : Int32) (f_life : Int32) (f_low : Int32) (a_kind : Nat → Int32) (a_part : Nat → Int32) : Nat → Int32 → Int32 → Int32 → Int32 → Int32 → Int32 → Int32 → Option (Int32 × Int32 × Int32 × Int32 × Int32 × Int32 × Int32)
  | 0, _, _, _, _, _, _, _ => none
  | fuel + 1, x1, f_heft, f_alarm, f_old, f_died, f_ofWhat, f_heavy =>
    if 1000 < x1 then
      some ((-1), f_heft, f_alarm, f_old, f_died, f_ofWhat, f_heavy)
    else
      (sM_goes f_feed f_life f_low f_heft f_alarm f_old f_died f_ofWhat f_heavy a_kind a_part (-1)).bind fun r702 =>
      if r702.1 = 0 then
        sM_lasts_h6 f_feed f_life f_low a_kind a_part fuel (x1 + 1) r702.2.1 r702.2.2.1 r702.2.2.2.1 r702.2.2.2.2.1 r702.2.2.2.2.2.1 r702.2.2.2.2.2.2
      else
        some (x1, r702.2.1, r702.2.2.1, r702.2.2.2.1, r702.2.2.2.2.1, r702.2.2.2.2.2.1, r702.2.2.2.2.2.2)
def sM_lasts (f_weight : Int32) (f_fright : Int32) (f_age : Int32) (f_feed : Int32) (f_life : Int32) (f_low : Int32) (f_heft : Int32) (f_alarm : Int32) (f_old : Int32) (f_died : Int32) (f_ofWhat : Int32) (f_heavy : Int32) (a_kind : Nat → Int32) (a_part : Nat → Int32) : Option (Int32 × Int32 × Int32 × Int32 × Int32 × Int32 × Int32) :=
  (sM_begins f_weight f_fright f_age f_heft f_alarm f_old f_died f_ofWhat f_heavy).bind fun r1 =>
  sM_lasts_h6 f_feed f_life f_low a_kind a_part 2000 1 r1.1 r1.2.1 r1.2.2.1 r1.2.2.2.1 r1.2.2.2.2.1 r1.2.2.2.2.2
set_option maxHeartbeats 4000000 in
theorem wM_lasts_h6 {p : Program} {l : Launch} {e : Env} {s : State} {m : MethodId} {args : Array Value} {below : List Frame} {meth : Method} {c : Code} {G : kG} {h0 : Nat} {ad : Nat → Nat} {Q : State → Prop} (C : mC p s m args c cX5_lasts G h0 ad) (hml : c.maxLocals = 2) (F : Nat → Int32) (A : Nat → Nat → Int32) (L : Nat → Nat → Int64)  (res : Int32 × Int32 × Int32 × Int32 × Int32 × Int32 × Int32) :
    ∀ (fuel : Nat) (x1 : Int32) (f_heft : Int32) (f_alarm : Int32) (f_old : Int32) (f_died : Int32) (f_ofWhat : Int32) (f_heavy : Int32) (H : Heap) (locs : List Loc) (ls : Array Slot), sM_lasts_h6 (F 5) (F 6) (F 7) (A 12) (A 13) fuel x1 f_heft f_alarm f_old f_died f_ofWhat f_heavy = some res → mPw G h0 ad (upd (upd (upd (upd (upd (upd F 35 f_heft) 36 f_alarm) 37 f_old) 38 f_died) 39 f_ofWhat) 40 f_heavy) A L H → va_S (mA h0 ad) s.heap H locs → lv_has ls 2 [(0, .ref h0), (1, .int x1)] → (∀ (pc : Nat) (ls : Array Slot) (H : Heap) (locs : List Loc), decode cX5_lasts pc = .ok (.ireturn, 1) → mPw G h0 ad (upd (upd (upd (upd (upd (upd F 35 res.2.1) 36 res.2.2.1) 37 res.2.2.2.1) 38 res.2.2.2.2.1) 39 res.2.2.2.2.2.1) 40 res.2.2.2.2.2.2) A L H → va_S (mA h0 ad) s.heap H locs → W p l e ({ frames := 3, cells := 0, slots := 0, locals := 65 } : Room) s m args below meth c H locs 0 0 Q (F0 m pc ls [.int res.1])) → W p l e ({ frames := 3, cells := 0, slots := 0, locals := 65 } : Room) s m args below meth c H locs 0 0 Q (F0 m 6 ls []) := by
  intro fuel
  induction fuel with
  | zero =>
    intro x1 f_heft f_alarm f_old f_died f_ofWhat f_heavy H locs ls hE
    exact it_n hE
  | succ fuel ih =>
    intro x1 f_heft f_alarm f_old f_died f_ofWhat f_heavy H locs ls hE hP hS hl hret
    rw [sM_lasts_h6] at hE
    refine lv_iload_n C.1 C.2.1 dX5_lasts_6 rfl (lv_at hl 1 rfl) ?_
    refine lv_sipush (v := 1000) C.1 C.2.1 dX5_lasts_7 (by decide) ?_
    refine lv_icmp_gt (tgt := 29) C.1 C.2.1 dX5_lasts_10 (by decide) (fun c701 => ?_) (fun c701 => ?_)
    · have hE := it_t c701 hE
      refine lv_iconst (v := (-1)) C.1 C.2.1 dX5_lasts_29 (by decide) ?_
      obtain rfl := Option.some.inj hE
      exact hret _ _ _ _ dX5_lasts_30 hP hS
    · have hE := it_f c701 hE
      refine lv_aload_n C.1 C.2.1 dX5_lasts_13 rfl (lv_at hl 0 rfl) ?_
      refine lv_iconst (v := (-1)) C.1 C.2.1 dX5_lasts_14 (by decide) ?_
      obtain ⟨r702, hr702, hE⟩ := it_b hE
      refine m_call (n := 1) (As := [.int (-1)]) (rest := []) C hP hS hml (metM_goes l G h0 ad _ _ _ (-1) r702 hr702) q1607 q1609 qs51 q1610 rfl rfl (by decide +kernel) ⟨Nat.le_of_ble_eq_true rfl, Nat.le_of_ble_eq_true rfl⟩ ⟨Nat.le_refl _, Nat.le_refl _⟩ rfl hl.1 rfl (Nat.le_of_ble_eq_true rfl) dX5_lasts_15 (fun H locs hP hS => ?_)
      refine lv_if_eq (tgt := 23) C.1 C.2.1 dX5_lasts_18 (by decide) (fun c703 => ?_) (fun c703 => ?_)
      · have hE := it_t c703 hE
        refine lv_iinc (v := (x1 + 1)) (lv' := [(1, .int (x1 + 1)), (0, .ref h0)]) C.1 C.2.1 dX5_lasts_23 hl (k := 1) rfl rfl (by decide) rfl (fun ls hl => ?_)
        refine lv_goto (tgt := 6) C.1 C.2.1 dX5_lasts_26 (by decide) ?_
        exact ih (x1 + 1) r702.2.1 r702.2.2.1 r702.2.2.2.1 r702.2.2.2.2.1 r702.2.2.2.2.2.1 r702.2.2.2.2.2.2 _ _ _ hE hP hS (lv_sub hl [1, 0] rfl) hret
      · have hE := it_f c703 hE
        refine lv_iload_n C.1 C.2.1 dX5_lasts_21 rfl (lv_at hl 1 rfl) ?_
        obtain rfl := Option.some.inj hE
        exact hret _ _ _ _ dX5_lasts_22 hP hS
set_option maxHeartbeats 4000000 in
theorem metM_lasts (l : Launch) (G : kG) (h0 : Nat) (ad : Nat → Nat) (F : Nat → Int32) (A : Nat → Nat → Int32) (L : Nat → Nat → Int64)  (res : Int32 × Int32 × Int32 × Int32 × Int32 × Int32 × Int32) (hE : sM_lasts (F 1) (F 2) (F 3) (F 5) (F 6) (F 7) (F 35) (F 36) (F 37) (F 38) (F 39) (F 40) (A 12) (A 13) = some res) : Met l yX5_lasts (ws_ yX5_lasts cX5_lasts 2 (some .int)) ({ frames := 3, cells := 0, slots := 0, locals := 65 } : Room) (mPc G h0 ad F A L []) (mQc G h0 ad (upd (upd (upd (upd (upd (upd F 35 res.2.1) 36 res.2.2.1) 37 res.2.2.2.1) 38 res.2.2.2.2.1) 39 res.2.2.2.2.2.1) 40 res.2.2.2.2.2.2) A L (some (.int res.1))) 0 0 (mA h0 ad) := by
  refine m_ofW (by decide) rfl (Nat.le_of_ble_eq_true rfl) ?_
  intro p e s m args below meth c ls C hml hP hS hl hr hlocks
  have hl : lv_has ls 2 [(0, .ref h0)] := hl
  obtain ⟨Q, hQ⟩ : ∃ Q, Q = MQ below (mQc G h0 ad (upd (upd (upd (upd (upd (upd F 35 res.2.1) 36 res.2.2.1) 37 res.2.2.2.1) 38 res.2.2.2.2.1) 39 res.2.2.2.2.2.1) 40 res.2.2.2.2.2.2) A L (some (.int res.1))) args s 0 0 (mA h0 ad) := ⟨_, rfl⟩
  rw [← hQ]
  have hret : ∀ (pc : Nat) (ls : Array Slot) (H : Heap) (locs : List Loc), decode cX5_lasts pc = .ok (.ireturn, 1) → mPw G h0 ad (upd (upd (upd (upd (upd (upd F 35 res.2.1) 36 res.2.2.1) 37 res.2.2.2.1) 38 res.2.2.2.2.1) 39 res.2.2.2.2.2.1) 40 res.2.2.2.2.2.2) A L H → va_S (mA h0 ad) s.heap H locs → W p l e ({ frames := 3, cells := 0, slots := 0, locals := 65 } : Room) s m args below meth c H locs 0 0 Q (F0 m pc ls [.int res.1]) := by
    intro pc ls H locs hd hP hS
    rw [hQ]
    exact m_iret C hr hlocks hd hP hS
  clear hQ
  obtain ⟨H, hH⟩ : ∃ H, H = s.heap := ⟨_, rfl⟩
  obtain ⟨locs, hlo⟩ : ∃ locs : List Loc, locs = [] := ⟨_, rfl⟩
  have hP : mPw G h0 ad F A L H := by rw [hH]; exact hP
  have hS : va_S (mA h0 ad) s.heap H locs := by rw [hH, hlo]; exact hS
  suffices hZ : W p l e ({ frames := 3, cells := 0, slots := 0, locals := 65 } : Room) s m args below meth c H locs 0 0 Q (F0 m 0 ls []) by rw [hH, hlo] at hZ; exact hZ
  clear hH hlo
  unfold sM_lasts at hE
  refine lv_aload_n C.1 C.2.1 dX5_lasts_0 rfl (lv_at hl 0 rfl) ?_
  obtain ⟨r1, hr1, hE⟩ := it_b hE
  refine m_call (n := 0) (As := []) (rest := []) C hP hS hml (metM_begins l G h0 ad _ _ _ r1 hr1) q1603 q1605 qs50 q1606 rfl rfl (by decide +kernel) ⟨Nat.le_of_ble_eq_true rfl, Nat.le_of_ble_eq_true rfl⟩ ⟨Nat.le_refl _, Nat.le_refl _⟩ rfl hl.1 rfl (Nat.le_of_ble_eq_true rfl) dX5_lasts_1 (fun H locs hP hS => ?_)
  refine lv_iconst (v := 1) C.1 C.2.1 dX5_lasts_4 (by decide) ?_
  refine lv_istore_n (lv' := [(1, .int 1), (0, .ref h0)]) C.1 C.2.1 dX5_lasts_5 rfl hl (by decide) rfl (fun ls hl => ?_)
  exact wM_lasts_h6 C hml F A L  res 2000 1 r1.1 r1.2.1 r1.2.2.1 r1.2.2.2.1 r1.2.2.2.2.1 r1.2.2.2.2.2 H locs ls hE hP hS (lv_sub hl [1, 0] rfl) hret
def sM_noticed_h47 (x1 : Int32) (x2 : Int32) (x3 : Int32) (f_feed : Int32) (f_life : Int32) (f_low : Int32) (a_kind : Nat → Int32) (a_part : Nat → Int32) (l_cells : Nat → Int64) : Nat → Int32 → Int32 → Int32 → Int32 → Int32 → Int32 → Int32 → Int32 → Option (Int32 × Int32 × Int32 × Int32 × Int32 × Int32 × Int32)
  | 0, _, _, _, _, _, _, _, _ => none
  | fuel + 1, x5, x6, f_heft, f_alarm, f_old, f_died, f_ofWhat, f_heavy =>
    if x2 ≤ x6 then
      some (x5, f_heft, f_alarm, f_old, f_died, f_ofWhat, f_heavy)
    else
      (sM_intAt l_cells x1 x6).bind fun r4802 =>
      (sM_goes f_feed f_life f_low f_heft f_alarm f_old f_died f_ofWhat f_heavy a_kind a_part r4802).bind fun r4803 =>
      @Option.bind (Int32) _ (
        if r4803.1 = 0 then
          some x5
        else
          @Option.bind (Int32) _ (
            if r4803.2.2.2.2.2.2 ≤ 80 then
              some (80 - r4803.2.2.2.2.2.2)
            else
              some (r4803.2.2.2.2.2.2 - 80)) fun u4807 =>
          if u4807 < x3 then
            some x5
          else
            some (x5 + 1)) fun u4805 =>
      sM_noticed_h47 x1 x2 x3 f_feed f_life f_low a_kind a_part l_cells fuel u4805 (x6 + 1) r4803.2.1 r4803.2.2.1 r4803.2.2.2.1 r4803.2.2.2.2.1 r4803.2.2.2.2.2.1 r4803.2.2.2.2.2.2
def sM_noticed (f_many : Int32) (f_weight : Int32) (f_fright : Int32) (f_age : Int32) (f_feed : Int32) (f_life : Int32) (f_low : Int32) (f_heft : Int32) (f_alarm : Int32) (f_old : Int32) (f_died : Int32) (f_ofWhat : Int32) (f_heavy : Int32) (a_refused : Nat → Int32) (a_kind : Nat → Int32) (a_part : Nat → Int32) (a_ill : Nat → Int32) (a_held : Nat → Int32) (a_size : Nat → Int32) (l_cells : Nat → Int64) (p1 : Int32) (p2 : Int32) (p3 : Int32) : Option (Int32 × Int32 × Int32 × Int32 × Int32 × Int32 × Int32 × (Nat → Int32)) :=
  (sM_barsRight f_many a_ill a_held a_size l_cells p1 p2).bind fun r1 =>
  @Option.bind (Int32) _ (
    if r1 = 0 then
      (sM_isWeight p3).bind fun r4 =>
      if r4 = 0 then
        some (-6)
      else
        some r1
    else
      some r1) fun u3 =>
  if u3 = 0 then
    (sM_begins f_weight f_fright f_age f_heft f_alarm f_old f_died f_ofWhat f_heavy).bind fun r7 =>
    (sM_noticed_h47 p1 p2 p3 f_feed f_life f_low a_kind a_part l_cells 2000 0 0 r7.1 r7.2.1 r7.2.2.1 r7.2.2.2.1 r7.2.2.2.2.1 r7.2.2.2.2.2).bind fun u8 =>
    some (u8.1, u8.2.1, u8.2.2.1, u8.2.2.2.1, u8.2.2.2.2.1, u8.2.2.2.2.2.1, u8.2.2.2.2.2.2, a_refused)
  else
    (sM_no a_refused u3).bind fun r9 =>
    some (r9.1, f_heft, f_alarm, f_old, f_died, f_ofWhat, f_heavy, r9.2)
set_option maxHeartbeats 4000000 in
theorem wM_noticed_h47 {p : Program} {l : Launch} {e : Env} {s : State} {m : MethodId} {args : Array Value} {below : List Frame} {meth : Method} {c : Code} {G : kG} {h0 : Nat} {ad : Nat → Nat} {Q : State → Prop} (C : mC p s m args c cX5_noticed G h0 ad) (hml : c.maxLocals = 8) (F : Nat → Int32) (A : Nat → Nat → Int32) (L : Nat → Nat → Int64) (x1 : Int32) (x2 : Int32) (x3 : Int32) (a_refused : Nat → Int32) (res : Int32 × Int32 × Int32 × Int32 × Int32 × Int32 × Int32) :
    ∀ (fuel : Nat) (x5 : Int32) (x6 : Int32) (f_heft : Int32) (f_alarm : Int32) (f_old : Int32) (f_died : Int32) (f_ofWhat : Int32) (f_heavy : Int32) (H : Heap) (locs : List Loc) (ls : Array Slot), sM_noticed_h47 x1 x2 x3 (F 5) (F 6) (F 7) (A 12) (A 13) (L 22) fuel x5 x6 f_heft f_alarm f_old f_died f_ofWhat f_heavy = some res → mPw G h0 ad (upd (upd (upd (upd (upd (upd F 35 f_heft) 36 f_alarm) 37 f_old) 38 f_died) 39 f_ofWhat) 40 f_heavy) (va_up A 11 a_refused) L H → va_S (mA h0 ad) s.heap H locs → lv_has ls 8 [(0, .ref h0), (1, .int x1), (2, .int x2), (3, .int x3), (5, .int x5), (6, .int x6)] → (∀ (H : Heap) (locs : List Loc) (ls : Array Slot), mPw G h0 ad (upd (upd (upd (upd (upd (upd F 35 res.2.1) 36 res.2.2.1) 37 res.2.2.2.1) 38 res.2.2.2.2.1) 39 res.2.2.2.2.2.1) 40 res.2.2.2.2.2.2) (va_up A 11 a_refused) L H → va_S (mA h0 ad) s.heap H locs → lv_has ls 8 [(5, .int res.1)] → W p l e ({ frames := 5, cells := 0, slots := 0, locals := 111 } : Room) s m args below meth c H locs 0 0 Q (F0 m 113 ls [])) → W p l e ({ frames := 5, cells := 0, slots := 0, locals := 111 } : Room) s m args below meth c H locs 0 0 Q (F0 m 47 ls []) := by
  intro fuel
  induction fuel with
  | zero =>
    intro x5 x6 f_heft f_alarm f_old f_died f_ofWhat f_heavy H locs ls hE
    exact it_n hE
  | succ fuel ih =>
    intro x5 x6 f_heft f_alarm f_old f_died f_ofWhat f_heavy H locs ls hE hP hS hl hX
    rw [sM_noticed_h47] at hE
    refine lv_iload C.1 C.2.1 dX5_noticed_47 (lv_at hl 5 rfl) ?_
    refine lv_iload_n C.1 C.2.1 dX5_noticed_49 rfl (lv_at hl 2 rfl) ?_
    refine lv_icmp_ge (tgt := 113) C.1 C.2.1 dX5_noticed_50 (by decide) (fun c4801 => ?_) (fun c4801 => ?_)
    · have hE := it_t c4801 hE
      obtain rfl := Option.some.inj hE
      exact hX H locs ls hP hS (lv_sub hl [4] rfl)
    · have hE := it_f c4801 hE
      refine lv_aload_n C.1 C.2.1 dX5_noticed_53 rfl (lv_at hl 0 rfl) ?_
      refine lv_aload_n C.1 C.2.1 dX5_noticed_54 rfl (lv_at hl 0 rfl) ?_
      refine lv_iload_n C.1 C.2.1 dX5_noticed_55 rfl (lv_at hl 1 rfl) ?_
      refine lv_iload C.1 C.2.1 dX5_noticed_56 (lv_at hl 5 rfl) ?_
      obtain ⟨r4802, hr4802, hE⟩ := it_b hE
      refine m_call (n := 2) (As := [.int x1, .int x6]) (rest := [.ref h0]) C hP hS hml (metM_intAt l G h0 ad _ _ _ x1 x6 r4802 hr4802) q1655 q1657 qs60 q1658 rfl rfl (by decide +kernel) ⟨Nat.le_of_ble_eq_true rfl, Nat.le_of_ble_eq_true rfl⟩ ⟨Nat.le_refl _, Nat.le_refl _⟩ rfl hl.1 rfl (Nat.le_of_ble_eq_true rfl) dX5_noticed_58 (fun H locs hP hS => ?_)
      obtain ⟨r4803, hr4803, hE⟩ := it_b hE
      refine m_call (n := 1) (As := [.int r4802]) (rest := []) C hP hS hml (metM_goes l G h0 ad _ _ _ r4802 r4803 hr4803) q1607 q1609 qs51 q1610 rfl rfl (by decide +kernel) ⟨Nat.le_of_ble_eq_true rfl, Nat.le_of_ble_eq_true rfl⟩ ⟨Nat.le_refl _, Nat.le_refl _⟩ rfl hl.1 rfl (Nat.le_of_ble_eq_true rfl) dX5_noticed_61 (fun H locs hP hS => ?_)
      obtain ⟨u4805, hR, hE⟩ := it_b hE
      have hJ107u4805 : ∀ (H : Heap) (locs : List Loc) (ls : Array Slot), mPw G h0 ad (upd (upd (upd (upd (upd (upd F 35 r4803.2.1) 36 r4803.2.2.1) 37 r4803.2.2.2.1) 38 r4803.2.2.2.2.1) 39 r4803.2.2.2.2.2.1) 40 r4803.2.2.2.2.2.2) (va_up A 11 a_refused) L H → va_S (mA h0 ad) s.heap H locs → lv_has ls 8 [(0, .ref h0), (1, .int x1), (2, .int x2), (3, .int x3), (5, .int u4805), (6, .int x6)] → W p l e ({ frames := 5, cells := 0, slots := 0, locals := 111 } : Room) s m args below meth c H locs 0 0 Q (F0 m 107 ls []) := by
        intro H locs ls hP hS hl
        refine lv_iinc (v := (x6 + 1)) (lv' := [(6, .int (x6 + 1)), (0, .ref h0), (1, .int x1), (2, .int x2), (3, .int x3), (5, .int u4805)]) C.1 C.2.1 dX5_noticed_107 hl (k := 5) rfl rfl (by decide) rfl (fun ls hl => ?_)
        refine lv_goto (tgt := 47) C.1 C.2.1 dX5_noticed_110 (by decide) ?_
        exact ih u4805 (x6 + 1) r4803.2.1 r4803.2.2.1 r4803.2.2.2.1 r4803.2.2.2.2.1 r4803.2.2.2.2.2.1 r4803.2.2.2.2.2.2 _ _ _ hE hP hS (lv_sub hl [1, 2, 3, 4, 5, 0] rfl) hX
      have hE := hR
      refine lv_if_ne (tgt := 70) C.1 C.2.1 dX5_noticed_64 (by decide) (fun c4804 => ?_) (fun c4804 => ?_)
      · have hE := it_f c4804 hE
        refine lv_aload_n C.1 C.2.1 dX5_noticed_70 rfl (lv_at hl 0 rfl) ?_
        refine mg_40 (v := r4803.2.2.2.2.2.2) C hP rfl dX5_noticed_71 ?_
        refine lv_bipush (v := 80) C.1 C.2.1 dX5_noticed_74 (by decide) ?_
        obtain ⟨u4807, hR, hE⟩ := it_b hE
        have hJ96u4807 : ∀ (H : Heap) (locs : List Loc) (ls : Array Slot), mPw G h0 ad (upd (upd (upd (upd (upd (upd F 35 r4803.2.1) 36 r4803.2.2.1) 37 r4803.2.2.2.1) 38 r4803.2.2.2.2.1) 39 r4803.2.2.2.2.2.1) 40 r4803.2.2.2.2.2.2) (va_up A 11 a_refused) L H → va_S (mA h0 ad) s.heap H locs → lv_has ls 8 [(0, .ref h0), (1, .int x1), (2, .int x2), (3, .int x3), (5, .int x5), (6, .int x6)] → W p l e ({ frames := 5, cells := 0, slots := 0, locals := 111 } : Room) s m args below meth c H locs 0 0 Q (F0 m 96 ls [.int u4807]) := by
          intro H locs ls hP hS hl
          refine lv_istore (lv' := [(7, .int u4807), (0, .ref h0), (1, .int x1), (2, .int x2), (3, .int x3), (5, .int x5), (6, .int x6)]) C.1 C.2.1 dX5_noticed_96 hl (by decide) rfl (fun ls hl => ?_)
          refine lv_iload C.1 C.2.1 dX5_noticed_98 (lv_at hl 0 rfl) ?_
          refine lv_iload_n C.1 C.2.1 dX5_noticed_100 rfl (lv_at hl 4 rfl) ?_
          refine lv_icmp_lt (tgt := 107) C.1 C.2.1 dX5_noticed_101 (by decide) (fun c4808 => ?_) (fun c4808 => ?_)
          · have hE := it_t c4808 hE
            obtain rfl := Option.some.inj hE
            exact hJ107u4805 H locs ls hP hS (lv_sub hl [1, 2, 3, 4, 5, 6] rfl)
          · have hE := it_f c4808 hE
            refine lv_iinc (v := (x5 + 1)) (lv' := [(5, .int (x5 + 1)), (7, .int u4807), (0, .ref h0), (1, .int x1), (2, .int x2), (3, .int x3), (6, .int x6)]) C.1 C.2.1 dX5_noticed_104 hl (k := 5) rfl rfl (by decide) rfl (fun ls hl => ?_)
            obtain rfl := Option.some.inj hE
            exact hJ107u4805 H locs ls hP hS (lv_sub hl [2, 3, 4, 5, 0, 6] rfl)
        have hE := hR
        refine lv_icmp_le (tgt := 89) C.1 C.2.1 dX5_noticed_76 (by decide) (fun c4806 => ?_) (fun c4806 => ?_)
        · have hE := it_t c4806 hE
          refine lv_bipush (v := 80) C.1 C.2.1 dX5_noticed_89 (by decide) ?_
          refine lv_aload_n C.1 C.2.1 dX5_noticed_91 rfl (lv_at hl 0 rfl) ?_
          refine mg_40 (v := r4803.2.2.2.2.2.2) C hP rfl dX5_noticed_92 ?_
          refine lv_isub C.1 C.2.1 dX5_noticed_95 ?_
          obtain rfl := Option.some.inj hE
          exact hJ96u4807 H locs ls hP hS (lv_sub hl [0, 1, 2, 3, 4, 5] rfl)
        · have hE := it_f c4806 hE
          refine lv_aload_n C.1 C.2.1 dX5_noticed_79 rfl (lv_at hl 0 rfl) ?_
          refine mg_40 (v := r4803.2.2.2.2.2.2) C hP rfl dX5_noticed_80 ?_
          refine lv_bipush (v := 80) C.1 C.2.1 dX5_noticed_83 (by decide) ?_
          refine lv_isub C.1 C.2.1 dX5_noticed_85 ?_
          refine lv_goto (tgt := 96) C.1 C.2.1 dX5_noticed_86 (by decide) ?_
          obtain rfl := Option.some.inj hE
          exact hJ96u4807 H locs ls hP hS (lv_sub hl [0, 1, 2, 3, 4, 5] rfl)
      · have hE := it_t c4804 hE
        refine lv_goto (tgt := 107) C.1 C.2.1 dX5_noticed_67 (by decide) ?_
        obtain rfl := Option.some.inj hE
        exact hJ107u4805 H locs ls hP hS (lv_sub hl [0, 1, 2, 3, 4, 5] rfl)
set_option maxHeartbeats 4000000 in
theorem metM_noticed (l : Launch) (G : kG) (h0 : Nat) (ad : Nat → Nat) (F : Nat → Int32) (A : Nat → Nat → Int32) (L : Nat → Nat → Int64) (p1 : Int32) (p2 : Int32) (p3 : Int32) (res : Int32 × Int32 × Int32 × Int32 × Int32 × Int32 × Int32 × (Nat → Int32)) (hE : sM_noticed (F 0) (F 1) (F 2) (F 3) (F 5) (F 6) (F 7) (F 35) (F 36) (F 37) (F 38) (F 39) (F 40) (A 11) (A 12) (A 13) (A 15) (A 18) (A 20) (L 22) p1 p2 p3 = some res) : Met l yX5_noticed (ws_ yX5_noticed cX5_noticed 8 (some .int)) ({ frames := 5, cells := 0, slots := 0, locals := 111 } : Room) (mPc G h0 ad F A L [.int p1, .int p2, .int p3]) (mQc G h0 ad (upd (upd (upd (upd (upd (upd F 35 res.2.1) 36 res.2.2.1) 37 res.2.2.2.1) 38 res.2.2.2.2.1) 39 res.2.2.2.2.2.1) 40 res.2.2.2.2.2.2.1) (va_up A 11 res.2.2.2.2.2.2.2) L (some (.int res.1))) 0 0 (mA h0 ad) := by
  refine m_ofW (by decide) rfl (Nat.le_of_ble_eq_true rfl) ?_
  intro p e s m args below meth c ls C hml hP hS hl hr hlocks
  have hl : lv_has ls 8 [(0, .ref h0), (1, .int p1), (2, .int p2), (3, .int p3)] := hl
  obtain ⟨Q, hQ⟩ : ∃ Q, Q = MQ below (mQc G h0 ad (upd (upd (upd (upd (upd (upd F 35 res.2.1) 36 res.2.2.1) 37 res.2.2.2.1) 38 res.2.2.2.2.1) 39 res.2.2.2.2.2.1) 40 res.2.2.2.2.2.2.1) (va_up A 11 res.2.2.2.2.2.2.2) L (some (.int res.1))) args s 0 0 (mA h0 ad) := ⟨_, rfl⟩
  rw [← hQ]
  have hret : ∀ (pc : Nat) (ls : Array Slot) (H : Heap) (locs : List Loc), decode cX5_noticed pc = .ok (.ireturn, 1) → mPw G h0 ad (upd (upd (upd (upd (upd (upd F 35 res.2.1) 36 res.2.2.1) 37 res.2.2.2.1) 38 res.2.2.2.2.1) 39 res.2.2.2.2.2.1) 40 res.2.2.2.2.2.2.1) (va_up A 11 res.2.2.2.2.2.2.2) L H → va_S (mA h0 ad) s.heap H locs → W p l e ({ frames := 5, cells := 0, slots := 0, locals := 111 } : Room) s m args below meth c H locs 0 0 Q (F0 m pc ls [.int res.1]) := by
    intro pc ls H locs hd hP hS
    rw [hQ]
    exact m_iret C hr hlocks hd hP hS
  clear hQ
  obtain ⟨H, hH⟩ : ∃ H, H = s.heap := ⟨_, rfl⟩
  obtain ⟨locs, hlo⟩ : ∃ locs : List Loc, locs = [] := ⟨_, rfl⟩
  have hP : mPw G h0 ad F A L H := by rw [hH]; exact hP
  have hS : va_S (mA h0 ad) s.heap H locs := by rw [hH, hlo]; exact hS
  suffices hZ : W p l e ({ frames := 5, cells := 0, slots := 0, locals := 111 } : Room) s m args below meth c H locs 0 0 Q (F0 m 0 ls []) by rw [hH, hlo] at hZ; exact hZ
  clear hH hlo
  unfold sM_noticed at hE
  refine lv_aload_n C.1 C.2.1 dX5_noticed_0 rfl (lv_at hl 0 rfl) ?_
  refine lv_iload_n C.1 C.2.1 dX5_noticed_1 rfl (lv_at hl 1 rfl) ?_
  refine lv_iload_n C.1 C.2.1 dX5_noticed_2 rfl (lv_at hl 2 rfl) ?_
  obtain ⟨r1, hr1, hE⟩ := it_b hE
  refine m_call (n := 2) (As := [.int p1, .int p2]) (rest := []) C hP hS hml (metM_barsRight l G h0 ad _ _ _ p1 p2 r1 hr1) q1663 q1665 qs61 q1666 rfl rfl (by decide +kernel) ⟨Nat.le_of_ble_eq_true rfl, Nat.le_of_ble_eq_true rfl⟩ ⟨Nat.le_refl _, Nat.le_refl _⟩ rfl hl.1 rfl (Nat.le_of_ble_eq_true rfl) dX5_noticed_3 (fun H locs hP hS => ?_)
  refine lv_istore (lv' := [(4, .int r1), (0, .ref h0), (1, .int p1), (2, .int p2), (3, .int p3)]) C.1 C.2.1 dX5_noticed_6 hl (by decide) rfl (fun ls hl => ?_)
  refine lv_iconst (v := 0) C.1 C.2.1 dX5_noticed_8 (by decide) ?_
  refine lv_istore (lv' := [(5, .int 0), (4, .int r1), (0, .ref h0), (1, .int p1), (2, .int p2), (3, .int p3)]) C.1 C.2.1 dX5_noticed_9 hl (by decide) rfl (fun ls hl => ?_)
  refine lv_iload C.1 C.2.1 dX5_noticed_11 (lv_at hl 1 rfl) ?_
  obtain ⟨u3, hR, hE⟩ := it_b hE
  have hJ28u3 : ∀ (H : Heap) (locs : List Loc) (ls : Array Slot), mPw G h0 ad F A L H → va_S (mA h0 ad) s.heap H locs → lv_has ls 8 [(0, .ref h0), (1, .int p1), (2, .int p2), (3, .int p3), (4, .int u3), (5, .int 0)] → W p l e ({ frames := 5, cells := 0, slots := 0, locals := 111 } : Room) s m args below meth c H locs 0 0 Q (F0 m 28 ls []) := by
    intro H locs ls hP hS hl
    refine lv_iload C.1 C.2.1 dX5_noticed_28 (lv_at hl 4 rfl) ?_
    refine lv_if_eq (tgt := 40) C.1 C.2.1 dX5_noticed_30 (by decide) (fun c6 => ?_) (fun c6 => ?_)
    · have hE := it_t c6 hE
      refine lv_aload_n C.1 C.2.1 dX5_noticed_40 rfl (lv_at hl 0 rfl) ?_
      obtain ⟨r7, hr7, hE⟩ := it_b hE
      refine m_call (n := 0) (As := []) (rest := []) C hP hS hml (metM_begins l G h0 ad _ _ _ r7 hr7) q1603 q1605 qs50 q1606 rfl rfl (by decide +kernel) ⟨Nat.le_of_ble_eq_true rfl, Nat.le_of_ble_eq_true rfl⟩ ⟨Nat.le_refl _, Nat.le_refl _⟩ rfl hl.1 rfl (Nat.le_of_ble_eq_true rfl) dX5_noticed_41 (fun H locs hP hS => ?_)
      refine lv_iconst (v := 0) C.1 C.2.1 dX5_noticed_44 (by decide) ?_
      refine lv_istore (lv' := [(6, .int 0), (0, .ref h0), (1, .int p1), (2, .int p2), (3, .int p3), (4, .int u3), (5, .int 0)]) C.1 C.2.1 dX5_noticed_45 hl (by decide) rfl (fun ls hl => ?_)
      obtain ⟨u8, hu8, hE⟩ := it_b hE
      refine wM_noticed_h47 C hml F A L p1 p2 p3 (A 11) u8 2000 0 0 r7.1 r7.2.1 r7.2.2.1 r7.2.2.2.1 r7.2.2.2.2.1 r7.2.2.2.2.2 H locs ls hu8 hP hS (lv_sub hl [1, 2, 3, 4, 6, 0] rfl) (fun H locs ls hP hS hl => ?_)
      refine lv_iload C.1 C.2.1 dX5_noticed_113 (lv_at hl 0 rfl) ?_
      obtain rfl := Option.some.inj hE
      exact hret _ _ _ _ dX5_noticed_115 hP hS
    · have hE := it_f c6 hE
      refine lv_aload_n C.1 C.2.1 dX5_noticed_33 rfl (lv_at hl 0 rfl) ?_
      refine lv_iload C.1 C.2.1 dX5_noticed_34 (lv_at hl 4 rfl) ?_
      obtain ⟨r9, hr9, hE⟩ := it_b hE
      refine m_call (n := 1) (As := [.int u3]) (rest := []) C hP hS hml (metM_no l G h0 ad _ _ _ u3 r9 hr9) q1483 q1485 qs32 q1486 rfl rfl (by decide +kernel) ⟨Nat.le_of_ble_eq_true rfl, Nat.le_of_ble_eq_true rfl⟩ ⟨Nat.le_refl _, Nat.le_refl _⟩ rfl hl.1 rfl (Nat.le_of_ble_eq_true rfl) dX5_noticed_36 (fun H locs hP hS => ?_)
      obtain rfl := Option.some.inj hE
      exact hret _ _ _ _ dX5_noticed_39 hP hS
  have hE := hR
  refine lv_if_ne (tgt := 28) C.1 C.2.1 dX5_noticed_13 (by decide) (fun c2 => ?_) (fun c2 => ?_)
  · have hE := it_f c2 hE
    obtain rfl := Option.some.inj hE
    exact hJ28u3 H locs ls hP hS (lv_sub hl [2, 3, 4, 5, 1, 0] rfl)
  · have hE := it_t c2 hE
    refine lv_aload_n C.1 C.2.1 dX5_noticed_16 rfl (lv_at hl 2 rfl) ?_
    refine lv_iload_n C.1 C.2.1 dX5_noticed_17 rfl (lv_at hl 5 rfl) ?_
    obtain ⟨r4, hr4, hE⟩ := it_b hE
    refine m_call (n := 1) (As := [.int p3]) (rest := []) C hP hS hml (metM_isWeight l G h0 ad _ _ _ p3 r4 hr4) q1707 q1709 qs68 q1710 rfl rfl (by decide +kernel) ⟨Nat.le_of_ble_eq_true rfl, Nat.le_of_ble_eq_true rfl⟩ ⟨Nat.le_refl _, Nat.le_refl _⟩ rfl hl.1 rfl (Nat.le_of_ble_eq_true rfl) dX5_noticed_18 (fun H locs hP hS => ?_)
    refine lv_if_ne (tgt := 28) C.1 C.2.1 dX5_noticed_21 (by decide) (fun c5 => ?_) (fun c5 => ?_)
    · have hE := it_f c5 hE
      obtain rfl := Option.some.inj hE
      exact hJ28u3 H locs ls hP hS (lv_sub hl [2, 3, 4, 5, 1, 0] rfl)
    · have hE := it_t c5 hE
      refine lv_bipush (v := (-6)) C.1 C.2.1 dX5_noticed_24 (by decide) ?_
      refine lv_istore (lv' := [(4, .int (-6)), (5, .int 0), (0, .ref h0), (1, .int p1), (2, .int p2), (3, .int p3)]) C.1 C.2.1 dX5_noticed_26 hl (by decide) rfl (fun ls hl => ?_)
      obtain rfl := Option.some.inj hE
      exact hJ28u3 H locs ls hP hS (lv_sub hl [2, 3, 4, 5, 0, 1] rfl)
def sM_swapped_h7 (x1 : Int32) (x2 : Int32) (x3 : Int32) (x4 : Int32) (f_feed : Int32) (f_life : Int32) (f_low : Int32) (a_kind : Nat → Int32) (a_part : Nat → Int32) (l_cells : Nat → Int64) : Nat → Int32 → Int32 → Int32 → Int32 → Int32 → Int32 → Int32 → Option (Int32 × Int32 × Int32 × Int32 × Int32 × Int32)
  | 0, _, _, _, _, _, _, _ => none
  | fuel + 1, x5, f_heft, f_alarm, f_old, f_died, f_ofWhat, f_heavy =>
    if x2 ≤ x5 then
      some (f_heft, f_alarm, f_old, f_died, f_ofWhat, f_heavy)
    else
      @Option.bind (Int32) _ (
        if x5 = x3 then
          some x4
        else
          if x5 = x4 then
            some x3
          else
            some x5) fun u803 =>
      (sM_intAt l_cells x1 u803).bind fun r805 =>
      (sM_goes f_feed f_life f_low f_heft f_alarm f_old f_died f_ofWhat f_heavy a_kind a_part r805).bind fun r806 =>
      sM_swapped_h7 x1 x2 x3 x4 f_feed f_life f_low a_kind a_part l_cells fuel (x5 + 1) r806.2.1 r806.2.2.1 r806.2.2.2.1 r806.2.2.2.2.1 r806.2.2.2.2.2.1 r806.2.2.2.2.2.2
def sM_swapped (f_weight : Int32) (f_fright : Int32) (f_age : Int32) (f_feed : Int32) (f_life : Int32) (f_low : Int32) (f_heft : Int32) (f_alarm : Int32) (f_old : Int32) (f_died : Int32) (f_ofWhat : Int32) (f_heavy : Int32) (a_kind : Nat → Int32) (a_part : Nat → Int32) (l_cells : Nat → Int64) (p1 : Int32) (p2 : Int32) (p3 : Int32) (p4 : Int32) : Option (Int32 × Int32 × Int32 × Int32 × Int32 × Int32) :=
  (sM_begins f_weight f_fright f_age f_heft f_alarm f_old f_died f_ofWhat f_heavy).bind fun r1 =>
  (sM_swapped_h7 p1 p2 p3 p4 f_feed f_life f_low a_kind a_part l_cells 2000 0 r1.1 r1.2.1 r1.2.2.1 r1.2.2.2.1 r1.2.2.2.2.1 r1.2.2.2.2.2).bind fun u2 =>
  some (u2.1, u2.2.1, u2.2.2.1, u2.2.2.2.1, u2.2.2.2.2.1, u2.2.2.2.2.2)
set_option maxHeartbeats 4000000 in
theorem wM_swapped_h7 {p : Program} {l : Launch} {e : Env} {s : State} {m : MethodId} {args : Array Value} {below : List Frame} {meth : Method} {c : Code} {G : kG} {h0 : Nat} {ad : Nat → Nat} {Q : State → Prop} (C : mC p s m args c cX5_swapped G h0 ad) (hml : c.maxLocals = 6) (F : Nat → Int32) (A : Nat → Nat → Int32) (L : Nat → Nat → Int64) (x1 : Int32) (x2 : Int32) (x3 : Int32) (x4 : Int32) (res : Int32 × Int32 × Int32 × Int32 × Int32 × Int32) :
    ∀ (fuel : Nat) (x5 : Int32) (f_heft : Int32) (f_alarm : Int32) (f_old : Int32) (f_died : Int32) (f_ofWhat : Int32) (f_heavy : Int32) (H : Heap) (locs : List Loc) (ls : Array Slot), sM_swapped_h7 x1 x2 x3 x4 (F 5) (F 6) (F 7) (A 12) (A 13) (L 22) fuel x5 f_heft f_alarm f_old f_died f_ofWhat f_heavy = some res → mPw G h0 ad (upd (upd (upd (upd (upd (upd F 35 f_heft) 36 f_alarm) 37 f_old) 38 f_died) 39 f_ofWhat) 40 f_heavy) A L H → va_S (mA h0 ad) s.heap H locs → lv_has ls 6 [(0, .ref h0), (1, .int x1), (2, .int x2), (3, .int x3), (4, .int x4), (5, .int x5)] → (∀ (H : Heap) (locs : List Loc) (ls : Array Slot), mPw G h0 ad (upd (upd (upd (upd (upd (upd F 35 res.1) 36 res.2.1) 37 res.2.2.1) 38 res.2.2.2.1) 39 res.2.2.2.2.1) 40 res.2.2.2.2.2) A L H → va_S (mA h0 ad) s.heap H locs → lv_has ls 6 [] → W p l e ({ frames := 3, cells := 0, slots := 0, locals := 65 } : Room) s m args below meth c H locs 0 0 Q (F0 m 53 ls [])) → W p l e ({ frames := 3, cells := 0, slots := 0, locals := 65 } : Room) s m args below meth c H locs 0 0 Q (F0 m 7 ls []) := by
  intro fuel
  induction fuel with
  | zero =>
    intro x5 f_heft f_alarm f_old f_died f_ofWhat f_heavy H locs ls hE
    exact it_n hE
  | succ fuel ih =>
    intro x5 f_heft f_alarm f_old f_died f_ofWhat f_heavy H locs ls hE hP hS hl hX
    rw [sM_swapped_h7] at hE
    refine lv_iload C.1 C.2.1 dX5_swapped_7 (lv_at hl 5 rfl) ?_
    refine lv_iload_n C.1 C.2.1 dX5_swapped_9 rfl (lv_at hl 2 rfl) ?_
    refine lv_icmp_ge (tgt := 53) C.1 C.2.1 dX5_swapped_10 (by decide) (fun c801 => ?_) (fun c801 => ?_)
    · have hE := it_t c801 hE
      obtain rfl := Option.some.inj hE
      exact hX H locs ls hP hS (lv_sub hl [] rfl)
    · have hE := it_f c801 hE
      refine lv_aload_n C.1 C.2.1 dX5_swapped_13 rfl (lv_at hl 0 rfl) ?_
      refine lv_aload_n C.1 C.2.1 dX5_swapped_14 rfl (lv_at hl 0 rfl) ?_
      refine lv_iload_n C.1 C.2.1 dX5_swapped_15 rfl (lv_at hl 1 rfl) ?_
      refine lv_iload C.1 C.2.1 dX5_swapped_16 (lv_at hl 5 rfl) ?_
      refine lv_iload_n C.1 C.2.1 dX5_swapped_18 rfl (lv_at hl 3 rfl) ?_
      obtain ⟨u803, hR, hE⟩ := it_b hE
      have hJ40u803 : ∀ (H : Heap) (locs : List Loc) (ls : Array Slot), mPw G h0 ad (upd (upd (upd (upd (upd (upd F 35 f_heft) 36 f_alarm) 37 f_old) 38 f_died) 39 f_ofWhat) 40 f_heavy) A L H → va_S (mA h0 ad) s.heap H locs → lv_has ls 6 [(0, .ref h0), (1, .int x1), (2, .int x2), (3, .int x3), (4, .int x4), (5, .int x5)] → W p l e ({ frames := 3, cells := 0, slots := 0, locals := 65 } : Room) s m args below meth c H locs 0 0 Q (F0 m 40 ls [.int u803, .int x1, .ref h0, .ref h0]) := by
        intro H locs ls hP hS hl
        obtain ⟨r805, hr805, hE⟩ := it_b hE
        refine m_call (n := 2) (As := [.int x1, .int u803]) (rest := [.ref h0]) C hP hS hml (metM_intAt l G h0 ad _ _ _ x1 u803 r805 hr805) q1655 q1657 qs60 q1658 rfl rfl (by decide +kernel) ⟨Nat.le_of_ble_eq_true rfl, Nat.le_of_ble_eq_true rfl⟩ ⟨Nat.le_refl _, Nat.le_refl _⟩ rfl hl.1 rfl (Nat.le_of_ble_eq_true rfl) dX5_swapped_40 (fun H locs hP hS => ?_)
        obtain ⟨r806, hr806, hE⟩ := it_b hE
        refine m_call (n := 1) (As := [.int r805]) (rest := []) C hP hS hml (metM_goes l G h0 ad _ _ _ r805 r806 hr806) q1607 q1609 qs51 q1610 rfl rfl (by decide +kernel) ⟨Nat.le_of_ble_eq_true rfl, Nat.le_of_ble_eq_true rfl⟩ ⟨Nat.le_refl _, Nat.le_refl _⟩ rfl hl.1 rfl (Nat.le_of_ble_eq_true rfl) dX5_swapped_43 (fun H locs hP hS => ?_)
        refine lv_pop C.1 C.2.1 dX5_swapped_46 rfl ?_
        refine lv_iinc (v := (x5 + 1)) (lv' := [(5, .int (x5 + 1)), (0, .ref h0), (1, .int x1), (2, .int x2), (3, .int x3), (4, .int x4)]) C.1 C.2.1 dX5_swapped_47 hl (k := 5) rfl rfl (by decide) rfl (fun ls hl => ?_)
        refine lv_goto (tgt := 7) C.1 C.2.1 dX5_swapped_50 (by decide) ?_
        exact ih (x5 + 1) r806.2.1 r806.2.2.1 r806.2.2.2.1 r806.2.2.2.2.1 r806.2.2.2.2.2.1 r806.2.2.2.2.2.2 _ _ _ hE hP hS (lv_sub hl [1, 2, 3, 4, 5, 0] rfl) hX
      have hE := hR
      refine lv_icmp_ne (tgt := 27) C.1 C.2.1 dX5_swapped_19 (by decide) (fun c802 => ?_) (fun c802 => ?_)
      · have hE := it_f c802 hE
        refine lv_iload C.1 C.2.1 dX5_swapped_27 (lv_at hl 5 rfl) ?_
        refine lv_iload C.1 C.2.1 dX5_swapped_29 (lv_at hl 4 rfl) ?_
        refine lv_icmp_ne (tgt := 38) C.1 C.2.1 dX5_swapped_31 (by decide) (fun c804 => ?_) (fun c804 => ?_)
        · have hE := it_f c804 hE
          refine lv_iload C.1 C.2.1 dX5_swapped_38 (lv_at hl 5 rfl) ?_
          obtain rfl := Option.some.inj hE
          exact hJ40u803 H locs ls hP hS (lv_sub hl [0, 1, 2, 3, 4, 5] rfl)
        · have hE := it_t c804 hE
          refine lv_iload_n C.1 C.2.1 dX5_swapped_34 rfl (lv_at hl 3 rfl) ?_
          refine lv_goto (tgt := 40) C.1 C.2.1 dX5_swapped_35 (by decide) ?_
          obtain rfl := Option.some.inj hE
          exact hJ40u803 H locs ls hP hS (lv_sub hl [0, 1, 2, 3, 4, 5] rfl)
      · have hE := it_t c802 hE
        refine lv_iload C.1 C.2.1 dX5_swapped_22 (lv_at hl 4 rfl) ?_
        refine lv_goto (tgt := 40) C.1 C.2.1 dX5_swapped_24 (by decide) ?_
        obtain rfl := Option.some.inj hE
        exact hJ40u803 H locs ls hP hS (lv_sub hl [0, 1, 2, 3, 4, 5] rfl)
set_option maxHeartbeats 4000000 in
theorem metM_swapped (l : Launch) (G : kG) (h0 : Nat) (ad : Nat → Nat) (F : Nat → Int32) (A : Nat → Nat → Int32) (L : Nat → Nat → Int64) (p1 : Int32) (p2 : Int32) (p3 : Int32) (p4 : Int32) (res : Int32 × Int32 × Int32 × Int32 × Int32 × Int32) (hE : sM_swapped (F 1) (F 2) (F 3) (F 5) (F 6) (F 7) (F 35) (F 36) (F 37) (F 38) (F 39) (F 40) (A 12) (A 13) (L 22) p1 p2 p3 p4 = some res) : Met l yX5_swapped (ws_ yX5_swapped cX5_swapped 6 none) ({ frames := 3, cells := 0, slots := 0, locals := 65 } : Room) (mPc G h0 ad F A L [.int p1, .int p2, .int p3, .int p4]) (mQc G h0 ad (upd (upd (upd (upd (upd (upd F 35 res.1) 36 res.2.1) 37 res.2.2.1) 38 res.2.2.2.1) 39 res.2.2.2.2.1) 40 res.2.2.2.2.2) A L none) 0 0 (mA h0 ad) := by
  refine m_ofW (by decide) rfl (Nat.le_of_ble_eq_true rfl) ?_
  intro p e s m args below meth c ls C hml hP hS hl hr hlocks
  have hl : lv_has ls 6 [(0, .ref h0), (1, .int p1), (2, .int p2), (3, .int p3), (4, .int p4)] := hl
  obtain ⟨Q, hQ⟩ : ∃ Q, Q = MQ below (mQc G h0 ad (upd (upd (upd (upd (upd (upd F 35 res.1) 36 res.2.1) 37 res.2.2.1) 38 res.2.2.2.1) 39 res.2.2.2.2.1) 40 res.2.2.2.2.2) A L none) args s 0 0 (mA h0 ad) := ⟨_, rfl⟩
  rw [← hQ]
  have hret : ∀ (pc : Nat) (ls : Array Slot) (H : Heap) (locs : List Loc), decode cX5_swapped pc = .ok (.return_, 1) → mPw G h0 ad (upd (upd (upd (upd (upd (upd F 35 res.1) 36 res.2.1) 37 res.2.2.1) 38 res.2.2.2.1) 39 res.2.2.2.2.1) 40 res.2.2.2.2.2) A L H → va_S (mA h0 ad) s.heap H locs → W p l e ({ frames := 3, cells := 0, slots := 0, locals := 65 } : Room) s m args below meth c H locs 0 0 Q (F0 m pc ls []) := by
    intro pc ls H locs hd hP hS
    rw [hQ]
    exact m_vret C hr hlocks hd hP hS
  clear hQ
  obtain ⟨H, hH⟩ : ∃ H, H = s.heap := ⟨_, rfl⟩
  obtain ⟨locs, hlo⟩ : ∃ locs : List Loc, locs = [] := ⟨_, rfl⟩
  have hP : mPw G h0 ad F A L H := by rw [hH]; exact hP
  have hS : va_S (mA h0 ad) s.heap H locs := by rw [hH, hlo]; exact hS
  suffices hZ : W p l e ({ frames := 3, cells := 0, slots := 0, locals := 65 } : Room) s m args below meth c H locs 0 0 Q (F0 m 0 ls []) by rw [hH, hlo] at hZ; exact hZ
  clear hH hlo
  unfold sM_swapped at hE
  refine lv_aload_n C.1 C.2.1 dX5_swapped_0 rfl (lv_at hl 0 rfl) ?_
  obtain ⟨r1, hr1, hE⟩ := it_b hE
  refine m_call (n := 0) (As := []) (rest := []) C hP hS hml (metM_begins l G h0 ad _ _ _ r1 hr1) q1603 q1605 qs50 q1606 rfl rfl (by decide +kernel) ⟨Nat.le_of_ble_eq_true rfl, Nat.le_of_ble_eq_true rfl⟩ ⟨Nat.le_refl _, Nat.le_refl _⟩ rfl hl.1 rfl (Nat.le_of_ble_eq_true rfl) dX5_swapped_1 (fun H locs hP hS => ?_)
  refine lv_iconst (v := 0) C.1 C.2.1 dX5_swapped_4 (by decide) ?_
  refine lv_istore (lv' := [(5, .int 0), (0, .ref h0), (1, .int p1), (2, .int p2), (3, .int p3), (4, .int p4)]) C.1 C.2.1 dX5_swapped_5 hl (by decide) rfl (fun ls hl => ?_)
  obtain ⟨u2, hu2, hE⟩ := it_b hE
  refine wM_swapped_h7 C hml F A L p1 p2 p3 p4 u2 2000 0 r1.1 r1.2.1 r1.2.2.1 r1.2.2.2.1 r1.2.2.2.2.1 r1.2.2.2.2.2 H locs ls hu2 hP hS (lv_sub hl [1, 2, 3, 4, 5, 0] rfl) (fun H locs ls hP hS hl => ?_)
  obtain rfl := Option.some.inj hE
  exact hret _ _ _ _ dX5_swapped_53 hP hS
def sM_swap_h55 (x1 : Int32) (x2 : Int32) (x7 : Int32) (f_weight : Int32) (f_fright : Int32) (f_age : Int32) (f_feed : Int32) (f_life : Int32) (f_low : Int32) (a_kind : Nat → Int32) (a_part : Nat → Int32) (l_cells : Nat → Int64) : Nat → Int32 → Int32 → Int32 → Int32 → Int32 → Int32 → Int32 → Int32 → Int32 → Int32 → Option (Int32 × Int32 × Int32 × Int32 × Int32 × Int32 × Int32 × Int32 × Int32)
  | 0, _, _, _, _, _, _, _, _, _, _ => none
  | fuel + 1, x4, x5, x6, x8, f_heft, f_alarm, f_old, f_died, f_ofWhat, f_heavy =>
    if x2 ≤ x8 then
      some (x4, x5, x6, f_heft, f_alarm, f_old, f_died, f_ofWhat, f_heavy)
    else
      (sM_swapped f_weight f_fright f_age f_feed f_life f_low f_heft f_alarm f_old f_died f_ofWhat f_heavy a_kind a_part l_cells x1 x2 x7 x8).bind fun r5602 =>
      @Option.bind (Int32 × Int32 × Int32) _ (
        if x5 < r5602.2.2.2.1 then
          some (x4, x5, x6)
        else
          @Option.bind (Bool) _ (
            if r5602.2.2.2.1 = x5 then
              if x6 < r5602.1 then
                some false
              else
                some true
            else
              some false) fun u5606 =>
          if u5606 = true then
            some (x4, x5, x6)
          else
            some (((100 * x7) + x8), r5602.2.2.2.1, r5602.1)) fun u5604 =>
      sM_swap_h55 x1 x2 x7 f_weight f_fright f_age f_feed f_life f_low a_kind a_part l_cells fuel u5604.1 u5604.2.1 u5604.2.2 (x8 + 1) r5602.1 r5602.2.1 r5602.2.2.1 r5602.2.2.2.1 r5602.2.2.2.2.1 r5602.2.2.2.2.2
def sM_swap_h43 (x1 : Int32) (x2 : Int32) (f_weight : Int32) (f_fright : Int32) (f_age : Int32) (f_feed : Int32) (f_life : Int32) (f_low : Int32) (a_kind : Nat → Int32) (a_part : Nat → Int32) (l_cells : Nat → Int64) : Nat → Int32 → Int32 → Int32 → Int32 → Int32 → Int32 → Int32 → Int32 → Int32 → Int32 → Option (Int32 × Int32 × Int32 × Int32 × Int32 × Int32 × Int32)
  | 0, _, _, _, _, _, _, _, _, _, _ => none
  | fuel + 1, x4, x5, x6, x7, f_heft, f_alarm, f_old, f_died, f_ofWhat, f_heavy =>
    if x2 ≤ x7 then
      some (x4, f_heft, f_alarm, f_old, f_died, f_ofWhat, f_heavy)
    else
      (sM_swap_h55 x1 x2 x7 f_weight f_fright f_age f_feed f_life f_low a_kind a_part l_cells 2000 x4 x5 x6 (x7 + 1) f_heft f_alarm f_old f_died f_ofWhat f_heavy).bind fun u4402 =>
      sM_swap_h43 x1 x2 f_weight f_fright f_age f_feed f_life f_low a_kind a_part l_cells fuel u4402.1 u4402.2.1 u4402.2.2.1 (x7 + 1) u4402.2.2.2.1 u4402.2.2.2.2.1 u4402.2.2.2.2.2.1 u4402.2.2.2.2.2.2.1 u4402.2.2.2.2.2.2.2.1 u4402.2.2.2.2.2.2.2.2
def sM_swap (f_many : Int32) (f_weight : Int32) (f_fright : Int32) (f_age : Int32) (f_feed : Int32) (f_life : Int32) (f_low : Int32) (f_heft : Int32) (f_alarm : Int32) (f_old : Int32) (f_died : Int32) (f_ofWhat : Int32) (f_heavy : Int32) (a_refused : Nat → Int32) (a_kind : Nat → Int32) (a_part : Nat → Int32) (a_ill : Nat → Int32) (a_held : Nat → Int32) (a_size : Nat → Int32) (l_cells : Nat → Int64) (p1 : Int32) (p2 : Int32) : Option (Int32 × Int32 × Int32 × Int32 × Int32 × Int32 × Int32 × (Nat → Int32)) :=
  (sM_barsRight f_many a_ill a_held a_size l_cells p1 p2).bind fun r1 =>
  if r1 = 0 then
    (sM_swapped f_weight f_fright f_age f_feed f_life f_low f_heft f_alarm f_old f_died f_ofWhat f_heavy a_kind a_part l_cells p1 p2 0 0).bind fun r3 =>
    (sM_swap_h43 p1 p2 f_weight f_fright f_age f_feed f_life f_low a_kind a_part l_cells 2000 (-1) r3.2.2.2.1 r3.1 0 r3.1 r3.2.1 r3.2.2.1 r3.2.2.2.1 r3.2.2.2.2.1 r3.2.2.2.2.2).bind fun u4 =>
    some (u4.1, u4.2.1, u4.2.2.1, u4.2.2.2.1, u4.2.2.2.2.1, u4.2.2.2.2.2.1, u4.2.2.2.2.2.2, a_refused)
  else
    (sM_noTen a_refused r1).bind fun r5 =>
    some (r5.1, f_heft, f_alarm, f_old, f_died, f_ofWhat, f_heavy, r5.2)
set_option maxHeartbeats 4000000 in
theorem wM_swap_h55 {p : Program} {l : Launch} {e : Env} {s : State} {m : MethodId} {args : Array Value} {below : List Frame} {meth : Method} {c : Code} {G : kG} {h0 : Nat} {ad : Nat → Nat} {Q : State → Prop} (C : mC p s m args c cX5_swap G h0 ad) (hml : c.maxLocals = 9) (F : Nat → Int32) (A : Nat → Nat → Int32) (L : Nat → Nat → Int64) (x1 : Int32) (x2 : Int32) (x7 : Int32) (a_refused : Nat → Int32) (res : Int32 × Int32 × Int32 × Int32 × Int32 × Int32 × Int32 × Int32 × Int32) :
    ∀ (fuel : Nat) (x4 : Int32) (x5 : Int32) (x6 : Int32) (x8 : Int32) (f_heft : Int32) (f_alarm : Int32) (f_old : Int32) (f_died : Int32) (f_ofWhat : Int32) (f_heavy : Int32) (H : Heap) (locs : List Loc) (ls : Array Slot), sM_swap_h55 x1 x2 x7 (F 1) (F 2) (F 3) (F 5) (F 6) (F 7) (A 12) (A 13) (L 22) fuel x4 x5 x6 x8 f_heft f_alarm f_old f_died f_ofWhat f_heavy = some res → mPw G h0 ad (upd (upd (upd (upd (upd (upd F 35 f_heft) 36 f_alarm) 37 f_old) 38 f_died) 39 f_ofWhat) 40 f_heavy) (va_up A 11 a_refused) L H → va_S (mA h0 ad) s.heap H locs → lv_has ls 9 [(0, .ref h0), (1, .int x1), (2, .int x2), (4, .int x4), (5, .int x5), (6, .int x6), (7, .int x7), (8, .int x8)] → (∀ (H : Heap) (locs : List Loc) (ls : Array Slot), mPw G h0 ad (upd (upd (upd (upd (upd (upd F 35 res.2.2.2.1) 36 res.2.2.2.2.1) 37 res.2.2.2.2.2.1) 38 res.2.2.2.2.2.2.1) 39 res.2.2.2.2.2.2.2.1) 40 res.2.2.2.2.2.2.2.2) (va_up A 11 a_refused) L H → va_S (mA h0 ad) s.heap H locs → lv_has ls 9 [(0, .ref h0), (1, .int x1), (2, .int x2), (4, .int res.1), (5, .int res.2.1), (6, .int res.2.2.1), (7, .int x7)] → W p l e ({ frames := 5, cells := 0, slots := 0, locals := 111 } : Room) s m args below meth c H locs 0 0 Q (F0 m 129 ls [])) → W p l e ({ frames := 5, cells := 0, slots := 0, locals := 111 } : Room) s m args below meth c H locs 0 0 Q (F0 m 55 ls []) := by
  intro fuel
  induction fuel with
  | zero =>
    intro x4 x5 x6 x8 f_heft f_alarm f_old f_died f_ofWhat f_heavy H locs ls hE
    exact it_n hE
  | succ fuel ih =>
    intro x4 x5 x6 x8 f_heft f_alarm f_old f_died f_ofWhat f_heavy H locs ls hE hP hS hl hX
    rw [sM_swap_h55] at hE
    refine lv_iload C.1 C.2.1 dX5_swap_55 (lv_at hl 7 rfl) ?_
    refine lv_iload_n C.1 C.2.1 dX5_swap_57 rfl (lv_at hl 2 rfl) ?_
    refine lv_icmp_ge (tgt := 129) C.1 C.2.1 dX5_swap_58 (by decide) (fun c5601 => ?_) (fun c5601 => ?_)
    · have hE := it_t c5601 hE
      obtain rfl := Option.some.inj hE
      exact hX H locs ls hP hS (lv_sub hl [0, 1, 2, 3, 4, 5, 6] rfl)
    · have hE := it_f c5601 hE
      refine lv_aload_n C.1 C.2.1 dX5_swap_61 rfl (lv_at hl 0 rfl) ?_
      refine lv_iload_n C.1 C.2.1 dX5_swap_62 rfl (lv_at hl 1 rfl) ?_
      refine lv_iload_n C.1 C.2.1 dX5_swap_63 rfl (lv_at hl 2 rfl) ?_
      refine lv_iload C.1 C.2.1 dX5_swap_64 (lv_at hl 6 rfl) ?_
      refine lv_iload C.1 C.2.1 dX5_swap_66 (lv_at hl 7 rfl) ?_
      obtain ⟨r5602, hr5602, hE⟩ := it_b hE
      refine m_call (n := 4) (As := [.int x1, .int x2, .int x7, .int x8]) (rest := []) C hP hS hml (metM_swapped l G h0 ad _ _ _ x1 x2 x7 x8 r5602 hr5602) q1759 q1761 qs73 q1762 rfl rfl (by decide +kernel) ⟨Nat.le_of_ble_eq_true rfl, Nat.le_of_ble_eq_true rfl⟩ ⟨Nat.le_refl _, Nat.le_refl _⟩ rfl hl.1 rfl (Nat.le_of_ble_eq_true rfl) dX5_swap_68 (fun H locs hP hS => ?_)
      refine lv_aload_n C.1 C.2.1 dX5_swap_71 rfl (lv_at hl 0 rfl) ?_
      refine mg_38 (v := r5602.2.2.2.1) C hP rfl dX5_swap_72 ?_
      refine lv_iload C.1 C.2.1 dX5_swap_75 (lv_at hl 4 rfl) ?_
      obtain ⟨u5604, hR, hE⟩ := it_b hE
      have hJ123u5604 : ∀ (H : Heap) (locs : List Loc) (ls : Array Slot), mPw G h0 ad (upd (upd (upd (upd (upd (upd F 35 r5602.1) 36 r5602.2.1) 37 r5602.2.2.1) 38 r5602.2.2.2.1) 39 r5602.2.2.2.2.1) 40 r5602.2.2.2.2.2) (va_up A 11 a_refused) L H → va_S (mA h0 ad) s.heap H locs → lv_has ls 9 [(0, .ref h0), (1, .int x1), (2, .int x2), (4, .int u5604.1), (5, .int u5604.2.1), (6, .int u5604.2.2), (7, .int x7), (8, .int x8)] → W p l e ({ frames := 5, cells := 0, slots := 0, locals := 111 } : Room) s m args below meth c H locs 0 0 Q (F0 m 123 ls []) := by
        intro H locs ls hP hS hl
        refine lv_iinc (v := (x8 + 1)) (lv' := [(8, .int (x8 + 1)), (0, .ref h0), (1, .int x1), (2, .int x2), (4, .int u5604.1), (5, .int u5604.2.1), (6, .int u5604.2.2), (7, .int x7)]) C.1 C.2.1 dX5_swap_123 hl (k := 7) rfl rfl (by decide) rfl (fun ls hl => ?_)
        refine lv_goto (tgt := 55) C.1 C.2.1 dX5_swap_126 (by decide) ?_
        exact ih u5604.1 u5604.2.1 u5604.2.2 (x8 + 1) r5602.1 r5602.2.1 r5602.2.2.1 r5602.2.2.2.1 r5602.2.2.2.2.1 r5602.2.2.2.2.2 _ _ _ hE hP hS (lv_sub hl [1, 2, 3, 4, 5, 6, 7, 0] rfl) hX
      have hE := hR
      refine lv_icmp_gt (tgt := 123) C.1 C.2.1 dX5_swap_77 (by decide) (fun c5603 => ?_) (fun c5603 => ?_)
      · have hE := it_t c5603 hE
        obtain rfl := Option.some.inj hE
        exact hJ123u5604 H locs ls hP hS (lv_sub hl [0, 1, 2, 3, 4, 5, 6, 7] rfl)
      · have hE := it_f c5603 hE
        refine lv_aload_n C.1 C.2.1 dX5_swap_80 rfl (lv_at hl 0 rfl) ?_
        refine mg_38 (v := r5602.2.2.2.1) C hP rfl dX5_swap_81 ?_
        refine lv_iload C.1 C.2.1 dX5_swap_84 (lv_at hl 4 rfl) ?_
        obtain ⟨u5606, hR, hE⟩ := it_b hE
        have hJ98u5606 : u5606 = true → ∀ (H : Heap) (locs : List Loc) (ls : Array Slot), mPw G h0 ad (upd (upd (upd (upd (upd (upd F 35 r5602.1) 36 r5602.2.1) 37 r5602.2.2.1) 38 r5602.2.2.2.1) 39 r5602.2.2.2.2.1) 40 r5602.2.2.2.2.2) (va_up A 11 a_refused) L H → va_S (mA h0 ad) s.heap H locs → lv_has ls 9 [(0, .ref h0), (1, .int x1), (2, .int x2), (4, .int x4), (5, .int x5), (6, .int x6), (7, .int x7), (8, .int x8)] → W p l e ({ frames := 5, cells := 0, slots := 0, locals := 111 } : Room) s m args below meth c H locs 0 0 Q (F0 m 98 ls []) := by
          intro hu H locs ls hP hS hl
          have hE := it_t hu hE
          refine lv_goto (tgt := 123) C.1 C.2.1 dX5_swap_98 (by decide) ?_
          obtain rfl := Option.some.inj hE
          exact hJ123u5604 H locs ls hP hS (lv_sub hl [0, 1, 2, 3, 4, 5, 6, 7] rfl)
        have hJ101u5606 : ¬ u5606 = true → ∀ (H : Heap) (locs : List Loc) (ls : Array Slot), mPw G h0 ad (upd (upd (upd (upd (upd (upd F 35 r5602.1) 36 r5602.2.1) 37 r5602.2.2.1) 38 r5602.2.2.2.1) 39 r5602.2.2.2.2.1) 40 r5602.2.2.2.2.2) (va_up A 11 a_refused) L H → va_S (mA h0 ad) s.heap H locs → lv_has ls 9 [(0, .ref h0), (1, .int x1), (2, .int x2), (7, .int x7), (8, .int x8)] → W p l e ({ frames := 5, cells := 0, slots := 0, locals := 111 } : Room) s m args below meth c H locs 0 0 Q (F0 m 101 ls []) := by
          intro hu H locs ls hP hS hl
          have hE := it_f hu hE
          refine lv_bipush (v := 100) C.1 C.2.1 dX5_swap_101 (by decide) ?_
          refine lv_iload C.1 C.2.1 dX5_swap_103 (lv_at hl 3 rfl) ?_
          refine lv_imul C.1 C.2.1 dX5_swap_105 ?_
          refine lv_iload C.1 C.2.1 dX5_swap_106 (lv_at hl 4 rfl) ?_
          refine lv_iadd C.1 C.2.1 dX5_swap_108 ?_
          refine lv_istore (lv' := [(4, .int ((100 * x7) + x8)), (0, .ref h0), (1, .int x1), (2, .int x2), (7, .int x7), (8, .int x8)]) C.1 C.2.1 dX5_swap_109 hl (by decide) rfl (fun ls hl => ?_)
          refine lv_aload_n C.1 C.2.1 dX5_swap_111 rfl (lv_at hl 1 rfl) ?_
          refine mg_38 (v := r5602.2.2.2.1) C hP rfl dX5_swap_112 ?_
          refine lv_istore (lv' := [(5, .int r5602.2.2.2.1), (4, .int ((100 * x7) + x8)), (0, .ref h0), (1, .int x1), (2, .int x2), (7, .int x7), (8, .int x8)]) C.1 C.2.1 dX5_swap_115 hl (by decide) rfl (fun ls hl => ?_)
          refine lv_aload_n C.1 C.2.1 dX5_swap_117 rfl (lv_at hl 2 rfl) ?_
          refine mg_35 (v := r5602.1) C hP rfl dX5_swap_118 ?_
          refine lv_istore (lv' := [(6, .int r5602.1), (5, .int r5602.2.2.2.1), (4, .int ((100 * x7) + x8)), (0, .ref h0), (1, .int x1), (2, .int x2), (7, .int x7), (8, .int x8)]) C.1 C.2.1 dX5_swap_121 hl (by decide) rfl (fun ls hl => ?_)
          obtain rfl := Option.some.inj hE
          exact hJ123u5604 H locs ls hP hS (lv_sub hl [3, 4, 5, 2, 1, 0, 6, 7] rfl)
        have hE := hR
        refine lv_icmp_ne (tgt := 101) C.1 C.2.1 dX5_swap_86 (by decide) (fun c5605 => ?_) (fun c5605 => ?_)
        · have hE := it_f c5605 hE
          obtain rfl := Option.some.inj hE
          exact hJ101u5606 (by decide) H locs ls hP hS (lv_sub hl [0, 1, 2, 6, 7] rfl)
        · have hE := it_t c5605 hE
          refine lv_aload_n C.1 C.2.1 dX5_swap_89 rfl (lv_at hl 0 rfl) ?_
          refine mg_35 (v := r5602.1) C hP rfl dX5_swap_90 ?_
          refine lv_iload C.1 C.2.1 dX5_swap_93 (lv_at hl 5 rfl) ?_
          refine lv_icmp_gt (tgt := 101) C.1 C.2.1 dX5_swap_95 (by decide) (fun c5607 => ?_) (fun c5607 => ?_)
          · have hE := it_t c5607 hE
            obtain rfl := Option.some.inj hE
            exact hJ101u5606 (by decide) H locs ls hP hS (lv_sub hl [0, 1, 2, 6, 7] rfl)
          · have hE := it_f c5607 hE
            obtain rfl := Option.some.inj hE
            exact hJ98u5606 rfl H locs ls hP hS (lv_sub hl [0, 1, 2, 3, 4, 5, 6, 7] rfl)
set_option maxHeartbeats 4000000 in
theorem wM_swap_h43 {p : Program} {l : Launch} {e : Env} {s : State} {m : MethodId} {args : Array Value} {below : List Frame} {meth : Method} {c : Code} {G : kG} {h0 : Nat} {ad : Nat → Nat} {Q : State → Prop} (C : mC p s m args c cX5_swap G h0 ad) (hml : c.maxLocals = 9) (F : Nat → Int32) (A : Nat → Nat → Int32) (L : Nat → Nat → Int64) (x1 : Int32) (x2 : Int32) (a_refused : Nat → Int32) (res : Int32 × Int32 × Int32 × Int32 × Int32 × Int32 × Int32) :
    ∀ (fuel : Nat) (x4 : Int32) (x5 : Int32) (x6 : Int32) (x7 : Int32) (f_heft : Int32) (f_alarm : Int32) (f_old : Int32) (f_died : Int32) (f_ofWhat : Int32) (f_heavy : Int32) (H : Heap) (locs : List Loc) (ls : Array Slot), sM_swap_h43 x1 x2 (F 1) (F 2) (F 3) (F 5) (F 6) (F 7) (A 12) (A 13) (L 22) fuel x4 x5 x6 x7 f_heft f_alarm f_old f_died f_ofWhat f_heavy = some res → mPw G h0 ad (upd (upd (upd (upd (upd (upd F 35 f_heft) 36 f_alarm) 37 f_old) 38 f_died) 39 f_ofWhat) 40 f_heavy) (va_up A 11 a_refused) L H → va_S (mA h0 ad) s.heap H locs → lv_has ls 9 [(0, .ref h0), (1, .int x1), (2, .int x2), (4, .int x4), (5, .int x5), (6, .int x6), (7, .int x7)] → (∀ (H : Heap) (locs : List Loc) (ls : Array Slot), mPw G h0 ad (upd (upd (upd (upd (upd (upd F 35 res.2.1) 36 res.2.2.1) 37 res.2.2.2.1) 38 res.2.2.2.2.1) 39 res.2.2.2.2.2.1) 40 res.2.2.2.2.2.2) (va_up A 11 a_refused) L H → va_S (mA h0 ad) s.heap H locs → lv_has ls 9 [(4, .int res.1)] → W p l e ({ frames := 5, cells := 0, slots := 0, locals := 111 } : Room) s m args below meth c H locs 0 0 Q (F0 m 135 ls [])) → W p l e ({ frames := 5, cells := 0, slots := 0, locals := 111 } : Room) s m args below meth c H locs 0 0 Q (F0 m 43 ls []) := by
  intro fuel
  induction fuel with
  | zero =>
    intro x4 x5 x6 x7 f_heft f_alarm f_old f_died f_ofWhat f_heavy H locs ls hE
    exact it_n hE
  | succ fuel ih =>
    intro x4 x5 x6 x7 f_heft f_alarm f_old f_died f_ofWhat f_heavy H locs ls hE hP hS hl hX
    rw [sM_swap_h43] at hE
    refine lv_iload C.1 C.2.1 dX5_swap_43 (lv_at hl 6 rfl) ?_
    refine lv_iload_n C.1 C.2.1 dX5_swap_45 rfl (lv_at hl 2 rfl) ?_
    refine lv_icmp_ge (tgt := 135) C.1 C.2.1 dX5_swap_46 (by decide) (fun c4401 => ?_) (fun c4401 => ?_)
    · have hE := it_t c4401 hE
      obtain rfl := Option.some.inj hE
      exact hX H locs ls hP hS (lv_sub hl [3] rfl)
    · have hE := it_f c4401 hE
      refine lv_iload C.1 C.2.1 dX5_swap_49 (lv_at hl 6 rfl) ?_
      refine lv_iconst (v := 1) C.1 C.2.1 dX5_swap_51 (by decide) ?_
      refine lv_iadd C.1 C.2.1 dX5_swap_52 ?_
      refine lv_istore (lv' := [(8, .int (x7 + 1)), (0, .ref h0), (1, .int x1), (2, .int x2), (4, .int x4), (5, .int x5), (6, .int x6), (7, .int x7)]) C.1 C.2.1 dX5_swap_53 hl (by decide) rfl (fun ls hl => ?_)
      obtain ⟨u4402, hu4402, hE⟩ := it_b hE
      refine wM_swap_h55 C hml F A L x1 x2 x7 a_refused u4402 2000 x4 x5 x6 (x7 + 1) f_heft f_alarm f_old f_died f_ofWhat f_heavy H locs ls hu4402 hP hS (lv_sub hl [1, 2, 3, 4, 5, 6, 7, 0] rfl) (fun H locs ls hP hS hl => ?_)
      refine lv_iinc (v := (x7 + 1)) (lv' := [(7, .int (x7 + 1)), (0, .ref h0), (1, .int x1), (2, .int x2), (4, .int u4402.1), (5, .int u4402.2.1), (6, .int u4402.2.2.1)]) C.1 C.2.1 dX5_swap_129 hl (k := 6) rfl rfl (by decide) rfl (fun ls hl => ?_)
      refine lv_goto (tgt := 43) C.1 C.2.1 dX5_swap_132 (by decide) ?_
      exact ih u4402.1 u4402.2.1 u4402.2.2.1 (x7 + 1) u4402.2.2.2.1 u4402.2.2.2.2.1 u4402.2.2.2.2.2.1 u4402.2.2.2.2.2.2.1 u4402.2.2.2.2.2.2.2.1 u4402.2.2.2.2.2.2.2.2 _ _ _ hE hP hS (lv_sub hl [1, 2, 3, 4, 5, 6, 0] rfl) hX
set_option maxHeartbeats 4000000 in
theorem metM_swap (l : Launch) (G : kG) (h0 : Nat) (ad : Nat → Nat) (F : Nat → Int32) (A : Nat → Nat → Int32) (L : Nat → Nat → Int64) (p1 : Int32) (p2 : Int32) (res : Int32 × Int32 × Int32 × Int32 × Int32 × Int32 × Int32 × (Nat → Int32)) (hE : sM_swap (F 0) (F 1) (F 2) (F 3) (F 5) (F 6) (F 7) (F 35) (F 36) (F 37) (F 38) (F 39) (F 40) (A 11) (A 12) (A 13) (A 15) (A 18) (A 20) (L 22) p1 p2 = some res) : Met l yX5_swap (ws_ yX5_swap cX5_swap 9 (some .int)) ({ frames := 5, cells := 0, slots := 0, locals := 111 } : Room) (mPc G h0 ad F A L [.int p1, .int p2]) (mQc G h0 ad (upd (upd (upd (upd (upd (upd F 35 res.2.1) 36 res.2.2.1) 37 res.2.2.2.1) 38 res.2.2.2.2.1) 39 res.2.2.2.2.2.1) 40 res.2.2.2.2.2.2.1) (va_up A 11 res.2.2.2.2.2.2.2) L (some (.int res.1))) 0 0 (mA h0 ad) := by
  refine m_ofW (by decide) rfl (Nat.le_of_ble_eq_true rfl) ?_
  intro p e s m args below meth c ls C hml hP hS hl hr hlocks
  have hl : lv_has ls 9 [(0, .ref h0), (1, .int p1), (2, .int p2)] := hl
  obtain ⟨Q, hQ⟩ : ∃ Q, Q = MQ below (mQc G h0 ad (upd (upd (upd (upd (upd (upd F 35 res.2.1) 36 res.2.2.1) 37 res.2.2.2.1) 38 res.2.2.2.2.1) 39 res.2.2.2.2.2.1) 40 res.2.2.2.2.2.2.1) (va_up A 11 res.2.2.2.2.2.2.2) L (some (.int res.1))) args s 0 0 (mA h0 ad) := ⟨_, rfl⟩
  rw [← hQ]
  have hret : ∀ (pc : Nat) (ls : Array Slot) (H : Heap) (locs : List Loc), decode cX5_swap pc = .ok (.ireturn, 1) → mPw G h0 ad (upd (upd (upd (upd (upd (upd F 35 res.2.1) 36 res.2.2.1) 37 res.2.2.2.1) 38 res.2.2.2.2.1) 39 res.2.2.2.2.2.1) 40 res.2.2.2.2.2.2.1) (va_up A 11 res.2.2.2.2.2.2.2) L H → va_S (mA h0 ad) s.heap H locs → W p l e ({ frames := 5, cells := 0, slots := 0, locals := 111 } : Room) s m args below meth c H locs 0 0 Q (F0 m pc ls [.int res.1]) := by
    intro pc ls H locs hd hP hS
    rw [hQ]
    exact m_iret C hr hlocks hd hP hS
  clear hQ
  obtain ⟨H, hH⟩ : ∃ H, H = s.heap := ⟨_, rfl⟩
  obtain ⟨locs, hlo⟩ : ∃ locs : List Loc, locs = [] := ⟨_, rfl⟩
  have hP : mPw G h0 ad F A L H := by rw [hH]; exact hP
  have hS : va_S (mA h0 ad) s.heap H locs := by rw [hH, hlo]; exact hS
  suffices hZ : W p l e ({ frames := 5, cells := 0, slots := 0, locals := 111 } : Room) s m args below meth c H locs 0 0 Q (F0 m 0 ls []) by rw [hH, hlo] at hZ; exact hZ
  clear hH hlo
  unfold sM_swap at hE
  refine lv_aload_n C.1 C.2.1 dX5_swap_0 rfl (lv_at hl 0 rfl) ?_
  refine lv_iload_n C.1 C.2.1 dX5_swap_1 rfl (lv_at hl 1 rfl) ?_
  refine lv_iload_n C.1 C.2.1 dX5_swap_2 rfl (lv_at hl 2 rfl) ?_
  obtain ⟨r1, hr1, hE⟩ := it_b hE
  refine m_call (n := 2) (As := [.int p1, .int p2]) (rest := []) C hP hS hml (metM_barsRight l G h0 ad _ _ _ p1 p2 r1 hr1) q1663 q1665 qs61 q1666 rfl rfl (by decide +kernel) ⟨Nat.le_of_ble_eq_true rfl, Nat.le_of_ble_eq_true rfl⟩ ⟨Nat.le_refl _, Nat.le_refl _⟩ rfl hl.1 rfl (Nat.le_of_ble_eq_true rfl) dX5_swap_3 (fun H locs hP hS => ?_)
  refine lv_istore_n (lv' := [(3, .int r1), (0, .ref h0), (1, .int p1), (2, .int p2)]) C.1 C.2.1 dX5_swap_6 rfl hl (by decide) rfl (fun ls hl => ?_)
  refine lv_iload_n C.1 C.2.1 dX5_swap_7 rfl (lv_at hl 0 rfl) ?_
  refine lv_if_eq (tgt := 17) C.1 C.2.1 dX5_swap_8 (by decide) (fun c2 => ?_) (fun c2 => ?_)
  · have hE := it_t c2 hE
    refine lv_aload_n C.1 C.2.1 dX5_swap_17 rfl (lv_at hl 1 rfl) ?_
    refine lv_iload_n C.1 C.2.1 dX5_swap_18 rfl (lv_at hl 2 rfl) ?_
    refine lv_iload_n C.1 C.2.1 dX5_swap_19 rfl (lv_at hl 3 rfl) ?_
    refine lv_iconst (v := 0) C.1 C.2.1 dX5_swap_20 (by decide) ?_
    refine lv_iconst (v := 0) C.1 C.2.1 dX5_swap_21 (by decide) ?_
    obtain ⟨r3, hr3, hE⟩ := it_b hE
    refine m_call (n := 4) (As := [.int p1, .int p2, .int 0, .int 0]) (rest := []) C hP hS hml (metM_swapped l G h0 ad _ _ _ p1 p2 0 0 r3 hr3) q1759 q1761 qs73 q1762 rfl rfl (by decide +kernel) ⟨Nat.le_of_ble_eq_true rfl, Nat.le_of_ble_eq_true rfl⟩ ⟨Nat.le_refl _, Nat.le_refl _⟩ rfl hl.1 rfl (Nat.le_of_ble_eq_true rfl) dX5_swap_22 (fun H locs hP hS => ?_)
    refine lv_iconst (v := (-1)) C.1 C.2.1 dX5_swap_25 (by decide) ?_
    refine lv_istore (lv' := [(4, .int (-1)), (3, .int r1), (0, .ref h0), (1, .int p1), (2, .int p2)]) C.1 C.2.1 dX5_swap_26 hl (by decide) rfl (fun ls hl => ?_)
    refine lv_aload_n C.1 C.2.1 dX5_swap_28 rfl (lv_at hl 2 rfl) ?_
    refine mg_38 (v := r3.2.2.2.1) C hP rfl dX5_swap_29 ?_
    refine lv_istore (lv' := [(5, .int r3.2.2.2.1), (4, .int (-1)), (3, .int r1), (0, .ref h0), (1, .int p1), (2, .int p2)]) C.1 C.2.1 dX5_swap_32 hl (by decide) rfl (fun ls hl => ?_)
    refine lv_aload_n C.1 C.2.1 dX5_swap_34 rfl (lv_at hl 3 rfl) ?_
    refine mg_35 (v := r3.1) C hP rfl dX5_swap_35 ?_
    refine lv_istore (lv' := [(6, .int r3.1), (5, .int r3.2.2.2.1), (4, .int (-1)), (3, .int r1), (0, .ref h0), (1, .int p1), (2, .int p2)]) C.1 C.2.1 dX5_swap_38 hl (by decide) rfl (fun ls hl => ?_)
    refine lv_iconst (v := 0) C.1 C.2.1 dX5_swap_40 (by decide) ?_
    refine lv_istore (lv' := [(7, .int 0), (6, .int r3.1), (5, .int r3.2.2.2.1), (4, .int (-1)), (3, .int r1), (0, .ref h0), (1, .int p1), (2, .int p2)]) C.1 C.2.1 dX5_swap_41 hl (by decide) rfl (fun ls hl => ?_)
    obtain ⟨u4, hu4, hE⟩ := it_b hE
    refine wM_swap_h43 C hml F A L p1 p2 (A 11) u4 2000 (-1) r3.2.2.2.1 r3.1 0 r3.1 r3.2.1 r3.2.2.1 r3.2.2.2.1 r3.2.2.2.2.1 r3.2.2.2.2.2 H locs ls hu4 hP hS (lv_sub hl [5, 6, 7, 3, 2, 1, 0] rfl) (fun H locs ls hP hS hl => ?_)
    refine lv_iload C.1 C.2.1 dX5_swap_135 (lv_at hl 0 rfl) ?_
    obtain rfl := Option.some.inj hE
    exact hret _ _ _ _ dX5_swap_137 hP hS
  · have hE := it_f c2 hE
    refine lv_aload_n C.1 C.2.1 dX5_swap_11 rfl (lv_at hl 1 rfl) ?_
    refine lv_iload_n C.1 C.2.1 dX5_swap_12 rfl (lv_at hl 0 rfl) ?_
    obtain ⟨r5, hr5, hE⟩ := it_b hE
    refine m_call (n := 1) (As := [.int r1]) (rest := []) C hP hS hml (metM_noTen l G h0 ad _ _ _ r1 r5 hr5) q1647 q1649 qs58 q1650 rfl rfl (by decide +kernel) ⟨Nat.le_of_ble_eq_true rfl, Nat.le_of_ble_eq_true rfl⟩ ⟨Nat.le_refl _, Nat.le_refl _⟩ rfl hl.1 rfl (Nat.le_of_ble_eq_true rfl) dX5_swap_13 (fun H locs hP hS => ?_)
    obtain rfl := Option.some.inj hE
    exact hret _ _ _ _ dX5_swap_16 hP hS
def sM_weekInTruth (f_weight : Int32) (f_fright : Int32) (f_age : Int32) (f_pets : Int32) (f_feed : Int32) (f_life : Int32) (f_low : Int32) (f_last : Int32) (f_heft : Int32) (f_alarm : Int32) (f_old : Int32) (f_died : Int32) (f_ofWhat : Int32) (f_heavy : Int32) (a_kind : Nat → Int32) (a_part : Nat → Int32) (a_had : Nat → Int32) (a_deaths : Nat → Int32) (p1 : Int32) : Option (Int32 × Int32 × Int32 × Int32 × Int32 × Int32 × Int32 × Int32 × Int32 × Int32 × Int32 × Int32 × (Nat → Int32) × (Nat → Int32)) :=
  (sM_begins f_weight f_fright f_age f_heft f_alarm f_old f_died f_ofWhat f_heavy).bind fun r1 =>
  (sM_goes f_feed f_life f_low r1.1 r1.2.1 r1.2.2.1 r1.2.2.2.1 r1.2.2.2.2.1 r1.2.2.2.2.2 a_kind a_part p1).bind fun r2 =>
  @Option.bind (Int32 × (Nat → Int32)) _ (
    if r2.1 = 0 then
      some (f_pets, a_deaths)
    else
      if gi r2.2.2.2.2.2.1 3 then
      if gi r2.2.2.2.2.2.1 3 then
      some ((f_pets + 1), (upd a_deaths (r2.2.2.2.2.2.1).toNatClampNeg ((a_deaths (r2.2.2.2.2.2.1).toNatClampNeg) + 1)))
      else none
      else none) fun u4 =>
  @Option.bind (Int32 × (Nat → Int32)) _ (
    if p1 = (-1) then
      some (f_last, a_had)
    else
      if gi p1 8 then
      if gi p1 8 then
      some (p1, (upd a_had (p1).toNatClampNeg ((a_had (p1).toNatClampNeg) + 1)))
      else none
      else none) fun u8 =>
  if r2.1 = 0 ∨ r2.1 = 1 then
  some (r2.1, r2.2.1, r2.2.2.1, r2.2.2.2.1, u4.1, u8.1, r2.2.1, r2.2.2.1, r2.2.2.2.1, r2.2.2.2.2.1, r2.2.2.2.2.2.1, r2.2.2.2.2.2.2, u8.2, u4.2)
  else none
set_option maxHeartbeats 4000000 in
theorem metM_weekInTruth (l : Launch) (G : kG) (h0 : Nat) (ad : Nat → Nat) (F : Nat → Int32) (A : Nat → Nat → Int32) (L : Nat → Nat → Int64) (p1 : Int32) (res : Int32 × Int32 × Int32 × Int32 × Int32 × Int32 × Int32 × Int32 × Int32 × Int32 × Int32 × Int32 × (Nat → Int32) × (Nat → Int32)) (hE : sM_weekInTruth (F 1) (F 2) (F 3) (F 4) (F 5) (F 6) (F 7) (F 8) (F 35) (F 36) (F 37) (F 38) (F 39) (F 40) (A 12) (A 13) (A 16) (A 17) p1 = some res) : Met l yX5_weekInTruth (ws_ yX5_weekInTruth cX5_weekInTruth 3 (some .boolean)) ({ frames := 3, cells := 0, slots := 0, locals := 65 } : Room) (mPc G h0 ad F A L [.int p1]) (mQc G h0 ad (upd (upd (upd (upd (upd (upd (upd (upd (upd (upd (upd F 1 res.2.1) 2 res.2.2.1) 3 res.2.2.2.1) 4 res.2.2.2.2.1) 8 res.2.2.2.2.2.1) 35 res.2.2.2.2.2.2.1) 36 res.2.2.2.2.2.2.2.1) 37 res.2.2.2.2.2.2.2.2.1) 38 res.2.2.2.2.2.2.2.2.2.1) 39 res.2.2.2.2.2.2.2.2.2.2.1) 40 res.2.2.2.2.2.2.2.2.2.2.2.1) (va_up (va_up A 16 res.2.2.2.2.2.2.2.2.2.2.2.2.1) 17 res.2.2.2.2.2.2.2.2.2.2.2.2.2) L (some (.int res.1))) 0 0 (mA h0 ad) := by
  refine m_ofW (by decide) rfl (Nat.le_of_ble_eq_true rfl) ?_
  intro p e s m args below meth c ls C hml hP hS hl hr hlocks
  have hl : lv_has ls 3 [(0, .ref h0), (1, .int p1)] := hl
  obtain ⟨Q, hQ⟩ : ∃ Q, Q = MQ below (mQc G h0 ad (upd (upd (upd (upd (upd (upd (upd (upd (upd (upd (upd F 1 res.2.1) 2 res.2.2.1) 3 res.2.2.2.1) 4 res.2.2.2.2.1) 8 res.2.2.2.2.2.1) 35 res.2.2.2.2.2.2.1) 36 res.2.2.2.2.2.2.2.1) 37 res.2.2.2.2.2.2.2.2.1) 38 res.2.2.2.2.2.2.2.2.2.1) 39 res.2.2.2.2.2.2.2.2.2.2.1) 40 res.2.2.2.2.2.2.2.2.2.2.2.1) (va_up (va_up A 16 res.2.2.2.2.2.2.2.2.2.2.2.2.1) 17 res.2.2.2.2.2.2.2.2.2.2.2.2.2) L (some (.int res.1))) args s 0 0 (mA h0 ad) := ⟨_, rfl⟩
  rw [← hQ]
  have hret : ∀ (pc : Nat) (ls : Array Slot) (H : Heap) (locs : List Loc), narrow .boolean (.int res.1) = .int res.1 → decode cX5_weekInTruth pc = .ok (.ireturn, 1) → mPw G h0 ad (upd (upd (upd (upd (upd (upd (upd (upd (upd (upd (upd F 1 res.2.1) 2 res.2.2.1) 3 res.2.2.2.1) 4 res.2.2.2.2.1) 8 res.2.2.2.2.2.1) 35 res.2.2.2.2.2.2.1) 36 res.2.2.2.2.2.2.2.1) 37 res.2.2.2.2.2.2.2.2.1) 38 res.2.2.2.2.2.2.2.2.2.1) 39 res.2.2.2.2.2.2.2.2.2.2.1) 40 res.2.2.2.2.2.2.2.2.2.2.2.1) (va_up (va_up A 16 res.2.2.2.2.2.2.2.2.2.2.2.2.1) 17 res.2.2.2.2.2.2.2.2.2.2.2.2.2) L H → va_S (mA h0 ad) s.heap H locs → W p l e ({ frames := 3, cells := 0, slots := 0, locals := 65 } : Room) s m args below meth c H locs 0 0 Q (F0 m pc ls [.int res.1]) := by
    intro pc ls H locs hn hd hP hS
    rw [hQ]
    exact m_zret C hr hlocks hn hd hP hS
  clear hQ
  obtain ⟨H, hH⟩ : ∃ H, H = s.heap := ⟨_, rfl⟩
  obtain ⟨locs, hlo⟩ : ∃ locs : List Loc, locs = [] := ⟨_, rfl⟩
  have hP : mPw G h0 ad F A L H := by rw [hH]; exact hP
  have hS : va_S (mA h0 ad) s.heap H locs := by rw [hH, hlo]; exact hS
  suffices hZ : W p l e ({ frames := 3, cells := 0, slots := 0, locals := 65 } : Room) s m args below meth c H locs 0 0 Q (F0 m 0 ls []) by rw [hH, hlo] at hZ; exact hZ
  clear hH hlo
  unfold sM_weekInTruth at hE
  refine lv_aload_n C.1 C.2.1 dX5_weekInTruth_0 rfl (lv_at hl 0 rfl) ?_
  obtain ⟨r1, hr1, hE⟩ := it_b hE
  refine m_call (n := 0) (As := []) (rest := []) C hP hS hml (metM_begins l G h0 ad _ _ _ r1 hr1) q1603 q1605 qs50 q1606 rfl rfl (by decide +kernel) ⟨Nat.le_of_ble_eq_true rfl, Nat.le_of_ble_eq_true rfl⟩ ⟨Nat.le_refl _, Nat.le_refl _⟩ rfl hl.1 rfl (Nat.le_of_ble_eq_true rfl) dX5_weekInTruth_1 (fun H locs hP hS => ?_)
  refine lv_aload_n C.1 C.2.1 dX5_weekInTruth_4 rfl (lv_at hl 0 rfl) ?_
  refine lv_iload_n C.1 C.2.1 dX5_weekInTruth_5 rfl (lv_at hl 1 rfl) ?_
  obtain ⟨r2, hr2, hE⟩ := it_b hE
  refine m_call (n := 1) (As := [.int p1]) (rest := []) C hP hS hml (metM_goes l G h0 ad _ _ _ p1 r2 hr2) q1607 q1609 qs51 q1610 rfl rfl (by decide +kernel) ⟨Nat.le_of_ble_eq_true rfl, Nat.le_of_ble_eq_true rfl⟩ ⟨Nat.le_refl _, Nat.le_refl _⟩ rfl hl.1 rfl (Nat.le_of_ble_eq_true rfl) dX5_weekInTruth_6 (fun H locs hP hS => ?_)
  refine lv_istore_n (lv' := [(2, .int r2.1), (0, .ref h0), (1, .int p1)]) C.1 C.2.1 dX5_weekInTruth_9 rfl hl (by decide) rfl (fun ls hl => ?_)
  refine lv_aload_n C.1 C.2.1 dX5_weekInTruth_10 rfl (lv_at hl 1 rfl) ?_
  refine lv_aload_n C.1 C.2.1 dX5_weekInTruth_11 rfl (lv_at hl 1 rfl) ?_
  refine mg_35 (v := r2.2.1) C hP rfl dX5_weekInTruth_12 ?_
  refine mp_1 C hP hS dX5_weekInTruth_15 (fun H locs hP hS => ?_)
  refine lv_aload_n C.1 C.2.1 dX5_weekInTruth_18 rfl (lv_at hl 1 rfl) ?_
  refine lv_aload_n C.1 C.2.1 dX5_weekInTruth_19 rfl (lv_at hl 1 rfl) ?_
  refine mg_36 (v := r2.2.2.1) C hP rfl dX5_weekInTruth_20 ?_
  refine mp_2 C hP hS dX5_weekInTruth_23 (fun H locs hP hS => ?_)
  refine lv_aload_n C.1 C.2.1 dX5_weekInTruth_26 rfl (lv_at hl 1 rfl) ?_
  refine lv_aload_n C.1 C.2.1 dX5_weekInTruth_27 rfl (lv_at hl 1 rfl) ?_
  refine mg_37 (v := r2.2.2.2.1) C hP rfl dX5_weekInTruth_28 ?_
  refine mp_3 C hP hS dX5_weekInTruth_31 (fun H locs hP hS => ?_)
  refine lv_iload_n C.1 C.2.1 dX5_weekInTruth_34 rfl (lv_at hl 0 rfl) ?_
  obtain ⟨u4, hR, hE⟩ := it_b hE
  have hJ61u4 : ∀ (H : Heap) (locs : List Loc) (ls : Array Slot), mPw G h0 ad (upd (upd (upd (upd (upd (upd (upd (upd (upd (upd F 1 r2.2.1) 2 r2.2.2.1) 3 r2.2.2.2.1) 4 u4.1) 35 r2.2.1) 36 r2.2.2.1) 37 r2.2.2.2.1) 38 r2.2.2.2.2.1) 39 r2.2.2.2.2.2.1) 40 r2.2.2.2.2.2.2) (va_up A 17 u4.2) L H → va_S (mA h0 ad) s.heap H locs → lv_has ls 3 [(0, .ref h0), (1, .int p1), (2, .int r2.1)] → W p l e ({ frames := 3, cells := 0, slots := 0, locals := 65 } : Room) s m args below meth c H locs 0 0 Q (F0 m 61 ls []) := by
    intro H locs ls hP hS hl
    refine lv_iload_n C.1 C.2.1 dX5_weekInTruth_61 rfl (lv_at hl 1 rfl) ?_
    refine lv_iconst (v := (-1)) C.1 C.2.1 dX5_weekInTruth_62 (by decide) ?_
    obtain ⟨u8, hR, hE⟩ := it_b hE
    have hJ81u8 : ∀ (H : Heap) (locs : List Loc) (ls : Array Slot), mPw G h0 ad (upd (upd (upd (upd (upd (upd (upd (upd (upd (upd (upd F 1 r2.2.1) 2 r2.2.2.1) 3 r2.2.2.2.1) 4 u4.1) 8 u8.1) 35 r2.2.1) 36 r2.2.2.1) 37 r2.2.2.2.1) 38 r2.2.2.2.2.1) 39 r2.2.2.2.2.2.1) 40 r2.2.2.2.2.2.2) (va_up (va_up A 16 u8.2) 17 u4.2) L H → va_S (mA h0 ad) s.heap H locs → lv_has ls 3 [(2, .int r2.1)] → W p l e ({ frames := 3, cells := 0, slots := 0, locals := 65 } : Room) s m args below meth c H locs 0 0 Q (F0 m 81 ls []) := by
      intro H locs ls hP hS hl
      refine lv_iload_n C.1 C.2.1 dX5_weekInTruth_81 rfl (lv_at hl 0 rfl) ?_
      obtain ⟨g11, hE⟩ := it_g hE
      obtain rfl := Option.some.inj hE
      exact hret _ _ _ _ (nbz g11) dX5_weekInTruth_82 hP hS
    have hE := hR
    refine lv_icmp_eq (tgt := 81) C.1 C.2.1 dX5_weekInTruth_63 (by decide) (fun c7 => ?_) (fun c7 => ?_)
    · have hE := it_t c7 hE
      obtain rfl := Option.some.inj hE
      exact hJ81u8 H locs ls hP hS (lv_sub hl [2] rfl)
    · have hE := it_f c7 hE
      refine lv_aload_n C.1 C.2.1 dX5_weekInTruth_66 rfl (lv_at hl 0 rfl) ?_
      refine ma_16 C hP dX5_weekInTruth_67 ?_
      refine lv_iload_n C.1 C.2.1 dX5_weekInTruth_70 rfl (lv_at hl 1 rfl) ?_
      refine lv_dup2_11 C.1 C.2.1 dX5_weekInTruth_71 rfl rfl ?_
      obtain ⟨g9, hE⟩ := it_g hE
      refine ml_16 (v := ((A 16) (p1).toNatClampNeg)) C hP (gi_in g9) rfl dX5_weekInTruth_72 ?_
      refine lv_iconst (v := 1) C.1 C.2.1 dX5_weekInTruth_73 (by decide) ?_
      refine lv_iadd C.1 C.2.1 dX5_weekInTruth_74 ?_
      obtain ⟨g10, hE⟩ := it_g hE
      refine ms_16 (a := (A 16)) C hP hS (gi_in g10) rfl dX5_weekInTruth_75 (fun H locs hP hS => ?_)
      refine lv_aload_n C.1 C.2.1 dX5_weekInTruth_76 rfl (lv_at hl 0 rfl) ?_
      refine lv_iload_n C.1 C.2.1 dX5_weekInTruth_77 rfl (lv_at hl 1 rfl) ?_
      refine mp_8 C hP hS dX5_weekInTruth_78 (fun H locs hP hS => ?_)
      obtain rfl := Option.some.inj hE
      exact hJ81u8 H locs ls hP hS (lv_sub hl [2] rfl)
  have hE := hR
  refine lv_if_eq (tgt := 61) C.1 C.2.1 dX5_weekInTruth_35 (by decide) (fun c3 => ?_) (fun c3 => ?_)
  · have hE := it_t c3 hE
    obtain rfl := Option.some.inj hE
    exact hJ61u4 H locs ls hP hS (lv_sub hl [1, 2, 0] rfl)
  · have hE := it_f c3 hE
    refine lv_aload_n C.1 C.2.1 dX5_weekInTruth_38 rfl (lv_at hl 1 rfl) ?_
    refine ma_17 C hP dX5_weekInTruth_39 ?_
    refine lv_aload_n C.1 C.2.1 dX5_weekInTruth_42 rfl (lv_at hl 1 rfl) ?_
    refine mg_39 (v := r2.2.2.2.2.2.1) C hP rfl dX5_weekInTruth_43 ?_
    refine lv_dup2_11 C.1 C.2.1 dX5_weekInTruth_46 rfl rfl ?_
    obtain ⟨g5, hE⟩ := it_g hE
    refine ml_17 (v := ((A 17) (r2.2.2.2.2.2.1).toNatClampNeg)) C hP (gi_in g5) rfl dX5_weekInTruth_47 ?_
    refine lv_iconst (v := 1) C.1 C.2.1 dX5_weekInTruth_48 (by decide) ?_
    refine lv_iadd C.1 C.2.1 dX5_weekInTruth_49 ?_
    obtain ⟨g6, hE⟩ := it_g hE
    refine ms_17 (a := (A 17)) C hP hS (gi_in g6) rfl dX5_weekInTruth_50 (fun H locs hP hS => ?_)
    refine lv_aload_n C.1 C.2.1 dX5_weekInTruth_51 rfl (lv_at hl 1 rfl) ?_
    refine lv_dup C.1 C.2.1 dX5_weekInTruth_52 rfl ?_
    refine mg_4 (v := (F 4)) C hP rfl dX5_weekInTruth_53 ?_
    refine lv_iconst (v := 1) C.1 C.2.1 dX5_weekInTruth_56 (by decide) ?_
    refine lv_iadd C.1 C.2.1 dX5_weekInTruth_57 ?_
    refine mp_4 C hP hS dX5_weekInTruth_58 (fun H locs hP hS => ?_)
    obtain rfl := Option.some.inj hE
    exact hJ61u4 H locs ls hP hS (lv_sub hl [1, 2, 0] rfl)
def sM_week (f_many : Int32) (f_weight : Int32) (f_fright : Int32) (f_age : Int32) (f_pets : Int32) (f_feed : Int32) (f_life : Int32) (f_low : Int32) (f_last : Int32) (f_heft : Int32) (f_alarm : Int32) (f_old : Int32) (f_died : Int32) (f_ofWhat : Int32) (f_heavy : Int32) (a_refused : Nat → Int32) (a_kind : Nat → Int32) (a_part : Nat → Int32) (a_ill : Nat → Int32) (a_had : Nat → Int32) (a_deaths : Nat → Int32) (p1 : Int32) : Option (Int32 × Int32 × Int32 × Int32 × Int32 × Int32 × Int32 × Int32 × Int32 × Int32 × Int32 × Int32 × (Nat → Int32) × (Nat → Int32) × (Nat → Int32)) :=
  if p1 = (-1) then
    if p1 = (-1) then
      (sM_weekInTruth f_weight f_fright f_age f_pets f_feed f_life f_low f_last f_heft f_alarm f_old f_died f_ofWhat f_heavy a_kind a_part a_had a_deaths p1).bind fun r3 =>
      if r3.1 = 0 then
        some (r3.2.1, r3.2.1, r3.2.2.1, r3.2.2.2.1, r3.2.2.2.2.1, r3.2.2.2.2.2.1, r3.2.2.2.2.2.2.1, r3.2.2.2.2.2.2.2.1, r3.2.2.2.2.2.2.2.2.1, r3.2.2.2.2.2.2.2.2.2.1, r3.2.2.2.2.2.2.2.2.2.2.1, r3.2.2.2.2.2.2.2.2.2.2.2.1, a_refused, r3.2.2.2.2.2.2.2.2.2.2.2.2.1, r3.2.2.2.2.2.2.2.2.2.2.2.2.2)
      else
        some ((-1), r3.2.1, r3.2.2.1, r3.2.2.2.1, r3.2.2.2.2.1, r3.2.2.2.2.2.1, r3.2.2.2.2.2.2.1, r3.2.2.2.2.2.2.2.1, r3.2.2.2.2.2.2.2.2.1, r3.2.2.2.2.2.2.2.2.2.1, r3.2.2.2.2.2.2.2.2.2.2.1, r3.2.2.2.2.2.2.2.2.2.2.2.1, a_refused, r3.2.2.2.2.2.2.2.2.2.2.2.2.1, r3.2.2.2.2.2.2.2.2.2.2.2.2.2)
    else
      (sM_may f_many a_ill p1).bind fun r5 =>
      if r5 = 0 then
        (sM_noTen a_refused (-6)).bind fun r9 =>
        some (r9.1, f_weight, f_fright, f_age, f_pets, f_last, f_heft, f_alarm, f_old, f_died, f_ofWhat, f_heavy, r9.2, a_had, a_deaths)
      else
        (sM_weekInTruth f_weight f_fright f_age f_pets f_feed f_life f_low f_last f_heft f_alarm f_old f_died f_ofWhat f_heavy a_kind a_part a_had a_deaths p1).bind fun r7 =>
        if r7.1 = 0 then
          some (r7.2.1, r7.2.1, r7.2.2.1, r7.2.2.2.1, r7.2.2.2.2.1, r7.2.2.2.2.2.1, r7.2.2.2.2.2.2.1, r7.2.2.2.2.2.2.2.1, r7.2.2.2.2.2.2.2.2.1, r7.2.2.2.2.2.2.2.2.2.1, r7.2.2.2.2.2.2.2.2.2.2.1, r7.2.2.2.2.2.2.2.2.2.2.2.1, a_refused, r7.2.2.2.2.2.2.2.2.2.2.2.2.1, r7.2.2.2.2.2.2.2.2.2.2.2.2.2)
        else
          some ((-1), r7.2.1, r7.2.2.1, r7.2.2.2.1, r7.2.2.2.2.1, r7.2.2.2.2.2.1, r7.2.2.2.2.2.2.1, r7.2.2.2.2.2.2.2.1, r7.2.2.2.2.2.2.2.2.1, r7.2.2.2.2.2.2.2.2.2.1, r7.2.2.2.2.2.2.2.2.2.2.1, r7.2.2.2.2.2.2.2.2.2.2.2.1, a_refused, r7.2.2.2.2.2.2.2.2.2.2.2.2.1, r7.2.2.2.2.2.2.2.2.2.2.2.2.2)
  else
    (sM_isHome f_many p1).bind fun r10 =>
    if r10 = 0 then
      (sM_noTen a_refused (-1)).bind fun r20 =>
      some (r20.1, f_weight, f_fright, f_age, f_pets, f_last, f_heft, f_alarm, f_old, f_died, f_ofWhat, f_heavy, r20.2, a_had, a_deaths)
    else
      if p1 = (-1) then
        (sM_weekInTruth f_weight f_fright f_age f_pets f_feed f_life f_low f_last f_heft f_alarm f_old f_died f_ofWhat f_heavy a_kind a_part a_had a_deaths p1).bind fun r13 =>
        if r13.1 = 0 then
          some (r13.2.1, r13.2.1, r13.2.2.1, r13.2.2.2.1, r13.2.2.2.2.1, r13.2.2.2.2.2.1, r13.2.2.2.2.2.2.1, r13.2.2.2.2.2.2.2.1, r13.2.2.2.2.2.2.2.2.1, r13.2.2.2.2.2.2.2.2.2.1, r13.2.2.2.2.2.2.2.2.2.2.1, r13.2.2.2.2.2.2.2.2.2.2.2.1, a_refused, r13.2.2.2.2.2.2.2.2.2.2.2.2.1, r13.2.2.2.2.2.2.2.2.2.2.2.2.2)
        else
          some ((-1), r13.2.1, r13.2.2.1, r13.2.2.2.1, r13.2.2.2.2.1, r13.2.2.2.2.2.1, r13.2.2.2.2.2.2.1, r13.2.2.2.2.2.2.2.1, r13.2.2.2.2.2.2.2.2.1, r13.2.2.2.2.2.2.2.2.2.1, r13.2.2.2.2.2.2.2.2.2.2.1, r13.2.2.2.2.2.2.2.2.2.2.2.1, a_refused, r13.2.2.2.2.2.2.2.2.2.2.2.2.1, r13.2.2.2.2.2.2.2.2.2.2.2.2.2)
      else
        (sM_may f_many a_ill p1).bind fun r15 =>
        if r15 = 0 then
          (sM_noTen a_refused (-6)).bind fun r19 =>
          some (r19.1, f_weight, f_fright, f_age, f_pets, f_last, f_heft, f_alarm, f_old, f_died, f_ofWhat, f_heavy, r19.2, a_had, a_deaths)
        else
          (sM_weekInTruth f_weight f_fright f_age f_pets f_feed f_life f_low f_last f_heft f_alarm f_old f_died f_ofWhat f_heavy a_kind a_part a_had a_deaths p1).bind fun r17 =>
          if r17.1 = 0 then
            some (r17.2.1, r17.2.1, r17.2.2.1, r17.2.2.2.1, r17.2.2.2.2.1, r17.2.2.2.2.2.1, r17.2.2.2.2.2.2.1, r17.2.2.2.2.2.2.2.1, r17.2.2.2.2.2.2.2.2.1, r17.2.2.2.2.2.2.2.2.2.1, r17.2.2.2.2.2.2.2.2.2.2.1, r17.2.2.2.2.2.2.2.2.2.2.2.1, a_refused, r17.2.2.2.2.2.2.2.2.2.2.2.2.1, r17.2.2.2.2.2.2.2.2.2.2.2.2.2)
          else
            some ((-1), r17.2.1, r17.2.2.1, r17.2.2.2.1, r17.2.2.2.2.1, r17.2.2.2.2.2.1, r17.2.2.2.2.2.2.1, r17.2.2.2.2.2.2.2.1, r17.2.2.2.2.2.2.2.2.1, r17.2.2.2.2.2.2.2.2.2.1, r17.2.2.2.2.2.2.2.2.2.2.1, r17.2.2.2.2.2.2.2.2.2.2.2.1, a_refused, r17.2.2.2.2.2.2.2.2.2.2.2.2.1, r17.2.2.2.2.2.2.2.2.2.2.2.2.2)
set_option maxHeartbeats 4000000 in
theorem metM_week (l : Launch) (G : kG) (h0 : Nat) (ad : Nat → Nat) (F : Nat → Int32) (A : Nat → Nat → Int32) (L : Nat → Nat → Int64) (p1 : Int32) (res : Int32 × Int32 × Int32 × Int32 × Int32 × Int32 × Int32 × Int32 × Int32 × Int32 × Int32 × Int32 × (Nat → Int32) × (Nat → Int32) × (Nat → Int32)) (hE : sM_week (F 0) (F 1) (F 2) (F 3) (F 4) (F 5) (F 6) (F 7) (F 8) (F 35) (F 36) (F 37) (F 38) (F 39) (F 40) (A 11) (A 12) (A 13) (A 15) (A 16) (A 17) p1 = some res) : Met l yX5_week (ws_ yX5_week cX5_week 2 (some .int)) ({ frames := 4, cells := 0, slots := 0, locals := 87 } : Room) (mPc G h0 ad F A L [.int p1]) (mQc G h0 ad (upd (upd (upd (upd (upd (upd (upd (upd (upd (upd (upd F 1 res.2.1) 2 res.2.2.1) 3 res.2.2.2.1) 4 res.2.2.2.2.1) 8 res.2.2.2.2.2.1) 35 res.2.2.2.2.2.2.1) 36 res.2.2.2.2.2.2.2.1) 37 res.2.2.2.2.2.2.2.2.1) 38 res.2.2.2.2.2.2.2.2.2.1) 39 res.2.2.2.2.2.2.2.2.2.2.1) 40 res.2.2.2.2.2.2.2.2.2.2.2.1) (va_up (va_up (va_up A 11 res.2.2.2.2.2.2.2.2.2.2.2.2.1) 16 res.2.2.2.2.2.2.2.2.2.2.2.2.2.1) 17 res.2.2.2.2.2.2.2.2.2.2.2.2.2.2) L (some (.int res.1))) 0 0 (mA h0 ad) := by
  refine m_ofW (by decide) rfl (Nat.le_of_ble_eq_true rfl) ?_
  intro p e s m args below meth c ls C hml hP hS hl hr hlocks
  have hl : lv_has ls 2 [(0, .ref h0), (1, .int p1)] := hl
  obtain ⟨Q, hQ⟩ : ∃ Q, Q = MQ below (mQc G h0 ad (upd (upd (upd (upd (upd (upd (upd (upd (upd (upd (upd F 1 res.2.1) 2 res.2.2.1) 3 res.2.2.2.1) 4 res.2.2.2.2.1) 8 res.2.2.2.2.2.1) 35 res.2.2.2.2.2.2.1) 36 res.2.2.2.2.2.2.2.1) 37 res.2.2.2.2.2.2.2.2.1) 38 res.2.2.2.2.2.2.2.2.2.1) 39 res.2.2.2.2.2.2.2.2.2.2.1) 40 res.2.2.2.2.2.2.2.2.2.2.2.1) (va_up (va_up (va_up A 11 res.2.2.2.2.2.2.2.2.2.2.2.2.1) 16 res.2.2.2.2.2.2.2.2.2.2.2.2.2.1) 17 res.2.2.2.2.2.2.2.2.2.2.2.2.2.2) L (some (.int res.1))) args s 0 0 (mA h0 ad) := ⟨_, rfl⟩
  rw [← hQ]
  have hret : ∀ (pc : Nat) (ls : Array Slot) (H : Heap) (locs : List Loc), decode cX5_week pc = .ok (.ireturn, 1) → mPw G h0 ad (upd (upd (upd (upd (upd (upd (upd (upd (upd (upd (upd F 1 res.2.1) 2 res.2.2.1) 3 res.2.2.2.1) 4 res.2.2.2.2.1) 8 res.2.2.2.2.2.1) 35 res.2.2.2.2.2.2.1) 36 res.2.2.2.2.2.2.2.1) 37 res.2.2.2.2.2.2.2.2.1) 38 res.2.2.2.2.2.2.2.2.2.1) 39 res.2.2.2.2.2.2.2.2.2.2.1) 40 res.2.2.2.2.2.2.2.2.2.2.2.1) (va_up (va_up (va_up A 11 res.2.2.2.2.2.2.2.2.2.2.2.2.1) 16 res.2.2.2.2.2.2.2.2.2.2.2.2.2.1) 17 res.2.2.2.2.2.2.2.2.2.2.2.2.2.2) L H → va_S (mA h0 ad) s.heap H locs → W p l e ({ frames := 4, cells := 0, slots := 0, locals := 87 } : Room) s m args below meth c H locs 0 0 Q (F0 m pc ls [.int res.1]) := by
    intro pc ls H locs hd hP hS
    rw [hQ]
    exact m_iret C hr hlocks hd hP hS
  clear hQ
  obtain ⟨H, hH⟩ : ∃ H, H = s.heap := ⟨_, rfl⟩
  obtain ⟨locs, hlo⟩ : ∃ locs : List Loc, locs = [] := ⟨_, rfl⟩
  have hP : mPw G h0 ad F A L H := by rw [hH]; exact hP
  have hS : va_S (mA h0 ad) s.heap H locs := by rw [hH, hlo]; exact hS
  suffices hZ : W p l e ({ frames := 4, cells := 0, slots := 0, locals := 87 } : Room) s m args below meth c H locs 0 0 Q (F0 m 0 ls []) by rw [hH, hlo] at hZ; exact hZ
  clear hH hlo
  unfold sM_week at hE
  refine lv_iload_n C.1 C.2.1 dX5_week_0 rfl (lv_at hl 1 rfl) ?_
  refine lv_iconst (v := (-1)) C.1 C.2.1 dX5_week_1 (by decide) ?_
  refine lv_icmp_eq (tgt := 19) C.1 C.2.1 dX5_week_2 (by decide) (fun c1 => ?_) (fun c1 => ?_)
  · have hE := it_t c1 hE
    refine lv_iload_n C.1 C.2.1 dX5_week_19 rfl (lv_at hl 1 rfl) ?_
    refine lv_iconst (v := (-1)) C.1 C.2.1 dX5_week_20 (by decide) ?_
    refine lv_icmp_eq (tgt := 39) C.1 C.2.1 dX5_week_21 (by decide) (fun c2 => ?_) (fun c2 => ?_)
    · have hE := it_t c2 hE
      refine lv_aload_n C.1 C.2.1 dX5_week_39 rfl (lv_at hl 0 rfl) ?_
      refine lv_iload_n C.1 C.2.1 dX5_week_40 rfl (lv_at hl 1 rfl) ?_
      obtain ⟨r3, hr3, hE⟩ := it_b hE
      refine m_call (n := 1) (As := [.int p1]) (rest := []) C hP hS hml (metM_weekInTruth l G h0 ad _ _ _ p1 r3 hr3) q1599 q1601 qs49 q1602 rfl rfl (by decide +kernel) ⟨Nat.le_of_ble_eq_true rfl, Nat.le_of_ble_eq_true rfl⟩ ⟨Nat.le_refl _, Nat.le_refl _⟩ rfl hl.1 rfl (Nat.le_of_ble_eq_true rfl) dX5_week_41 (fun H locs hP hS => ?_)
      refine lv_if_eq (tgt := 51) C.1 C.2.1 dX5_week_44 (by decide) (fun c4 => ?_) (fun c4 => ?_)
      · have hE := it_t c4 hE
        refine lv_aload_n C.1 C.2.1 dX5_week_51 rfl (lv_at hl 0 rfl) ?_
        refine mg_1 (v := r3.2.1) C hP rfl dX5_week_52 ?_
        obtain rfl := Option.some.inj hE
        exact hret _ _ _ _ dX5_week_55 hP hS
      · have hE := it_f c4 hE
        refine lv_iconst (v := (-1)) C.1 C.2.1 dX5_week_47 (by decide) ?_
        refine lv_goto (tgt := 55) C.1 C.2.1 dX5_week_48 (by decide) ?_
        obtain rfl := Option.some.inj hE
        exact hret _ _ _ _ dX5_week_55 hP hS
    · have hE := it_f c2 hE
      refine lv_aload_n C.1 C.2.1 dX5_week_24 rfl (lv_at hl 0 rfl) ?_
      refine lv_iload_n C.1 C.2.1 dX5_week_25 rfl (lv_at hl 1 rfl) ?_
      obtain ⟨r5, hr5, hE⟩ := it_b hE
      refine m_call (n := 1) (As := [.int p1]) (rest := []) C hP hS hml (metM_may l G h0 ad _ _ _ p1 r5 hr5) q1595 q1597 qs48 q1598 rfl rfl (by decide +kernel) ⟨Nat.le_of_ble_eq_true rfl, Nat.le_of_ble_eq_true rfl⟩ ⟨Nat.le_refl _, Nat.le_refl _⟩ rfl hl.1 rfl (Nat.le_of_ble_eq_true rfl) dX5_week_26 (fun H locs hP hS => ?_)
      refine lv_if_ne (tgt := 39) C.1 C.2.1 dX5_week_29 (by decide) (fun c6 => ?_) (fun c6 => ?_)
      · have hE := it_f c6 hE
        refine lv_aload_n C.1 C.2.1 dX5_week_39 rfl (lv_at hl 0 rfl) ?_
        refine lv_iload_n C.1 C.2.1 dX5_week_40 rfl (lv_at hl 1 rfl) ?_
        obtain ⟨r7, hr7, hE⟩ := it_b hE
        refine m_call (n := 1) (As := [.int p1]) (rest := []) C hP hS hml (metM_weekInTruth l G h0 ad _ _ _ p1 r7 hr7) q1599 q1601 qs49 q1602 rfl rfl (by decide +kernel) ⟨Nat.le_of_ble_eq_true rfl, Nat.le_of_ble_eq_true rfl⟩ ⟨Nat.le_refl _, Nat.le_refl _⟩ rfl hl.1 rfl (Nat.le_of_ble_eq_true rfl) dX5_week_41 (fun H locs hP hS => ?_)
        refine lv_if_eq (tgt := 51) C.1 C.2.1 dX5_week_44 (by decide) (fun c8 => ?_) (fun c8 => ?_)
        · have hE := it_t c8 hE
          refine lv_aload_n C.1 C.2.1 dX5_week_51 rfl (lv_at hl 0 rfl) ?_
          refine mg_1 (v := r7.2.1) C hP rfl dX5_week_52 ?_
          obtain rfl := Option.some.inj hE
          exact hret _ _ _ _ dX5_week_55 hP hS
        · have hE := it_f c8 hE
          refine lv_iconst (v := (-1)) C.1 C.2.1 dX5_week_47 (by decide) ?_
          refine lv_goto (tgt := 55) C.1 C.2.1 dX5_week_48 (by decide) ?_
          obtain rfl := Option.some.inj hE
          exact hret _ _ _ _ dX5_week_55 hP hS
      · have hE := it_t c6 hE
        refine lv_aload_n C.1 C.2.1 dX5_week_32 rfl (lv_at hl 0 rfl) ?_
        refine lv_bipush (v := (-6)) C.1 C.2.1 dX5_week_33 (by decide) ?_
        obtain ⟨r9, hr9, hE⟩ := it_b hE
        refine m_call (n := 1) (As := [.int (-6)]) (rest := []) C hP hS hml (metM_noTen l G h0 ad _ _ _ (-6) r9 hr9) q1647 q1649 qs58 q1650 rfl rfl (by decide +kernel) ⟨Nat.le_of_ble_eq_true rfl, Nat.le_of_ble_eq_true rfl⟩ ⟨Nat.le_refl _, Nat.le_refl _⟩ rfl hl.1 rfl (Nat.le_of_ble_eq_true rfl) dX5_week_35 (fun H locs hP hS => ?_)
        obtain rfl := Option.some.inj hE
        exact hret _ _ _ _ dX5_week_38 hP hS
  · have hE := it_f c1 hE
    refine lv_aload_n C.1 C.2.1 dX5_week_5 rfl (lv_at hl 0 rfl) ?_
    refine lv_iload_n C.1 C.2.1 dX5_week_6 rfl (lv_at hl 1 rfl) ?_
    obtain ⟨r10, hr10, hE⟩ := it_b hE
    refine m_call (n := 1) (As := [.int p1]) (rest := []) C hP hS hml (metM_isHome l G h0 ad _ _ _ p1 r10 hr10) q1503 q1505 qs33 q1506 rfl rfl (by decide +kernel) ⟨Nat.le_of_ble_eq_true rfl, Nat.le_of_ble_eq_true rfl⟩ ⟨Nat.le_refl _, Nat.le_refl _⟩ rfl hl.1 rfl (Nat.le_of_ble_eq_true rfl) dX5_week_7 (fun H locs hP hS => ?_)
    refine lv_if_ne (tgt := 19) C.1 C.2.1 dX5_week_10 (by decide) (fun c11 => ?_) (fun c11 => ?_)
    · have hE := it_f c11 hE
      refine lv_iload_n C.1 C.2.1 dX5_week_19 rfl (lv_at hl 1 rfl) ?_
      refine lv_iconst (v := (-1)) C.1 C.2.1 dX5_week_20 (by decide) ?_
      refine lv_icmp_eq (tgt := 39) C.1 C.2.1 dX5_week_21 (by decide) (fun c12 => ?_) (fun c12 => ?_)
      · have hE := it_t c12 hE
        refine lv_aload_n C.1 C.2.1 dX5_week_39 rfl (lv_at hl 0 rfl) ?_
        refine lv_iload_n C.1 C.2.1 dX5_week_40 rfl (lv_at hl 1 rfl) ?_
        obtain ⟨r13, hr13, hE⟩ := it_b hE
        refine m_call (n := 1) (As := [.int p1]) (rest := []) C hP hS hml (metM_weekInTruth l G h0 ad _ _ _ p1 r13 hr13) q1599 q1601 qs49 q1602 rfl rfl (by decide +kernel) ⟨Nat.le_of_ble_eq_true rfl, Nat.le_of_ble_eq_true rfl⟩ ⟨Nat.le_refl _, Nat.le_refl _⟩ rfl hl.1 rfl (Nat.le_of_ble_eq_true rfl) dX5_week_41 (fun H locs hP hS => ?_)
        refine lv_if_eq (tgt := 51) C.1 C.2.1 dX5_week_44 (by decide) (fun c14 => ?_) (fun c14 => ?_)
        · have hE := it_t c14 hE
          refine lv_aload_n C.1 C.2.1 dX5_week_51 rfl (lv_at hl 0 rfl) ?_
          refine mg_1 (v := r13.2.1) C hP rfl dX5_week_52 ?_
          obtain rfl := Option.some.inj hE
          exact hret _ _ _ _ dX5_week_55 hP hS
        · have hE := it_f c14 hE
          refine lv_iconst (v := (-1)) C.1 C.2.1 dX5_week_47 (by decide) ?_
          refine lv_goto (tgt := 55) C.1 C.2.1 dX5_week_48 (by decide) ?_
          obtain rfl := Option.some.inj hE
          exact hret _ _ _ _ dX5_week_55 hP hS
      · have hE := it_f c12 hE
        refine lv_aload_n C.1 C.2.1 dX5_week_24 rfl (lv_at hl 0 rfl) ?_
        refine lv_iload_n C.1 C.2.1 dX5_week_25 rfl (lv_at hl 1 rfl) ?_
        obtain ⟨r15, hr15, hE⟩ := it_b hE
        refine m_call (n := 1) (As := [.int p1]) (rest := []) C hP hS hml (metM_may l G h0 ad _ _ _ p1 r15 hr15) q1595 q1597 qs48 q1598 rfl rfl (by decide +kernel) ⟨Nat.le_of_ble_eq_true rfl, Nat.le_of_ble_eq_true rfl⟩ ⟨Nat.le_refl _, Nat.le_refl _⟩ rfl hl.1 rfl (Nat.le_of_ble_eq_true rfl) dX5_week_26 (fun H locs hP hS => ?_)
        refine lv_if_ne (tgt := 39) C.1 C.2.1 dX5_week_29 (by decide) (fun c16 => ?_) (fun c16 => ?_)
        · have hE := it_f c16 hE
          refine lv_aload_n C.1 C.2.1 dX5_week_39 rfl (lv_at hl 0 rfl) ?_
          refine lv_iload_n C.1 C.2.1 dX5_week_40 rfl (lv_at hl 1 rfl) ?_
          obtain ⟨r17, hr17, hE⟩ := it_b hE
          refine m_call (n := 1) (As := [.int p1]) (rest := []) C hP hS hml (metM_weekInTruth l G h0 ad _ _ _ p1 r17 hr17) q1599 q1601 qs49 q1602 rfl rfl (by decide +kernel) ⟨Nat.le_of_ble_eq_true rfl, Nat.le_of_ble_eq_true rfl⟩ ⟨Nat.le_refl _, Nat.le_refl _⟩ rfl hl.1 rfl (Nat.le_of_ble_eq_true rfl) dX5_week_41 (fun H locs hP hS => ?_)
          refine lv_if_eq (tgt := 51) C.1 C.2.1 dX5_week_44 (by decide) (fun c18 => ?_) (fun c18 => ?_)
          · have hE := it_t c18 hE
            refine lv_aload_n C.1 C.2.1 dX5_week_51 rfl (lv_at hl 0 rfl) ?_
            refine mg_1 (v := r17.2.1) C hP rfl dX5_week_52 ?_
            obtain rfl := Option.some.inj hE
            exact hret _ _ _ _ dX5_week_55 hP hS
          · have hE := it_f c18 hE
            refine lv_iconst (v := (-1)) C.1 C.2.1 dX5_week_47 (by decide) ?_
            refine lv_goto (tgt := 55) C.1 C.2.1 dX5_week_48 (by decide) ?_
            obtain rfl := Option.some.inj hE
            exact hret _ _ _ _ dX5_week_55 hP hS
        · have hE := it_t c16 hE
          refine lv_aload_n C.1 C.2.1 dX5_week_32 rfl (lv_at hl 0 rfl) ?_
          refine lv_bipush (v := (-6)) C.1 C.2.1 dX5_week_33 (by decide) ?_
          obtain ⟨r19, hr19, hE⟩ := it_b hE
          refine m_call (n := 1) (As := [.int (-6)]) (rest := []) C hP hS hml (metM_noTen l G h0 ad _ _ _ (-6) r19 hr19) q1647 q1649 qs58 q1650 rfl rfl (by decide +kernel) ⟨Nat.le_of_ble_eq_true rfl, Nat.le_of_ble_eq_true rfl⟩ ⟨Nat.le_refl _, Nat.le_refl _⟩ rfl hl.1 rfl (Nat.le_of_ble_eq_true rfl) dX5_week_35 (fun H locs hP hS => ?_)
          obtain rfl := Option.some.inj hE
          exact hret _ _ _ _ dX5_week_38 hP hS
    · have hE := it_t c11 hE
      refine lv_aload_n C.1 C.2.1 dX5_week_13 rfl (lv_at hl 0 rfl) ?_
      refine lv_iconst (v := (-1)) C.1 C.2.1 dX5_week_14 (by decide) ?_
      obtain ⟨r20, hr20, hE⟩ := it_b hE
      refine m_call (n := 1) (As := [.int (-1)]) (rest := []) C hP hS hml (metM_noTen l G h0 ad _ _ _ (-1) r20 hr20) q1647 q1649 qs58 q1650 rfl rfl (by decide +kernel) ⟨Nat.le_of_ble_eq_true rfl, Nat.le_of_ble_eq_true rfl⟩ ⟨Nat.le_refl _, Nat.le_refl _⟩ rfl hl.1 rfl (Nat.le_of_ble_eq_true rfl) dX5_week_15 (fun H locs hP hS => ?_)
      obtain rfl := Option.some.inj hE
      exact hret _ _ _ _ dX5_week_18 hP hS
def sM_weeks_h46 (x1 : Int32) (x2 : Int32) (f_many : Int32) (f_feed : Int32) (f_life : Int32) (f_low : Int32) (a_kind : Nat → Int32) (a_part : Nat → Int32) (a_marks : Nat → Int32) (a_ill : Nat → Int32) : Nat → Int32 → Int32 → Int32 → Int32 → Int32 → Int32 → Int32 → Int32 → Int32 → Int32 → Int32 → Int32 → Int32 → (Nat → Int32) → (Nat → Int32) → Option (Int32 × Int32 × Int32 × Int32 × Int32 × Int32 × Int32 × Int32 × Int32 × Int32 × Int32 × Int32 × (Nat → Int32) × (Nat → Int32))
  | 0, _, _, _, _, _, _, _, _, _, _, _, _, _, _, _ => none
  | fuel + 1, x3, x4, f_weight, f_fright, f_age, f_pets, f_last, f_heft, f_alarm, f_old, f_died, f_ofWhat, f_heavy, a_had, a_deaths =>
    if x1 ≤ x4 then
      some (x3, f_weight, f_fright, f_age, f_pets, f_last, f_heft, f_alarm, f_old, f_died, f_ofWhat, f_heavy, a_had, a_deaths)
    else
      (sM_turn f_many a_marks a_ill a_had x2).bind fun r4702 =>
      (sM_weekInTruth f_weight f_fright f_age f_pets f_feed f_life f_low f_last f_heft f_alarm f_old f_died f_ofWhat f_heavy a_kind a_part a_had a_deaths r4702).bind fun r4703 =>
      @Option.bind (Int32) _ (
        if r4703.1 = 0 then
          some x3
        else
          some (x3 + 1)) fun u4705 =>
      sM_weeks_h46 x1 x2 f_many f_feed f_life f_low a_kind a_part a_marks a_ill fuel u4705 (x4 + 1) r4703.2.1 r4703.2.2.1 r4703.2.2.2.1 r4703.2.2.2.2.1 r4703.2.2.2.2.2.1 r4703.2.2.2.2.2.2.1 r4703.2.2.2.2.2.2.2.1 r4703.2.2.2.2.2.2.2.2.1 r4703.2.2.2.2.2.2.2.2.2.1 r4703.2.2.2.2.2.2.2.2.2.2.1 r4703.2.2.2.2.2.2.2.2.2.2.2.1 r4703.2.2.2.2.2.2.2.2.2.2.2.2.1 r4703.2.2.2.2.2.2.2.2.2.2.2.2.2
def sM_weeks (f_many : Int32) (f_weight : Int32) (f_fright : Int32) (f_age : Int32) (f_pets : Int32) (f_feed : Int32) (f_life : Int32) (f_low : Int32) (f_last : Int32) (f_heft : Int32) (f_alarm : Int32) (f_old : Int32) (f_died : Int32) (f_ofWhat : Int32) (f_heavy : Int32) (a_refused : Nat → Int32) (a_kind : Nat → Int32) (a_part : Nat → Int32) (a_marks : Nat → Int32) (a_ill : Nat → Int32) (a_had : Nat → Int32) (a_deaths : Nat → Int32) (p1 : Int32) (p2 : Int32) : Option (Int32 × Int32 × Int32 × Int32 × Int32 × Int32 × Int32 × Int32 × Int32 × Int32 × Int32 × Int32 × (Nat → Int32) × (Nat → Int32) × (Nat → Int32)) :=
  if p2 < 0 then
    (sM_no a_refused (-5)).bind fun r2 =>
    some (r2.1, f_weight, f_fright, f_age, f_pets, f_last, f_heft, f_alarm, f_old, f_died, f_ofWhat, f_heavy, r2.2, a_had, a_deaths)
  else
    if 1 < p2 then
      (sM_no a_refused (-5)).bind fun r4 =>
      some (r4.1, f_weight, f_fright, f_age, f_pets, f_last, f_heft, f_alarm, f_old, f_died, f_ofWhat, f_heavy, r4.2, a_had, a_deaths)
    else
      (sM_mays f_many a_ill).bind fun r5 =>
      if r5 = 0 then
        (sM_no a_refused (-5)).bind fun r12 =>
        some (r12.1, f_weight, f_fright, f_age, f_pets, f_last, f_heft, f_alarm, f_old, f_died, f_ofWhat, f_heavy, r12.2, a_had, a_deaths)
      else
        if p1 < 1 then
          (sM_no a_refused (-6)).bind fun r8 =>
          some (r8.1, f_weight, f_fright, f_age, f_pets, f_last, f_heft, f_alarm, f_old, f_died, f_ofWhat, f_heavy, r8.2, a_had, a_deaths)
        else
          if p1 ≤ 60 then
            (sM_weeks_h46 p1 p2 f_many f_feed f_life f_low a_kind a_part a_marks a_ill 2000 0 0 f_weight f_fright f_age f_pets f_last f_heft f_alarm f_old f_died f_ofWhat f_heavy a_had a_deaths).bind fun u10 =>
            some (u10.1, u10.2.1, u10.2.2.1, u10.2.2.2.1, u10.2.2.2.2.1, u10.2.2.2.2.2.1, u10.2.2.2.2.2.2.1, u10.2.2.2.2.2.2.2.1, u10.2.2.2.2.2.2.2.2.1, u10.2.2.2.2.2.2.2.2.2.1, u10.2.2.2.2.2.2.2.2.2.2.1, u10.2.2.2.2.2.2.2.2.2.2.2.1, a_refused, u10.2.2.2.2.2.2.2.2.2.2.2.2.1, u10.2.2.2.2.2.2.2.2.2.2.2.2.2)
          else
            (sM_no a_refused (-6)).bind fun r11 =>
            some (r11.1, f_weight, f_fright, f_age, f_pets, f_last, f_heft, f_alarm, f_old, f_died, f_ofWhat, f_heavy, r11.2, a_had, a_deaths)
set_option maxHeartbeats 4000000 in
theorem wM_weeks_h46 {p : Program} {l : Launch} {e : Env} {s : State} {m : MethodId} {args : Array Value} {below : List Frame} {meth : Method} {c : Code} {G : kG} {h0 : Nat} {ad : Nat → Nat} {Q : State → Prop} (C : mC p s m args c cX5_weeks G h0 ad) (hml : c.maxLocals = 5) (F : Nat → Int32) (A : Nat → Nat → Int32) (L : Nat → Nat → Int64) (x1 : Int32) (x2 : Int32) (a_refused : Nat → Int32) (res : Int32 × Int32 × Int32 × Int32 × Int32 × Int32 × Int32 × Int32 × Int32 × Int32 × Int32 × Int32 × (Nat → Int32) × (Nat → Int32)) :
    ∀ (fuel : Nat) (x3 : Int32) (x4 : Int32) (f_weight : Int32) (f_fright : Int32) (f_age : Int32) (f_pets : Int32) (f_last : Int32) (f_heft : Int32) (f_alarm : Int32) (f_old : Int32) (f_died : Int32) (f_ofWhat : Int32) (f_heavy : Int32) (a_had : Nat → Int32) (a_deaths : Nat → Int32) (H : Heap) (locs : List Loc) (ls : Array Slot), sM_weeks_h46 x1 x2 (F 0) (F 5) (F 6) (F 7) (A 12) (A 13) (A 14) (A 15) fuel x3 x4 f_weight f_fright f_age f_pets f_last f_heft f_alarm f_old f_died f_ofWhat f_heavy a_had a_deaths = some res → mPw G h0 ad (upd (upd (upd (upd (upd (upd (upd (upd (upd (upd (upd F 1 f_weight) 2 f_fright) 3 f_age) 4 f_pets) 8 f_last) 35 f_heft) 36 f_alarm) 37 f_old) 38 f_died) 39 f_ofWhat) 40 f_heavy) (va_up (va_up (va_up A 11 a_refused) 16 a_had) 17 a_deaths) L H → va_S (mA h0 ad) s.heap H locs → lv_has ls 5 [(0, .ref h0), (1, .int x1), (2, .int x2), (3, .int x3), (4, .int x4)] → (∀ (H : Heap) (locs : List Loc) (ls : Array Slot), mPw G h0 ad (upd (upd (upd (upd (upd (upd (upd (upd (upd (upd (upd F 1 res.2.1) 2 res.2.2.1) 3 res.2.2.2.1) 4 res.2.2.2.2.1) 8 res.2.2.2.2.2.1) 35 res.2.2.2.2.2.2.1) 36 res.2.2.2.2.2.2.2.1) 37 res.2.2.2.2.2.2.2.2.1) 38 res.2.2.2.2.2.2.2.2.2.1) 39 res.2.2.2.2.2.2.2.2.2.2.1) 40 res.2.2.2.2.2.2.2.2.2.2.2.1) (va_up (va_up (va_up A 11 a_refused) 16 res.2.2.2.2.2.2.2.2.2.2.2.2.1) 17 res.2.2.2.2.2.2.2.2.2.2.2.2.2) L H → va_S (mA h0 ad) s.heap H locs → lv_has ls 5 [(3, .int res.1)] → W p l e ({ frames := 4, cells := 0, slots := 0, locals := 87 } : Room) s m args below meth c H locs 0 0 Q (F0 m 73 ls [])) → W p l e ({ frames := 4, cells := 0, slots := 0, locals := 87 } : Room) s m args below meth c H locs 0 0 Q (F0 m 46 ls []) := by
  intro fuel
  induction fuel with
  | zero =>
    intro x3 x4 f_weight f_fright f_age f_pets f_last f_heft f_alarm f_old f_died f_ofWhat f_heavy a_had a_deaths H locs ls hE
    exact it_n hE
  | succ fuel ih =>
    intro x3 x4 f_weight f_fright f_age f_pets f_last f_heft f_alarm f_old f_died f_ofWhat f_heavy a_had a_deaths H locs ls hE hP hS hl hX
    rw [sM_weeks_h46] at hE
    refine lv_iload C.1 C.2.1 dX5_weeks_46 (lv_at hl 4 rfl) ?_
    refine lv_iload_n C.1 C.2.1 dX5_weeks_48 rfl (lv_at hl 1 rfl) ?_
    refine lv_icmp_ge (tgt := 73) C.1 C.2.1 dX5_weeks_49 (by decide) (fun c4701 => ?_) (fun c4701 => ?_)
    · have hE := it_t c4701 hE
      obtain rfl := Option.some.inj hE
      exact hX H locs ls hP hS (lv_sub hl [3] rfl)
    · have hE := it_f c4701 hE
      refine lv_aload_n C.1 C.2.1 dX5_weeks_52 rfl (lv_at hl 0 rfl) ?_
      refine lv_aload_n C.1 C.2.1 dX5_weeks_53 rfl (lv_at hl 0 rfl) ?_
      refine lv_iload_n C.1 C.2.1 dX5_weeks_54 rfl (lv_at hl 2 rfl) ?_
      obtain ⟨r4702, hr4702, hE⟩ := it_b hE
      refine m_call (n := 1) (As := [.int x2]) (rest := [.ref h0]) C hP hS hml (metM_turn l G h0 ad _ _ _ x2 r4702 hr4702) q1675 q1677 qs63 q1678 rfl rfl (by decide +kernel) ⟨Nat.le_of_ble_eq_true rfl, Nat.le_of_ble_eq_true rfl⟩ ⟨Nat.le_refl _, Nat.le_refl _⟩ rfl hl.1 rfl (Nat.le_of_ble_eq_true rfl) dX5_weeks_55 (fun H locs hP hS => ?_)
      obtain ⟨r4703, hr4703, hE⟩ := it_b hE
      refine m_call (n := 1) (As := [.int r4702]) (rest := []) C hP hS hml (metM_weekInTruth l G h0 ad _ _ _ r4702 r4703 hr4703) q1599 q1601 qs49 q1602 rfl rfl (by decide +kernel) ⟨Nat.le_of_ble_eq_true rfl, Nat.le_of_ble_eq_true rfl⟩ ⟨Nat.le_refl _, Nat.le_refl _⟩ rfl hl.1 rfl (Nat.le_of_ble_eq_true rfl) dX5_weeks_58 (fun H locs hP hS => ?_)
      obtain ⟨u4705, hR, hE⟩ := it_b hE
      have hJ67u4705 : ∀ (H : Heap) (locs : List Loc) (ls : Array Slot), mPw G h0 ad (upd (upd (upd (upd (upd (upd (upd (upd (upd (upd (upd F 1 r4703.2.1) 2 r4703.2.2.1) 3 r4703.2.2.2.1) 4 r4703.2.2.2.2.1) 8 r4703.2.2.2.2.2.1) 35 r4703.2.2.2.2.2.2.1) 36 r4703.2.2.2.2.2.2.2.1) 37 r4703.2.2.2.2.2.2.2.2.1) 38 r4703.2.2.2.2.2.2.2.2.2.1) 39 r4703.2.2.2.2.2.2.2.2.2.2.1) 40 r4703.2.2.2.2.2.2.2.2.2.2.2.1) (va_up (va_up (va_up A 11 a_refused) 16 r4703.2.2.2.2.2.2.2.2.2.2.2.2.1) 17 r4703.2.2.2.2.2.2.2.2.2.2.2.2.2) L H → va_S (mA h0 ad) s.heap H locs → lv_has ls 5 [(0, .ref h0), (1, .int x1), (2, .int x2), (3, .int u4705), (4, .int x4)] → W p l e ({ frames := 4, cells := 0, slots := 0, locals := 87 } : Room) s m args below meth c H locs 0 0 Q (F0 m 67 ls []) := by
        intro H locs ls hP hS hl
        refine lv_iinc (v := (x4 + 1)) (lv' := [(4, .int (x4 + 1)), (0, .ref h0), (1, .int x1), (2, .int x2), (3, .int u4705)]) C.1 C.2.1 dX5_weeks_67 hl (k := 4) rfl rfl (by decide) rfl (fun ls hl => ?_)
        refine lv_goto (tgt := 46) C.1 C.2.1 dX5_weeks_70 (by decide) ?_
        exact ih u4705 (x4 + 1) r4703.2.1 r4703.2.2.1 r4703.2.2.2.1 r4703.2.2.2.2.1 r4703.2.2.2.2.2.1 r4703.2.2.2.2.2.2.1 r4703.2.2.2.2.2.2.2.1 r4703.2.2.2.2.2.2.2.2.1 r4703.2.2.2.2.2.2.2.2.2.1 r4703.2.2.2.2.2.2.2.2.2.2.1 r4703.2.2.2.2.2.2.2.2.2.2.2.1 r4703.2.2.2.2.2.2.2.2.2.2.2.2.1 r4703.2.2.2.2.2.2.2.2.2.2.2.2.2 _ _ _ hE hP hS (lv_sub hl [1, 2, 3, 4, 0] rfl) hX
      have hE := hR
      refine lv_if_eq (tgt := 67) C.1 C.2.1 dX5_weeks_61 (by decide) (fun c4704 => ?_) (fun c4704 => ?_)
      · have hE := it_t c4704 hE
        obtain rfl := Option.some.inj hE
        exact hJ67u4705 H locs ls hP hS (lv_sub hl [0, 1, 2, 3, 4] rfl)
      · have hE := it_f c4704 hE
        refine lv_iinc (v := (x3 + 1)) (lv' := [(3, .int (x3 + 1)), (0, .ref h0), (1, .int x1), (2, .int x2), (4, .int x4)]) C.1 C.2.1 dX5_weeks_64 hl (k := 3) rfl rfl (by decide) rfl (fun ls hl => ?_)
        obtain rfl := Option.some.inj hE
        exact hJ67u4705 H locs ls hP hS (lv_sub hl [1, 2, 3, 0, 4] rfl)
set_option maxHeartbeats 4000000 in
theorem metM_weeks (l : Launch) (G : kG) (h0 : Nat) (ad : Nat → Nat) (F : Nat → Int32) (A : Nat → Nat → Int32) (L : Nat → Nat → Int64) (p1 : Int32) (p2 : Int32) (res : Int32 × Int32 × Int32 × Int32 × Int32 × Int32 × Int32 × Int32 × Int32 × Int32 × Int32 × Int32 × (Nat → Int32) × (Nat → Int32) × (Nat → Int32)) (hE : sM_weeks (F 0) (F 1) (F 2) (F 3) (F 4) (F 5) (F 6) (F 7) (F 8) (F 35) (F 36) (F 37) (F 38) (F 39) (F 40) (A 11) (A 12) (A 13) (A 14) (A 15) (A 16) (A 17) p1 p2 = some res) : Met l yX5_weeks (ws_ yX5_weeks cX5_weeks 5 (some .int)) ({ frames := 4, cells := 0, slots := 0, locals := 87 } : Room) (mPc G h0 ad F A L [.int p1, .int p2]) (mQc G h0 ad (upd (upd (upd (upd (upd (upd (upd (upd (upd (upd (upd F 1 res.2.1) 2 res.2.2.1) 3 res.2.2.2.1) 4 res.2.2.2.2.1) 8 res.2.2.2.2.2.1) 35 res.2.2.2.2.2.2.1) 36 res.2.2.2.2.2.2.2.1) 37 res.2.2.2.2.2.2.2.2.1) 38 res.2.2.2.2.2.2.2.2.2.1) 39 res.2.2.2.2.2.2.2.2.2.2.1) 40 res.2.2.2.2.2.2.2.2.2.2.2.1) (va_up (va_up (va_up A 11 res.2.2.2.2.2.2.2.2.2.2.2.2.1) 16 res.2.2.2.2.2.2.2.2.2.2.2.2.2.1) 17 res.2.2.2.2.2.2.2.2.2.2.2.2.2.2) L (some (.int res.1))) 0 0 (mA h0 ad) := by
  refine m_ofW (by decide) rfl (Nat.le_of_ble_eq_true rfl) ?_
  intro p e s m args below meth c ls C hml hP hS hl hr hlocks
  have hl : lv_has ls 5 [(0, .ref h0), (1, .int p1), (2, .int p2)] := hl
  obtain ⟨Q, hQ⟩ : ∃ Q, Q = MQ below (mQc G h0 ad (upd (upd (upd (upd (upd (upd (upd (upd (upd (upd (upd F 1 res.2.1) 2 res.2.2.1) 3 res.2.2.2.1) 4 res.2.2.2.2.1) 8 res.2.2.2.2.2.1) 35 res.2.2.2.2.2.2.1) 36 res.2.2.2.2.2.2.2.1) 37 res.2.2.2.2.2.2.2.2.1) 38 res.2.2.2.2.2.2.2.2.2.1) 39 res.2.2.2.2.2.2.2.2.2.2.1) 40 res.2.2.2.2.2.2.2.2.2.2.2.1) (va_up (va_up (va_up A 11 res.2.2.2.2.2.2.2.2.2.2.2.2.1) 16 res.2.2.2.2.2.2.2.2.2.2.2.2.2.1) 17 res.2.2.2.2.2.2.2.2.2.2.2.2.2.2) L (some (.int res.1))) args s 0 0 (mA h0 ad) := ⟨_, rfl⟩
  rw [← hQ]
  have hret : ∀ (pc : Nat) (ls : Array Slot) (H : Heap) (locs : List Loc), decode cX5_weeks pc = .ok (.ireturn, 1) → mPw G h0 ad (upd (upd (upd (upd (upd (upd (upd (upd (upd (upd (upd F 1 res.2.1) 2 res.2.2.1) 3 res.2.2.2.1) 4 res.2.2.2.2.1) 8 res.2.2.2.2.2.1) 35 res.2.2.2.2.2.2.1) 36 res.2.2.2.2.2.2.2.1) 37 res.2.2.2.2.2.2.2.2.1) 38 res.2.2.2.2.2.2.2.2.2.1) 39 res.2.2.2.2.2.2.2.2.2.2.1) 40 res.2.2.2.2.2.2.2.2.2.2.2.1) (va_up (va_up (va_up A 11 res.2.2.2.2.2.2.2.2.2.2.2.2.1) 16 res.2.2.2.2.2.2.2.2.2.2.2.2.2.1) 17 res.2.2.2.2.2.2.2.2.2.2.2.2.2.2) L H → va_S (mA h0 ad) s.heap H locs → W p l e ({ frames := 4, cells := 0, slots := 0, locals := 87 } : Room) s m args below meth c H locs 0 0 Q (F0 m pc ls [.int res.1]) := by
    intro pc ls H locs hd hP hS
    rw [hQ]
    exact m_iret C hr hlocks hd hP hS
  clear hQ
  obtain ⟨H, hH⟩ : ∃ H, H = s.heap := ⟨_, rfl⟩
  obtain ⟨locs, hlo⟩ : ∃ locs : List Loc, locs = [] := ⟨_, rfl⟩
  have hP : mPw G h0 ad F A L H := by rw [hH]; exact hP
  have hS : va_S (mA h0 ad) s.heap H locs := by rw [hH, hlo]; exact hS
  suffices hZ : W p l e ({ frames := 4, cells := 0, slots := 0, locals := 87 } : Room) s m args below meth c H locs 0 0 Q (F0 m 0 ls []) by rw [hH, hlo] at hZ; exact hZ
  clear hH hlo
  unfold sM_weeks at hE
  refine lv_iload_n C.1 C.2.1 dX5_weeks_0 rfl (lv_at hl 2 rfl) ?_
  refine lv_if_lt (tgt := 16) C.1 C.2.1 dX5_weeks_1 (by decide) (fun c1 => ?_) (fun c1 => ?_)
  · have hE := it_t c1 hE
    refine lv_aload_n C.1 C.2.1 dX5_weeks_16 rfl (lv_at hl 0 rfl) ?_
    refine lv_bipush (v := (-5)) C.1 C.2.1 dX5_weeks_17 (by decide) ?_
    obtain ⟨r2, hr2, hE⟩ := it_b hE
    refine m_call (n := 1) (As := [.int (-5)]) (rest := []) C hP hS hml (metM_no l G h0 ad _ _ _ (-5) r2 hr2) q1483 q1485 qs32 q1486 rfl rfl (by decide +kernel) ⟨Nat.le_of_ble_eq_true rfl, Nat.le_of_ble_eq_true rfl⟩ ⟨Nat.le_refl _, Nat.le_refl _⟩ rfl hl.1 rfl (Nat.le_of_ble_eq_true rfl) dX5_weeks_19 (fun H locs hP hS => ?_)
    obtain rfl := Option.some.inj hE
    exact hret _ _ _ _ dX5_weeks_22 hP hS
  · have hE := it_f c1 hE
    refine lv_iload_n C.1 C.2.1 dX5_weeks_4 rfl (lv_at hl 2 rfl) ?_
    refine lv_iconst (v := 1) C.1 C.2.1 dX5_weeks_5 (by decide) ?_
    refine lv_icmp_gt (tgt := 16) C.1 C.2.1 dX5_weeks_6 (by decide) (fun c3 => ?_) (fun c3 => ?_)
    · have hE := it_t c3 hE
      refine lv_aload_n C.1 C.2.1 dX5_weeks_16 rfl (lv_at hl 0 rfl) ?_
      refine lv_bipush (v := (-5)) C.1 C.2.1 dX5_weeks_17 (by decide) ?_
      obtain ⟨r4, hr4, hE⟩ := it_b hE
      refine m_call (n := 1) (As := [.int (-5)]) (rest := []) C hP hS hml (metM_no l G h0 ad _ _ _ (-5) r4 hr4) q1483 q1485 qs32 q1486 rfl rfl (by decide +kernel) ⟨Nat.le_of_ble_eq_true rfl, Nat.le_of_ble_eq_true rfl⟩ ⟨Nat.le_refl _, Nat.le_refl _⟩ rfl hl.1 rfl (Nat.le_of_ble_eq_true rfl) dX5_weeks_19 (fun H locs hP hS => ?_)
      obtain rfl := Option.some.inj hE
      exact hret _ _ _ _ dX5_weeks_22 hP hS
    · have hE := it_f c3 hE
      refine lv_aload_n C.1 C.2.1 dX5_weeks_9 rfl (lv_at hl 0 rfl) ?_
      obtain ⟨r5, hr5, hE⟩ := it_b hE
      refine m_call (n := 0) (As := []) (rest := []) C hP hS hml (metM_mays l G h0 ad _ _ _ r5 hr5) q1671 q1673 qs62 q1674 rfl rfl (by decide +kernel) ⟨Nat.le_of_ble_eq_true rfl, Nat.le_of_ble_eq_true rfl⟩ ⟨Nat.le_refl _, Nat.le_refl _⟩ rfl hl.1 rfl (Nat.le_of_ble_eq_true rfl) dX5_weeks_10 (fun H locs hP hS => ?_)
      refine lv_if_ne (tgt := 23) C.1 C.2.1 dX5_weeks_13 (by decide) (fun c6 => ?_) (fun c6 => ?_)
      · have hE := it_f c6 hE
        refine lv_iload_n C.1 C.2.1 dX5_weeks_23 rfl (lv_at hl 1 rfl) ?_
        refine lv_iconst (v := 1) C.1 C.2.1 dX5_weeks_24 (by decide) ?_
        refine lv_icmp_lt (tgt := 34) C.1 C.2.1 dX5_weeks_25 (by decide) (fun c7 => ?_) (fun c7 => ?_)
        · have hE := it_t c7 hE
          refine lv_aload_n C.1 C.2.1 dX5_weeks_34 rfl (lv_at hl 0 rfl) ?_
          refine lv_bipush (v := (-6)) C.1 C.2.1 dX5_weeks_35 (by decide) ?_
          obtain ⟨r8, hr8, hE⟩ := it_b hE
          refine m_call (n := 1) (As := [.int (-6)]) (rest := []) C hP hS hml (metM_no l G h0 ad _ _ _ (-6) r8 hr8) q1483 q1485 qs32 q1486 rfl rfl (by decide +kernel) ⟨Nat.le_of_ble_eq_true rfl, Nat.le_of_ble_eq_true rfl⟩ ⟨Nat.le_refl _, Nat.le_refl _⟩ rfl hl.1 rfl (Nat.le_of_ble_eq_true rfl) dX5_weeks_37 (fun H locs hP hS => ?_)
          obtain rfl := Option.some.inj hE
          exact hret _ _ _ _ dX5_weeks_40 hP hS
        · have hE := it_f c7 hE
          refine lv_iload_n C.1 C.2.1 dX5_weeks_28 rfl (lv_at hl 1 rfl) ?_
          refine lv_bipush (v := 60) C.1 C.2.1 dX5_weeks_29 (by decide) ?_
          refine lv_icmp_le (tgt := 41) C.1 C.2.1 dX5_weeks_31 (by decide) (fun c9 => ?_) (fun c9 => ?_)
          · have hE := it_t c9 hE
            refine lv_iconst (v := 0) C.1 C.2.1 dX5_weeks_41 (by decide) ?_
            refine lv_istore_n (lv' := [(3, .int 0), (0, .ref h0), (1, .int p1), (2, .int p2)]) C.1 C.2.1 dX5_weeks_42 rfl hl (by decide) rfl (fun ls hl => ?_)
            refine lv_iconst (v := 0) C.1 C.2.1 dX5_weeks_43 (by decide) ?_
            refine lv_istore (lv' := [(4, .int 0), (3, .int 0), (0, .ref h0), (1, .int p1), (2, .int p2)]) C.1 C.2.1 dX5_weeks_44 hl (by decide) rfl (fun ls hl => ?_)
            obtain ⟨u10, hu10, hE⟩ := it_b hE
            refine wM_weeks_h46 C hml F A L p1 p2 (A 11) u10 2000 0 0 (F 1) (F 2) (F 3) (F 4) (F 8) (F 35) (F 36) (F 37) (F 38) (F 39) (F 40) (A 16) (A 17) H locs ls hu10 hP hS (lv_sub hl [2, 3, 4, 1, 0] rfl) (fun H locs ls hP hS hl => ?_)
            refine lv_iload_n C.1 C.2.1 dX5_weeks_73 rfl (lv_at hl 0 rfl) ?_
            obtain rfl := Option.some.inj hE
            exact hret _ _ _ _ dX5_weeks_74 hP hS
          · have hE := it_f c9 hE
            refine lv_aload_n C.1 C.2.1 dX5_weeks_34 rfl (lv_at hl 0 rfl) ?_
            refine lv_bipush (v := (-6)) C.1 C.2.1 dX5_weeks_35 (by decide) ?_
            obtain ⟨r11, hr11, hE⟩ := it_b hE
            refine m_call (n := 1) (As := [.int (-6)]) (rest := []) C hP hS hml (metM_no l G h0 ad _ _ _ (-6) r11 hr11) q1483 q1485 qs32 q1486 rfl rfl (by decide +kernel) ⟨Nat.le_of_ble_eq_true rfl, Nat.le_of_ble_eq_true rfl⟩ ⟨Nat.le_refl _, Nat.le_refl _⟩ rfl hl.1 rfl (Nat.le_of_ble_eq_true rfl) dX5_weeks_37 (fun H locs hP hS => ?_)
            obtain rfl := Option.some.inj hE
            exact hret _ _ _ _ dX5_weeks_40 hP hS
      · have hE := it_t c6 hE
        refine lv_aload_n C.1 C.2.1 dX5_weeks_16 rfl (lv_at hl 0 rfl) ?_
        refine lv_bipush (v := (-5)) C.1 C.2.1 dX5_weeks_17 (by decide) ?_
        obtain ⟨r12, hr12, hE⟩ := it_b hE
        refine m_call (n := 1) (As := [.int (-5)]) (rest := []) C hP hS hml (metM_no l G h0 ad _ _ _ (-5) r12 hr12) q1483 q1485 qs32 q1486 rfl rfl (by decide +kernel) ⟨Nat.le_of_ble_eq_true rfl, Nat.le_of_ble_eq_true rfl⟩ ⟨Nat.le_refl _, Nat.le_refl _⟩ rfl hl.1 rfl (Nat.le_of_ble_eq_true rfl) dX5_weeks_19 (fun H locs hP hS => ?_)
        obtain rfl := Option.some.inj hE
        exact hret _ _ _ _ dX5_weeks_22 hP hS
def sM_draw (f_seed : Int32) (p1 : Int32) : Option (Int32 × Int32) :=
  if ¬ p1 = 0 then
  some (((((((f_seed * 1103515245) + 12345)).toUInt32 >>> ((16 : Int32).toUInt32 &&& Int32.toUInt32 31)).toInt32) - (((((f_seed * 1103515245) + 12345)).toUInt32 >>> ((16 : Int32).toUInt32 &&& Int32.toUInt32 31)).toInt32) / p1 * p1), ((f_seed * 1103515245) + 12345))
  else none
set_option maxHeartbeats 4000000 in
theorem metM_draw (l : Launch) (G : kG) (h0 : Nat) (ad : Nat → Nat) (F : Nat → Int32) (A : Nat → Nat → Int32) (L : Nat → Nat → Int64) (p1 : Int32) (res : Int32 × Int32) (hE : sM_draw (F 9) p1 = some res) : Met l yX5_draw (ws_ yX5_draw cX5_draw 2 (some .int)) ({ frames := 0, cells := 0, slots := 0, locals := 0 } : Room) (mPc G h0 ad F A L [.int p1]) (mQc G h0 ad (upd F 9 res.2) A L (some (.int res.1))) 0 0 (mA h0 ad) := by
  refine m_ofW (by decide) rfl (Nat.le_of_ble_eq_true rfl) ?_
  intro p e s m args below meth c ls C hml hP hS hl hr hlocks
  have hl : lv_has ls 2 [(0, .ref h0), (1, .int p1)] := hl
  obtain ⟨Q, hQ⟩ : ∃ Q, Q = MQ below (mQc G h0 ad (upd F 9 res.2) A L (some (.int res.1))) args s 0 0 (mA h0 ad) := ⟨_, rfl⟩
  rw [← hQ]
  have hret : ∀ (pc : Nat) (ls : Array Slot) (H : Heap) (locs : List Loc), decode cX5_draw pc = .ok (.ireturn, 1) → mPw G h0 ad (upd F 9 res.2) A L H → va_S (mA h0 ad) s.heap H locs → W p l e ({ frames := 0, cells := 0, slots := 0, locals := 0 } : Room) s m args below meth c H locs 0 0 Q (F0 m pc ls [.int res.1]) := by
    intro pc ls H locs hd hP hS
    rw [hQ]
    exact m_iret C hr hlocks hd hP hS
  clear hQ
  obtain ⟨H, hH⟩ : ∃ H, H = s.heap := ⟨_, rfl⟩
  obtain ⟨locs, hlo⟩ : ∃ locs : List Loc, locs = [] := ⟨_, rfl⟩
  have hP : mPw G h0 ad F A L H := by rw [hH]; exact hP
  have hS : va_S (mA h0 ad) s.heap H locs := by rw [hH, hlo]; exact hS
  suffices hZ : W p l e ({ frames := 0, cells := 0, slots := 0, locals := 0 } : Room) s m args below meth c H locs 0 0 Q (F0 m 0 ls []) by rw [hH, hlo] at hZ; exact hZ
  clear hH hlo
  unfold sM_draw at hE
  refine lv_aload_n C.1 C.2.1 dX5_draw_0 rfl (lv_at hl 0 rfl) ?_
  refine lv_aload_n C.1 C.2.1 dX5_draw_1 rfl (lv_at hl 0 rfl) ?_
  refine mg_9 (v := (F 9)) C hP rfl dX5_draw_2 ?_
  refine lv_ldcw C.1 C.2.1 C.2.2.1 (C.2.2.2.1 _ q1779) dX5_draw_5 ?_
  refine lv_imul C.1 C.2.1 dX5_draw_8 ?_
  refine lv_sipush (v := 12345) C.1 C.2.1 dX5_draw_9 (by decide) ?_
  refine lv_iadd C.1 C.2.1 dX5_draw_12 ?_
  refine mp_9 C hP hS dX5_draw_13 (fun H locs hP hS => ?_)
  refine lv_aload_n C.1 C.2.1 dX5_draw_16 rfl (lv_at hl 0 rfl) ?_
  refine mg_9 (v := (((F 9) * 1103515245) + 12345)) C hP rfl dX5_draw_17 ?_
  refine lv_bipush (v := 16) C.1 C.2.1 dX5_draw_20 (by decide) ?_
  refine lv_iushr C.1 C.2.1 dX5_draw_22 rfl ?_
  refine lv_iload_n C.1 C.2.1 dX5_draw_23 rfl (lv_at hl 1 rfl) ?_
  obtain ⟨g1, hE⟩ := it_g hE
  refine lv_irem C.1 C.2.1 dX5_draw_24 g1 ?_
  obtain rfl := Option.some.inj hE
  exact hret _ _ _ _ dX5_draw_25 hP hS
def sM_term_h22 (x1 : Int32) (f_many : Int32) (f_feed : Int32) (f_life : Int32) (f_low : Int32) (a_kind : Nat → Int32) (a_part : Nat → Int32) (a_ill : Nat → Int32) : Nat → Int32 → Int32 → Int32 → Int32 → Int32 → Int32 → Int32 → Int32 → Int32 → Int32 → Int32 → Int32 → Int32 → Int32 → (Nat → Int32) → (Nat → Int32) → Option (Int32 × Int32 × Int32 × Int32 × Int32 × Int32 × Int32 × Int32 × Int32 × Int32 × Int32 × Int32 × Int32 × (Nat → Int32) × (Nat → Int32))
  | 0, _, _, _, _, _, _, _, _, _, _, _, _, _, _, _, _ => none
  | fuel + 1, x2, x3, f_weight, f_fright, f_age, f_pets, f_last, f_seed, f_heft, f_alarm, f_old, f_died, f_ofWhat, f_heavy, a_had, a_deaths =>
    if x1 ≤ x3 then
      some (x2, f_weight, f_fright, f_age, f_pets, f_last, f_seed, f_heft, f_alarm, f_old, f_died, f_ofWhat, f_heavy, a_had, a_deaths)
    else
      (sM_mays f_many a_ill).bind fun r2302 =>
      (sM_draw f_seed (r2302 + 1)).bind fun r2303 =>
      (sM_mayAt f_many a_ill r2303.1).bind fun r2304 =>
      (sM_weekInTruth f_weight f_fright f_age f_pets f_feed f_life f_low f_last f_heft f_alarm f_old f_died f_ofWhat f_heavy a_kind a_part a_had a_deaths r2304).bind fun r2305 =>
      @Option.bind (Int32) _ (
        if r2305.1 = 0 then
          some x2
        else
          some (x2 + 1)) fun u2307 =>
      sM_term_h22 x1 f_many f_feed f_life f_low a_kind a_part a_ill fuel u2307 (x3 + 1) r2305.2.1 r2305.2.2.1 r2305.2.2.2.1 r2305.2.2.2.2.1 r2305.2.2.2.2.2.1 r2303.2 r2305.2.2.2.2.2.2.1 r2305.2.2.2.2.2.2.2.1 r2305.2.2.2.2.2.2.2.2.1 r2305.2.2.2.2.2.2.2.2.2.1 r2305.2.2.2.2.2.2.2.2.2.2.1 r2305.2.2.2.2.2.2.2.2.2.2.2.1 r2305.2.2.2.2.2.2.2.2.2.2.2.2.1 r2305.2.2.2.2.2.2.2.2.2.2.2.2.2
def sM_term (f_many : Int32) (f_weight : Int32) (f_fright : Int32) (f_age : Int32) (f_pets : Int32) (f_feed : Int32) (f_life : Int32) (f_low : Int32) (f_last : Int32) (f_seed : Int32) (f_heft : Int32) (f_alarm : Int32) (f_old : Int32) (f_died : Int32) (f_ofWhat : Int32) (f_heavy : Int32) (a_refused : Nat → Int32) (a_kind : Nat → Int32) (a_part : Nat → Int32) (a_ill : Nat → Int32) (a_had : Nat → Int32) (a_deaths : Nat → Int32) (p1 : Int32) : Option (Int32 × Int32 × Int32 × Int32 × Int32 × Int32 × Int32 × Int32 × Int32 × Int32 × Int32 × Int32 × Int32 × (Nat → Int32) × (Nat → Int32) × (Nat → Int32)) :=
  if p1 < 1 then
    (sM_no a_refused (-6)).bind fun r2 =>
    some (r2.1, f_weight, f_fright, f_age, f_pets, f_last, f_seed, f_heft, f_alarm, f_old, f_died, f_ofWhat, f_heavy, r2.2, a_had, a_deaths)
  else
    if p1 ≤ 60 then
      (sM_term_h22 p1 f_many f_feed f_life f_low a_kind a_part a_ill 2000 0 0 f_weight f_fright f_age f_pets f_last f_seed f_heft f_alarm f_old f_died f_ofWhat f_heavy a_had a_deaths).bind fun u4 =>
      some (u4.1, u4.2.1, u4.2.2.1, u4.2.2.2.1, u4.2.2.2.2.1, u4.2.2.2.2.2.1, u4.2.2.2.2.2.2.1, u4.2.2.2.2.2.2.2.1, u4.2.2.2.2.2.2.2.2.1, u4.2.2.2.2.2.2.2.2.2.1, u4.2.2.2.2.2.2.2.2.2.2.1, u4.2.2.2.2.2.2.2.2.2.2.2.1, u4.2.2.2.2.2.2.2.2.2.2.2.2.1, a_refused, u4.2.2.2.2.2.2.2.2.2.2.2.2.2.1, u4.2.2.2.2.2.2.2.2.2.2.2.2.2.2)
    else
      (sM_no a_refused (-6)).bind fun r5 =>
      some (r5.1, f_weight, f_fright, f_age, f_pets, f_last, f_seed, f_heft, f_alarm, f_old, f_died, f_ofWhat, f_heavy, r5.2, a_had, a_deaths)
set_option maxHeartbeats 4000000 in
theorem wM_term_h22 {p : Program} {l : Launch} {e : Env} {s : State} {m : MethodId} {args : Array Value} {below : List Frame} {meth : Method} {c : Code} {G : kG} {h0 : Nat} {ad : Nat → Nat} {Q : State → Prop} (C : mC p s m args c cX5_term G h0 ad) (hml : c.maxLocals = 4) (F : Nat → Int32) (A : Nat → Nat → Int32) (L : Nat → Nat → Int64) (x1 : Int32) (a_refused : Nat → Int32) (res : Int32 × Int32 × Int32 × Int32 × Int32 × Int32 × Int32 × Int32 × Int32 × Int32 × Int32 × Int32 × Int32 × (Nat → Int32) × (Nat → Int32)) :
    ∀ (fuel : Nat) (x2 : Int32) (x3 : Int32) (f_weight : Int32) (f_fright : Int32) (f_age : Int32) (f_pets : Int32) (f_last : Int32) (f_seed : Int32) (f_heft : Int32) (f_alarm : Int32) (f_old : Int32) (f_died : Int32) (f_ofWhat : Int32) (f_heavy : Int32) (a_had : Nat → Int32) (a_deaths : Nat → Int32) (H : Heap) (locs : List Loc) (ls : Array Slot), sM_term_h22 x1 (F 0) (F 5) (F 6) (F 7) (A 12) (A 13) (A 15) fuel x2 x3 f_weight f_fright f_age f_pets f_last f_seed f_heft f_alarm f_old f_died f_ofWhat f_heavy a_had a_deaths = some res → mPw G h0 ad (upd (upd (upd (upd (upd (upd (upd (upd (upd (upd (upd (upd F 1 f_weight) 2 f_fright) 3 f_age) 4 f_pets) 8 f_last) 9 f_seed) 35 f_heft) 36 f_alarm) 37 f_old) 38 f_died) 39 f_ofWhat) 40 f_heavy) (va_up (va_up (va_up A 11 a_refused) 16 a_had) 17 a_deaths) L H → va_S (mA h0 ad) s.heap H locs → lv_has ls 4 [(0, .ref h0), (1, .int x1), (2, .int x2), (3, .int x3)] → (∀ (H : Heap) (locs : List Loc) (ls : Array Slot), mPw G h0 ad (upd (upd (upd (upd (upd (upd (upd (upd (upd (upd (upd (upd F 1 res.2.1) 2 res.2.2.1) 3 res.2.2.2.1) 4 res.2.2.2.2.1) 8 res.2.2.2.2.2.1) 9 res.2.2.2.2.2.2.1) 35 res.2.2.2.2.2.2.2.1) 36 res.2.2.2.2.2.2.2.2.1) 37 res.2.2.2.2.2.2.2.2.2.1) 38 res.2.2.2.2.2.2.2.2.2.2.1) 39 res.2.2.2.2.2.2.2.2.2.2.2.1) 40 res.2.2.2.2.2.2.2.2.2.2.2.2.1) (va_up (va_up (va_up A 11 a_refused) 16 res.2.2.2.2.2.2.2.2.2.2.2.2.2.1) 17 res.2.2.2.2.2.2.2.2.2.2.2.2.2.2) L H → va_S (mA h0 ad) s.heap H locs → lv_has ls 4 [(2, .int res.1)] → W p l e ({ frames := 4, cells := 0, slots := 0, locals := 87 } : Room) s m args below meth c H locs 0 0 Q (F0 m 57 ls [])) → W p l e ({ frames := 4, cells := 0, slots := 0, locals := 87 } : Room) s m args below meth c H locs 0 0 Q (F0 m 22 ls []) := by
  intro fuel
  induction fuel with
  | zero =>
    intro x2 x3 f_weight f_fright f_age f_pets f_last f_seed f_heft f_alarm f_old f_died f_ofWhat f_heavy a_had a_deaths H locs ls hE
    exact it_n hE
  | succ fuel ih =>
    intro x2 x3 f_weight f_fright f_age f_pets f_last f_seed f_heft f_alarm f_old f_died f_ofWhat f_heavy a_had a_deaths H locs ls hE hP hS hl hX
    rw [sM_term_h22] at hE
    refine lv_iload_n C.1 C.2.1 dX5_term_22 rfl (lv_at hl 3 rfl) ?_
    refine lv_iload_n C.1 C.2.1 dX5_term_23 rfl (lv_at hl 1 rfl) ?_
    refine lv_icmp_ge (tgt := 57) C.1 C.2.1 dX5_term_24 (by decide) (fun c2301 => ?_) (fun c2301 => ?_)
    · have hE := it_t c2301 hE
      obtain rfl := Option.some.inj hE
      exact hX H locs ls hP hS (lv_sub hl [2] rfl)
    · have hE := it_f c2301 hE
      refine lv_aload_n C.1 C.2.1 dX5_term_27 rfl (lv_at hl 0 rfl) ?_
      refine lv_aload_n C.1 C.2.1 dX5_term_28 rfl (lv_at hl 0 rfl) ?_
      refine lv_aload_n C.1 C.2.1 dX5_term_29 rfl (lv_at hl 0 rfl) ?_
      refine lv_aload_n C.1 C.2.1 dX5_term_30 rfl (lv_at hl 0 rfl) ?_
      obtain ⟨r2302, hr2302, hE⟩ := it_b hE
      refine m_call (n := 0) (As := []) (rest := [.ref h0, .ref h0, .ref h0]) C hP hS hml (metM_mays l G h0 ad _ _ _ r2302 hr2302) q1671 q1673 qs62 q1674 rfl rfl (by decide +kernel) ⟨Nat.le_of_ble_eq_true rfl, Nat.le_of_ble_eq_true rfl⟩ ⟨Nat.le_refl _, Nat.le_refl _⟩ rfl hl.1 rfl (Nat.le_of_ble_eq_true rfl) dX5_term_31 (fun H locs hP hS => ?_)
      refine lv_iconst (v := 1) C.1 C.2.1 dX5_term_34 (by decide) ?_
      refine lv_iadd C.1 C.2.1 dX5_term_35 ?_
      obtain ⟨r2303, hr2303, hE⟩ := it_b hE
      refine m_call (n := 1) (As := [.int (r2302 + 1)]) (rest := [.ref h0, .ref h0]) C hP hS hml (metM_draw l G h0 ad _ _ _ (r2302 + 1) r2303 hr2303) q1775 q1777 qs74 q1778 rfl rfl (by decide +kernel) ⟨Nat.le_of_ble_eq_true rfl, Nat.le_of_ble_eq_true rfl⟩ ⟨Nat.le_refl _, Nat.le_refl _⟩ rfl hl.1 rfl (Nat.le_of_ble_eq_true rfl) dX5_term_36 (fun H locs hP hS => ?_)
      obtain ⟨r2304, hr2304, hE⟩ := it_b hE
      refine m_call (n := 1) (As := [.int r2303.1]) (rest := [.ref h0]) C hP hS hml (metM_mayAt l G h0 ad _ _ _ r2303.1 r2304 hr2304) q1695 q1697 qs67 q1698 rfl rfl (by decide +kernel) ⟨Nat.le_of_ble_eq_true rfl, Nat.le_of_ble_eq_true rfl⟩ ⟨Nat.le_refl _, Nat.le_refl _⟩ rfl hl.1 rfl (Nat.le_of_ble_eq_true rfl) dX5_term_39 (fun H locs hP hS => ?_)
      obtain ⟨r2305, hr2305, hE⟩ := it_b hE
      refine m_call (n := 1) (As := [.int r2304]) (rest := []) C hP hS hml (metM_weekInTruth l G h0 ad _ _ _ r2304 r2305 hr2305) q1599 q1601 qs49 q1602 rfl rfl (by decide +kernel) ⟨Nat.le_of_ble_eq_true rfl, Nat.le_of_ble_eq_true rfl⟩ ⟨Nat.le_refl _, Nat.le_refl _⟩ rfl hl.1 rfl (Nat.le_of_ble_eq_true rfl) dX5_term_42 (fun H locs hP hS => ?_)
      obtain ⟨u2307, hR, hE⟩ := it_b hE
      have hJ51u2307 : ∀ (H : Heap) (locs : List Loc) (ls : Array Slot), mPw G h0 ad (upd (upd (upd (upd (upd (upd (upd (upd (upd (upd (upd (upd F 1 r2305.2.1) 2 r2305.2.2.1) 3 r2305.2.2.2.1) 4 r2305.2.2.2.2.1) 8 r2305.2.2.2.2.2.1) 9 r2303.2) 35 r2305.2.2.2.2.2.2.1) 36 r2305.2.2.2.2.2.2.2.1) 37 r2305.2.2.2.2.2.2.2.2.1) 38 r2305.2.2.2.2.2.2.2.2.2.1) 39 r2305.2.2.2.2.2.2.2.2.2.2.1) 40 r2305.2.2.2.2.2.2.2.2.2.2.2.1) (va_up (va_up (va_up A 11 a_refused) 16 r2305.2.2.2.2.2.2.2.2.2.2.2.2.1) 17 r2305.2.2.2.2.2.2.2.2.2.2.2.2.2) L H → va_S (mA h0 ad) s.heap H locs → lv_has ls 4 [(0, .ref h0), (1, .int x1), (2, .int u2307), (3, .int x3)] → W p l e ({ frames := 4, cells := 0, slots := 0, locals := 87 } : Room) s m args below meth c H locs 0 0 Q (F0 m 51 ls []) := by
        intro H locs ls hP hS hl
        refine lv_iinc (v := (x3 + 1)) (lv' := [(3, .int (x3 + 1)), (0, .ref h0), (1, .int x1), (2, .int u2307)]) C.1 C.2.1 dX5_term_51 hl (k := 3) rfl rfl (by decide) rfl (fun ls hl => ?_)
        refine lv_goto (tgt := 22) C.1 C.2.1 dX5_term_54 (by decide) ?_
        exact ih u2307 (x3 + 1) r2305.2.1 r2305.2.2.1 r2305.2.2.2.1 r2305.2.2.2.2.1 r2305.2.2.2.2.2.1 r2303.2 r2305.2.2.2.2.2.2.1 r2305.2.2.2.2.2.2.2.1 r2305.2.2.2.2.2.2.2.2.1 r2305.2.2.2.2.2.2.2.2.2.1 r2305.2.2.2.2.2.2.2.2.2.2.1 r2305.2.2.2.2.2.2.2.2.2.2.2.1 r2305.2.2.2.2.2.2.2.2.2.2.2.2.1 r2305.2.2.2.2.2.2.2.2.2.2.2.2.2 _ _ _ hE hP hS (lv_sub hl [1, 2, 3, 0] rfl) hX
      have hE := hR
      refine lv_if_eq (tgt := 51) C.1 C.2.1 dX5_term_45 (by decide) (fun c2306 => ?_) (fun c2306 => ?_)
      · have hE := it_t c2306 hE
        obtain rfl := Option.some.inj hE
        exact hJ51u2307 H locs ls hP hS (lv_sub hl [0, 1, 2, 3] rfl)
      · have hE := it_f c2306 hE
        refine lv_iinc (v := (x2 + 1)) (lv' := [(2, .int (x2 + 1)), (0, .ref h0), (1, .int x1), (3, .int x3)]) C.1 C.2.1 dX5_term_48 hl (k := 2) rfl rfl (by decide) rfl (fun ls hl => ?_)
        obtain rfl := Option.some.inj hE
        exact hJ51u2307 H locs ls hP hS (lv_sub hl [1, 2, 0, 3] rfl)
set_option maxHeartbeats 4000000 in
theorem metM_term (l : Launch) (G : kG) (h0 : Nat) (ad : Nat → Nat) (F : Nat → Int32) (A : Nat → Nat → Int32) (L : Nat → Nat → Int64) (p1 : Int32) (res : Int32 × Int32 × Int32 × Int32 × Int32 × Int32 × Int32 × Int32 × Int32 × Int32 × Int32 × Int32 × Int32 × (Nat → Int32) × (Nat → Int32) × (Nat → Int32)) (hE : sM_term (F 0) (F 1) (F 2) (F 3) (F 4) (F 5) (F 6) (F 7) (F 8) (F 9) (F 35) (F 36) (F 37) (F 38) (F 39) (F 40) (A 11) (A 12) (A 13) (A 15) (A 16) (A 17) p1 = some res) : Met l yX5_term (ws_ yX5_term cX5_term 4 (some .int)) ({ frames := 4, cells := 0, slots := 0, locals := 87 } : Room) (mPc G h0 ad F A L [.int p1]) (mQc G h0 ad (upd (upd (upd (upd (upd (upd (upd (upd (upd (upd (upd (upd F 1 res.2.1) 2 res.2.2.1) 3 res.2.2.2.1) 4 res.2.2.2.2.1) 8 res.2.2.2.2.2.1) 9 res.2.2.2.2.2.2.1) 35 res.2.2.2.2.2.2.2.1) 36 res.2.2.2.2.2.2.2.2.1) 37 res.2.2.2.2.2.2.2.2.2.1) 38 res.2.2.2.2.2.2.2.2.2.2.1) 39 res.2.2.2.2.2.2.2.2.2.2.2.1) 40 res.2.2.2.2.2.2.2.2.2.2.2.2.1) (va_up (va_up (va_up A 11 res.2.2.2.2.2.2.2.2.2.2.2.2.2.1) 16 res.2.2.2.2.2.2.2.2.2.2.2.2.2.2.1) 17 res.2.2.2.2.2.2.2.2.2.2.2.2.2.2.2) L (some (.int res.1))) 0 0 (mA h0 ad) := by
  refine m_ofW (by decide) rfl (Nat.le_of_ble_eq_true rfl) ?_
  intro p e s m args below meth c ls C hml hP hS hl hr hlocks
  have hl : lv_has ls 4 [(0, .ref h0), (1, .int p1)] := hl
  obtain ⟨Q, hQ⟩ : ∃ Q, Q = MQ below (mQc G h0 ad (upd (upd (upd (upd (upd (upd (upd (upd (upd (upd (upd (upd F 1 res.2.1) 2 res.2.2.1) 3 res.2.2.2.1) 4 res.2.2.2.2.1) 8 res.2.2.2.2.2.1) 9 res.2.2.2.2.2.2.1) 35 res.2.2.2.2.2.2.2.1) 36 res.2.2.2.2.2.2.2.2.1) 37 res.2.2.2.2.2.2.2.2.2.1) 38 res.2.2.2.2.2.2.2.2.2.2.1) 39 res.2.2.2.2.2.2.2.2.2.2.2.1) 40 res.2.2.2.2.2.2.2.2.2.2.2.2.1) (va_up (va_up (va_up A 11 res.2.2.2.2.2.2.2.2.2.2.2.2.2.1) 16 res.2.2.2.2.2.2.2.2.2.2.2.2.2.2.1) 17 res.2.2.2.2.2.2.2.2.2.2.2.2.2.2.2) L (some (.int res.1))) args s 0 0 (mA h0 ad) := ⟨_, rfl⟩
  rw [← hQ]
  have hret : ∀ (pc : Nat) (ls : Array Slot) (H : Heap) (locs : List Loc), decode cX5_term pc = .ok (.ireturn, 1) → mPw G h0 ad (upd (upd (upd (upd (upd (upd (upd (upd (upd (upd (upd (upd F 1 res.2.1) 2 res.2.2.1) 3 res.2.2.2.1) 4 res.2.2.2.2.1) 8 res.2.2.2.2.2.1) 9 res.2.2.2.2.2.2.1) 35 res.2.2.2.2.2.2.2.1) 36 res.2.2.2.2.2.2.2.2.1) 37 res.2.2.2.2.2.2.2.2.2.1) 38 res.2.2.2.2.2.2.2.2.2.2.1) 39 res.2.2.2.2.2.2.2.2.2.2.2.1) 40 res.2.2.2.2.2.2.2.2.2.2.2.2.1) (va_up (va_up (va_up A 11 res.2.2.2.2.2.2.2.2.2.2.2.2.2.1) 16 res.2.2.2.2.2.2.2.2.2.2.2.2.2.2.1) 17 res.2.2.2.2.2.2.2.2.2.2.2.2.2.2.2) L H → va_S (mA h0 ad) s.heap H locs → W p l e ({ frames := 4, cells := 0, slots := 0, locals := 87 } : Room) s m args below meth c H locs 0 0 Q (F0 m pc ls [.int res.1]) := by
    intro pc ls H locs hd hP hS
    rw [hQ]
    exact m_iret C hr hlocks hd hP hS
  clear hQ
  obtain ⟨H, hH⟩ : ∃ H, H = s.heap := ⟨_, rfl⟩
  obtain ⟨locs, hlo⟩ : ∃ locs : List Loc, locs = [] := ⟨_, rfl⟩
  have hP : mPw G h0 ad F A L H := by rw [hH]; exact hP
  have hS : va_S (mA h0 ad) s.heap H locs := by rw [hH, hlo]; exact hS
  suffices hZ : W p l e ({ frames := 4, cells := 0, slots := 0, locals := 87 } : Room) s m args below meth c H locs 0 0 Q (F0 m 0 ls []) by rw [hH, hlo] at hZ; exact hZ
  clear hH hlo
  unfold sM_term at hE
  refine lv_iload_n C.1 C.2.1 dX5_term_0 rfl (lv_at hl 1 rfl) ?_
  refine lv_iconst (v := 1) C.1 C.2.1 dX5_term_1 (by decide) ?_
  refine lv_icmp_lt (tgt := 11) C.1 C.2.1 dX5_term_2 (by decide) (fun c1 => ?_) (fun c1 => ?_)
  · have hE := it_t c1 hE
    refine lv_aload_n C.1 C.2.1 dX5_term_11 rfl (lv_at hl 0 rfl) ?_
    refine lv_bipush (v := (-6)) C.1 C.2.1 dX5_term_12 (by decide) ?_
    obtain ⟨r2, hr2, hE⟩ := it_b hE
    refine m_call (n := 1) (As := [.int (-6)]) (rest := []) C hP hS hml (metM_no l G h0 ad _ _ _ (-6) r2 hr2) q1483 q1485 qs32 q1486 rfl rfl (by decide +kernel) ⟨Nat.le_of_ble_eq_true rfl, Nat.le_of_ble_eq_true rfl⟩ ⟨Nat.le_refl _, Nat.le_refl _⟩ rfl hl.1 rfl (Nat.le_of_ble_eq_true rfl) dX5_term_14 (fun H locs hP hS => ?_)
    obtain rfl := Option.some.inj hE
    exact hret _ _ _ _ dX5_term_17 hP hS
  · have hE := it_f c1 hE
    refine lv_iload_n C.1 C.2.1 dX5_term_5 rfl (lv_at hl 1 rfl) ?_
    refine lv_bipush (v := 60) C.1 C.2.1 dX5_term_6 (by decide) ?_
    refine lv_icmp_le (tgt := 18) C.1 C.2.1 dX5_term_8 (by decide) (fun c3 => ?_) (fun c3 => ?_)
    · have hE := it_t c3 hE
      refine lv_iconst (v := 0) C.1 C.2.1 dX5_term_18 (by decide) ?_
      refine lv_istore_n (lv' := [(2, .int 0), (0, .ref h0), (1, .int p1)]) C.1 C.2.1 dX5_term_19 rfl hl (by decide) rfl (fun ls hl => ?_)
      refine lv_iconst (v := 0) C.1 C.2.1 dX5_term_20 (by decide) ?_
      refine lv_istore_n (lv' := [(3, .int 0), (2, .int 0), (0, .ref h0), (1, .int p1)]) C.1 C.2.1 dX5_term_21 rfl hl (by decide) rfl (fun ls hl => ?_)
      obtain ⟨u4, hu4, hE⟩ := it_b hE
      refine wM_term_h22 C hml F A L p1 (A 11) u4 2000 0 0 (F 1) (F 2) (F 3) (F 4) (F 8) (F 9) (F 35) (F 36) (F 37) (F 38) (F 39) (F 40) (A 16) (A 17) H locs ls hu4 hP hS (lv_sub hl [2, 3, 1, 0] rfl) (fun H locs ls hP hS hl => ?_)
      refine lv_iload_n C.1 C.2.1 dX5_term_57 rfl (lv_at hl 0 rfl) ?_
      obtain rfl := Option.some.inj hE
      exact hret _ _ _ _ dX5_term_58 hP hS
    · have hE := it_f c3 hE
      refine lv_aload_n C.1 C.2.1 dX5_term_11 rfl (lv_at hl 0 rfl) ?_
      refine lv_bipush (v := (-6)) C.1 C.2.1 dX5_term_12 (by decide) ?_
      obtain ⟨r5, hr5, hE⟩ := it_b hE
      refine m_call (n := 1) (As := [.int (-6)]) (rest := []) C hP hS hml (metM_no l G h0 ad _ _ _ (-6) r5 hr5) q1483 q1485 qs32 q1486 rfl rfl (by decide +kernel) ⟨Nat.le_of_ble_eq_true rfl, Nat.le_of_ble_eq_true rfl⟩ ⟨Nat.le_refl _, Nat.le_refl _⟩ rfl hl.1 rfl (Nat.le_of_ble_eq_true rfl) dX5_term_14 (fun H locs hP hS => ?_)
      obtain rfl := Option.some.inj hE
      exact hret _ _ _ _ dX5_term_17 hP hS
def sM_anew_h4 (f_many : Int32) : Nat → Int32 → Int32 → (Nat → Int32) → Option (Int32 × (Nat → Int32))
  | 0, _, _, _ => none
  | fuel + 1, x1, x2, a_had =>
    if f_many ≤ x2 then
      some (x1, a_had)
    else
      if gi x2 8 then
      if gi x2 8 then
      sM_anew_h4 f_many fuel (x1 + (a_had (x2).toNatClampNeg)) (x2 + 1) (upd a_had (x2).toNatClampNeg 0)
      else none
      else none
def sM_anew (f_many : Int32) (f_last : Int32) (a_had : Nat → Int32) : Option (Int32 × Int32 × (Nat → Int32)) :=
  (sM_anew_h4 f_many 2000 0 0 a_had).bind fun u1 =>
  some (u1.1, (-1), u1.2)
set_option maxHeartbeats 4000000 in
theorem wM_anew_h4 {p : Program} {l : Launch} {e : Env} {s : State} {m : MethodId} {args : Array Value} {below : List Frame} {meth : Method} {c : Code} {G : kG} {h0 : Nat} {ad : Nat → Nat} {Q : State → Prop} (C : mC p s m args c cX5_anew G h0 ad) (hml : c.maxLocals = 3) (F : Nat → Int32) (A : Nat → Nat → Int32) (L : Nat → Nat → Int64) (f_last : Int32) (res : Int32 × (Nat → Int32)) :
    ∀ (fuel : Nat) (x1 : Int32) (x2 : Int32) (a_had : Nat → Int32) (H : Heap) (locs : List Loc) (ls : Array Slot), sM_anew_h4 (F 0) fuel x1 x2 a_had = some res → mPw G h0 ad (upd F 8 f_last) (va_up A 16 a_had) L H → va_S (mA h0 ad) s.heap H locs → lv_has ls 3 [(0, .ref h0), (1, .int x1), (2, .int x2)] → (∀ (H : Heap) (locs : List Loc) (ls : Array Slot), mPw G h0 ad (upd F 8 f_last) (va_up A 16 res.2) L H → va_S (mA h0 ad) s.heap H locs → lv_has ls 3 [(0, .ref h0), (1, .int res.1)] → W p l e ({ frames := 0, cells := 0, slots := 0, locals := 0 } : Room) s m args below meth c H locs 0 0 Q (F0 m 34 ls [])) → W p l e ({ frames := 0, cells := 0, slots := 0, locals := 0 } : Room) s m args below meth c H locs 0 0 Q (F0 m 4 ls []) := by
  intro fuel
  induction fuel with
  | zero =>
    intro x1 x2 a_had H locs ls hE
    exact it_n hE
  | succ fuel ih =>
    intro x1 x2 a_had H locs ls hE hP hS hl hX
    rw [sM_anew_h4] at hE
    refine lv_iload_n C.1 C.2.1 dX5_anew_4 rfl (lv_at hl 2 rfl) ?_
    refine lv_aload_n C.1 C.2.1 dX5_anew_5 rfl (lv_at hl 0 rfl) ?_
    refine mg_0 (v := (F 0)) C hP rfl dX5_anew_6 ?_
    refine lv_icmp_ge (tgt := 34) C.1 C.2.1 dX5_anew_9 (by decide) (fun c501 => ?_) (fun c501 => ?_)
    · have hE := it_t c501 hE
      obtain rfl := Option.some.inj hE
      exact hX H locs ls hP hS (lv_sub hl [0, 1] rfl)
    · have hE := it_f c501 hE
      refine lv_iload_n C.1 C.2.1 dX5_anew_12 rfl (lv_at hl 1 rfl) ?_
      refine lv_aload_n C.1 C.2.1 dX5_anew_13 rfl (lv_at hl 0 rfl) ?_
      refine ma_16 C hP dX5_anew_14 ?_
      refine lv_iload_n C.1 C.2.1 dX5_anew_17 rfl (lv_at hl 2 rfl) ?_
      obtain ⟨g502, hE⟩ := it_g hE
      refine ml_16 (v := (a_had (x2).toNatClampNeg)) C hP (gi_in g502) rfl dX5_anew_18 ?_
      refine lv_iadd C.1 C.2.1 dX5_anew_19 ?_
      refine lv_istore_n (lv' := [(1, .int (x1 + (a_had (x2).toNatClampNeg))), (0, .ref h0), (2, .int x2)]) C.1 C.2.1 dX5_anew_20 rfl hl (by decide) rfl (fun ls hl => ?_)
      refine lv_aload_n C.1 C.2.1 dX5_anew_21 rfl (lv_at hl 1 rfl) ?_
      refine ma_16 C hP dX5_anew_22 ?_
      refine lv_iload_n C.1 C.2.1 dX5_anew_25 rfl (lv_at hl 2 rfl) ?_
      refine lv_iconst (v := 0) C.1 C.2.1 dX5_anew_26 (by decide) ?_
      obtain ⟨g503, hE⟩ := it_g hE
      refine ms_16 (a := a_had) C hP hS (gi_in g503) rfl dX5_anew_27 (fun H locs hP hS => ?_)
      refine lv_iinc (v := (x2 + 1)) (lv' := [(2, .int (x2 + 1)), (1, .int (x1 + (a_had (x2).toNatClampNeg))), (0, .ref h0)]) C.1 C.2.1 dX5_anew_28 hl (k := 2) rfl rfl (by decide) rfl (fun ls hl => ?_)
      refine lv_goto (tgt := 4) C.1 C.2.1 dX5_anew_31 (by decide) ?_
      exact ih (x1 + (a_had (x2).toNatClampNeg)) (x2 + 1) (upd a_had (x2).toNatClampNeg 0) _ _ _ hE hP hS (lv_sub hl [2, 1, 0] rfl) hX
set_option maxHeartbeats 4000000 in
theorem metM_anew (l : Launch) (G : kG) (h0 : Nat) (ad : Nat → Nat) (F : Nat → Int32) (A : Nat → Nat → Int32) (L : Nat → Nat → Int64)  (res : Int32 × Int32 × (Nat → Int32)) (hE : sM_anew (F 0) (F 8) (A 16) = some res) : Met l yX5_anew (ws_ yX5_anew cX5_anew 3 (some .int)) ({ frames := 0, cells := 0, slots := 0, locals := 0 } : Room) (mPc G h0 ad F A L []) (mQc G h0 ad (upd F 8 res.2.1) (va_up A 16 res.2.2) L (some (.int res.1))) 0 0 (mA h0 ad) := by
  refine m_ofW (by decide) rfl (Nat.le_of_ble_eq_true rfl) ?_
  intro p e s m args below meth c ls C hml hP hS hl hr hlocks
  have hl : lv_has ls 3 [(0, .ref h0)] := hl
  obtain ⟨Q, hQ⟩ : ∃ Q, Q = MQ below (mQc G h0 ad (upd F 8 res.2.1) (va_up A 16 res.2.2) L (some (.int res.1))) args s 0 0 (mA h0 ad) := ⟨_, rfl⟩
  rw [← hQ]
  have hret : ∀ (pc : Nat) (ls : Array Slot) (H : Heap) (locs : List Loc), decode cX5_anew pc = .ok (.ireturn, 1) → mPw G h0 ad (upd F 8 res.2.1) (va_up A 16 res.2.2) L H → va_S (mA h0 ad) s.heap H locs → W p l e ({ frames := 0, cells := 0, slots := 0, locals := 0 } : Room) s m args below meth c H locs 0 0 Q (F0 m pc ls [.int res.1]) := by
    intro pc ls H locs hd hP hS
    rw [hQ]
    exact m_iret C hr hlocks hd hP hS
  clear hQ
  obtain ⟨H, hH⟩ : ∃ H, H = s.heap := ⟨_, rfl⟩
  obtain ⟨locs, hlo⟩ : ∃ locs : List Loc, locs = [] := ⟨_, rfl⟩
  have hP : mPw G h0 ad F A L H := by rw [hH]; exact hP
  have hS : va_S (mA h0 ad) s.heap H locs := by rw [hH, hlo]; exact hS
  suffices hZ : W p l e ({ frames := 0, cells := 0, slots := 0, locals := 0 } : Room) s m args below meth c H locs 0 0 Q (F0 m 0 ls []) by rw [hH, hlo] at hZ; exact hZ
  clear hH hlo
  unfold sM_anew at hE
  refine lv_iconst (v := 0) C.1 C.2.1 dX5_anew_0 (by decide) ?_
  refine lv_istore_n (lv' := [(1, .int 0), (0, .ref h0)]) C.1 C.2.1 dX5_anew_1 rfl hl (by decide) rfl (fun ls hl => ?_)
  refine lv_iconst (v := 0) C.1 C.2.1 dX5_anew_2 (by decide) ?_
  refine lv_istore_n (lv' := [(2, .int 0), (1, .int 0), (0, .ref h0)]) C.1 C.2.1 dX5_anew_3 rfl hl (by decide) rfl (fun ls hl => ?_)
  obtain ⟨u1, hu1, hE⟩ := it_b hE
  refine wM_anew_h4 C hml F A L (F 8) u1 2000 0 0 (A 16) H locs ls hu1 hP hS (lv_sub hl [2, 1, 0] rfl) (fun H locs ls hP hS hl => ?_)
  refine lv_aload_n C.1 C.2.1 dX5_anew_34 rfl (lv_at hl 0 rfl) ?_
  refine lv_iconst (v := (-1)) C.1 C.2.1 dX5_anew_35 (by decide) ?_
  refine mp_8 C hP hS dX5_anew_36 (fun H locs hP hS => ?_)
  refine lv_iload_n C.1 C.2.1 dX5_anew_39 rfl (lv_at hl 1 rfl) ?_
  obtain rfl := Option.some.inj hE
  exact hret _ _ _ _ dX5_anew_40 hP hS
def sM_seed (f_seed : Int32) (p1 : Int32) : Option (Int32 × Int32) :=
  some (f_seed, p1)
set_option maxHeartbeats 4000000 in
theorem metM_seed (l : Launch) (G : kG) (h0 : Nat) (ad : Nat → Nat) (F : Nat → Int32) (A : Nat → Nat → Int32) (L : Nat → Nat → Int64) (p1 : Int32) (res : Int32 × Int32) (hE : sM_seed (F 9) p1 = some res) : Met l yX5_seed (ws_ yX5_seed cX5_seed 3 (some .int)) ({ frames := 0, cells := 0, slots := 0, locals := 0 } : Room) (mPc G h0 ad F A L [.int p1]) (mQc G h0 ad (upd F 9 res.2) A L (some (.int res.1))) 0 0 (mA h0 ad) := by
  refine m_ofW (by decide) rfl (Nat.le_of_ble_eq_true rfl) ?_
  intro p e s m args below meth c ls C hml hP hS hl hr hlocks
  have hl : lv_has ls 3 [(0, .ref h0), (1, .int p1)] := hl
  obtain ⟨Q, hQ⟩ : ∃ Q, Q = MQ below (mQc G h0 ad (upd F 9 res.2) A L (some (.int res.1))) args s 0 0 (mA h0 ad) := ⟨_, rfl⟩
  rw [← hQ]
  have hret : ∀ (pc : Nat) (ls : Array Slot) (H : Heap) (locs : List Loc), decode cX5_seed pc = .ok (.ireturn, 1) → mPw G h0 ad (upd F 9 res.2) A L H → va_S (mA h0 ad) s.heap H locs → W p l e ({ frames := 0, cells := 0, slots := 0, locals := 0 } : Room) s m args below meth c H locs 0 0 Q (F0 m pc ls [.int res.1]) := by
    intro pc ls H locs hd hP hS
    rw [hQ]
    exact m_iret C hr hlocks hd hP hS
  clear hQ
  obtain ⟨H, hH⟩ : ∃ H, H = s.heap := ⟨_, rfl⟩
  obtain ⟨locs, hlo⟩ : ∃ locs : List Loc, locs = [] := ⟨_, rfl⟩
  have hP : mPw G h0 ad F A L H := by rw [hH]; exact hP
  have hS : va_S (mA h0 ad) s.heap H locs := by rw [hH, hlo]; exact hS
  suffices hZ : W p l e ({ frames := 0, cells := 0, slots := 0, locals := 0 } : Room) s m args below meth c H locs 0 0 Q (F0 m 0 ls []) by rw [hH, hlo] at hZ; exact hZ
  clear hH hlo
  unfold sM_seed at hE
  refine lv_aload_n C.1 C.2.1 dX5_seed_0 rfl (lv_at hl 0 rfl) ?_
  refine mg_9 (v := (F 9)) C hP rfl dX5_seed_1 ?_
  refine lv_istore_n (lv' := [(2, .int (F 9)), (0, .ref h0), (1, .int p1)]) C.1 C.2.1 dX5_seed_4 rfl hl (by decide) rfl (fun ls hl => ?_)
  refine lv_aload_n C.1 C.2.1 dX5_seed_5 rfl (lv_at hl 1 rfl) ?_
  refine lv_iload_n C.1 C.2.1 dX5_seed_6 rfl (lv_at hl 2 rfl) ?_
  refine mp_9 C hP hS dX5_seed_7 (fun H locs hP hS => ?_)
  refine lv_iload_n C.1 C.2.1 dX5_seed_10 rfl (lv_at hl 0 rfl) ?_
  obtain rfl := Option.some.inj hE
  exact hret _ _ _ _ dX5_seed_11 hP hS
def sM_body (f_ran : Int32) (a_trace : Nat → Int32) (p1 : Int32) : Option (Int32 × (Nat → Int32)) :=
  @Option.bind ((Nat → Int32)) _ (
    if 20 ≤ f_ran then
      some a_trace
    else
      if gi f_ran 20 then
      some (upd a_trace (f_ran).toNatClampNeg p1)
      else none) fun u2 =>
  some ((f_ran + 1), u2)
set_option maxHeartbeats 4000000 in
theorem metM_body (l : Launch) (G : kG) (h0 : Nat) (ad : Nat → Nat) (F : Nat → Int32) (A : Nat → Nat → Int32) (L : Nat → Nat → Int64) (p1 : Int32) (res : Int32 × (Nat → Int32)) (hE : sM_body (F 47) (A 46) p1 = some res) : Met l yX5_body (ws_ yX5_body cX5_body 2 none) ({ frames := 0, cells := 0, slots := 0, locals := 0 } : Room) (mPc G h0 ad F A L [.int p1]) (mQc G h0 ad (upd F 47 res.1) (va_up A 46 res.2) L none) 0 0 (mA h0 ad) := by
  refine m_ofW (by decide) rfl (Nat.le_of_ble_eq_true rfl) ?_
  intro p e s m args below meth c ls C hml hP hS hl hr hlocks
  have hl : lv_has ls 2 [(0, .ref h0), (1, .int p1)] := hl
  obtain ⟨Q, hQ⟩ : ∃ Q, Q = MQ below (mQc G h0 ad (upd F 47 res.1) (va_up A 46 res.2) L none) args s 0 0 (mA h0 ad) := ⟨_, rfl⟩
  rw [← hQ]
  have hret : ∀ (pc : Nat) (ls : Array Slot) (H : Heap) (locs : List Loc), decode cX5_body pc = .ok (.return_, 1) → mPw G h0 ad (upd F 47 res.1) (va_up A 46 res.2) L H → va_S (mA h0 ad) s.heap H locs → W p l e ({ frames := 0, cells := 0, slots := 0, locals := 0 } : Room) s m args below meth c H locs 0 0 Q (F0 m pc ls []) := by
    intro pc ls H locs hd hP hS
    rw [hQ]
    exact m_vret C hr hlocks hd hP hS
  clear hQ
  obtain ⟨H, hH⟩ : ∃ H, H = s.heap := ⟨_, rfl⟩
  obtain ⟨locs, hlo⟩ : ∃ locs : List Loc, locs = [] := ⟨_, rfl⟩
  have hP : mPw G h0 ad F A L H := by rw [hH]; exact hP
  have hS : va_S (mA h0 ad) s.heap H locs := by rw [hH, hlo]; exact hS
  suffices hZ : W p l e ({ frames := 0, cells := 0, slots := 0, locals := 0 } : Room) s m args below meth c H locs 0 0 Q (F0 m 0 ls []) by rw [hH, hlo] at hZ; exact hZ
  clear hH hlo
  unfold sM_body at hE
  refine lv_aload_n C.1 C.2.1 dX5_body_0 rfl (lv_at hl 0 rfl) ?_
  refine mg_47 (v := (F 47)) C hP rfl dX5_body_1 ?_
  refine lv_bipush (v := 20) C.1 C.2.1 dX5_body_4 (by decide) ?_
  obtain ⟨u2, hR, hE⟩ := it_b hE
  have hJ19u2 : ∀ (H : Heap) (locs : List Loc) (ls : Array Slot), mPw G h0 ad F (va_up A 46 u2) L H → va_S (mA h0 ad) s.heap H locs → lv_has ls 2 [(0, .ref h0)] → W p l e ({ frames := 0, cells := 0, slots := 0, locals := 0 } : Room) s m args below meth c H locs 0 0 Q (F0 m 19 ls []) := by
    intro H locs ls hP hS hl
    refine lv_aload_n C.1 C.2.1 dX5_body_19 rfl (lv_at hl 0 rfl) ?_
    refine lv_dup C.1 C.2.1 dX5_body_20 rfl ?_
    refine mg_47 (v := (F 47)) C hP rfl dX5_body_21 ?_
    refine lv_iconst (v := 1) C.1 C.2.1 dX5_body_24 (by decide) ?_
    refine lv_iadd C.1 C.2.1 dX5_body_25 ?_
    refine mp_47 C hP hS dX5_body_26 (fun H locs hP hS => ?_)
    obtain rfl := Option.some.inj hE
    exact hret _ _ _ _ dX5_body_29 hP hS
  have hE := hR
  refine lv_icmp_ge (tgt := 19) C.1 C.2.1 dX5_body_6 (by decide) (fun c1 => ?_) (fun c1 => ?_)
  · have hE := it_t c1 hE
    obtain rfl := Option.some.inj hE
    exact hJ19u2 H locs ls hP hS (lv_sub hl [0] rfl)
  · have hE := it_f c1 hE
    refine lv_aload_n C.1 C.2.1 dX5_body_9 rfl (lv_at hl 0 rfl) ?_
    refine ma_46 C hP dX5_body_10 ?_
    refine lv_aload_n C.1 C.2.1 dX5_body_13 rfl (lv_at hl 0 rfl) ?_
    refine mg_47 (v := (F 47)) C hP rfl dX5_body_14 ?_
    refine lv_iload_n C.1 C.2.1 dX5_body_17 rfl (lv_at hl 1 rfl) ?_
    obtain ⟨g3, hE⟩ := it_g hE
    refine ms_46 (a := (A 46)) C hP hS (gi_in g3) rfl dX5_body_18 (fun H locs hP hS => ?_)
    obtain rfl := Option.some.inj hE
    exact hJ19u2 H locs ls hP hS (lv_sub hl [0] rfl)
def sM_feeding (f_ran : Int32) (a_kind : Nat → Int32) (a_part : Nat → Int32) (a_trace : Nat → Int32) (p1 : Int32) (p2 : Int32) : Option (Int32 × Int32 × (Nat → Int32)) :=
  if gi p1 8 then
  @Option.bind (Int32 × (Nat → Int32)) _ (
    if (a_kind (p1).toNatClampNeg) = 6 then
      (sM_body f_ran a_trace 70).bind fun r4 =>
      some (r4.1, r4.2)
    else
      some (f_ran, a_trace)) fun u3 =>
  @Option.bind (Int32 × (Nat → Int32)) _ (
    if (a_kind (p1).toNatClampNeg) = 4 then
      (sM_body u3.1 u3.2 51).bind fun r7 =>
      some (r7.1, r7.2)
    else
      if (a_kind (p1).toNatClampNeg) = 6 then
        (sM_body u3.1 u3.2 51).bind fun r9 =>
        some (r9.1, r9.2)
      else
        some (u3.1, u3.2)) fun u6 =>
  @Option.bind (Int32 × (Nat → Int32)) _ (
    if (a_kind (p1).toNatClampNeg) = 1 then
      (sM_body u6.1 u6.2 20).bind fun r12 =>
      some (r12.1, r12.2)
    else
      if (a_kind (p1).toNatClampNeg) = 3 then
        (sM_body u6.1 u6.2 20).bind fun r14 =>
        some (r14.1, r14.2)
      else
        some (u6.1, u6.2)) fun u11 =>
  (sM_body u11.1 u11.2 10).bind fun r15 =>
  @Option.bind (Int32) _ (
    if (a_kind (p1).toNatClampNeg) = 1 then
      if gi p1 8 then
      some ((p2 + p1) + (a_part (p1).toNatClampNeg))
      else none
    else
      if (a_kind (p1).toNatClampNeg) = 3 then
        if gi p1 8 then
        some ((p2 + p1) + (a_part (p1).toNatClampNeg))
        else none
      else
        some (p2 + p1)) fun u17 =>
  @Option.bind (Int32) _ (
    if (a_kind (p1).toNatClampNeg) = 4 then
      some (u17 - p1)
    else
      if (a_kind (p1).toNatClampNeg) = 6 then
        some (u17 - p1)
      else
        some u17) fun u22 =>
  if (a_kind (p1).toNatClampNeg) = 6 then
    some ((u22 * 2), r15.1, r15.2)
  else
    some (u22, r15.1, r15.2)
  else none
set_option maxHeartbeats 4000000 in
theorem metM_feeding (l : Launch) (G : kG) (h0 : Nat) (ad : Nat → Nat) (F : Nat → Int32) (A : Nat → Nat → Int32) (L : Nat → Nat → Int64) (p1 : Int32) (p2 : Int32) (res : Int32 × Int32 × (Nat → Int32)) (hE : sM_feeding (F 47) (A 12) (A 13) (A 46) p1 p2 = some res) : Met l yX5_feeding (ws_ yX5_feeding cX5_feeding 5 (some .int)) ({ frames := 1, cells := 0, slots := 0, locals := 21 } : Room) (mPc G h0 ad F A L [.int p1, .int p2]) (mQc G h0 ad (upd F 47 res.2.1) (va_up A 46 res.2.2) L (some (.int res.1))) 0 0 (mA h0 ad) := by
  refine m_ofW (by decide) rfl (Nat.le_of_ble_eq_true rfl) ?_
  intro p e s m args below meth c ls C hml hP hS hl hr hlocks
  have hl : lv_has ls 5 [(0, .ref h0), (1, .int p1), (2, .int p2)] := hl
  obtain ⟨Q, hQ⟩ : ∃ Q, Q = MQ below (mQc G h0 ad (upd F 47 res.2.1) (va_up A 46 res.2.2) L (some (.int res.1))) args s 0 0 (mA h0 ad) := ⟨_, rfl⟩
  rw [← hQ]
  have hret : ∀ (pc : Nat) (ls : Array Slot) (H : Heap) (locs : List Loc), decode cX5_feeding pc = .ok (.ireturn, 1) → mPw G h0 ad (upd F 47 res.2.1) (va_up A 46 res.2.2) L H → va_S (mA h0 ad) s.heap H locs → W p l e ({ frames := 1, cells := 0, slots := 0, locals := 21 } : Room) s m args below meth c H locs 0 0 Q (F0 m pc ls [.int res.1]) := by
    intro pc ls H locs hd hP hS
    rw [hQ]
    exact m_iret C hr hlocks hd hP hS
  clear hQ
  obtain ⟨H, hH⟩ : ∃ H, H = s.heap := ⟨_, rfl⟩
  obtain ⟨locs, hlo⟩ : ∃ locs : List Loc, locs = [] := ⟨_, rfl⟩
  have hP : mPw G h0 ad F A L H := by rw [hH]; exact hP
  have hS : va_S (mA h0 ad) s.heap H locs := by rw [hH, hlo]; exact hS
  suffices hZ : W p l e ({ frames := 1, cells := 0, slots := 0, locals := 21 } : Room) s m args below meth c H locs 0 0 Q (F0 m 0 ls []) by rw [hH, hlo] at hZ; exact hZ
  clear hH hlo
  unfold sM_feeding at hE
  refine lv_aload_n C.1 C.2.1 dX5_feeding_0 rfl (lv_at hl 0 rfl) ?_
  refine ma_12 C hP dX5_feeding_1 ?_
  refine lv_iload_n C.1 C.2.1 dX5_feeding_4 rfl (lv_at hl 1 rfl) ?_
  obtain ⟨g1, hE⟩ := it_g hE
  refine ml_12 (v := ((A 12) (p1).toNatClampNeg)) C hP (gi_in g1) rfl dX5_feeding_5 ?_
  refine lv_istore_n (lv' := [(3, .int ((A 12) (p1).toNatClampNeg)), (0, .ref h0), (1, .int p1), (2, .int p2)]) C.1 C.2.1 dX5_feeding_6 rfl hl (by decide) rfl (fun ls hl => ?_)
  refine lv_iload_n C.1 C.2.1 dX5_feeding_7 rfl (lv_at hl 0 rfl) ?_
  refine lv_bipush (v := 6) C.1 C.2.1 dX5_feeding_8 (by decide) ?_
  obtain ⟨u3, hR, hE⟩ := it_b hE
  have hJ19u3 : ∀ (H : Heap) (locs : List Loc) (ls : Array Slot), mPw G h0 ad (upd F 47 u3.1) (va_up A 46 u3.2) L H → va_S (mA h0 ad) s.heap H locs → lv_has ls 5 [(0, .ref h0), (1, .int p1), (2, .int p2), (3, .int ((A 12) (p1).toNatClampNeg))] → W p l e ({ frames := 1, cells := 0, slots := 0, locals := 21 } : Room) s m args below meth c H locs 0 0 Q (F0 m 19 ls []) := by
    intro H locs ls hP hS hl
    refine lv_iload_n C.1 C.2.1 dX5_feeding_19 rfl (lv_at hl 3 rfl) ?_
    refine lv_iconst (v := 4) C.1 C.2.1 dX5_feeding_20 (by decide) ?_
    obtain ⟨u6, hR, hE⟩ := it_b hE
    have hJ36u6 : ∀ (H : Heap) (locs : List Loc) (ls : Array Slot), mPw G h0 ad (upd F 47 u6.1) (va_up A 46 u6.2) L H → va_S (mA h0 ad) s.heap H locs → lv_has ls 5 [(0, .ref h0), (1, .int p1), (2, .int p2), (3, .int ((A 12) (p1).toNatClampNeg))] → W p l e ({ frames := 1, cells := 0, slots := 0, locals := 21 } : Room) s m args below meth c H locs 0 0 Q (F0 m 36 ls []) := by
      intro H locs ls hP hS hl
      refine lv_iload_n C.1 C.2.1 dX5_feeding_36 rfl (lv_at hl 3 rfl) ?_
      refine lv_iconst (v := 1) C.1 C.2.1 dX5_feeding_37 (by decide) ?_
      obtain ⟨u11, hR, hE⟩ := it_b hE
      have hJ52u11 : ∀ (H : Heap) (locs : List Loc) (ls : Array Slot), mPw G h0 ad (upd F 47 u11.1) (va_up A 46 u11.2) L H → va_S (mA h0 ad) s.heap H locs → lv_has ls 5 [(0, .ref h0), (1, .int p1), (2, .int p2), (3, .int ((A 12) (p1).toNatClampNeg))] → W p l e ({ frames := 1, cells := 0, slots := 0, locals := 21 } : Room) s m args below meth c H locs 0 0 Q (F0 m 52 ls []) := by
        intro H locs ls hP hS hl
        refine lv_aload_n C.1 C.2.1 dX5_feeding_52 rfl (lv_at hl 0 rfl) ?_
        refine lv_bipush (v := 10) C.1 C.2.1 dX5_feeding_53 (by decide) ?_
        obtain ⟨r15, hr15, hE⟩ := it_b hE
        refine m_call (n := 1) (As := [.int 10]) (rest := []) C hP hS hml (metM_body l G h0 ad _ _ _ 10 r15 hr15) q1796 q1798 qs76 q1799 rfl rfl (by decide +kernel) ⟨Nat.le_of_ble_eq_true rfl, Nat.le_of_ble_eq_true rfl⟩ ⟨Nat.le_refl _, Nat.le_refl _⟩ rfl hl.1 rfl (Nat.le_of_ble_eq_true rfl) dX5_feeding_55 (fun H locs hP hS => ?_)
        refine lv_iload_n C.1 C.2.1 dX5_feeding_58 rfl (lv_at hl 2 rfl) ?_
        refine lv_iload_n C.1 C.2.1 dX5_feeding_59 rfl (lv_at hl 1 rfl) ?_
        refine lv_iadd C.1 C.2.1 dX5_feeding_60 ?_
        refine lv_istore (lv' := [(4, .int (p2 + p1)), (0, .ref h0), (1, .int p1), (2, .int p2), (3, .int ((A 12) (p1).toNatClampNeg))]) C.1 C.2.1 dX5_feeding_61 hl (by decide) rfl (fun ls hl => ?_)
        refine lv_iload_n C.1 C.2.1 dX5_feeding_63 rfl (lv_at hl 4 rfl) ?_
        refine lv_iconst (v := 1) C.1 C.2.1 dX5_feeding_64 (by decide) ?_
        obtain ⟨u17, hR, hE⟩ := it_b hE
        have hJ84u17 : ∀ (H : Heap) (locs : List Loc) (ls : Array Slot), mPw G h0 ad (upd F 47 r15.1) (va_up A 46 r15.2) L H → va_S (mA h0 ad) s.heap H locs → lv_has ls 5 [(1, .int p1), (3, .int ((A 12) (p1).toNatClampNeg)), (4, .int u17)] → W p l e ({ frames := 1, cells := 0, slots := 0, locals := 21 } : Room) s m args below meth c H locs 0 0 Q (F0 m 84 ls []) := by
          intro H locs ls hP hS hl
          refine lv_iload_n C.1 C.2.1 dX5_feeding_84 rfl (lv_at hl 1 rfl) ?_
          refine lv_iconst (v := 4) C.1 C.2.1 dX5_feeding_85 (by decide) ?_
          obtain ⟨u22, hR, hE⟩ := it_b hE
          have hJ101u22 : ∀ (H : Heap) (locs : List Loc) (ls : Array Slot), mPw G h0 ad (upd F 47 r15.1) (va_up A 46 r15.2) L H → va_S (mA h0 ad) s.heap H locs → lv_has ls 5 [(3, .int ((A 12) (p1).toNatClampNeg)), (4, .int u22)] → W p l e ({ frames := 1, cells := 0, slots := 0, locals := 21 } : Room) s m args below meth c H locs 0 0 Q (F0 m 101 ls []) := by
            intro H locs ls hP hS hl
            refine lv_iload_n C.1 C.2.1 dX5_feeding_101 rfl (lv_at hl 0 rfl) ?_
            refine lv_bipush (v := 6) C.1 C.2.1 dX5_feeding_102 (by decide) ?_
            refine lv_icmp_ne (tgt := 114) C.1 C.2.1 dX5_feeding_104 (by decide) (fun c24 => ?_) (fun c24 => ?_)
            · have hE := it_f c24 hE
              refine lv_iload C.1 C.2.1 dX5_feeding_114 (lv_at hl 1 rfl) ?_
              obtain rfl := Option.some.inj hE
              exact hret _ _ _ _ dX5_feeding_116 hP hS
            · have hE := it_t c24 hE
              refine lv_iload C.1 C.2.1 dX5_feeding_107 (lv_at hl 1 rfl) ?_
              refine lv_iconst (v := 2) C.1 C.2.1 dX5_feeding_109 (by decide) ?_
              refine lv_imul C.1 C.2.1 dX5_feeding_110 ?_
              refine lv_goto (tgt := 116) C.1 C.2.1 dX5_feeding_111 (by decide) ?_
              obtain rfl := Option.some.inj hE
              exact hret _ _ _ _ dX5_feeding_116 hP hS
          have hE := hR
          refine lv_icmp_eq (tgt := 95) C.1 C.2.1 dX5_feeding_86 (by decide) (fun c21 => ?_) (fun c21 => ?_)
          · have hE := it_t c21 hE
            refine lv_iload C.1 C.2.1 dX5_feeding_95 (lv_at hl 2 rfl) ?_
            refine lv_iload_n C.1 C.2.1 dX5_feeding_97 rfl (lv_at hl 0 rfl) ?_
            refine lv_isub C.1 C.2.1 dX5_feeding_98 ?_
            refine lv_istore (lv' := [(4, .int (u17 - p1)), (1, .int p1), (3, .int ((A 12) (p1).toNatClampNeg))]) C.1 C.2.1 dX5_feeding_99 hl (by decide) rfl (fun ls hl => ?_)
            obtain rfl := Option.some.inj hE
            exact hJ101u22 H locs ls hP hS (lv_sub hl [2, 0] rfl)
          · have hE := it_f c21 hE
            refine lv_iload_n C.1 C.2.1 dX5_feeding_89 rfl (lv_at hl 1 rfl) ?_
            refine lv_bipush (v := 6) C.1 C.2.1 dX5_feeding_90 (by decide) ?_
            refine lv_icmp_ne (tgt := 101) C.1 C.2.1 dX5_feeding_92 (by decide) (fun c23 => ?_) (fun c23 => ?_)
            · have hE := it_f c23 hE
              obtain rfl := Option.some.inj hE
              exact hJ101u22 H locs ls hP hS (lv_sub hl [1, 2] rfl)
            · have hE := it_t c23 hE
              refine lv_iload C.1 C.2.1 dX5_feeding_95 (lv_at hl 2 rfl) ?_
              refine lv_iload_n C.1 C.2.1 dX5_feeding_97 rfl (lv_at hl 0 rfl) ?_
              refine lv_isub C.1 C.2.1 dX5_feeding_98 ?_
              refine lv_istore (lv' := [(4, .int (u17 - p1)), (1, .int p1), (3, .int ((A 12) (p1).toNatClampNeg))]) C.1 C.2.1 dX5_feeding_99 hl (by decide) rfl (fun ls hl => ?_)
              obtain rfl := Option.some.inj hE
              exact hJ101u22 H locs ls hP hS (lv_sub hl [2, 0] rfl)
        have hE := hR
        refine lv_icmp_eq (tgt := 73) C.1 C.2.1 dX5_feeding_65 (by decide) (fun c16 => ?_) (fun c16 => ?_)
        · have hE := it_t c16 hE
          refine lv_iload C.1 C.2.1 dX5_feeding_73 (lv_at hl 0 rfl) ?_
          refine lv_aload_n C.1 C.2.1 dX5_feeding_75 rfl (lv_at hl 1 rfl) ?_
          refine ma_13 C hP dX5_feeding_76 ?_
          refine lv_iload_n C.1 C.2.1 dX5_feeding_79 rfl (lv_at hl 2 rfl) ?_
          obtain ⟨g18, hE⟩ := it_g hE
          refine ml_13 (v := ((A 13) (p1).toNatClampNeg)) C hP (gi_in g18) rfl dX5_feeding_80 ?_
          refine lv_iadd C.1 C.2.1 dX5_feeding_81 ?_
          refine lv_istore (lv' := [(4, .int ((p2 + p1) + ((A 13) (p1).toNatClampNeg))), (0, .ref h0), (1, .int p1), (2, .int p2), (3, .int ((A 12) (p1).toNatClampNeg))]) C.1 C.2.1 dX5_feeding_82 hl (by decide) rfl (fun ls hl => ?_)
          obtain rfl := Option.some.inj hE
          exact hJ84u17 H locs ls hP hS (lv_sub hl [2, 4, 0] rfl)
        · have hE := it_f c16 hE
          refine lv_iload_n C.1 C.2.1 dX5_feeding_68 rfl (lv_at hl 4 rfl) ?_
          refine lv_iconst (v := 3) C.1 C.2.1 dX5_feeding_69 (by decide) ?_
          refine lv_icmp_ne (tgt := 84) C.1 C.2.1 dX5_feeding_70 (by decide) (fun c19 => ?_) (fun c19 => ?_)
          · have hE := it_f c19 hE
            obtain rfl := Option.some.inj hE
            exact hJ84u17 H locs ls hP hS (lv_sub hl [2, 4, 0] rfl)
          · have hE := it_t c19 hE
            refine lv_iload C.1 C.2.1 dX5_feeding_73 (lv_at hl 0 rfl) ?_
            refine lv_aload_n C.1 C.2.1 dX5_feeding_75 rfl (lv_at hl 1 rfl) ?_
            refine ma_13 C hP dX5_feeding_76 ?_
            refine lv_iload_n C.1 C.2.1 dX5_feeding_79 rfl (lv_at hl 2 rfl) ?_
            obtain ⟨g20, hE⟩ := it_g hE
            refine ml_13 (v := ((A 13) (p1).toNatClampNeg)) C hP (gi_in g20) rfl dX5_feeding_80 ?_
            refine lv_iadd C.1 C.2.1 dX5_feeding_81 ?_
            refine lv_istore (lv' := [(4, .int ((p2 + p1) + ((A 13) (p1).toNatClampNeg))), (0, .ref h0), (1, .int p1), (2, .int p2), (3, .int ((A 12) (p1).toNatClampNeg))]) C.1 C.2.1 dX5_feeding_82 hl (by decide) rfl (fun ls hl => ?_)
            obtain rfl := Option.some.inj hE
            exact hJ84u17 H locs ls hP hS (lv_sub hl [2, 4, 0] rfl)
      have hE := hR
      refine lv_icmp_eq (tgt := 46) C.1 C.2.1 dX5_feeding_38 (by decide) (fun c10 => ?_) (fun c10 => ?_)
      · have hE := it_t c10 hE
        refine lv_aload_n C.1 C.2.1 dX5_feeding_46 rfl (lv_at hl 0 rfl) ?_
        refine lv_bipush (v := 20) C.1 C.2.1 dX5_feeding_47 (by decide) ?_
        obtain ⟨r12, hr12, hE⟩ := it_b hE
        refine m_call (n := 1) (As := [.int 20]) (rest := []) C hP hS hml (metM_body l G h0 ad _ _ _ 20 r12 hr12) q1796 q1798 qs76 q1799 rfl rfl (by decide +kernel) ⟨Nat.le_of_ble_eq_true rfl, Nat.le_of_ble_eq_true rfl⟩ ⟨Nat.le_refl _, Nat.le_refl _⟩ rfl hl.1 rfl (Nat.le_of_ble_eq_true rfl) dX5_feeding_49 (fun H locs hP hS => ?_)
        obtain rfl := Option.some.inj hE
        exact hJ52u11 H locs ls hP hS (lv_sub hl [0, 1, 2, 3] rfl)
      · have hE := it_f c10 hE
        refine lv_iload_n C.1 C.2.1 dX5_feeding_41 rfl (lv_at hl 3 rfl) ?_
        refine lv_iconst (v := 3) C.1 C.2.1 dX5_feeding_42 (by decide) ?_
        refine lv_icmp_ne (tgt := 52) C.1 C.2.1 dX5_feeding_43 (by decide) (fun c13 => ?_) (fun c13 => ?_)
        · have hE := it_f c13 hE
          obtain rfl := Option.some.inj hE
          exact hJ52u11 H locs ls hP hS (lv_sub hl [0, 1, 2, 3] rfl)
        · have hE := it_t c13 hE
          refine lv_aload_n C.1 C.2.1 dX5_feeding_46 rfl (lv_at hl 0 rfl) ?_
          refine lv_bipush (v := 20) C.1 C.2.1 dX5_feeding_47 (by decide) ?_
          obtain ⟨r14, hr14, hE⟩ := it_b hE
          refine m_call (n := 1) (As := [.int 20]) (rest := []) C hP hS hml (metM_body l G h0 ad _ _ _ 20 r14 hr14) q1796 q1798 qs76 q1799 rfl rfl (by decide +kernel) ⟨Nat.le_of_ble_eq_true rfl, Nat.le_of_ble_eq_true rfl⟩ ⟨Nat.le_refl _, Nat.le_refl _⟩ rfl hl.1 rfl (Nat.le_of_ble_eq_true rfl) dX5_feeding_49 (fun H locs hP hS => ?_)
          obtain rfl := Option.some.inj hE
          exact hJ52u11 H locs ls hP hS (lv_sub hl [0, 1, 2, 3] rfl)
    have hE := hR
    refine lv_icmp_eq (tgt := 30) C.1 C.2.1 dX5_feeding_21 (by decide) (fun c5 => ?_) (fun c5 => ?_)
    · have hE := it_t c5 hE
      refine lv_aload_n C.1 C.2.1 dX5_feeding_30 rfl (lv_at hl 0 rfl) ?_
      refine lv_bipush (v := 51) C.1 C.2.1 dX5_feeding_31 (by decide) ?_
      obtain ⟨r7, hr7, hE⟩ := it_b hE
      refine m_call (n := 1) (As := [.int 51]) (rest := []) C hP hS hml (metM_body l G h0 ad _ _ _ 51 r7 hr7) q1796 q1798 qs76 q1799 rfl rfl (by decide +kernel) ⟨Nat.le_of_ble_eq_true rfl, Nat.le_of_ble_eq_true rfl⟩ ⟨Nat.le_refl _, Nat.le_refl _⟩ rfl hl.1 rfl (Nat.le_of_ble_eq_true rfl) dX5_feeding_33 (fun H locs hP hS => ?_)
      obtain rfl := Option.some.inj hE
      exact hJ36u6 H locs ls hP hS (lv_sub hl [0, 1, 2, 3] rfl)
    · have hE := it_f c5 hE
      refine lv_iload_n C.1 C.2.1 dX5_feeding_24 rfl (lv_at hl 3 rfl) ?_
      refine lv_bipush (v := 6) C.1 C.2.1 dX5_feeding_25 (by decide) ?_
      refine lv_icmp_ne (tgt := 36) C.1 C.2.1 dX5_feeding_27 (by decide) (fun c8 => ?_) (fun c8 => ?_)
      · have hE := it_f c8 hE
        obtain rfl := Option.some.inj hE
        exact hJ36u6 H locs ls hP hS (lv_sub hl [0, 1, 2, 3] rfl)
      · have hE := it_t c8 hE
        refine lv_aload_n C.1 C.2.1 dX5_feeding_30 rfl (lv_at hl 0 rfl) ?_
        refine lv_bipush (v := 51) C.1 C.2.1 dX5_feeding_31 (by decide) ?_
        obtain ⟨r9, hr9, hE⟩ := it_b hE
        refine m_call (n := 1) (As := [.int 51]) (rest := []) C hP hS hml (metM_body l G h0 ad _ _ _ 51 r9 hr9) q1796 q1798 qs76 q1799 rfl rfl (by decide +kernel) ⟨Nat.le_of_ble_eq_true rfl, Nat.le_of_ble_eq_true rfl⟩ ⟨Nat.le_refl _, Nat.le_refl _⟩ rfl hl.1 rfl (Nat.le_of_ble_eq_true rfl) dX5_feeding_33 (fun H locs hP hS => ?_)
        obtain rfl := Option.some.inj hE
        exact hJ36u6 H locs ls hP hS (lv_sub hl [0, 1, 2, 3] rfl)
  have hE := hR
  refine lv_icmp_ne (tgt := 19) C.1 C.2.1 dX5_feeding_10 (by decide) (fun c2 => ?_) (fun c2 => ?_)
  · have hE := it_f c2 hE
    obtain rfl := Option.some.inj hE
    exact hJ19u3 H locs ls hP hS (lv_sub hl [1, 2, 3, 0] rfl)
  · have hE := it_t c2 hE
    refine lv_aload_n C.1 C.2.1 dX5_feeding_13 rfl (lv_at hl 1 rfl) ?_
    refine lv_bipush (v := 70) C.1 C.2.1 dX5_feeding_14 (by decide) ?_
    obtain ⟨r4, hr4, hE⟩ := it_b hE
    refine m_call (n := 1) (As := [.int 70]) (rest := []) C hP hS hml (metM_body l G h0 ad _ _ _ 70 r4 hr4) q1796 q1798 qs76 q1799 rfl rfl (by decide +kernel) ⟨Nat.le_of_ble_eq_true rfl, Nat.le_of_ble_eq_true rfl⟩ ⟨Nat.le_refl _, Nat.le_refl _⟩ rfl hl.1 rfl (Nat.le_of_ble_eq_true rfl) dX5_feeding_16 (fun H locs hP hS => ?_)
    obtain rfl := Option.some.inj hE
    exact hJ19u3 H locs ls hP hS (lv_sub hl [1, 2, 3, 0] rfl)
def sM_weighing (f_ran : Int32) (a_kind : Nat → Int32) (a_part : Nat → Int32) (a_trace : Nat → Int32) (p1 : Int32) (p2 : Int32) : Option (Int32 × Int32 × (Nat → Int32)) :=
  if gi p1 8 then
  @Option.bind (Int32 × Int32 × (Nat → Int32)) _ (
    if (a_kind (p1).toNatClampNeg) = 6 then
      (sM_body f_ran a_trace 71).bind fun r4 =>
      if gi p1 8 then
      some ((p2 - (a_part (p1).toNatClampNeg)), r4.1, r4.2)
      else none
    else
      some (p2, f_ran, a_trace)) fun u3 =>
  @Option.bind (Int32 × Int32 × (Nat → Int32)) _ (
    if (a_kind (p1).toNatClampNeg) = 3 then
      (sM_body u3.2.1 u3.2.2 40).bind fun r8 =>
      some ((p2 + 1), r8.1, r8.2)
    else
      some (u3.1, u3.2.1, u3.2.2)) fun u7 =>
  @Option.bind (Bool) _ (
    if (a_kind (p1).toNatClampNeg) = 2 then
      some true
    else
      if (a_kind (p1).toNatClampNeg) = 5 then
        some true
      else
        some false) fun u10 =>
  if u10 = true then
    (sM_body u7.2.1 u7.2.2 30).bind fun r13 =>
    (sM_body r13.1 r13.2 11).bind fun r14 =>
    (sM_feeding r14.1 a_kind a_part r14.2 p1 u7.1).bind fun r15 =>
    some (((r15.1 * 2) * 3), r15.2.1, r15.2.2)
  else
    (sM_body u7.2.1 u7.2.2 11).bind fun r18 =>
    (sM_feeding r18.1 a_kind a_part r18.2 p1 u7.1).bind fun r19 =>
    some ((r19.1 * 2), r19.2.1, r19.2.2)
  else none
set_option maxHeartbeats 4000000 in
theorem metM_weighing (l : Launch) (G : kG) (h0 : Nat) (ad : Nat → Nat) (F : Nat → Int32) (A : Nat → Nat → Int32) (L : Nat → Nat → Int64) (p1 : Int32) (p2 : Int32) (res : Int32 × Int32 × (Nat → Int32)) (hE : sM_weighing (F 47) (A 12) (A 13) (A 46) p1 p2 = some res) : Met l yX5_weighing (ws_ yX5_weighing cX5_weighing 7 (some .int)) ({ frames := 2, cells := 0, slots := 0, locals := 45 } : Room) (mPc G h0 ad F A L [.int p1, .int p2]) (mQc G h0 ad (upd F 47 res.2.1) (va_up A 46 res.2.2) L (some (.int res.1))) 0 0 (mA h0 ad) := by
  refine m_ofW (by decide) rfl (Nat.le_of_ble_eq_true rfl) ?_
  intro p e s m args below meth c ls C hml hP hS hl hr hlocks
  have hl : lv_has ls 7 [(0, .ref h0), (1, .int p1), (2, .int p2)] := hl
  obtain ⟨Q, hQ⟩ : ∃ Q, Q = MQ below (mQc G h0 ad (upd F 47 res.2.1) (va_up A 46 res.2.2) L (some (.int res.1))) args s 0 0 (mA h0 ad) := ⟨_, rfl⟩
  rw [← hQ]
  have hret : ∀ (pc : Nat) (ls : Array Slot) (H : Heap) (locs : List Loc), decode cX5_weighing pc = .ok (.ireturn, 1) → mPw G h0 ad (upd F 47 res.2.1) (va_up A 46 res.2.2) L H → va_S (mA h0 ad) s.heap H locs → W p l e ({ frames := 2, cells := 0, slots := 0, locals := 45 } : Room) s m args below meth c H locs 0 0 Q (F0 m pc ls [.int res.1]) := by
    intro pc ls H locs hd hP hS
    rw [hQ]
    exact m_iret C hr hlocks hd hP hS
  clear hQ
  obtain ⟨H, hH⟩ : ∃ H, H = s.heap := ⟨_, rfl⟩
  obtain ⟨locs, hlo⟩ : ∃ locs : List Loc, locs = [] := ⟨_, rfl⟩
  have hP : mPw G h0 ad F A L H := by rw [hH]; exact hP
  have hS : va_S (mA h0 ad) s.heap H locs := by rw [hH, hlo]; exact hS
  suffices hZ : W p l e ({ frames := 2, cells := 0, slots := 0, locals := 45 } : Room) s m args below meth c H locs 0 0 Q (F0 m 0 ls []) by rw [hH, hlo] at hZ; exact hZ
  clear hH hlo
  unfold sM_weighing at hE
  refine lv_aload_n C.1 C.2.1 dX5_weighing_0 rfl (lv_at hl 0 rfl) ?_
  refine ma_12 C hP dX5_weighing_1 ?_
  refine lv_iload_n C.1 C.2.1 dX5_weighing_4 rfl (lv_at hl 1 rfl) ?_
  obtain ⟨g1, hE⟩ := it_g hE
  refine ml_12 (v := ((A 12) (p1).toNatClampNeg)) C hP (gi_in g1) rfl dX5_weighing_5 ?_
  refine lv_istore_n (lv' := [(3, .int ((A 12) (p1).toNatClampNeg)), (0, .ref h0), (1, .int p1), (2, .int p2)]) C.1 C.2.1 dX5_weighing_6 rfl hl (by decide) rfl (fun ls hl => ?_)
  refine lv_iload_n C.1 C.2.1 dX5_weighing_7 rfl (lv_at hl 3 rfl) ?_
  refine lv_istore (lv' := [(4, .int p2), (3, .int ((A 12) (p1).toNatClampNeg)), (0, .ref h0), (1, .int p1), (2, .int p2)]) C.1 C.2.1 dX5_weighing_8 hl (by decide) rfl (fun ls hl => ?_)
  refine lv_iload_n C.1 C.2.1 dX5_weighing_10 rfl (lv_at hl 1 rfl) ?_
  refine lv_bipush (v := 6) C.1 C.2.1 dX5_weighing_11 (by decide) ?_
  obtain ⟨u3, hR, hE⟩ := it_b hE
  have hJ32u3 : ∀ (H : Heap) (locs : List Loc) (ls : Array Slot), mPw G h0 ad (upd F 47 u3.2.1) (va_up A 46 u3.2.2) L H → va_S (mA h0 ad) s.heap H locs → lv_has ls 7 [(0, .ref h0), (1, .int p1), (2, .int p2), (3, .int ((A 12) (p1).toNatClampNeg)), (4, .int u3.1)] → W p l e ({ frames := 2, cells := 0, slots := 0, locals := 45 } : Room) s m args below meth c H locs 0 0 Q (F0 m 32 ls []) := by
    intro H locs ls hP hS hl
    refine lv_iload_n C.1 C.2.1 dX5_weighing_32 rfl (lv_at hl 3 rfl) ?_
    refine lv_iconst (v := 3) C.1 C.2.1 dX5_weighing_33 (by decide) ?_
    obtain ⟨u7, hR, hE⟩ := it_b hE
    have hJ48u7 : ∀ (H : Heap) (locs : List Loc) (ls : Array Slot), mPw G h0 ad (upd F 47 u7.2.1) (va_up A 46 u7.2.2) L H → va_S (mA h0 ad) s.heap H locs → lv_has ls 7 [(0, .ref h0), (1, .int p1), (3, .int ((A 12) (p1).toNatClampNeg)), (4, .int u7.1)] → W p l e ({ frames := 2, cells := 0, slots := 0, locals := 45 } : Room) s m args below meth c H locs 0 0 Q (F0 m 48 ls []) := by
      intro H locs ls hP hS hl
      refine lv_iload_n C.1 C.2.1 dX5_weighing_48 rfl (lv_at hl 2 rfl) ?_
      refine lv_iconst (v := 2) C.1 C.2.1 dX5_weighing_49 (by decide) ?_
      obtain ⟨u10, hR, hE⟩ := it_b hE
      have hJ58u10 : u10 = true → ∀ (H : Heap) (locs : List Loc) (ls : Array Slot), mPw G h0 ad (upd F 47 u7.2.1) (va_up A 46 u7.2.2) L H → va_S (mA h0 ad) s.heap H locs → lv_has ls 7 [(0, .ref h0), (1, .int p1), (4, .int u7.1)] → W p l e ({ frames := 2, cells := 0, slots := 0, locals := 45 } : Room) s m args below meth c H locs 0 0 Q (F0 m 58 ls []) := by
        intro hu H locs ls hP hS hl
        have hE := it_t hu hE
        refine lv_iconst (v := 1) C.1 C.2.1 dX5_weighing_58 (by decide) ?_
        refine lv_goto (tgt := 63) C.1 C.2.1 dX5_weighing_59 (by decide) ?_
        refine lv_istore (lv' := [(5, .int 1), (0, .ref h0), (1, .int p1), (4, .int u7.1)]) C.1 C.2.1 dX5_weighing_63 hl (by decide) rfl (fun ls hl => ?_)
        refine lv_iload C.1 C.2.1 dX5_weighing_65 (lv_at hl 0 rfl) ?_
        refine lv_if_eq (tgt := 76) C.1 C.2.1 dX5_weighing_67 (by decide) (fun c12 => absurd c12 (by decide)) (fun c12 => ?_)
        refine lv_aload_n C.1 C.2.1 dX5_weighing_70 rfl (lv_at hl 1 rfl) ?_
        refine lv_bipush (v := 30) C.1 C.2.1 dX5_weighing_71 (by decide) ?_
        obtain ⟨r13, hr13, hE⟩ := it_b hE
        refine m_call (n := 1) (As := [.int 30]) (rest := []) C hP hS hml (metM_body l G h0 ad _ _ _ 30 r13 hr13) q1796 q1798 qs76 q1799 rfl rfl (by decide +kernel) ⟨Nat.le_of_ble_eq_true rfl, Nat.le_of_ble_eq_true rfl⟩ ⟨Nat.le_refl _, Nat.le_refl _⟩ rfl hl.1 rfl (Nat.le_of_ble_eq_true rfl) dX5_weighing_73 (fun H locs hP hS => ?_)
        refine lv_aload_n C.1 C.2.1 dX5_weighing_76 rfl (lv_at hl 1 rfl) ?_
        refine lv_bipush (v := 11) C.1 C.2.1 dX5_weighing_77 (by decide) ?_
        obtain ⟨r14, hr14, hE⟩ := it_b hE
        refine m_call (n := 1) (As := [.int 11]) (rest := []) C hP hS hml (metM_body l G h0 ad _ _ _ 11 r14 hr14) q1796 q1798 qs76 q1799 rfl rfl (by decide +kernel) ⟨Nat.le_of_ble_eq_true rfl, Nat.le_of_ble_eq_true rfl⟩ ⟨Nat.le_refl _, Nat.le_refl _⟩ rfl hl.1 rfl (Nat.le_of_ble_eq_true rfl) dX5_weighing_79 (fun H locs hP hS => ?_)
        refine lv_aload_n C.1 C.2.1 dX5_weighing_82 rfl (lv_at hl 1 rfl) ?_
        refine lv_iload_n C.1 C.2.1 dX5_weighing_83 rfl (lv_at hl 2 rfl) ?_
        refine lv_iload C.1 C.2.1 dX5_weighing_84 (lv_at hl 3 rfl) ?_
        obtain ⟨r15, hr15, hE⟩ := it_b hE
        refine m_call (n := 2) (As := [.int p1, .int u7.1]) (rest := []) C hP hS hml (metM_feeding l G h0 ad _ _ _ p1 u7.1 r15 hr15) q1792 q1794 qs75 q1795 rfl rfl (by decide +kernel) ⟨Nat.le_of_ble_eq_true rfl, Nat.le_of_ble_eq_true rfl⟩ ⟨Nat.le_refl _, Nat.le_refl _⟩ rfl hl.1 rfl (Nat.le_of_ble_eq_true rfl) dX5_weighing_86 (fun H locs hP hS => ?_)
        refine lv_iconst (v := 2) C.1 C.2.1 dX5_weighing_89 (by decide) ?_
        refine lv_imul C.1 C.2.1 dX5_weighing_90 ?_
        refine lv_istore (lv' := [(6, .int (r15.1 * 2)), (5, .int 1), (0, .ref h0), (1, .int p1), (4, .int u7.1)]) C.1 C.2.1 dX5_weighing_91 hl (by decide) rfl (fun ls hl => ?_)
        refine lv_iload C.1 C.2.1 dX5_weighing_93 (lv_at hl 1 rfl) ?_
        refine lv_if_eq (tgt := 105) C.1 C.2.1 dX5_weighing_95 (by decide) (fun c16 => absurd c16 (by decide)) (fun c16 => ?_)
        refine lv_iload C.1 C.2.1 dX5_weighing_98 (lv_at hl 0 rfl) ?_
        refine lv_iconst (v := 3) C.1 C.2.1 dX5_weighing_100 (by decide) ?_
        refine lv_imul C.1 C.2.1 dX5_weighing_101 ?_
        refine lv_goto (tgt := 107) C.1 C.2.1 dX5_weighing_102 (by decide) ?_
        obtain rfl := Option.some.inj hE
        exact hret _ _ _ _ dX5_weighing_107 hP hS
      have hJ62u10 : ¬ u10 = true → ∀ (H : Heap) (locs : List Loc) (ls : Array Slot), mPw G h0 ad (upd F 47 u7.2.1) (va_up A 46 u7.2.2) L H → va_S (mA h0 ad) s.heap H locs → lv_has ls 7 [(0, .ref h0), (1, .int p1), (4, .int u7.1)] → W p l e ({ frames := 2, cells := 0, slots := 0, locals := 45 } : Room) s m args below meth c H locs 0 0 Q (F0 m 62 ls []) := by
        intro hu H locs ls hP hS hl
        have hE := it_f hu hE
        refine lv_iconst (v := 0) C.1 C.2.1 dX5_weighing_62 (by decide) ?_
        refine lv_istore (lv' := [(5, .int 0), (0, .ref h0), (1, .int p1), (4, .int u7.1)]) C.1 C.2.1 dX5_weighing_63 hl (by decide) rfl (fun ls hl => ?_)
        refine lv_iload C.1 C.2.1 dX5_weighing_65 (lv_at hl 0 rfl) ?_
        refine lv_if_eq (tgt := 76) C.1 C.2.1 dX5_weighing_67 (by decide) (fun c17 => ?_) (fun c17 => absurd c17 (by decide))
        refine lv_aload_n C.1 C.2.1 dX5_weighing_76 rfl (lv_at hl 1 rfl) ?_
        refine lv_bipush (v := 11) C.1 C.2.1 dX5_weighing_77 (by decide) ?_
        obtain ⟨r18, hr18, hE⟩ := it_b hE
        refine m_call (n := 1) (As := [.int 11]) (rest := []) C hP hS hml (metM_body l G h0 ad _ _ _ 11 r18 hr18) q1796 q1798 qs76 q1799 rfl rfl (by decide +kernel) ⟨Nat.le_of_ble_eq_true rfl, Nat.le_of_ble_eq_true rfl⟩ ⟨Nat.le_refl _, Nat.le_refl _⟩ rfl hl.1 rfl (Nat.le_of_ble_eq_true rfl) dX5_weighing_79 (fun H locs hP hS => ?_)
        refine lv_aload_n C.1 C.2.1 dX5_weighing_82 rfl (lv_at hl 1 rfl) ?_
        refine lv_iload_n C.1 C.2.1 dX5_weighing_83 rfl (lv_at hl 2 rfl) ?_
        refine lv_iload C.1 C.2.1 dX5_weighing_84 (lv_at hl 3 rfl) ?_
        obtain ⟨r19, hr19, hE⟩ := it_b hE
        refine m_call (n := 2) (As := [.int p1, .int u7.1]) (rest := []) C hP hS hml (metM_feeding l G h0 ad _ _ _ p1 u7.1 r19 hr19) q1792 q1794 qs75 q1795 rfl rfl (by decide +kernel) ⟨Nat.le_of_ble_eq_true rfl, Nat.le_of_ble_eq_true rfl⟩ ⟨Nat.le_refl _, Nat.le_refl _⟩ rfl hl.1 rfl (Nat.le_of_ble_eq_true rfl) dX5_weighing_86 (fun H locs hP hS => ?_)
        refine lv_iconst (v := 2) C.1 C.2.1 dX5_weighing_89 (by decide) ?_
        refine lv_imul C.1 C.2.1 dX5_weighing_90 ?_
        refine lv_istore (lv' := [(6, .int (r19.1 * 2)), (5, .int 0), (0, .ref h0), (1, .int p1), (4, .int u7.1)]) C.1 C.2.1 dX5_weighing_91 hl (by decide) rfl (fun ls hl => ?_)
        refine lv_iload C.1 C.2.1 dX5_weighing_93 (lv_at hl 1 rfl) ?_
        refine lv_if_eq (tgt := 105) C.1 C.2.1 dX5_weighing_95 (by decide) (fun c20 => ?_) (fun c20 => absurd c20 (by decide))
        refine lv_iload C.1 C.2.1 dX5_weighing_105 (lv_at hl 0 rfl) ?_
        obtain rfl := Option.some.inj hE
        exact hret _ _ _ _ dX5_weighing_107 hP hS
      have hE := hR
      refine lv_icmp_eq (tgt := 58) C.1 C.2.1 dX5_weighing_50 (by decide) (fun c9 => ?_) (fun c9 => ?_)
      · have hE := it_t c9 hE
        obtain rfl := Option.some.inj hE
        exact hJ58u10 rfl H locs ls hP hS (lv_sub hl [0, 1, 3] rfl)
      · have hE := it_f c9 hE
        refine lv_iload_n C.1 C.2.1 dX5_weighing_53 rfl (lv_at hl 2 rfl) ?_
        refine lv_iconst (v := 5) C.1 C.2.1 dX5_weighing_54 (by decide) ?_
        refine lv_icmp_ne (tgt := 62) C.1 C.2.1 dX5_weighing_55 (by decide) (fun c11 => ?_) (fun c11 => ?_)
        · have hE := it_f c11 hE
          obtain rfl := Option.some.inj hE
          exact hJ62u10 (by decide) H locs ls hP hS (lv_sub hl [0, 1, 3] rfl)
        · have hE := it_t c11 hE
          obtain rfl := Option.some.inj hE
          exact hJ58u10 rfl H locs ls hP hS (lv_sub hl [0, 1, 3] rfl)
    have hE := hR
    refine lv_icmp_ne (tgt := 48) C.1 C.2.1 dX5_weighing_34 (by decide) (fun c6 => ?_) (fun c6 => ?_)
    · have hE := it_f c6 hE
      obtain rfl := Option.some.inj hE
      exact hJ48u7 H locs ls hP hS (lv_sub hl [0, 1, 3, 4] rfl)
    · have hE := it_t c6 hE
      refine lv_aload_n C.1 C.2.1 dX5_weighing_37 rfl (lv_at hl 0 rfl) ?_
      refine lv_bipush (v := 40) C.1 C.2.1 dX5_weighing_38 (by decide) ?_
      obtain ⟨r8, hr8, hE⟩ := it_b hE
      refine m_call (n := 1) (As := [.int 40]) (rest := []) C hP hS hml (metM_body l G h0 ad _ _ _ 40 r8 hr8) q1796 q1798 qs76 q1799 rfl rfl (by decide +kernel) ⟨Nat.le_of_ble_eq_true rfl, Nat.le_of_ble_eq_true rfl⟩ ⟨Nat.le_refl _, Nat.le_refl _⟩ rfl hl.1 rfl (Nat.le_of_ble_eq_true rfl) dX5_weighing_40 (fun H locs hP hS => ?_)
      refine lv_iload_n C.1 C.2.1 dX5_weighing_43 rfl (lv_at hl 2 rfl) ?_
      refine lv_iconst (v := 1) C.1 C.2.1 dX5_weighing_44 (by decide) ?_
      refine lv_iadd C.1 C.2.1 dX5_weighing_45 ?_
      refine lv_istore (lv' := [(4, .int (p2 + 1)), (0, .ref h0), (1, .int p1), (2, .int p2), (3, .int ((A 12) (p1).toNatClampNeg))]) C.1 C.2.1 dX5_weighing_46 hl (by decide) rfl (fun ls hl => ?_)
      obtain rfl := Option.some.inj hE
      exact hJ48u7 H locs ls hP hS (lv_sub hl [1, 2, 4, 0] rfl)
  have hE := hR
  refine lv_icmp_ne (tgt := 32) C.1 C.2.1 dX5_weighing_13 (by decide) (fun c2 => ?_) (fun c2 => ?_)
  · have hE := it_f c2 hE
    obtain rfl := Option.some.inj hE
    exact hJ32u3 H locs ls hP hS (lv_sub hl [2, 3, 4, 1, 0] rfl)
  · have hE := it_t c2 hE
    refine lv_aload_n C.1 C.2.1 dX5_weighing_16 rfl (lv_at hl 2 rfl) ?_
    refine lv_bipush (v := 71) C.1 C.2.1 dX5_weighing_17 (by decide) ?_
    obtain ⟨r4, hr4, hE⟩ := it_b hE
    refine m_call (n := 1) (As := [.int 71]) (rest := []) C hP hS hml (metM_body l G h0 ad _ _ _ 71 r4 hr4) q1796 q1798 qs76 q1799 rfl rfl (by decide +kernel) ⟨Nat.le_of_ble_eq_true rfl, Nat.le_of_ble_eq_true rfl⟩ ⟨Nat.le_refl _, Nat.le_refl _⟩ rfl hl.1 rfl (Nat.le_of_ble_eq_true rfl) dX5_weighing_19 (fun H locs hP hS => ?_)
    refine lv_iload_n C.1 C.2.1 dX5_weighing_22 rfl (lv_at hl 4 rfl) ?_
    refine lv_aload_n C.1 C.2.1 dX5_weighing_23 rfl (lv_at hl 2 rfl) ?_
    refine ma_13 C hP dX5_weighing_24 ?_
    refine lv_iload_n C.1 C.2.1 dX5_weighing_27 rfl (lv_at hl 3 rfl) ?_
    obtain ⟨g5, hE⟩ := it_g hE
    refine ml_13 (v := ((A 13) (p1).toNatClampNeg)) C hP (gi_in g5) rfl dX5_weighing_28 ?_
    refine lv_isub C.1 C.2.1 dX5_weighing_29 ?_
    refine lv_istore (lv' := [(4, .int (p2 - ((A 13) (p1).toNatClampNeg))), (3, .int ((A 12) (p1).toNatClampNeg)), (0, .ref h0), (1, .int p1), (2, .int p2)]) C.1 C.2.1 dX5_weighing_30 hl (by decide) rfl (fun ls hl => ?_)
    obtain rfl := Option.some.inj hE
    exact hJ32u3 H locs ls hP hS (lv_sub hl [2, 3, 4, 1, 0] rfl)
def sM_writing (f_ran : Int32) (a_kind : Nat → Int32) (a_part : Nat → Int32) (a_trace : Nat → Int32) (p1 : Int32) (p2 : Int32) : Option (Int32 × Int32 × (Nat → Int32)) :=
  if gi p1 8 then
  @Option.bind (Int32 × (Nat → Int32)) _ (
    if (a_kind (p1).toNatClampNeg) = 4 then
      (sM_body f_ran a_trace 50).bind fun r4 =>
      some (r4.1, r4.2)
    else
      if (a_kind (p1).toNatClampNeg) = 6 then
        (sM_body f_ran a_trace 50).bind fun r6 =>
        some (r6.1, r6.2)
      else
        some (f_ran, a_trace)) fun u3 =>
  @Option.bind (Int32 × (Nat → Int32)) _ (
    if (a_kind (p1).toNatClampNeg) = 5 then
      (sM_body u3.1 u3.2 60).bind fun r9 =>
      some (r9.1, r9.2)
    else
      some (u3.1, u3.2)) fun u8 =>
  (sM_body u8.1 u8.2 12).bind fun r10 =>
  (sM_weighing r10.1 a_kind a_part r10.2 p1 p2).bind fun r11 =>
  if gi p1 8 then
  (sM_feeding r11.2.1 a_kind a_part r11.2.2 p1 (p2 - (a_part (p1).toNatClampNeg))).bind fun r13 =>
  if (a_kind (p1).toNatClampNeg) = 4 then
    some ((-(r11.1 ^^^ r13.1)), r13.2.1, r13.2.2)
  else
    if (a_kind (p1).toNatClampNeg) = 6 then
      some ((-(r11.1 ^^^ r13.1)), r13.2.1, r13.2.2)
    else
      if (a_kind (p1).toNatClampNeg) = 5 then
        some (((r11.1 ^^^ r13.1) ^^^ 5), r13.2.1, r13.2.2)
      else
        some ((r11.1 ^^^ r13.1), r13.2.1, r13.2.2)
  else none
  else none
set_option maxHeartbeats 4000000 in
theorem metM_writing (l : Launch) (G : kG) (h0 : Nat) (ad : Nat → Nat) (F : Nat → Int32) (A : Nat → Nat → Int32) (L : Nat → Nat → Int64) (p1 : Int32) (p2 : Int32) (res : Int32 × Int32 × (Nat → Int32)) (hE : sM_writing (F 47) (A 12) (A 13) (A 46) p1 p2 = some res) : Met l yX5_writing (ws_ yX5_writing cX5_writing 5 (some .int)) ({ frames := 3, cells := 0, slots := 0, locals := 71 } : Room) (mPc G h0 ad F A L [.int p1, .int p2]) (mQc G h0 ad (upd F 47 res.2.1) (va_up A 46 res.2.2) L (some (.int res.1))) 0 0 (mA h0 ad) := by
  refine m_ofW (by decide) rfl (Nat.le_of_ble_eq_true rfl) ?_
  intro p e s m args below meth c ls C hml hP hS hl hr hlocks
  have hl : lv_has ls 5 [(0, .ref h0), (1, .int p1), (2, .int p2)] := hl
  obtain ⟨Q, hQ⟩ : ∃ Q, Q = MQ below (mQc G h0 ad (upd F 47 res.2.1) (va_up A 46 res.2.2) L (some (.int res.1))) args s 0 0 (mA h0 ad) := ⟨_, rfl⟩
  rw [← hQ]
  have hret : ∀ (pc : Nat) (ls : Array Slot) (H : Heap) (locs : List Loc), decode cX5_writing pc = .ok (.ireturn, 1) → mPw G h0 ad (upd F 47 res.2.1) (va_up A 46 res.2.2) L H → va_S (mA h0 ad) s.heap H locs → W p l e ({ frames := 3, cells := 0, slots := 0, locals := 71 } : Room) s m args below meth c H locs 0 0 Q (F0 m pc ls [.int res.1]) := by
    intro pc ls H locs hd hP hS
    rw [hQ]
    exact m_iret C hr hlocks hd hP hS
  clear hQ
  obtain ⟨H, hH⟩ : ∃ H, H = s.heap := ⟨_, rfl⟩
  obtain ⟨locs, hlo⟩ : ∃ locs : List Loc, locs = [] := ⟨_, rfl⟩
  have hP : mPw G h0 ad F A L H := by rw [hH]; exact hP
  have hS : va_S (mA h0 ad) s.heap H locs := by rw [hH, hlo]; exact hS
  suffices hZ : W p l e ({ frames := 3, cells := 0, slots := 0, locals := 71 } : Room) s m args below meth c H locs 0 0 Q (F0 m 0 ls []) by rw [hH, hlo] at hZ; exact hZ
  clear hH hlo
  unfold sM_writing at hE
  refine lv_aload_n C.1 C.2.1 dX5_writing_0 rfl (lv_at hl 0 rfl) ?_
  refine ma_12 C hP dX5_writing_1 ?_
  refine lv_iload_n C.1 C.2.1 dX5_writing_4 rfl (lv_at hl 1 rfl) ?_
  obtain ⟨g1, hE⟩ := it_g hE
  refine ml_12 (v := ((A 12) (p1).toNatClampNeg)) C hP (gi_in g1) rfl dX5_writing_5 ?_
  refine lv_istore_n (lv' := [(3, .int ((A 12) (p1).toNatClampNeg)), (0, .ref h0), (1, .int p1), (2, .int p2)]) C.1 C.2.1 dX5_writing_6 rfl hl (by decide) rfl (fun ls hl => ?_)
  refine lv_iload_n C.1 C.2.1 dX5_writing_7 rfl (lv_at hl 0 rfl) ?_
  refine lv_iconst (v := 4) C.1 C.2.1 dX5_writing_8 (by decide) ?_
  obtain ⟨u3, hR, hE⟩ := it_b hE
  have hJ24u3 : ∀ (H : Heap) (locs : List Loc) (ls : Array Slot), mPw G h0 ad (upd F 47 u3.1) (va_up A 46 u3.2) L H → va_S (mA h0 ad) s.heap H locs → lv_has ls 5 [(0, .ref h0), (1, .int p1), (2, .int p2), (3, .int ((A 12) (p1).toNatClampNeg))] → W p l e ({ frames := 3, cells := 0, slots := 0, locals := 71 } : Room) s m args below meth c H locs 0 0 Q (F0 m 24 ls []) := by
    intro H locs ls hP hS hl
    refine lv_iload_n C.1 C.2.1 dX5_writing_24 rfl (lv_at hl 3 rfl) ?_
    refine lv_iconst (v := 5) C.1 C.2.1 dX5_writing_25 (by decide) ?_
    obtain ⟨u8, hR, hE⟩ := it_b hE
    have hJ35u8 : ∀ (H : Heap) (locs : List Loc) (ls : Array Slot), mPw G h0 ad (upd F 47 u8.1) (va_up A 46 u8.2) L H → va_S (mA h0 ad) s.heap H locs → lv_has ls 5 [(0, .ref h0), (1, .int p1), (2, .int p2), (3, .int ((A 12) (p1).toNatClampNeg))] → W p l e ({ frames := 3, cells := 0, slots := 0, locals := 71 } : Room) s m args below meth c H locs 0 0 Q (F0 m 35 ls []) := by
      intro H locs ls hP hS hl
      refine lv_aload_n C.1 C.2.1 dX5_writing_35 rfl (lv_at hl 0 rfl) ?_
      refine lv_bipush (v := 12) C.1 C.2.1 dX5_writing_36 (by decide) ?_
      obtain ⟨r10, hr10, hE⟩ := it_b hE
      refine m_call (n := 1) (As := [.int 12]) (rest := []) C hP hS hml (metM_body l G h0 ad _ _ _ 12 r10 hr10) q1796 q1798 qs76 q1799 rfl rfl (by decide +kernel) ⟨Nat.le_of_ble_eq_true rfl, Nat.le_of_ble_eq_true rfl⟩ ⟨Nat.le_refl _, Nat.le_refl _⟩ rfl hl.1 rfl (Nat.le_of_ble_eq_true rfl) dX5_writing_38 (fun H locs hP hS => ?_)
      refine lv_aload_n C.1 C.2.1 dX5_writing_41 rfl (lv_at hl 0 rfl) ?_
      refine lv_iload_n C.1 C.2.1 dX5_writing_42 rfl (lv_at hl 1 rfl) ?_
      refine lv_iload_n C.1 C.2.1 dX5_writing_43 rfl (lv_at hl 2 rfl) ?_
      obtain ⟨r11, hr11, hE⟩ := it_b hE
      refine m_call (n := 2) (As := [.int p1, .int p2]) (rest := []) C hP hS hml (metM_weighing l G h0 ad _ _ _ p1 p2 r11 hr11) q1800 q1802 qs77 q1803 rfl rfl (by decide +kernel) ⟨Nat.le_of_ble_eq_true rfl, Nat.le_of_ble_eq_true rfl⟩ ⟨Nat.le_refl _, Nat.le_refl _⟩ rfl hl.1 rfl (Nat.le_of_ble_eq_true rfl) dX5_writing_44 (fun H locs hP hS => ?_)
      refine lv_istore (lv' := [(4, .int r11.1), (0, .ref h0), (1, .int p1), (2, .int p2), (3, .int ((A 12) (p1).toNatClampNeg))]) C.1 C.2.1 dX5_writing_47 hl (by decide) rfl (fun ls hl => ?_)
      refine lv_iload C.1 C.2.1 dX5_writing_49 (lv_at hl 0 rfl) ?_
      refine lv_aload_n C.1 C.2.1 dX5_writing_51 rfl (lv_at hl 1 rfl) ?_
      refine lv_iload_n C.1 C.2.1 dX5_writing_52 rfl (lv_at hl 2 rfl) ?_
      refine lv_iload_n C.1 C.2.1 dX5_writing_53 rfl (lv_at hl 3 rfl) ?_
      refine lv_aload_n C.1 C.2.1 dX5_writing_54 rfl (lv_at hl 1 rfl) ?_
      refine ma_13 C hP dX5_writing_55 ?_
      refine lv_iload_n C.1 C.2.1 dX5_writing_58 rfl (lv_at hl 2 rfl) ?_
      obtain ⟨g12, hE⟩ := it_g hE
      refine ml_13 (v := ((A 13) (p1).toNatClampNeg)) C hP (gi_in g12) rfl dX5_writing_59 ?_
      refine lv_isub C.1 C.2.1 dX5_writing_60 ?_
      obtain ⟨r13, hr13, hE⟩ := it_b hE
      refine m_call (n := 2) (As := [.int p1, .int (p2 - ((A 13) (p1).toNatClampNeg))]) (rest := [.int r11.1]) C hP hS hml (metM_feeding l G h0 ad _ _ _ p1 (p2 - ((A 13) (p1).toNatClampNeg)) r13 hr13) q1792 q1794 qs75 q1795 rfl rfl (by decide +kernel) ⟨Nat.le_of_ble_eq_true rfl, Nat.le_of_ble_eq_true rfl⟩ ⟨Nat.le_refl _, Nat.le_refl _⟩ rfl hl.1 rfl (Nat.le_of_ble_eq_true rfl) dX5_writing_61 (fun H locs hP hS => ?_)
      refine lv_ixor C.1 C.2.1 dX5_writing_64 ?_
      refine lv_istore (lv' := [(4, .int (r11.1 ^^^ r13.1)), (0, .ref h0), (1, .int p1), (2, .int p2), (3, .int ((A 12) (p1).toNatClampNeg))]) C.1 C.2.1 dX5_writing_65 hl (by decide) rfl (fun ls hl => ?_)
      refine lv_iload_n C.1 C.2.1 dX5_writing_67 rfl (lv_at hl 4 rfl) ?_
      refine lv_iconst (v := 4) C.1 C.2.1 dX5_writing_68 (by decide) ?_
      refine lv_icmp_eq (tgt := 78) C.1 C.2.1 dX5_writing_69 (by decide) (fun c14 => ?_) (fun c14 => ?_)
      · have hE := it_t c14 hE
        refine lv_iload C.1 C.2.1 dX5_writing_78 (lv_at hl 0 rfl) ?_
        refine lv_ineg C.1 C.2.1 dX5_writing_80 ?_
        refine lv_goto (tgt := 98) C.1 C.2.1 dX5_writing_81 (by decide) ?_
        obtain rfl := Option.some.inj hE
        exact hret _ _ _ _ dX5_writing_98 hP hS
      · have hE := it_f c14 hE
        refine lv_iload_n C.1 C.2.1 dX5_writing_72 rfl (lv_at hl 4 rfl) ?_
        refine lv_bipush (v := 6) C.1 C.2.1 dX5_writing_73 (by decide) ?_
        refine lv_icmp_ne (tgt := 84) C.1 C.2.1 dX5_writing_75 (by decide) (fun c15 => ?_) (fun c15 => ?_)
        · have hE := it_f c15 hE
          refine lv_iload_n C.1 C.2.1 dX5_writing_84 rfl (lv_at hl 4 rfl) ?_
          refine lv_iconst (v := 5) C.1 C.2.1 dX5_writing_85 (by decide) ?_
          refine lv_icmp_ne (tgt := 96) C.1 C.2.1 dX5_writing_86 (by decide) (fun c16 => ?_) (fun c16 => ?_)
          · have hE := it_f c16 hE
            refine lv_iload C.1 C.2.1 dX5_writing_96 (lv_at hl 0 rfl) ?_
            obtain rfl := Option.some.inj hE
            exact hret _ _ _ _ dX5_writing_98 hP hS
          · have hE := it_t c16 hE
            refine lv_iload C.1 C.2.1 dX5_writing_89 (lv_at hl 0 rfl) ?_
            refine lv_iconst (v := 5) C.1 C.2.1 dX5_writing_91 (by decide) ?_
            refine lv_ixor C.1 C.2.1 dX5_writing_92 ?_
            refine lv_goto (tgt := 98) C.1 C.2.1 dX5_writing_93 (by decide) ?_
            obtain rfl := Option.some.inj hE
            exact hret _ _ _ _ dX5_writing_98 hP hS
        · have hE := it_t c15 hE
          refine lv_iload C.1 C.2.1 dX5_writing_78 (lv_at hl 0 rfl) ?_
          refine lv_ineg C.1 C.2.1 dX5_writing_80 ?_
          refine lv_goto (tgt := 98) C.1 C.2.1 dX5_writing_81 (by decide) ?_
          obtain rfl := Option.some.inj hE
          exact hret _ _ _ _ dX5_writing_98 hP hS
    have hE := hR
    refine lv_icmp_ne (tgt := 35) C.1 C.2.1 dX5_writing_26 (by decide) (fun c7 => ?_) (fun c7 => ?_)
    · have hE := it_f c7 hE
      obtain rfl := Option.some.inj hE
      exact hJ35u8 H locs ls hP hS (lv_sub hl [0, 1, 2, 3] rfl)
    · have hE := it_t c7 hE
      refine lv_aload_n C.1 C.2.1 dX5_writing_29 rfl (lv_at hl 0 rfl) ?_
      refine lv_bipush (v := 60) C.1 C.2.1 dX5_writing_30 (by decide) ?_
      obtain ⟨r9, hr9, hE⟩ := it_b hE
      refine m_call (n := 1) (As := [.int 60]) (rest := []) C hP hS hml (metM_body l G h0 ad _ _ _ 60 r9 hr9) q1796 q1798 qs76 q1799 rfl rfl (by decide +kernel) ⟨Nat.le_of_ble_eq_true rfl, Nat.le_of_ble_eq_true rfl⟩ ⟨Nat.le_refl _, Nat.le_refl _⟩ rfl hl.1 rfl (Nat.le_of_ble_eq_true rfl) dX5_writing_32 (fun H locs hP hS => ?_)
      obtain rfl := Option.some.inj hE
      exact hJ35u8 H locs ls hP hS (lv_sub hl [0, 1, 2, 3] rfl)
  have hE := hR
  refine lv_icmp_eq (tgt := 18) C.1 C.2.1 dX5_writing_9 (by decide) (fun c2 => ?_) (fun c2 => ?_)
  · have hE := it_t c2 hE
    refine lv_aload_n C.1 C.2.1 dX5_writing_18 rfl (lv_at hl 1 rfl) ?_
    refine lv_bipush (v := 50) C.1 C.2.1 dX5_writing_19 (by decide) ?_
    obtain ⟨r4, hr4, hE⟩ := it_b hE
    refine m_call (n := 1) (As := [.int 50]) (rest := []) C hP hS hml (metM_body l G h0 ad _ _ _ 50 r4 hr4) q1796 q1798 qs76 q1799 rfl rfl (by decide +kernel) ⟨Nat.le_of_ble_eq_true rfl, Nat.le_of_ble_eq_true rfl⟩ ⟨Nat.le_refl _, Nat.le_refl _⟩ rfl hl.1 rfl (Nat.le_of_ble_eq_true rfl) dX5_writing_21 (fun H locs hP hS => ?_)
    obtain rfl := Option.some.inj hE
    exact hJ24u3 H locs ls hP hS (lv_sub hl [1, 2, 3, 0] rfl)
  · have hE := it_f c2 hE
    refine lv_iload_n C.1 C.2.1 dX5_writing_12 rfl (lv_at hl 0 rfl) ?_
    refine lv_bipush (v := 6) C.1 C.2.1 dX5_writing_13 (by decide) ?_
    refine lv_icmp_ne (tgt := 24) C.1 C.2.1 dX5_writing_15 (by decide) (fun c5 => ?_) (fun c5 => ?_)
    · have hE := it_f c5 hE
      obtain rfl := Option.some.inj hE
      exact hJ24u3 H locs ls hP hS (lv_sub hl [1, 2, 3, 0] rfl)
    · have hE := it_t c5 hE
      refine lv_aload_n C.1 C.2.1 dX5_writing_18 rfl (lv_at hl 1 rfl) ?_
      refine lv_bipush (v := 50) C.1 C.2.1 dX5_writing_19 (by decide) ?_
      obtain ⟨r6, hr6, hE⟩ := it_b hE
      refine m_call (n := 1) (As := [.int 50]) (rest := []) C hP hS hml (metM_body l G h0 ad _ _ _ 50 r6 hr6) q1796 q1798 qs76 q1799 rfl rfl (by decide +kernel) ⟨Nat.le_of_ble_eq_true rfl, Nat.le_of_ble_eq_true rfl⟩ ⟨Nat.le_refl _, Nat.le_refl _⟩ rfl hl.1 rfl (Nat.le_of_ble_eq_true rfl) dX5_writing_21 (fun H locs hP hS => ?_)
      obtain rfl := Option.some.inj hE
      exact hJ24u3 H locs ls hP hS (lv_sub hl [1, 2, 3, 0] rfl)
def sM_act (f_many : Int32) (f_ran : Int32) (a_kind : Nat → Int32) (a_part : Nat → Int32) (a_trace : Nat → Int32) (p1 : Int32) (p2 : Int32) (p3 : Int32) : Option (Int32 × Int32 × (Nat → Int32)) :=
  (sM_isHome f_many p1).bind fun r1 =>
  if r1 = 0 then
    some (0, 0, a_trace)
  else
    if p2 < 0 then
      some (0, 0, a_trace)
    else
      if p2 ≤ 2 then
        if p2 = 0 then
          (sM_feeding 0 a_kind a_part a_trace p1 p3).bind fun r9 =>
          some (r9.1, r9.2.1, r9.2.2)
        else
          if p2 = 1 then
            (sM_weighing 0 a_kind a_part a_trace p1 p3).bind fun r8 =>
            some (r8.1, r8.2.1, r8.2.2)
          else
            (sM_writing 0 a_kind a_part a_trace p1 p3).bind fun r7 =>
            some (r7.1, r7.2.1, r7.2.2)
      else
        some (0, 0, a_trace)
set_option maxHeartbeats 4000000 in
theorem metM_act (l : Launch) (G : kG) (h0 : Nat) (ad : Nat → Nat) (F : Nat → Int32) (A : Nat → Nat → Int32) (L : Nat → Nat → Int64) (p1 : Int32) (p2 : Int32) (p3 : Int32) (res : Int32 × Int32 × (Nat → Int32)) (hE : sM_act (F 0) (F 47) (A 12) (A 13) (A 46) p1 p2 p3 = some res) : Met l yX5_act (ws_ yX5_act cX5_act 4 (some .int)) ({ frames := 4, cells := 0, slots := 0, locals := 95 } : Room) (mPc G h0 ad F A L [.int p1, .int p2, .int p3]) (mQc G h0 ad (upd F 47 res.2.1) (va_up A 46 res.2.2) L (some (.int res.1))) 0 0 (mA h0 ad) := by
  refine m_ofW (by decide) rfl (Nat.le_of_ble_eq_true rfl) ?_
  intro p e s m args below meth c ls C hml hP hS hl hr hlocks
  have hl : lv_has ls 4 [(0, .ref h0), (1, .int p1), (2, .int p2), (3, .int p3)] := hl
  obtain ⟨Q, hQ⟩ : ∃ Q, Q = MQ below (mQc G h0 ad (upd F 47 res.2.1) (va_up A 46 res.2.2) L (some (.int res.1))) args s 0 0 (mA h0 ad) := ⟨_, rfl⟩
  rw [← hQ]
  have hret : ∀ (pc : Nat) (ls : Array Slot) (H : Heap) (locs : List Loc), decode cX5_act pc = .ok (.ireturn, 1) → mPw G h0 ad (upd F 47 res.2.1) (va_up A 46 res.2.2) L H → va_S (mA h0 ad) s.heap H locs → W p l e ({ frames := 4, cells := 0, slots := 0, locals := 95 } : Room) s m args below meth c H locs 0 0 Q (F0 m pc ls [.int res.1]) := by
    intro pc ls H locs hd hP hS
    rw [hQ]
    exact m_iret C hr hlocks hd hP hS
  clear hQ
  obtain ⟨H, hH⟩ : ∃ H, H = s.heap := ⟨_, rfl⟩
  obtain ⟨locs, hlo⟩ : ∃ locs : List Loc, locs = [] := ⟨_, rfl⟩
  have hP : mPw G h0 ad F A L H := by rw [hH]; exact hP
  have hS : va_S (mA h0 ad) s.heap H locs := by rw [hH, hlo]; exact hS
  suffices hZ : W p l e ({ frames := 4, cells := 0, slots := 0, locals := 95 } : Room) s m args below meth c H locs 0 0 Q (F0 m 0 ls []) by rw [hH, hlo] at hZ; exact hZ
  clear hH hlo
  unfold sM_act at hE
  refine lv_aload_n C.1 C.2.1 dX5_act_0 rfl (lv_at hl 0 rfl) ?_
  refine lv_iconst (v := 0) C.1 C.2.1 dX5_act_1 (by decide) ?_
  refine mp_47 C hP hS dX5_act_2 (fun H locs hP hS => ?_)
  refine lv_aload_n C.1 C.2.1 dX5_act_5 rfl (lv_at hl 0 rfl) ?_
  refine lv_iload_n C.1 C.2.1 dX5_act_6 rfl (lv_at hl 1 rfl) ?_
  obtain ⟨r1, hr1, hE⟩ := it_b hE
  refine m_call (n := 1) (As := [.int p1]) (rest := []) C hP hS hml (metM_isHome l G h0 ad _ _ _ p1 r1 hr1) q1503 q1505 qs33 q1506 rfl rfl (by decide +kernel) ⟨Nat.le_of_ble_eq_true rfl, Nat.le_of_ble_eq_true rfl⟩ ⟨Nat.le_refl _, Nat.le_refl _⟩ rfl hl.1 rfl (Nat.le_of_ble_eq_true rfl) dX5_act_7 (fun H locs hP hS => ?_)
  refine lv_if_eq (tgt := 22) C.1 C.2.1 dX5_act_10 (by decide) (fun c2 => ?_) (fun c2 => ?_)
  · have hE := it_t c2 hE
    refine lv_iconst (v := 0) C.1 C.2.1 dX5_act_22 (by decide) ?_
    obtain rfl := Option.some.inj hE
    exact hret _ _ _ _ dX5_act_23 hP hS
  · have hE := it_f c2 hE
    refine lv_iload_n C.1 C.2.1 dX5_act_13 rfl (lv_at hl 2 rfl) ?_
    refine lv_if_lt (tgt := 22) C.1 C.2.1 dX5_act_14 (by decide) (fun c3 => ?_) (fun c3 => ?_)
    · have hE := it_t c3 hE
      refine lv_iconst (v := 0) C.1 C.2.1 dX5_act_22 (by decide) ?_
      obtain rfl := Option.some.inj hE
      exact hret _ _ _ _ dX5_act_23 hP hS
    · have hE := it_f c3 hE
      refine lv_iload_n C.1 C.2.1 dX5_act_17 rfl (lv_at hl 2 rfl) ?_
      refine lv_iconst (v := 2) C.1 C.2.1 dX5_act_18 (by decide) ?_
      refine lv_icmp_le (tgt := 24) C.1 C.2.1 dX5_act_19 (by decide) (fun c4 => ?_) (fun c4 => ?_)
      · have hE := it_t c4 hE
        refine lv_iload_n C.1 C.2.1 dX5_act_24 rfl (lv_at hl 2 rfl) ?_
        refine lv_if_ne (tgt := 37) C.1 C.2.1 dX5_act_25 (by decide) (fun c5 => ?_) (fun c5 => ?_)
        · have hE := it_f c5 hE
          refine lv_iload_n C.1 C.2.1 dX5_act_37 rfl (lv_at hl 2 rfl) ?_
          refine lv_iconst (v := 1) C.1 C.2.1 dX5_act_38 (by decide) ?_
          refine lv_icmp_ne (tgt := 51) C.1 C.2.1 dX5_act_39 (by decide) (fun c6 => ?_) (fun c6 => ?_)
          · have hE := it_f c6 hE
            refine lv_aload_n C.1 C.2.1 dX5_act_51 rfl (lv_at hl 0 rfl) ?_
            refine lv_iload_n C.1 C.2.1 dX5_act_52 rfl (lv_at hl 1 rfl) ?_
            refine lv_iload_n C.1 C.2.1 dX5_act_53 rfl (lv_at hl 3 rfl) ?_
            obtain ⟨r7, hr7, hE⟩ := it_b hE
            refine m_call (n := 2) (As := [.int p1, .int p3]) (rest := []) C hP hS hml (metM_writing l G h0 ad _ _ _ p1 p3 r7 hr7) q1804 q1806 qs78 q1807 rfl rfl (by decide +kernel) ⟨Nat.le_of_ble_eq_true rfl, Nat.le_of_ble_eq_true rfl⟩ ⟨Nat.le_refl _, Nat.le_refl _⟩ rfl hl.1 rfl (Nat.le_of_ble_eq_true rfl) dX5_act_54 (fun H locs hP hS => ?_)
            obtain rfl := Option.some.inj hE
            exact hret _ _ _ _ dX5_act_57 hP hS
          · have hE := it_t c6 hE
            refine lv_aload_n C.1 C.2.1 dX5_act_42 rfl (lv_at hl 0 rfl) ?_
            refine lv_iload_n C.1 C.2.1 dX5_act_43 rfl (lv_at hl 1 rfl) ?_
            refine lv_iload_n C.1 C.2.1 dX5_act_44 rfl (lv_at hl 3 rfl) ?_
            obtain ⟨r8, hr8, hE⟩ := it_b hE
            refine m_call (n := 2) (As := [.int p1, .int p3]) (rest := []) C hP hS hml (metM_weighing l G h0 ad _ _ _ p1 p3 r8 hr8) q1800 q1802 qs77 q1803 rfl rfl (by decide +kernel) ⟨Nat.le_of_ble_eq_true rfl, Nat.le_of_ble_eq_true rfl⟩ ⟨Nat.le_refl _, Nat.le_refl _⟩ rfl hl.1 rfl (Nat.le_of_ble_eq_true rfl) dX5_act_45 (fun H locs hP hS => ?_)
            refine lv_goto (tgt := 57) C.1 C.2.1 dX5_act_48 (by decide) ?_
            obtain rfl := Option.some.inj hE
            exact hret _ _ _ _ dX5_act_57 hP hS
        · have hE := it_t c5 hE
          refine lv_aload_n C.1 C.2.1 dX5_act_28 rfl (lv_at hl 0 rfl) ?_
          refine lv_iload_n C.1 C.2.1 dX5_act_29 rfl (lv_at hl 1 rfl) ?_
          refine lv_iload_n C.1 C.2.1 dX5_act_30 rfl (lv_at hl 3 rfl) ?_
          obtain ⟨r9, hr9, hE⟩ := it_b hE
          refine m_call (n := 2) (As := [.int p1, .int p3]) (rest := []) C hP hS hml (metM_feeding l G h0 ad _ _ _ p1 p3 r9 hr9) q1792 q1794 qs75 q1795 rfl rfl (by decide +kernel) ⟨Nat.le_of_ble_eq_true rfl, Nat.le_of_ble_eq_true rfl⟩ ⟨Nat.le_refl _, Nat.le_refl _⟩ rfl hl.1 rfl (Nat.le_of_ble_eq_true rfl) dX5_act_31 (fun H locs hP hS => ?_)
          refine lv_goto (tgt := 57) C.1 C.2.1 dX5_act_34 (by decide) ?_
          obtain rfl := Option.some.inj hE
          exact hret _ _ _ _ dX5_act_57 hP hS
      · have hE := it_f c4 hE
        refine lv_iconst (v := 0) C.1 C.2.1 dX5_act_22 (by decide) ?_
        obtain rfl := Option.some.inj hE
        exact hret _ _ _ _ dX5_act_23 hP hS
def sM_trace (f_ran : Int32) (a_trace : Nat → Int32) (p1 : Int32) : Option (Int32) :=
  if p1 < 0 then
    some (-1)
  else
    if 20 ≤ p1 then
      some (-1)
    else
      if f_ran ≤ p1 then
        some (-1)
      else
        if gi p1 20 then
        some (a_trace (p1).toNatClampNeg)
        else none
set_option maxHeartbeats 4000000 in
theorem metM_trace (l : Launch) (G : kG) (h0 : Nat) (ad : Nat → Nat) (F : Nat → Int32) (A : Nat → Nat → Int32) (L : Nat → Nat → Int64) (p1 : Int32) (res : Int32) (hE : sM_trace (F 47) (A 46) p1 = some res) : Met l yX5_trace (ws_ yX5_trace cX5_trace 2 (some .int)) ({ frames := 0, cells := 0, slots := 0, locals := 0 } : Room) (mPc G h0 ad F A L [.int p1]) (mQc G h0 ad F A L (some (.int res))) 0 0 (mA h0 ad) := by
  refine m_ofW (by decide) rfl (Nat.le_of_ble_eq_true rfl) ?_
  intro p e s m args below meth c ls C hml hP hS hl hr hlocks
  have hl : lv_has ls 2 [(0, .ref h0), (1, .int p1)] := hl
  obtain ⟨Q, hQ⟩ : ∃ Q, Q = MQ below (mQc G h0 ad F A L (some (.int res))) args s 0 0 (mA h0 ad) := ⟨_, rfl⟩
  rw [← hQ]
  have hret : ∀ (pc : Nat) (ls : Array Slot) (H : Heap) (locs : List Loc), decode cX5_trace pc = .ok (.ireturn, 1) → mPw G h0 ad F A L H → va_S (mA h0 ad) s.heap H locs → W p l e ({ frames := 0, cells := 0, slots := 0, locals := 0 } : Room) s m args below meth c H locs 0 0 Q (F0 m pc ls [.int res]) := by
    intro pc ls H locs hd hP hS
    rw [hQ]
    exact m_iret C hr hlocks hd hP hS
  clear hQ
  obtain ⟨H, hH⟩ : ∃ H, H = s.heap := ⟨_, rfl⟩
  obtain ⟨locs, hlo⟩ : ∃ locs : List Loc, locs = [] := ⟨_, rfl⟩
  have hP : mPw G h0 ad F A L H := by rw [hH]; exact hP
  have hS : va_S (mA h0 ad) s.heap H locs := by rw [hH, hlo]; exact hS
  suffices hZ : W p l e ({ frames := 0, cells := 0, slots := 0, locals := 0 } : Room) s m args below meth c H locs 0 0 Q (F0 m 0 ls []) by rw [hH, hlo] at hZ; exact hZ
  clear hH hlo
  unfold sM_trace at hE
  refine lv_iload_n C.1 C.2.1 dX5_trace_0 rfl (lv_at hl 1 rfl) ?_
  refine lv_if_lt (tgt := 27) C.1 C.2.1 dX5_trace_1 (by decide) (fun c1 => ?_) (fun c1 => ?_)
  · have hE := it_t c1 hE
    refine lv_iconst (v := (-1)) C.1 C.2.1 dX5_trace_27 (by decide) ?_
    obtain rfl := Option.some.inj hE
    exact hret _ _ _ _ dX5_trace_28 hP hS
  · have hE := it_f c1 hE
    refine lv_iload_n C.1 C.2.1 dX5_trace_4 rfl (lv_at hl 1 rfl) ?_
    refine lv_bipush (v := 20) C.1 C.2.1 dX5_trace_5 (by decide) ?_
    refine lv_icmp_ge (tgt := 27) C.1 C.2.1 dX5_trace_7 (by decide) (fun c2 => ?_) (fun c2 => ?_)
    · have hE := it_t c2 hE
      refine lv_iconst (v := (-1)) C.1 C.2.1 dX5_trace_27 (by decide) ?_
      obtain rfl := Option.some.inj hE
      exact hret _ _ _ _ dX5_trace_28 hP hS
    · have hE := it_f c2 hE
      refine lv_iload_n C.1 C.2.1 dX5_trace_10 rfl (lv_at hl 1 rfl) ?_
      refine lv_aload_n C.1 C.2.1 dX5_trace_11 rfl (lv_at hl 0 rfl) ?_
      refine mg_47 (v := (F 47)) C hP rfl dX5_trace_12 ?_
      refine lv_icmp_ge (tgt := 27) C.1 C.2.1 dX5_trace_15 (by decide) (fun c3 => ?_) (fun c3 => ?_)
      · have hE := it_t c3 hE
        refine lv_iconst (v := (-1)) C.1 C.2.1 dX5_trace_27 (by decide) ?_
        obtain rfl := Option.some.inj hE
        exact hret _ _ _ _ dX5_trace_28 hP hS
      · have hE := it_f c3 hE
        refine lv_aload_n C.1 C.2.1 dX5_trace_18 rfl (lv_at hl 0 rfl) ?_
        refine ma_46 C hP dX5_trace_19 ?_
        refine lv_iload_n C.1 C.2.1 dX5_trace_22 rfl (lv_at hl 1 rfl) ?_
        obtain ⟨g4, hE⟩ := it_g hE
        refine ml_46 (v := ((A 46) (p1).toNatClampNeg)) C hP (gi_in g4) rfl dX5_trace_23 ?_
        refine lv_goto (tgt := 28) C.1 C.2.1 dX5_trace_24 (by decide) ?_
        obtain rfl := Option.some.inj hE
        exact hret _ _ _ _ dX5_trace_28 hP hS
def sM_fault (f_fault : Int32) : Option (Int32) :=
  some f_fault
set_option maxHeartbeats 4000000 in
theorem metM_fault (l : Launch) (G : kG) (h0 : Nat) (ad : Nat → Nat) (F : Nat → Int32) (A : Nat → Nat → Int32) (L : Nat → Nat → Int64)  (res : Int32) (hE : sM_fault (F 10) = some res) : Met l yX5_fault (ws_ yX5_fault cX5_fault 1 (some .int)) ({ frames := 0, cells := 0, slots := 0, locals := 0 } : Room) (mPc G h0 ad F A L []) (mQc G h0 ad F A L (some (.int res))) 0 0 (mA h0 ad) := by
  refine m_ofW (by decide) rfl (Nat.le_of_ble_eq_true rfl) ?_
  intro p e s m args below meth c ls C hml hP hS hl hr hlocks
  have hl : lv_has ls 1 [(0, .ref h0)] := hl
  obtain ⟨Q, hQ⟩ : ∃ Q, Q = MQ below (mQc G h0 ad F A L (some (.int res))) args s 0 0 (mA h0 ad) := ⟨_, rfl⟩
  rw [← hQ]
  have hret : ∀ (pc : Nat) (ls : Array Slot) (H : Heap) (locs : List Loc), decode cX5_fault pc = .ok (.ireturn, 1) → mPw G h0 ad F A L H → va_S (mA h0 ad) s.heap H locs → W p l e ({ frames := 0, cells := 0, slots := 0, locals := 0 } : Room) s m args below meth c H locs 0 0 Q (F0 m pc ls [.int res]) := by
    intro pc ls H locs hd hP hS
    rw [hQ]
    exact m_iret C hr hlocks hd hP hS
  clear hQ
  obtain ⟨H, hH⟩ : ∃ H, H = s.heap := ⟨_, rfl⟩
  obtain ⟨locs, hlo⟩ : ∃ locs : List Loc, locs = [] := ⟨_, rfl⟩
  have hP : mPw G h0 ad F A L H := by rw [hH]; exact hP
  have hS : va_S (mA h0 ad) s.heap H locs := by rw [hH, hlo]; exact hS
  suffices hZ : W p l e ({ frames := 0, cells := 0, slots := 0, locals := 0 } : Room) s m args below meth c H locs 0 0 Q (F0 m 0 ls []) by rw [hH, hlo] at hZ; exact hZ
  clear hH hlo
  unfold sM_fault at hE
  refine lv_aload_n C.1 C.2.1 dX5_fault_0 rfl (lv_at hl 0 rfl) ?_
  refine mg_10 (v := (F 10)) C hP rfl dX5_fault_1 ?_
  obtain rfl := Option.some.inj hE
  exact hret _ _ _ _ dX5_fault_4 hP hS
