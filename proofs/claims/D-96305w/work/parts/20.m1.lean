set_option maxRecDepth 100000
def sM_no (a_refused : Nat → Int32) (p1 : Int32) : Option (Int32 × (Nat → Int32)) :=
  if gi (-p1) 8 then
  if gi (-p1) 8 then
  some (p1, (upd a_refused ((-p1)).toNatClampNeg ((a_refused ((-p1)).toNatClampNeg) + 1)))
  else none
  else none
set_option maxHeartbeats 4000000 in
theorem metM_no (l : Launch) (G : kG) (h0 : Nat) (ad : Nat → Nat) (F : Nat → Int32) (A : Nat → Nat → Int32) (L : Nat → Nat → Int64) (p1 : Int32) (res : Int32 × (Nat → Int32)) (hE : sM_no (A 11) p1 = some res) : Met l yX5_no (ws_ yX5_no cX5_no 2 (some .int)) ({ frames := 0, cells := 0, slots := 0, locals := 0 } : Room) (mPc G h0 ad F A L [.int p1]) (mQc G h0 ad F (va_up A 11 res.2) L (some (.int res.1))) 0 0 (mA h0 ad) := by
  refine m_ofW (by decide) rfl (Nat.le_of_ble_eq_true rfl) ?_
  intro p e s m args below meth c ls C hml hP hS hl hr hlocks
  have hl : lv_has ls 2 [(0, .ref h0), (1, .int p1)] := hl
  obtain ⟨Q, hQ⟩ : ∃ Q, Q = MQ below (mQc G h0 ad F (va_up A 11 res.2) L (some (.int res.1))) args s 0 0 (mA h0 ad) := ⟨_, rfl⟩
  rw [← hQ]
  have hret : ∀ (pc : Nat) (ls : Array Slot) (H : Heap) (locs : List Loc), decode cX5_no pc = .ok (.ireturn, 1) → mPw G h0 ad F (va_up A 11 res.2) L H → va_S (mA h0 ad) s.heap H locs → W p l e ({ frames := 0, cells := 0, slots := 0, locals := 0 } : Room) s m args below meth c H locs 0 0 Q (F0 m pc ls [.int res.1]) := by
    intro pc ls H locs hd hP hS
    rw [hQ]
    exact m_iret C hr hlocks hd hP hS
  clear hQ
  obtain ⟨H, hH⟩ : ∃ H, H = s.heap := ⟨_, rfl⟩
  obtain ⟨locs, hlo⟩ : ∃ locs : List Loc, locs = [] := ⟨_, rfl⟩
  have hP : mPw G h0 ad F A L H := by rw [hH]; exact hP
  have hS : va_S (mA h0 ad) s.heap H locs := by rw [hH, hlo]; exact hS
  suffices hZ : W p l e ({ frames := 0, cells := 0, slots := 0, locals := 0 } : Room) s m args below meth c H locs 0 0 Q (F0 m 0 ls []) by rw [hH, hlo] at hZ; exact hZ
  clear hH hlo
  unfold sM_no at hE
  refine lv_aload_n C.1 C.2.1 dX5_no_0 rfl (lv_at hl 0 rfl) ?_
  refine ma_11 C hP dX5_no_1 ?_
  refine lv_iload_n C.1 C.2.1 dX5_no_4 rfl (lv_at hl 1 rfl) ?_
  refine lv_ineg C.1 C.2.1 dX5_no_5 ?_
  refine lv_dup2_11 C.1 C.2.1 dX5_no_6 rfl rfl ?_
  obtain ⟨g1, hE⟩ := it_g hE
  refine ml_11 (v := ((A 11) ((-p1)).toNatClampNeg)) C hP (gi_in g1) rfl dX5_no_7 ?_
  refine lv_iconst (v := 1) C.1 C.2.1 dX5_no_8 (by decide) ?_
  refine lv_iadd C.1 C.2.1 dX5_no_9 ?_
  obtain ⟨g2, hE⟩ := it_g hE
  refine ms_11 (a := (A 11)) C hP hS (gi_in g2) rfl dX5_no_10 (fun H locs hP hS => ?_)
  refine lv_iload_n C.1 C.2.1 dX5_no_11 rfl (lv_at hl 1 rfl) ?_
  obtain rfl := Option.some.inj hE
  exact hret _ _ _ _ dX5_no_12 hP hS
def sM_noTen (a_refused : Nat → Int32) (p1 : Int32) : Option (Int32 × (Nat → Int32)) :=
  if gi (-p1) 8 then
  if gi (-p1) 8 then
  some ((p1 - 10), (upd a_refused ((-p1)).toNatClampNeg ((a_refused ((-p1)).toNatClampNeg) + 1)))
  else none
  else none
set_option maxHeartbeats 4000000 in
theorem metM_noTen (l : Launch) (G : kG) (h0 : Nat) (ad : Nat → Nat) (F : Nat → Int32) (A : Nat → Nat → Int32) (L : Nat → Nat → Int64) (p1 : Int32) (res : Int32 × (Nat → Int32)) (hE : sM_noTen (A 11) p1 = some res) : Met l yX5_noTen (ws_ yX5_noTen cX5_noTen 2 (some .int)) ({ frames := 0, cells := 0, slots := 0, locals := 0 } : Room) (mPc G h0 ad F A L [.int p1]) (mQc G h0 ad F (va_up A 11 res.2) L (some (.int res.1))) 0 0 (mA h0 ad) := by
  refine m_ofW (by decide) rfl (Nat.le_of_ble_eq_true rfl) ?_
  intro p e s m args below meth c ls C hml hP hS hl hr hlocks
  have hl : lv_has ls 2 [(0, .ref h0), (1, .int p1)] := hl
  obtain ⟨Q, hQ⟩ : ∃ Q, Q = MQ below (mQc G h0 ad F (va_up A 11 res.2) L (some (.int res.1))) args s 0 0 (mA h0 ad) := ⟨_, rfl⟩
  rw [← hQ]
  have hret : ∀ (pc : Nat) (ls : Array Slot) (H : Heap) (locs : List Loc), decode cX5_noTen pc = .ok (.ireturn, 1) → mPw G h0 ad F (va_up A 11 res.2) L H → va_S (mA h0 ad) s.heap H locs → W p l e ({ frames := 0, cells := 0, slots := 0, locals := 0 } : Room) s m args below meth c H locs 0 0 Q (F0 m pc ls [.int res.1]) := by
    intro pc ls H locs hd hP hS
    rw [hQ]
    exact m_iret C hr hlocks hd hP hS
  clear hQ
  obtain ⟨H, hH⟩ : ∃ H, H = s.heap := ⟨_, rfl⟩
  obtain ⟨locs, hlo⟩ : ∃ locs : List Loc, locs = [] := ⟨_, rfl⟩
  have hP : mPw G h0 ad F A L H := by rw [hH]; exact hP
  have hS : va_S (mA h0 ad) s.heap H locs := by rw [hH, hlo]; exact hS
  suffices hZ : W p l e ({ frames := 0, cells := 0, slots := 0, locals := 0 } : Room) s m args below meth c H locs 0 0 Q (F0 m 0 ls []) by rw [hH, hlo] at hZ; exact hZ
  clear hH hlo
  unfold sM_noTen at hE
  refine lv_aload_n C.1 C.2.1 dX5_noTen_0 rfl (lv_at hl 0 rfl) ?_
  refine ma_11 C hP dX5_noTen_1 ?_
  refine lv_iload_n C.1 C.2.1 dX5_noTen_4 rfl (lv_at hl 1 rfl) ?_
  refine lv_ineg C.1 C.2.1 dX5_noTen_5 ?_
  refine lv_dup2_11 C.1 C.2.1 dX5_noTen_6 rfl rfl ?_
  obtain ⟨g1, hE⟩ := it_g hE
  refine ml_11 (v := ((A 11) ((-p1)).toNatClampNeg)) C hP (gi_in g1) rfl dX5_noTen_7 ?_
  refine lv_iconst (v := 1) C.1 C.2.1 dX5_noTen_8 (by decide) ?_
  refine lv_iadd C.1 C.2.1 dX5_noTen_9 ?_
  obtain ⟨g2, hE⟩ := it_g hE
  refine ms_11 (a := (A 11)) C hP hS (gi_in g2) rfl dX5_noTen_10 (fun H locs hP hS => ?_)
  refine lv_iload_n C.1 C.2.1 dX5_noTen_11 rfl (lv_at hl 1 rfl) ?_
  refine lv_bipush (v := 10) C.1 C.2.1 dX5_noTen_12 (by decide) ?_
  refine lv_isub C.1 C.2.1 dX5_noTen_14 ?_
  obtain rfl := Option.some.inj hE
  exact hret _ _ _ _ dX5_noTen_15 hP hS
def sM_noFar (a_refused : Nat → Int32) (p1 : Int32) : Option (Int32 × (Nat → Int32)) :=
  if gi (-p1) 8 then
  if gi (-p1) 8 then
  some ((p1 - 1000), (upd a_refused ((-p1)).toNatClampNeg ((a_refused ((-p1)).toNatClampNeg) + 1)))
  else none
  else none
set_option maxHeartbeats 4000000 in
theorem metM_noFar (l : Launch) (G : kG) (h0 : Nat) (ad : Nat → Nat) (F : Nat → Int32) (A : Nat → Nat → Int32) (L : Nat → Nat → Int64) (p1 : Int32) (res : Int32 × (Nat → Int32)) (hE : sM_noFar (A 11) p1 = some res) : Met l yX5_noFar (ws_ yX5_noFar cX5_noFar 2 (some .int)) ({ frames := 0, cells := 0, slots := 0, locals := 0 } : Room) (mPc G h0 ad F A L [.int p1]) (mQc G h0 ad F (va_up A 11 res.2) L (some (.int res.1))) 0 0 (mA h0 ad) := by
  refine m_ofW (by decide) rfl (Nat.le_of_ble_eq_true rfl) ?_
  intro p e s m args below meth c ls C hml hP hS hl hr hlocks
  have hl : lv_has ls 2 [(0, .ref h0), (1, .int p1)] := hl
  obtain ⟨Q, hQ⟩ : ∃ Q, Q = MQ below (mQc G h0 ad F (va_up A 11 res.2) L (some (.int res.1))) args s 0 0 (mA h0 ad) := ⟨_, rfl⟩
  rw [← hQ]
  have hret : ∀ (pc : Nat) (ls : Array Slot) (H : Heap) (locs : List Loc), decode cX5_noFar pc = .ok (.ireturn, 1) → mPw G h0 ad F (va_up A 11 res.2) L H → va_S (mA h0 ad) s.heap H locs → W p l e ({ frames := 0, cells := 0, slots := 0, locals := 0 } : Room) s m args below meth c H locs 0 0 Q (F0 m pc ls [.int res.1]) := by
    intro pc ls H locs hd hP hS
    rw [hQ]
    exact m_iret C hr hlocks hd hP hS
  clear hQ
  obtain ⟨H, hH⟩ : ∃ H, H = s.heap := ⟨_, rfl⟩
  obtain ⟨locs, hlo⟩ : ∃ locs : List Loc, locs = [] := ⟨_, rfl⟩
  have hP : mPw G h0 ad F A L H := by rw [hH]; exact hP
  have hS : va_S (mA h0 ad) s.heap H locs := by rw [hH, hlo]; exact hS
  suffices hZ : W p l e ({ frames := 0, cells := 0, slots := 0, locals := 0 } : Room) s m args below meth c H locs 0 0 Q (F0 m 0 ls []) by rw [hH, hlo] at hZ; exact hZ
  clear hH hlo
  unfold sM_noFar at hE
  refine lv_aload_n C.1 C.2.1 dX5_noFar_0 rfl (lv_at hl 0 rfl) ?_
  refine ma_11 C hP dX5_noFar_1 ?_
  refine lv_iload_n C.1 C.2.1 dX5_noFar_4 rfl (lv_at hl 1 rfl) ?_
  refine lv_ineg C.1 C.2.1 dX5_noFar_5 ?_
  refine lv_dup2_11 C.1 C.2.1 dX5_noFar_6 rfl rfl ?_
  obtain ⟨g1, hE⟩ := it_g hE
  refine ml_11 (v := ((A 11) ((-p1)).toNatClampNeg)) C hP (gi_in g1) rfl dX5_noFar_7 ?_
  refine lv_iconst (v := 1) C.1 C.2.1 dX5_noFar_8 (by decide) ?_
  refine lv_iadd C.1 C.2.1 dX5_noFar_9 ?_
  obtain ⟨g2, hE⟩ := it_g hE
  refine ms_11 (a := (A 11)) C hP hS (gi_in g2) rfl dX5_noFar_10 (fun H locs hP hS => ?_)
  refine lv_iload_n C.1 C.2.1 dX5_noFar_11 rfl (lv_at hl 1 rfl) ?_
  refine lv_sipush (v := 1000) C.1 C.2.1 dX5_noFar_12 (by decide) ?_
  refine lv_isub C.1 C.2.1 dX5_noFar_15 ?_
  obtain rfl := Option.some.inj hE
  exact hret _ _ _ _ dX5_noFar_16 hP hS
def sM_isShelf (p1 : Int32) : Option (Int32) :=
  if p1 < 0 then
    some 0
  else
    if 8 ≤ p1 then
      some 0
    else
      some 1
set_option maxHeartbeats 4000000 in
theorem metM_isShelf (l : Launch) (G : kG) (h0 : Nat) (ad : Nat → Nat) (F : Nat → Int32) (A : Nat → Nat → Int32) (L : Nat → Nat → Int64) (p1 : Int32) (res : Int32) (hE : sM_isShelf p1 = some res) : Met l yX5_isShelf (ws_ yX5_isShelf cX5_isShelf 2 (some .boolean)) ({ frames := 0, cells := 0, slots := 0, locals := 0 } : Room) (mPc G h0 ad F A L [.int p1]) (mQc G h0 ad F A L (some (.int res))) 0 0 (mA h0 ad) := by
  refine m_ofW (by decide) rfl (Nat.le_of_ble_eq_true rfl) ?_
  intro p e s m args below meth c ls C hml hP hS hl hr hlocks
  have hl : lv_has ls 2 [(0, .ref h0), (1, .int p1)] := hl
  obtain ⟨Q, hQ⟩ : ∃ Q, Q = MQ below (mQc G h0 ad F A L (some (.int res))) args s 0 0 (mA h0 ad) := ⟨_, rfl⟩
  rw [← hQ]
  have hret : ∀ (pc : Nat) (ls : Array Slot) (H : Heap) (locs : List Loc), narrow .boolean (.int res) = .int res → decode cX5_isShelf pc = .ok (.ireturn, 1) → mPw G h0 ad F A L H → va_S (mA h0 ad) s.heap H locs → W p l e ({ frames := 0, cells := 0, slots := 0, locals := 0 } : Room) s m args below meth c H locs 0 0 Q (F0 m pc ls [.int res]) := by
    intro pc ls H locs hn hd hP hS
    rw [hQ]
    exact m_zret C hr hlocks hn hd hP hS
  clear hQ
  obtain ⟨H, hH⟩ : ∃ H, H = s.heap := ⟨_, rfl⟩
  obtain ⟨locs, hlo⟩ : ∃ locs : List Loc, locs = [] := ⟨_, rfl⟩
  have hP : mPw G h0 ad F A L H := by rw [hH]; exact hP
  have hS : va_S (mA h0 ad) s.heap H locs := by rw [hH, hlo]; exact hS
  suffices hZ : W p l e ({ frames := 0, cells := 0, slots := 0, locals := 0 } : Room) s m args below meth c H locs 0 0 Q (F0 m 0 ls []) by rw [hH, hlo] at hZ; exact hZ
  clear hH hlo
  unfold sM_isShelf at hE
  refine lv_iload_n C.1 C.2.1 dX5_isShelf_0 rfl (lv_at hl 1 rfl) ?_
  refine lv_if_lt (tgt := 14) C.1 C.2.1 dX5_isShelf_1 (by decide) (fun c1 => ?_) (fun c1 => ?_)
  · have hE := it_t c1 hE
    refine lv_iconst (v := 0) C.1 C.2.1 dX5_isShelf_14 (by decide) ?_
    obtain rfl := Option.some.inj hE
    exact hret _ _ _ _ (nbz (Or.inl rfl)) dX5_isShelf_15 hP hS
  · have hE := it_f c1 hE
    refine lv_iload_n C.1 C.2.1 dX5_isShelf_4 rfl (lv_at hl 1 rfl) ?_
    refine lv_bipush (v := 8) C.1 C.2.1 dX5_isShelf_5 (by decide) ?_
    refine lv_icmp_ge (tgt := 14) C.1 C.2.1 dX5_isShelf_7 (by decide) (fun c2 => ?_) (fun c2 => ?_)
    · have hE := it_t c2 hE
      refine lv_iconst (v := 0) C.1 C.2.1 dX5_isShelf_14 (by decide) ?_
      obtain rfl := Option.some.inj hE
      exact hret _ _ _ _ (nbz (Or.inl rfl)) dX5_isShelf_15 hP hS
    · have hE := it_f c2 hE
      refine lv_iconst (v := 1) C.1 C.2.1 dX5_isShelf_10 (by decide) ?_
      refine lv_goto (tgt := 15) C.1 C.2.1 dX5_isShelf_11 (by decide) ?_
      obtain rfl := Option.some.inj hE
      exact hret _ _ _ _ (nbz (Or.inr rfl)) dX5_isShelf_15 hP hS
def sM_isHome (f_many : Int32) (p1 : Int32) : Option (Int32) :=
  if p1 < 0 then
    some 0
  else
    if f_many ≤ p1 then
      some 0
    else
      some 1
set_option maxHeartbeats 4000000 in
theorem metM_isHome (l : Launch) (G : kG) (h0 : Nat) (ad : Nat → Nat) (F : Nat → Int32) (A : Nat → Nat → Int32) (L : Nat → Nat → Int64) (p1 : Int32) (res : Int32) (hE : sM_isHome (F 0) p1 = some res) : Met l yX5_isHome (ws_ yX5_isHome cX5_isHome 2 (some .boolean)) ({ frames := 0, cells := 0, slots := 0, locals := 0 } : Room) (mPc G h0 ad F A L [.int p1]) (mQc G h0 ad F A L (some (.int res))) 0 0 (mA h0 ad) := by
  refine m_ofW (by decide) rfl (Nat.le_of_ble_eq_true rfl) ?_
  intro p e s m args below meth c ls C hml hP hS hl hr hlocks
  have hl : lv_has ls 2 [(0, .ref h0), (1, .int p1)] := hl
  obtain ⟨Q, hQ⟩ : ∃ Q, Q = MQ below (mQc G h0 ad F A L (some (.int res))) args s 0 0 (mA h0 ad) := ⟨_, rfl⟩
  rw [← hQ]
  have hret : ∀ (pc : Nat) (ls : Array Slot) (H : Heap) (locs : List Loc), narrow .boolean (.int res) = .int res → decode cX5_isHome pc = .ok (.ireturn, 1) → mPw G h0 ad F A L H → va_S (mA h0 ad) s.heap H locs → W p l e ({ frames := 0, cells := 0, slots := 0, locals := 0 } : Room) s m args below meth c H locs 0 0 Q (F0 m pc ls [.int res]) := by
    intro pc ls H locs hn hd hP hS
    rw [hQ]
    exact m_zret C hr hlocks hn hd hP hS
  clear hQ
  obtain ⟨H, hH⟩ : ∃ H, H = s.heap := ⟨_, rfl⟩
  obtain ⟨locs, hlo⟩ : ∃ locs : List Loc, locs = [] := ⟨_, rfl⟩
  have hP : mPw G h0 ad F A L H := by rw [hH]; exact hP
  have hS : va_S (mA h0 ad) s.heap H locs := by rw [hH, hlo]; exact hS
  suffices hZ : W p l e ({ frames := 0, cells := 0, slots := 0, locals := 0 } : Room) s m args below meth c H locs 0 0 Q (F0 m 0 ls []) by rw [hH, hlo] at hZ; exact hZ
  clear hH hlo
  unfold sM_isHome at hE
  refine lv_iload_n C.1 C.2.1 dX5_isHome_0 rfl (lv_at hl 1 rfl) ?_
  refine lv_if_lt (tgt := 16) C.1 C.2.1 dX5_isHome_1 (by decide) (fun c1 => ?_) (fun c1 => ?_)
  · have hE := it_t c1 hE
    refine lv_iconst (v := 0) C.1 C.2.1 dX5_isHome_16 (by decide) ?_
    obtain rfl := Option.some.inj hE
    exact hret _ _ _ _ (nbz (Or.inl rfl)) dX5_isHome_17 hP hS
  · have hE := it_f c1 hE
    refine lv_iload_n C.1 C.2.1 dX5_isHome_4 rfl (lv_at hl 1 rfl) ?_
    refine lv_aload_n C.1 C.2.1 dX5_isHome_5 rfl (lv_at hl 0 rfl) ?_
    refine mg_0 (v := (F 0)) C hP rfl dX5_isHome_6 ?_
    refine lv_icmp_ge (tgt := 16) C.1 C.2.1 dX5_isHome_9 (by decide) (fun c2 => ?_) (fun c2 => ?_)
    · have hE := it_t c2 hE
      refine lv_iconst (v := 0) C.1 C.2.1 dX5_isHome_16 (by decide) ?_
      obtain rfl := Option.some.inj hE
      exact hret _ _ _ _ (nbz (Or.inl rfl)) dX5_isHome_17 hP hS
    · have hE := it_f c2 hE
      refine lv_iconst (v := 1) C.1 C.2.1 dX5_isHome_12 (by decide) ?_
      refine lv_goto (tgt := 17) C.1 C.2.1 dX5_isHome_13 (by decide) ?_
      obtain rfl := Option.some.inj hE
      exact hret _ _ _ _ (nbz (Or.inr rfl)) dX5_isHome_17 hP hS
def sM_isWeight (p1 : Int32) : Option (Int32) :=
  if p1 < 0 then
    some 0
  else
    if 400 < p1 then
      some 0
    else
      some 1
set_option maxHeartbeats 4000000 in
theorem metM_isWeight (l : Launch) (G : kG) (h0 : Nat) (ad : Nat → Nat) (F : Nat → Int32) (A : Nat → Nat → Int32) (L : Nat → Nat → Int64) (p1 : Int32) (res : Int32) (hE : sM_isWeight p1 = some res) : Met l yX5_isWeight (ws_ yX5_isWeight cX5_isWeight 2 (some .boolean)) ({ frames := 0, cells := 0, slots := 0, locals := 0 } : Room) (mPc G h0 ad F A L [.int p1]) (mQc G h0 ad F A L (some (.int res))) 0 0 (mA h0 ad) := by
  refine m_ofW (by decide) rfl (Nat.le_of_ble_eq_true rfl) ?_
  intro p e s m args below meth c ls C hml hP hS hl hr hlocks
  have hl : lv_has ls 2 [(0, .ref h0), (1, .int p1)] := hl
  obtain ⟨Q, hQ⟩ : ∃ Q, Q = MQ below (mQc G h0 ad F A L (some (.int res))) args s 0 0 (mA h0 ad) := ⟨_, rfl⟩
  rw [← hQ]
  have hret : ∀ (pc : Nat) (ls : Array Slot) (H : Heap) (locs : List Loc), narrow .boolean (.int res) = .int res → decode cX5_isWeight pc = .ok (.ireturn, 1) → mPw G h0 ad F A L H → va_S (mA h0 ad) s.heap H locs → W p l e ({ frames := 0, cells := 0, slots := 0, locals := 0 } : Room) s m args below meth c H locs 0 0 Q (F0 m pc ls [.int res]) := by
    intro pc ls H locs hn hd hP hS
    rw [hQ]
    exact m_zret C hr hlocks hn hd hP hS
  clear hQ
  obtain ⟨H, hH⟩ : ∃ H, H = s.heap := ⟨_, rfl⟩
  obtain ⟨locs, hlo⟩ : ∃ locs : List Loc, locs = [] := ⟨_, rfl⟩
  have hP : mPw G h0 ad F A L H := by rw [hH]; exact hP
  have hS : va_S (mA h0 ad) s.heap H locs := by rw [hH, hlo]; exact hS
  suffices hZ : W p l e ({ frames := 0, cells := 0, slots := 0, locals := 0 } : Room) s m args below meth c H locs 0 0 Q (F0 m 0 ls []) by rw [hH, hlo] at hZ; exact hZ
  clear hH hlo
  unfold sM_isWeight at hE
  refine lv_iload_n C.1 C.2.1 dX5_isWeight_0 rfl (lv_at hl 1 rfl) ?_
  refine lv_if_lt (tgt := 15) C.1 C.2.1 dX5_isWeight_1 (by decide) (fun c1 => ?_) (fun c1 => ?_)
  · have hE := it_t c1 hE
    refine lv_iconst (v := 0) C.1 C.2.1 dX5_isWeight_15 (by decide) ?_
    obtain rfl := Option.some.inj hE
    exact hret _ _ _ _ (nbz (Or.inl rfl)) dX5_isWeight_16 hP hS
  · have hE := it_f c1 hE
    refine lv_iload_n C.1 C.2.1 dX5_isWeight_4 rfl (lv_at hl 1 rfl) ?_
    refine lv_sipush (v := 400) C.1 C.2.1 dX5_isWeight_5 (by decide) ?_
    refine lv_icmp_gt (tgt := 15) C.1 C.2.1 dX5_isWeight_8 (by decide) (fun c2 => ?_) (fun c2 => ?_)
    · have hE := it_t c2 hE
      refine lv_iconst (v := 0) C.1 C.2.1 dX5_isWeight_15 (by decide) ?_
      obtain rfl := Option.some.inj hE
      exact hret _ _ _ _ (nbz (Or.inl rfl)) dX5_isWeight_16 hP hS
    · have hE := it_f c2 hE
      refine lv_iconst (v := 1) C.1 C.2.1 dX5_isWeight_11 (by decide) ?_
      refine lv_goto (tgt := 16) C.1 C.2.1 dX5_isWeight_12 (by decide) ?_
      obtain rfl := Option.some.inj hE
      exact hret _ _ _ _ (nbz (Or.inr rfl)) dX5_isWeight_16 hP hS
def sM_row_h79 (x1 : Int32) : Nat → Int32 → (Nat → Int64) → Option ((Nat → Int64))
  | 0, _, _ => none
  | fuel + 1, x4, l_cells =>
    if 160 ≤ x4 then
      some l_cells
    else
      if gi ((160 * x1) + x4) 1280 then
      sM_row_h79 x1 fuel (x4 + 1) (vp_updL l_cells (((160 * x1) + x4)).toNatClampNeg 0)
      else none
def sM_row (a_refused : Nat → Int32) (a_held : Nat → Int32) (a_sort : Nat → Int32) (a_size : Nat → Int32) (l_cells : Nat → Int64) (p1 : Int32) (p2 : Int32) (p3 : Int32) : Option (Int32 × (Nat → Int32) × (Nat → Int32) × (Nat → Int32) × (Nat → Int32) × (Nat → Int64)) :=
  (sM_isShelf p1).bind fun r1 =>
  if r1 = 0 then
    (sM_no a_refused (-1)).bind fun r15 =>
    some (r15.1, r15.2, a_held, a_sort, a_size, l_cells)
  else
    if 0 ≤ p3 then
      if p2 < 0 then
        (sM_no a_refused (-6)).bind fun r5 =>
        some (r5.1, r5.2, a_held, a_sort, a_size, l_cells)
      else
        if p2 ≤ 3 then
          if p3 ≤ 160 then
            if gi p1 8 then
            if gi p1 8 then
            if gi p1 8 then
            (sM_row_h79 p1 2000 0 l_cells).bind fun u11 =>
            some (1, a_refused, (upd a_held (p1).toNatClampNeg 1), (upd a_sort (p1).toNatClampNeg p2), (upd a_size (p1).toNatClampNeg p3), u11)
            else none
            else none
            else none
          else
            (sM_no a_refused (-7)).bind fun r12 =>
            some (r12.1, r12.2, a_held, a_sort, a_size, l_cells)
        else
          (sM_no a_refused (-6)).bind fun r13 =>
          some (r13.1, r13.2, a_held, a_sort, a_size, l_cells)
    else
      (sM_no a_refused (-4)).bind fun r14 =>
      some (r14.1, r14.2, a_held, a_sort, a_size, l_cells)
set_option maxHeartbeats 4000000 in
theorem wM_row_h79 {p : Program} {l : Launch} {e : Env} {s : State} {m : MethodId} {args : Array Value} {below : List Frame} {meth : Method} {c : Code} {G : kG} {h0 : Nat} {ad : Nat → Nat} {Q : State → Prop} (C : mC p s m args c cX5_row G h0 ad) (hml : c.maxLocals = 5) (F : Nat → Int32) (A : Nat → Nat → Int32) (L : Nat → Nat → Int64) (x1 : Int32) (a_refused : Nat → Int32) (a_held : Nat → Int32) (a_sort : Nat → Int32) (a_size : Nat → Int32) (res : (Nat → Int64)) :
    ∀ (fuel : Nat) (x4 : Int32) (l_cells : Nat → Int64) (H : Heap) (locs : List Loc) (ls : Array Slot), sM_row_h79 x1 fuel x4 l_cells = some res → mPw G h0 ad F (va_up (va_up (va_up (va_up A 11 a_refused) 18 a_held) 19 a_sort) 20 a_size) (va_up L 22 l_cells) H → va_S (mA h0 ad) s.heap H locs → lv_has ls 5 [(0, .ref h0), (1, .int x1), (4, .int x4)] → (∀ (H : Heap) (locs : List Loc) (ls : Array Slot), mPw G h0 ad F (va_up (va_up (va_up (va_up A 11 a_refused) 18 a_held) 19 a_sort) 20 a_size) (va_up L 22 res) H → va_S (mA h0 ad) s.heap H locs → lv_has ls 5 [] → W p l e ({ frames := 1, cells := 0, slots := 0, locals := 21 } : Room) s m args below meth c H locs 0 0 Q (F0 m 107 ls [])) → W p l e ({ frames := 1, cells := 0, slots := 0, locals := 21 } : Room) s m args below meth c H locs 0 0 Q (F0 m 79 ls []) := by
  intro fuel
  induction fuel with
  | zero =>
    intro x4 l_cells H locs ls hE
    exact it_n hE
  | succ fuel ih =>
    intro x4 l_cells H locs ls hE hP hS hl hX
    rw [sM_row_h79] at hE
    refine lv_iload C.1 C.2.1 dX5_row_79 (lv_at hl 2 rfl) ?_
    refine lv_sipush (v := 160) C.1 C.2.1 dX5_row_81 (by decide) ?_
    refine lv_icmp_ge (tgt := 107) C.1 C.2.1 dX5_row_84 (by decide) (fun c8001 => ?_) (fun c8001 => ?_)
    · have hE := it_t c8001 hE
      obtain rfl := Option.some.inj hE
      exact hX H locs ls hP hS (lv_sub hl [] rfl)
    · have hE := it_f c8001 hE
      refine lv_aload_n C.1 C.2.1 dX5_row_87 rfl (lv_at hl 0 rfl) ?_
      refine ma_22 C hP dX5_row_88 ?_
      refine lv_sipush (v := 160) C.1 C.2.1 dX5_row_91 (by decide) ?_
      refine lv_iload_n C.1 C.2.1 dX5_row_94 rfl (lv_at hl 1 rfl) ?_
      refine lv_imul C.1 C.2.1 dX5_row_95 ?_
      refine lv_iload C.1 C.2.1 dX5_row_96 (lv_at hl 2 rfl) ?_
      refine lv_iadd C.1 C.2.1 dX5_row_98 ?_
      refine lv_lconst (v := 0) C.1 C.2.1 dX5_row_99 (by decide) ?_
      obtain ⟨g8002, hE⟩ := it_g hE
      refine ms_22 (a := l_cells) C hP hS (gi_in g8002) rfl dX5_row_100 (fun H locs hP hS => ?_)
      refine lv_iinc (v := (x4 + 1)) (lv' := [(4, .int (x4 + 1)), (0, .ref h0), (1, .int x1)]) C.1 C.2.1 dX5_row_101 hl (k := 2) rfl rfl (by decide) rfl (fun ls hl => ?_)
      refine lv_goto (tgt := 79) C.1 C.2.1 dX5_row_104 (by decide) ?_
      exact ih (x4 + 1) (vp_updL l_cells (((160 * x1) + x4)).toNatClampNeg 0) _ _ _ hE hP hS (lv_sub hl [1, 2, 0] rfl) hX
set_option maxHeartbeats 4000000 in
theorem metM_row (l : Launch) (G : kG) (h0 : Nat) (ad : Nat → Nat) (F : Nat → Int32) (A : Nat → Nat → Int32) (L : Nat → Nat → Int64) (p1 : Int32) (p2 : Int32) (p3 : Int32) (res : Int32 × (Nat → Int32) × (Nat → Int32) × (Nat → Int32) × (Nat → Int32) × (Nat → Int64)) (hE : sM_row (A 11) (A 18) (A 19) (A 20) (L 22) p1 p2 p3 = some res) : Met l yX5_row (ws_ yX5_row cX5_row 5 (some .int)) ({ frames := 1, cells := 0, slots := 0, locals := 21 } : Room) (mPc G h0 ad F A L [.int p1, .int p2, .int p3]) (mQc G h0 ad F (va_up (va_up (va_up (va_up A 11 res.2.1) 18 res.2.2.1) 19 res.2.2.2.1) 20 res.2.2.2.2.1) (va_up L 22 res.2.2.2.2.2) (some (.int res.1))) 0 0 (mA h0 ad) := by
  refine m_ofW (by decide) rfl (Nat.le_of_ble_eq_true rfl) ?_
  intro p e s m args below meth c ls C hml hP hS hl hr hlocks
  have hl : lv_has ls 5 [(0, .ref h0), (1, .int p1), (2, .int p2), (3, .int p3)] := hl
  obtain ⟨Q, hQ⟩ : ∃ Q, Q = MQ below (mQc G h0 ad F (va_up (va_up (va_up (va_up A 11 res.2.1) 18 res.2.2.1) 19 res.2.2.2.1) 20 res.2.2.2.2.1) (va_up L 22 res.2.2.2.2.2) (some (.int res.1))) args s 0 0 (mA h0 ad) := ⟨_, rfl⟩
  rw [← hQ]
  have hret : ∀ (pc : Nat) (ls : Array Slot) (H : Heap) (locs : List Loc), decode cX5_row pc = .ok (.ireturn, 1) → mPw G h0 ad F (va_up (va_up (va_up (va_up A 11 res.2.1) 18 res.2.2.1) 19 res.2.2.2.1) 20 res.2.2.2.2.1) (va_up L 22 res.2.2.2.2.2) H → va_S (mA h0 ad) s.heap H locs → W p l e ({ frames := 1, cells := 0, slots := 0, locals := 21 } : Room) s m args below meth c H locs 0 0 Q (F0 m pc ls [.int res.1]) := by
    intro pc ls H locs hd hP hS
    rw [hQ]
    exact m_iret C hr hlocks hd hP hS
  clear hQ
  obtain ⟨H, hH⟩ : ∃ H, H = s.heap := ⟨_, rfl⟩
  obtain ⟨locs, hlo⟩ : ∃ locs : List Loc, locs = [] := ⟨_, rfl⟩
  have hP : mPw G h0 ad F A L H := by rw [hH]; exact hP
  have hS : va_S (mA h0 ad) s.heap H locs := by rw [hH, hlo]; exact hS
  suffices hZ : W p l e ({ frames := 1, cells := 0, slots := 0, locals := 21 } : Room) s m args below meth c H locs 0 0 Q (F0 m 0 ls []) by rw [hH, hlo] at hZ; exact hZ
  clear hH hlo
  unfold sM_row at hE
  refine lv_aload_n C.1 C.2.1 dX5_row_0 rfl (lv_at hl 0 rfl) ?_
  refine lv_iload_n C.1 C.2.1 dX5_row_1 rfl (lv_at hl 1 rfl) ?_
  obtain ⟨r1, hr1, hE⟩ := it_b hE
  refine m_call (n := 1) (As := [.int p1]) (rest := []) C hP hS hml (metM_isShelf l G h0 ad _ _ _ p1 r1 hr1) q1479 q1481 qs31 q1482 rfl rfl (by decide +kernel) ⟨Nat.le_of_ble_eq_true rfl, Nat.le_of_ble_eq_true rfl⟩ ⟨Nat.le_refl _, Nat.le_refl _⟩ rfl hl.1 rfl (Nat.le_of_ble_eq_true rfl) dX5_row_2 (fun H locs hP hS => ?_)
  refine lv_if_ne (tgt := 14) C.1 C.2.1 dX5_row_5 (by decide) (fun c2 => ?_) (fun c2 => ?_)
  · have hE := it_f c2 hE
    refine lv_iload_n C.1 C.2.1 dX5_row_14 rfl (lv_at hl 3 rfl) ?_
    refine lv_if_ge (tgt := 25) C.1 C.2.1 dX5_row_15 (by decide) (fun c3 => ?_) (fun c3 => ?_)
    · have hE := it_t c3 hE
      refine lv_iload_n C.1 C.2.1 dX5_row_25 rfl (lv_at hl 2 rfl) ?_
      refine lv_if_lt (tgt := 34) C.1 C.2.1 dX5_row_26 (by decide) (fun c4 => ?_) (fun c4 => ?_)
      · have hE := it_t c4 hE
        refine lv_aload_n C.1 C.2.1 dX5_row_34 rfl (lv_at hl 0 rfl) ?_
        refine lv_bipush (v := (-6)) C.1 C.2.1 dX5_row_35 (by decide) ?_
        obtain ⟨r5, hr5, hE⟩ := it_b hE
        refine m_call (n := 1) (As := [.int (-6)]) (rest := []) C hP hS hml (metM_no l G h0 ad _ _ _ (-6) r5 hr5) q1483 q1485 qs32 q1486 rfl rfl (by decide +kernel) ⟨Nat.le_of_ble_eq_true rfl, Nat.le_of_ble_eq_true rfl⟩ ⟨Nat.le_refl _, Nat.le_refl _⟩ rfl hl.1 rfl (Nat.le_of_ble_eq_true rfl) dX5_row_37 (fun H locs hP hS => ?_)
        obtain rfl := Option.some.inj hE
        exact hret _ _ _ _ dX5_row_40 hP hS
      · have hE := it_f c4 hE
        refine lv_iload_n C.1 C.2.1 dX5_row_29 rfl (lv_at hl 2 rfl) ?_
        refine lv_iconst (v := 3) C.1 C.2.1 dX5_row_30 (by decide) ?_
        refine lv_icmp_le (tgt := 41) C.1 C.2.1 dX5_row_31 (by decide) (fun c6 => ?_) (fun c6 => ?_)
        · have hE := it_t c6 hE
          refine lv_iload_n C.1 C.2.1 dX5_row_41 rfl (lv_at hl 3 rfl) ?_
          refine lv_sipush (v := 160) C.1 C.2.1 dX5_row_42 (by decide) ?_
          refine lv_icmp_le (tgt := 55) C.1 C.2.1 dX5_row_45 (by decide) (fun c7 => ?_) (fun c7 => ?_)
          · have hE := it_t c7 hE
            refine lv_aload_n C.1 C.2.1 dX5_row_55 rfl (lv_at hl 0 rfl) ?_
            refine ma_18 C hP dX5_row_56 ?_
            refine lv_iload_n C.1 C.2.1 dX5_row_59 rfl (lv_at hl 1 rfl) ?_
            refine lv_iconst (v := 1) C.1 C.2.1 dX5_row_60 (by decide) ?_
            obtain ⟨g8, hE⟩ := it_g hE
            refine ms_18 (a := (A 18)) C hP hS (gi_in g8) rfl dX5_row_61 (fun H locs hP hS => ?_)
            refine lv_aload_n C.1 C.2.1 dX5_row_62 rfl (lv_at hl 0 rfl) ?_
            refine ma_19 C hP dX5_row_63 ?_
            refine lv_iload_n C.1 C.2.1 dX5_row_66 rfl (lv_at hl 1 rfl) ?_
            refine lv_iload_n C.1 C.2.1 dX5_row_67 rfl (lv_at hl 2 rfl) ?_
            obtain ⟨g9, hE⟩ := it_g hE
            refine ms_19 (a := (A 19)) C hP hS (gi_in g9) rfl dX5_row_68 (fun H locs hP hS => ?_)
            refine lv_aload_n C.1 C.2.1 dX5_row_69 rfl (lv_at hl 0 rfl) ?_
            refine ma_20 C hP dX5_row_70 ?_
            refine lv_iload_n C.1 C.2.1 dX5_row_73 rfl (lv_at hl 1 rfl) ?_
            refine lv_iload_n C.1 C.2.1 dX5_row_74 rfl (lv_at hl 3 rfl) ?_
            obtain ⟨g10, hE⟩ := it_g hE
            refine ms_20 (a := (A 20)) C hP hS (gi_in g10) rfl dX5_row_75 (fun H locs hP hS => ?_)
            refine lv_iconst (v := 0) C.1 C.2.1 dX5_row_76 (by decide) ?_
            refine lv_istore (lv' := [(4, .int 0), (0, .ref h0), (1, .int p1), (2, .int p2), (3, .int p3)]) C.1 C.2.1 dX5_row_77 hl (by decide) rfl (fun ls hl => ?_)
            obtain ⟨u11, hu11, hE⟩ := it_b hE
            refine wM_row_h79 C hml F A L p1 (A 11) (upd (A 18) (p1).toNatClampNeg 1) (upd (A 19) (p1).toNatClampNeg p2) (upd (A 20) (p1).toNatClampNeg p3) u11 2000 0 (L 22) H locs ls hu11 hP hS (lv_sub hl [1, 2, 0] rfl) (fun H locs ls hP hS hl => ?_)
            refine lv_iconst (v := 1) C.1 C.2.1 dX5_row_107 (by decide) ?_
            obtain rfl := Option.some.inj hE
            exact hret _ _ _ _ dX5_row_108 hP hS
          · have hE := it_f c7 hE
            refine lv_aload_n C.1 C.2.1 dX5_row_48 rfl (lv_at hl 0 rfl) ?_
            refine lv_bipush (v := (-7)) C.1 C.2.1 dX5_row_49 (by decide) ?_
            obtain ⟨r12, hr12, hE⟩ := it_b hE
            refine m_call (n := 1) (As := [.int (-7)]) (rest := []) C hP hS hml (metM_no l G h0 ad _ _ _ (-7) r12 hr12) q1483 q1485 qs32 q1486 rfl rfl (by decide +kernel) ⟨Nat.le_of_ble_eq_true rfl, Nat.le_of_ble_eq_true rfl⟩ ⟨Nat.le_refl _, Nat.le_refl _⟩ rfl hl.1 rfl (Nat.le_of_ble_eq_true rfl) dX5_row_51 (fun H locs hP hS => ?_)
            obtain rfl := Option.some.inj hE
            exact hret _ _ _ _ dX5_row_54 hP hS
        · have hE := it_f c6 hE
          refine lv_aload_n C.1 C.2.1 dX5_row_34 rfl (lv_at hl 0 rfl) ?_
          refine lv_bipush (v := (-6)) C.1 C.2.1 dX5_row_35 (by decide) ?_
          obtain ⟨r13, hr13, hE⟩ := it_b hE
          refine m_call (n := 1) (As := [.int (-6)]) (rest := []) C hP hS hml (metM_no l G h0 ad _ _ _ (-6) r13 hr13) q1483 q1485 qs32 q1486 rfl rfl (by decide +kernel) ⟨Nat.le_of_ble_eq_true rfl, Nat.le_of_ble_eq_true rfl⟩ ⟨Nat.le_refl _, Nat.le_refl _⟩ rfl hl.1 rfl (Nat.le_of_ble_eq_true rfl) dX5_row_37 (fun H locs hP hS => ?_)
          obtain rfl := Option.some.inj hE
          exact hret _ _ _ _ dX5_row_40 hP hS
    · have hE := it_f c3 hE
      refine lv_aload_n C.1 C.2.1 dX5_row_18 rfl (lv_at hl 0 rfl) ?_
      refine lv_bipush (v := (-4)) C.1 C.2.1 dX5_row_19 (by decide) ?_
      obtain ⟨r14, hr14, hE⟩ := it_b hE
      refine m_call (n := 1) (As := [.int (-4)]) (rest := []) C hP hS hml (metM_no l G h0 ad _ _ _ (-4) r14 hr14) q1483 q1485 qs32 q1486 rfl rfl (by decide +kernel) ⟨Nat.le_of_ble_eq_true rfl, Nat.le_of_ble_eq_true rfl⟩ ⟨Nat.le_refl _, Nat.le_refl _⟩ rfl hl.1 rfl (Nat.le_of_ble_eq_true rfl) dX5_row_21 (fun H locs hP hS => ?_)
      obtain rfl := Option.some.inj hE
      exact hret _ _ _ _ dX5_row_24 hP hS
  · have hE := it_t c2 hE
    refine lv_aload_n C.1 C.2.1 dX5_row_8 rfl (lv_at hl 0 rfl) ?_
    refine lv_iconst (v := (-1)) C.1 C.2.1 dX5_row_9 (by decide) ?_
    obtain ⟨r15, hr15, hE⟩ := it_b hE
    refine m_call (n := 1) (As := [.int (-1)]) (rest := []) C hP hS hml (metM_no l G h0 ad _ _ _ (-1) r15 hr15) q1483 q1485 qs32 q1486 rfl rfl (by decide +kernel) ⟨Nat.le_of_ble_eq_true rfl, Nat.le_of_ble_eq_true rfl⟩ ⟨Nat.le_refl _, Nat.le_refl _⟩ rfl hl.1 rfl (Nat.le_of_ble_eq_true rfl) dX5_row_10 (fun H locs hP hS => ?_)
    obtain rfl := Option.some.inj hE
    exact hret _ _ _ _ dX5_row_13 hP hS
def sM_set (a_refused : Nat → Int32) (a_held : Nat → Int32) (a_sort : Nat → Int32) (a_size : Nat → Int32) (l_cells : Nat → Int64) (p1 : Int32) (p2 : Int32) (p3 : Int64) : Option (Int32 × (Nat → Int32) × (Nat → Int64)) :=
  (sM_isShelf p1).bind fun r1 =>
  if r1 = 0 then
    (sM_no a_refused (-1)).bind fun r22 =>
    some (r22.1, r22.2, l_cells)
  else
    if gi p1 8 then
    if (a_held (p1).toNatClampNeg) = 2 then
      (sM_no a_refused (-2)).bind fun r21 =>
      some (r21.1, r21.2, l_cells)
    else
      if gi p1 8 then
      if (a_held (p1).toNatClampNeg) = 0 then
        (sM_no a_refused (-3)).bind fun r20 =>
        some (r20.1, r20.2, l_cells)
      else
        if p2 < 0 then
          (sM_no a_refused (-5)).bind fun r8 =>
          some (r8.1, r8.2, l_cells)
        else
          if gi p1 8 then
          if p2 < (a_size (p1).toNatClampNeg) then
            if gi p1 8 then
            @Option.bind (Int64) _ (
              if (a_sort (p1).toNatClampNeg) = 0 then
                some ((((((p3 : Int64).toInt32) : Int32).toInt8.toInt32) : Int32).toInt64)
              else
                if gi p1 8 then
                if (a_sort (p1).toNatClampNeg) = 1 then
                  some ((((((p3 : Int64).toInt32) : Int32).toInt16.toInt32) : Int32).toInt64)
                else
                  if gi p1 8 then
                  if (a_sort (p1).toNatClampNeg) = 2 then
                    some ((((p3 : Int64).toInt32) : Int32).toInt64)
                  else
                    some p3
                  else none
                else none) fun u13 =>
            if gi ((160 * p1) + p2) 1280 then
            some (1, a_refused, (vp_updL l_cells (((160 * p1) + p2)).toNatClampNeg u13))
            else none
            else none
          else
            (sM_no a_refused (-5)).bind fun r19 =>
            some (r19.1, r19.2, l_cells)
          else none
      else none
    else none
set_option maxHeartbeats 4000000 in
theorem metM_set (l : Launch) (G : kG) (h0 : Nat) (ad : Nat → Nat) (F : Nat → Int32) (A : Nat → Nat → Int32) (L : Nat → Nat → Int64) (p1 : Int32) (p2 : Int32) (p3 : Int64) (res : Int32 × (Nat → Int32) × (Nat → Int64)) (hE : sM_set (A 11) (A 18) (A 19) (A 20) (L 22) p1 p2 p3 = some res) : Met l yX5_set (ws_ yX5_set cX5_set 5 (some .int)) ({ frames := 1, cells := 0, slots := 0, locals := 21 } : Room) (mPc G h0 ad F A L [.int p1, .int p2, .long p3]) (mQc G h0 ad F (va_up A 11 res.2.1) (va_up L 22 res.2.2) (some (.int res.1))) 0 0 (mA h0 ad) := by
  refine m_ofW (by decide) rfl (Nat.le_of_ble_eq_true rfl) ?_
  intro p e s m args below meth c ls C hml hP hS hl hr hlocks
  have hl : lv_has ls 5 [(0, .ref h0), (1, .int p1), (2, .int p2), (3, .long p3)] := hl
  obtain ⟨Q, hQ⟩ : ∃ Q, Q = MQ below (mQc G h0 ad F (va_up A 11 res.2.1) (va_up L 22 res.2.2) (some (.int res.1))) args s 0 0 (mA h0 ad) := ⟨_, rfl⟩
  rw [← hQ]
  have hret : ∀ (pc : Nat) (ls : Array Slot) (H : Heap) (locs : List Loc), decode cX5_set pc = .ok (.ireturn, 1) → mPw G h0 ad F (va_up A 11 res.2.1) (va_up L 22 res.2.2) H → va_S (mA h0 ad) s.heap H locs → W p l e ({ frames := 1, cells := 0, slots := 0, locals := 21 } : Room) s m args below meth c H locs 0 0 Q (F0 m pc ls [.int res.1]) := by
    intro pc ls H locs hd hP hS
    rw [hQ]
    exact m_iret C hr hlocks hd hP hS
  clear hQ
  obtain ⟨H, hH⟩ : ∃ H, H = s.heap := ⟨_, rfl⟩
  obtain ⟨locs, hlo⟩ : ∃ locs : List Loc, locs = [] := ⟨_, rfl⟩
  have hP : mPw G h0 ad F A L H := by rw [hH]; exact hP
  have hS : va_S (mA h0 ad) s.heap H locs := by rw [hH, hlo]; exact hS
  suffices hZ : W p l e ({ frames := 1, cells := 0, slots := 0, locals := 21 } : Room) s m args below meth c H locs 0 0 Q (F0 m 0 ls []) by rw [hH, hlo] at hZ; exact hZ
  clear hH hlo
  unfold sM_set at hE
  refine lv_aload_n C.1 C.2.1 dX5_set_0 rfl (lv_at hl 0 rfl) ?_
  refine lv_iload_n C.1 C.2.1 dX5_set_1 rfl (lv_at hl 1 rfl) ?_
  obtain ⟨r1, hr1, hE⟩ := it_b hE
  refine m_call (n := 1) (As := [.int p1]) (rest := []) C hP hS hml (metM_isShelf l G h0 ad _ _ _ p1 r1 hr1) q1479 q1481 qs31 q1482 rfl rfl (by decide +kernel) ⟨Nat.le_of_ble_eq_true rfl, Nat.le_of_ble_eq_true rfl⟩ ⟨Nat.le_refl _, Nat.le_refl _⟩ rfl hl.1 rfl (Nat.le_of_ble_eq_true rfl) dX5_set_2 (fun H locs hP hS => ?_)
  refine lv_if_ne (tgt := 14) C.1 C.2.1 dX5_set_5 (by decide) (fun c2 => ?_) (fun c2 => ?_)
  · have hE := it_f c2 hE
    refine lv_aload_n C.1 C.2.1 dX5_set_14 rfl (lv_at hl 0 rfl) ?_
    refine ma_18 C hP dX5_set_15 ?_
    refine lv_iload_n C.1 C.2.1 dX5_set_18 rfl (lv_at hl 1 rfl) ?_
    obtain ⟨g3, hE⟩ := it_g hE
    refine ml_18 (v := ((A 18) (p1).toNatClampNeg)) C hP (gi_in g3) rfl dX5_set_19 ?_
    refine lv_iconst (v := 2) C.1 C.2.1 dX5_set_20 (by decide) ?_
    refine lv_icmp_ne (tgt := 31) C.1 C.2.1 dX5_set_21 (by decide) (fun c4 => ?_) (fun c4 => ?_)
    · have hE := it_f c4 hE
      refine lv_aload_n C.1 C.2.1 dX5_set_31 rfl (lv_at hl 0 rfl) ?_
      refine ma_18 C hP dX5_set_32 ?_
      refine lv_iload_n C.1 C.2.1 dX5_set_35 rfl (lv_at hl 1 rfl) ?_
      obtain ⟨g5, hE⟩ := it_g hE
      refine ml_18 (v := ((A 18) (p1).toNatClampNeg)) C hP (gi_in g5) rfl dX5_set_36 ?_
      refine lv_if_ne (tgt := 47) C.1 C.2.1 dX5_set_37 (by decide) (fun c6 => ?_) (fun c6 => ?_)
      · have hE := it_f c6 hE
        refine lv_iload_n C.1 C.2.1 dX5_set_47 rfl (lv_at hl 2 rfl) ?_
        refine lv_if_lt (tgt := 61) C.1 C.2.1 dX5_set_48 (by decide) (fun c7 => ?_) (fun c7 => ?_)
        · have hE := it_t c7 hE
          refine lv_aload_n C.1 C.2.1 dX5_set_61 rfl (lv_at hl 0 rfl) ?_
          refine lv_bipush (v := (-5)) C.1 C.2.1 dX5_set_62 (by decide) ?_
          obtain ⟨r8, hr8, hE⟩ := it_b hE
          refine m_call (n := 1) (As := [.int (-5)]) (rest := []) C hP hS hml (metM_no l G h0 ad _ _ _ (-5) r8 hr8) q1483 q1485 qs32 q1486 rfl rfl (by decide +kernel) ⟨Nat.le_of_ble_eq_true rfl, Nat.le_of_ble_eq_true rfl⟩ ⟨Nat.le_refl _, Nat.le_refl _⟩ rfl hl.1 rfl (Nat.le_of_ble_eq_true rfl) dX5_set_64 (fun H locs hP hS => ?_)
          obtain rfl := Option.some.inj hE
          exact hret _ _ _ _ dX5_set_67 hP hS
        · have hE := it_f c7 hE
          refine lv_iload_n C.1 C.2.1 dX5_set_51 rfl (lv_at hl 2 rfl) ?_
          refine lv_aload_n C.1 C.2.1 dX5_set_52 rfl (lv_at hl 0 rfl) ?_
          refine ma_20 C hP dX5_set_53 ?_
          refine lv_iload_n C.1 C.2.1 dX5_set_56 rfl (lv_at hl 1 rfl) ?_
          obtain ⟨g9, hE⟩ := it_g hE
          refine ml_20 (v := ((A 20) (p1).toNatClampNeg)) C hP (gi_in g9) rfl dX5_set_57 ?_
          refine lv_icmp_lt (tgt := 68) C.1 C.2.1 dX5_set_58 (by decide) (fun c10 => ?_) (fun c10 => ?_)
          · have hE := it_t c10 hE
            refine lv_aload_n C.1 C.2.1 dX5_set_68 rfl (lv_at hl 0 rfl) ?_
            refine ma_22 C hP dX5_set_69 ?_
            refine lv_sipush (v := 160) C.1 C.2.1 dX5_set_72 (by decide) ?_
            refine lv_iload_n C.1 C.2.1 dX5_set_75 rfl (lv_at hl 1 rfl) ?_
            refine lv_imul C.1 C.2.1 dX5_set_76 ?_
            refine lv_iload_n C.1 C.2.1 dX5_set_77 rfl (lv_at hl 2 rfl) ?_
            refine lv_iadd C.1 C.2.1 dX5_set_78 ?_
            refine lv_aload_n C.1 C.2.1 dX5_set_79 rfl (lv_at hl 0 rfl) ?_
            refine ma_19 C hP dX5_set_80 ?_
            refine lv_iload_n C.1 C.2.1 dX5_set_83 rfl (lv_at hl 1 rfl) ?_
            obtain ⟨g11, hE⟩ := it_g hE
            refine ml_19 (v := ((A 19) (p1).toNatClampNeg)) C hP (gi_in g11) rfl dX5_set_84 ?_
            obtain ⟨u13, hR, hE⟩ := it_b hE
            have hJ129u13 : ∀ (H : Heap) (locs : List Loc) (ls : Array Slot), mPw G h0 ad F A L H → va_S (mA h0 ad) s.heap H locs → lv_has ls 5 [] → W p l e ({ frames := 1, cells := 0, slots := 0, locals := 21 } : Room) s m args below meth c H locs 0 0 Q (F0 m 129 ls [.long u13, .int ((160 * p1) + p2), .ref (ad 22)]) := by
              intro H locs ls hP hS hl
              obtain ⟨g18, hE⟩ := it_g hE
              refine ms_22 (a := (L 22)) C hP hS (gi_in g18) rfl dX5_set_129 (fun H locs hP hS => ?_)
              refine lv_iconst (v := 1) C.1 C.2.1 dX5_set_130 (by decide) ?_
              obtain rfl := Option.some.inj hE
              exact hret _ _ _ _ dX5_set_131 hP hS
            have hE := hR
            refine lv_if_ne (tgt := 95) C.1 C.2.1 dX5_set_85 (by decide) (fun c12 => ?_) (fun c12 => ?_)
            · have hE := it_f c12 hE
              refine lv_aload_n C.1 C.2.1 dX5_set_95 rfl (lv_at hl 0 rfl) ?_
              refine ma_19 C hP dX5_set_96 ?_
              refine lv_iload_n C.1 C.2.1 dX5_set_99 rfl (lv_at hl 1 rfl) ?_
              obtain ⟨g14, hE⟩ := it_g hE
              refine ml_19 (v := ((A 19) (p1).toNatClampNeg)) C hP (gi_in g14) rfl dX5_set_100 ?_
              refine lv_iconst (v := 1) C.1 C.2.1 dX5_set_101 (by decide) ?_
              refine lv_icmp_ne (tgt := 112) C.1 C.2.1 dX5_set_102 (by decide) (fun c15 => ?_) (fun c15 => ?_)
              · have hE := it_f c15 hE
                refine lv_aload_n C.1 C.2.1 dX5_set_112 rfl (lv_at hl 0 rfl) ?_
                refine ma_19 C hP dX5_set_113 ?_
                refine lv_iload_n C.1 C.2.1 dX5_set_116 rfl (lv_at hl 1 rfl) ?_
                obtain ⟨g16, hE⟩ := it_g hE
                refine ml_19 (v := ((A 19) (p1).toNatClampNeg)) C hP (gi_in g16) rfl dX5_set_117 ?_
                refine lv_iconst (v := 2) C.1 C.2.1 dX5_set_118 (by decide) ?_
                refine lv_icmp_ne (tgt := 128) C.1 C.2.1 dX5_set_119 (by decide) (fun c17 => ?_) (fun c17 => ?_)
                · have hE := it_f c17 hE
                  refine lv_lload_n C.1 C.2.1 dX5_set_128 rfl (lv_at hl 3 rfl) ?_
                  obtain rfl := Option.some.inj hE
                  exact hJ129u13 H locs ls hP hS (lv_sub hl [] rfl)
                · have hE := it_t c17 hE
                  refine lv_lload_n C.1 C.2.1 dX5_set_122 rfl (lv_at hl 3 rfl) ?_
                  refine lv_l2i C.1 C.2.1 dX5_set_123 rfl ?_
                  refine lv_i2l C.1 C.2.1 dX5_set_124 rfl ?_
                  refine lv_goto (tgt := 129) C.1 C.2.1 dX5_set_125 (by decide) ?_
                  obtain rfl := Option.some.inj hE
                  exact hJ129u13 H locs ls hP hS (lv_sub hl [] rfl)
              · have hE := it_t c15 hE
                refine lv_lload_n C.1 C.2.1 dX5_set_105 rfl (lv_at hl 3 rfl) ?_
                refine lv_l2i C.1 C.2.1 dX5_set_106 rfl ?_
                refine lv_i2s C.1 C.2.1 dX5_set_107 rfl ?_
                refine lv_i2l C.1 C.2.1 dX5_set_108 rfl ?_
                refine lv_goto (tgt := 129) C.1 C.2.1 dX5_set_109 (by decide) ?_
                obtain rfl := Option.some.inj hE
                exact hJ129u13 H locs ls hP hS (lv_sub hl [] rfl)
            · have hE := it_t c12 hE
              refine lv_lload_n C.1 C.2.1 dX5_set_88 rfl (lv_at hl 3 rfl) ?_
              refine lv_l2i C.1 C.2.1 dX5_set_89 rfl ?_
              refine lv_i2b C.1 C.2.1 dX5_set_90 rfl ?_
              refine lv_i2l C.1 C.2.1 dX5_set_91 rfl ?_
              refine lv_goto (tgt := 129) C.1 C.2.1 dX5_set_92 (by decide) ?_
              obtain rfl := Option.some.inj hE
              exact hJ129u13 H locs ls hP hS (lv_sub hl [] rfl)
          · have hE := it_f c10 hE
            refine lv_aload_n C.1 C.2.1 dX5_set_61 rfl (lv_at hl 0 rfl) ?_
            refine lv_bipush (v := (-5)) C.1 C.2.1 dX5_set_62 (by decide) ?_
            obtain ⟨r19, hr19, hE⟩ := it_b hE
            refine m_call (n := 1) (As := [.int (-5)]) (rest := []) C hP hS hml (metM_no l G h0 ad _ _ _ (-5) r19 hr19) q1483 q1485 qs32 q1486 rfl rfl (by decide +kernel) ⟨Nat.le_of_ble_eq_true rfl, Nat.le_of_ble_eq_true rfl⟩ ⟨Nat.le_refl _, Nat.le_refl _⟩ rfl hl.1 rfl (Nat.le_of_ble_eq_true rfl) dX5_set_64 (fun H locs hP hS => ?_)
            obtain rfl := Option.some.inj hE
            exact hret _ _ _ _ dX5_set_67 hP hS
      · have hE := it_t c6 hE
        refine lv_aload_n C.1 C.2.1 dX5_set_40 rfl (lv_at hl 0 rfl) ?_
        refine lv_bipush (v := (-3)) C.1 C.2.1 dX5_set_41 (by decide) ?_
        obtain ⟨r20, hr20, hE⟩ := it_b hE
        refine m_call (n := 1) (As := [.int (-3)]) (rest := []) C hP hS hml (metM_no l G h0 ad _ _ _ (-3) r20 hr20) q1483 q1485 qs32 q1486 rfl rfl (by decide +kernel) ⟨Nat.le_of_ble_eq_true rfl, Nat.le_of_ble_eq_true rfl⟩ ⟨Nat.le_refl _, Nat.le_refl _⟩ rfl hl.1 rfl (Nat.le_of_ble_eq_true rfl) dX5_set_43 (fun H locs hP hS => ?_)
        obtain rfl := Option.some.inj hE
        exact hret _ _ _ _ dX5_set_46 hP hS
    · have hE := it_t c4 hE
      refine lv_aload_n C.1 C.2.1 dX5_set_24 rfl (lv_at hl 0 rfl) ?_
      refine lv_bipush (v := (-2)) C.1 C.2.1 dX5_set_25 (by decide) ?_
      obtain ⟨r21, hr21, hE⟩ := it_b hE
      refine m_call (n := 1) (As := [.int (-2)]) (rest := []) C hP hS hml (metM_no l G h0 ad _ _ _ (-2) r21 hr21) q1483 q1485 qs32 q1486 rfl rfl (by decide +kernel) ⟨Nat.le_of_ble_eq_true rfl, Nat.le_of_ble_eq_true rfl⟩ ⟨Nat.le_refl _, Nat.le_refl _⟩ rfl hl.1 rfl (Nat.le_of_ble_eq_true rfl) dX5_set_27 (fun H locs hP hS => ?_)
      obtain rfl := Option.some.inj hE
      exact hret _ _ _ _ dX5_set_30 hP hS
  · have hE := it_t c2 hE
    refine lv_aload_n C.1 C.2.1 dX5_set_8 rfl (lv_at hl 0 rfl) ?_
    refine lv_iconst (v := (-1)) C.1 C.2.1 dX5_set_9 (by decide) ?_
    obtain ⟨r22, hr22, hE⟩ := it_b hE
    refine m_call (n := 1) (As := [.int (-1)]) (rest := []) C hP hS hml (metM_no l G h0 ad _ _ _ (-1) r22 hr22) q1483 q1485 qs32 q1486 rfl rfl (by decide +kernel) ⟨Nat.le_of_ble_eq_true rfl, Nat.le_of_ble_eq_true rfl⟩ ⟨Nat.le_refl _, Nat.le_refl _⟩ rfl hl.1 rfl (Nat.le_of_ble_eq_true rfl) dX5_set_10 (fun H locs hP hS => ?_)
    obtain rfl := Option.some.inj hE
    exact hret _ _ _ _ dX5_set_13 hP hS
def sM_copy_h167 (x1 : Int32) (x3 : Int32) (x5 : Int32) (l_cells : Nat → Int64) : Nat → Int32 → (Nat → Int64) → Option ((Nat → Int64))
  | 0, _, _ => none
  | fuel + 1, x6, l_carried =>
    if x5 ≤ x6 then
      some l_carried
    else
      if gi (((160 * x1) + x3) + x6) 1280 then
      if gi x6 160 then
      sM_copy_h167 x1 x3 x5 l_cells fuel (x6 + 1) (vp_updL l_carried (x6).toNatClampNeg (l_cells ((((160 * x1) + x3) + x6)).toNatClampNeg))
      else none
      else none
def sM_copy_h205 (x2 : Int32) (x4 : Int32) (x5 : Int32) (l_carried : Nat → Int64) : Nat → Int32 → (Nat → Int64) → Option ((Nat → Int64))
  | 0, _, _ => none
  | fuel + 1, x6, l_cells =>
    if x5 ≤ x6 then
      some l_cells
    else
      if gi x6 160 then
      if gi (((160 * x2) + x4) + x6) 1280 then
      sM_copy_h205 x2 x4 x5 l_carried fuel (x6 + 1) (vp_updL l_cells ((((160 * x2) + x4) + x6)).toNatClampNeg (l_carried (x6).toNatClampNeg))
      else none
      else none
def sM_copy (a_refused : Nat → Int32) (a_held : Nat → Int32) (a_sort : Nat → Int32) (a_size : Nat → Int32) (l_cells : Nat → Int64) (l_carried : Nat → Int64) (p1 : Int32) (p2 : Int32) (p3 : Int32) (p4 : Int32) (p5 : Int32) : Option (Int32 × (Nat → Int32) × (Nat → Int64) × (Nat → Int64)) :=
  (sM_isShelf p1).bind fun r1 =>
  if r1 = 0 then
    (sM_no a_refused (-1)).bind fun r3 =>
    some (r3.1, r3.2, l_cells, l_carried)
  else
    (sM_isShelf p2).bind fun r4 =>
    if r4 = 0 then
      (sM_no a_refused (-1)).bind fun r61 =>
      some (r61.1, r61.2, l_cells, l_carried)
    else
      if gi p1 8 then
      if (a_held (p1).toNatClampNeg) = 2 then
        (sM_no a_refused (-2)).bind fun r8 =>
        some (r8.1, r8.2, l_cells, l_carried)
      else
        if gi p2 8 then
        if (a_held (p2).toNatClampNeg) = 2 then
          (sM_no a_refused (-2)).bind fun r11 =>
          some (r11.1, r11.2, l_cells, l_carried)
        else
          if gi p1 8 then
          if (a_held (p1).toNatClampNeg) = 1 then
            if gi p2 8 then
            @Option.bind (Bool) _ (
              if (a_held (p2).toNatClampNeg) = 1 then
                if gi p1 8 then
                if gi p2 8 then
                if (a_sort (p1).toNatClampNeg) = (a_sort (p2).toNatClampNeg) then
                  some false
                else
                  some true
                else none
                else none
              else
                some false) fun u36 =>
            if u36 = true then
              (sM_no a_refused (-2)).bind fun r40 =>
              some (r40.1, r40.2, l_cells, l_carried)
            else
              if gi p1 8 then
              if (a_held (p1).toNatClampNeg) = 0 then
                (sM_no a_refused (-3)).bind fun r43 =>
                some (r43.1, r43.2, l_cells, l_carried)
              else
                if gi p2 8 then
                if (a_held (p2).toNatClampNeg) = 0 then
                  (sM_no a_refused (-3)).bind fun r60 =>
                  some (r60.1, r60.2, l_cells, l_carried)
                else
                  if 0 ≤ p5 then
                    if p3 < 0 then
                      (sM_no a_refused (-5)).bind fun r48 =>
                      some (r48.1, r48.2, l_cells, l_carried)
                    else
                      if p4 < 0 then
                        (sM_no a_refused (-5)).bind fun r50 =>
                        some (r50.1, r50.2, l_cells, l_carried)
                      else
                        if gi p1 8 then
                        if ((a_size (p1).toNatClampNeg) - p5) < p3 then
                          (sM_no a_refused (-5)).bind fun r53 =>
                          some (r53.1, r53.2, l_cells, l_carried)
                        else
                          if gi p2 8 then
                          if p4 ≤ ((a_size (p2).toNatClampNeg) - p5) then
                            (sM_copy_h167 p1 p3 p5 l_cells 2000 0 l_carried).bind fun u56 =>
                            (sM_copy_h205 p2 p4 p5 u56 2000 0 l_cells).bind fun u57 =>
                            some (1, a_refused, u57, u56)
                          else
                            (sM_no a_refused (-5)).bind fun r58 =>
                            some (r58.1, r58.2, l_cells, l_carried)
                          else none
                        else none
                  else
                    (sM_no a_refused (-4)).bind fun r59 =>
                    some (r59.1, r59.2, l_cells, l_carried)
                else none
              else none
            else none
          else
            if gi p1 8 then
            if (a_held (p1).toNatClampNeg) = 0 then
              (sM_no a_refused (-3)).bind fun r16 =>
              some (r16.1, r16.2, l_cells, l_carried)
            else
              if gi p2 8 then
              if (a_held (p2).toNatClampNeg) = 0 then
                (sM_no a_refused (-3)).bind fun r33 =>
                some (r33.1, r33.2, l_cells, l_carried)
              else
                if 0 ≤ p5 then
                  if p3 < 0 then
                    (sM_no a_refused (-5)).bind fun r21 =>
                    some (r21.1, r21.2, l_cells, l_carried)
                  else
                    if p4 < 0 then
                      (sM_no a_refused (-5)).bind fun r23 =>
                      some (r23.1, r23.2, l_cells, l_carried)
                    else
                      if gi p1 8 then
                      if ((a_size (p1).toNatClampNeg) - p5) < p3 then
                        (sM_no a_refused (-5)).bind fun r26 =>
                        some (r26.1, r26.2, l_cells, l_carried)
                      else
                        if gi p2 8 then
                        if p4 ≤ ((a_size (p2).toNatClampNeg) - p5) then
                          (sM_copy_h167 p1 p3 p5 l_cells 2000 0 l_carried).bind fun u29 =>
                          (sM_copy_h205 p2 p4 p5 u29 2000 0 l_cells).bind fun u30 =>
                          some (1, a_refused, u30, u29)
                        else
                          (sM_no a_refused (-5)).bind fun r31 =>
                          some (r31.1, r31.2, l_cells, l_carried)
                        else none
                      else none
                else
                  (sM_no a_refused (-4)).bind fun r32 =>
                  some (r32.1, r32.2, l_cells, l_carried)
              else none
            else none
          else none
        else none
      else none
set_option maxHeartbeats 4000000 in
theorem wM_copy_h167 {p : Program} {l : Launch} {e : Env} {s : State} {m : MethodId} {args : Array Value} {below : List Frame} {meth : Method} {c : Code} {G : kG} {h0 : Nat} {ad : Nat → Nat} {Q : State → Prop} (C : mC p s m args c cX5_copy G h0 ad) (hml : c.maxLocals = 7) (F : Nat → Int32) (A : Nat → Nat → Int32) (L : Nat → Nat → Int64) (x1 : Int32) (x2 : Int32) (x3 : Int32) (x4 : Int32) (x5 : Int32) (a_refused : Nat → Int32) (l_cells : Nat → Int64) (res : (Nat → Int64)) :
    ∀ (fuel : Nat) (x6 : Int32) (l_carried : Nat → Int64) (H : Heap) (locs : List Loc) (ls : Array Slot), sM_copy_h167 x1 x3 x5 l_cells fuel x6 l_carried = some res → mPw G h0 ad F (va_up A 11 a_refused) (va_up (va_up L 22 l_cells) 23 l_carried) H → va_S (mA h0 ad) s.heap H locs → lv_has ls 7 [(0, .ref h0), (1, .int x1), (2, .int x2), (3, .int x3), (4, .int x4), (5, .int x5), (6, .int x6)] → (∀ (H : Heap) (locs : List Loc) (ls : Array Slot), mPw G h0 ad F (va_up A 11 a_refused) (va_up (va_up L 22 l_cells) 23 res) H → va_S (mA h0 ad) s.heap H locs → lv_has ls 7 [(0, .ref h0), (2, .int x2), (4, .int x4), (5, .int x5)] → W p l e ({ frames := 1, cells := 0, slots := 0, locals := 21 } : Room) s m args below meth c H locs 0 0 Q (F0 m 202 ls [])) → W p l e ({ frames := 1, cells := 0, slots := 0, locals := 21 } : Room) s m args below meth c H locs 0 0 Q (F0 m 167 ls []) := by
  intro fuel
  induction fuel with
  | zero =>
    intro x6 l_carried H locs ls hE
    exact it_n hE
  | succ fuel ih =>
    intro x6 l_carried H locs ls hE hP hS hl hX
    rw [sM_copy_h167] at hE
    refine lv_iload C.1 C.2.1 dX5_copy_167 (lv_at hl 6 rfl) ?_
    refine lv_iload C.1 C.2.1 dX5_copy_169 (lv_at hl 5 rfl) ?_
    refine lv_icmp_ge (tgt := 202) C.1 C.2.1 dX5_copy_171 (by decide) (fun c16801 => ?_) (fun c16801 => ?_)
    · have hE := it_t c16801 hE
      obtain rfl := Option.some.inj hE
      exact hX H locs ls hP hS (lv_sub hl [0, 2, 4, 5] rfl)
    · have hE := it_f c16801 hE
      refine lv_aload_n C.1 C.2.1 dX5_copy_174 rfl (lv_at hl 0 rfl) ?_
      refine ma_23 C hP dX5_copy_175 ?_
      refine lv_iload C.1 C.2.1 dX5_copy_178 (lv_at hl 6 rfl) ?_
      refine lv_aload_n C.1 C.2.1 dX5_copy_180 rfl (lv_at hl 0 rfl) ?_
      refine ma_22 C hP dX5_copy_181 ?_
      refine lv_sipush (v := 160) C.1 C.2.1 dX5_copy_184 (by decide) ?_
      refine lv_iload_n C.1 C.2.1 dX5_copy_187 rfl (lv_at hl 1 rfl) ?_
      refine lv_imul C.1 C.2.1 dX5_copy_188 ?_
      refine lv_iload_n C.1 C.2.1 dX5_copy_189 rfl (lv_at hl 3 rfl) ?_
      refine lv_iadd C.1 C.2.1 dX5_copy_190 ?_
      refine lv_iload C.1 C.2.1 dX5_copy_191 (lv_at hl 6 rfl) ?_
      refine lv_iadd C.1 C.2.1 dX5_copy_193 ?_
      obtain ⟨g16802, hE⟩ := it_g hE
      refine ml_22 (v := (l_cells ((((160 * x1) + x3) + x6)).toNatClampNeg)) C hP (gi_in g16802) rfl dX5_copy_194 ?_
      obtain ⟨g16803, hE⟩ := it_g hE
      refine ms_23 (a := l_carried) C hP hS (gi_in g16803) rfl dX5_copy_195 (fun H locs hP hS => ?_)
      refine lv_iinc (v := (x6 + 1)) (lv' := [(6, .int (x6 + 1)), (0, .ref h0), (1, .int x1), (2, .int x2), (3, .int x3), (4, .int x4), (5, .int x5)]) C.1 C.2.1 dX5_copy_196 hl (k := 6) rfl rfl (by decide) rfl (fun ls hl => ?_)
      refine lv_goto (tgt := 167) C.1 C.2.1 dX5_copy_199 (by decide) ?_
      exact ih (x6 + 1) (vp_updL l_carried (x6).toNatClampNeg (l_cells ((((160 * x1) + x3) + x6)).toNatClampNeg)) _ _ _ hE hP hS (lv_sub hl [1, 2, 3, 4, 5, 6, 0] rfl) hX
set_option maxHeartbeats 4000000 in
theorem wM_copy_h205 {p : Program} {l : Launch} {e : Env} {s : State} {m : MethodId} {args : Array Value} {below : List Frame} {meth : Method} {c : Code} {G : kG} {h0 : Nat} {ad : Nat → Nat} {Q : State → Prop} (C : mC p s m args c cX5_copy G h0 ad) (hml : c.maxLocals = 7) (F : Nat → Int32) (A : Nat → Nat → Int32) (L : Nat → Nat → Int64) (x2 : Int32) (x4 : Int32) (x5 : Int32) (a_refused : Nat → Int32) (l_carried : Nat → Int64) (res : (Nat → Int64)) :
    ∀ (fuel : Nat) (x6 : Int32) (l_cells : Nat → Int64) (H : Heap) (locs : List Loc) (ls : Array Slot), sM_copy_h205 x2 x4 x5 l_carried fuel x6 l_cells = some res → mPw G h0 ad F (va_up A 11 a_refused) (va_up (va_up L 22 l_cells) 23 l_carried) H → va_S (mA h0 ad) s.heap H locs → lv_has ls 7 [(0, .ref h0), (2, .int x2), (4, .int x4), (5, .int x5), (6, .int x6)] → (∀ (H : Heap) (locs : List Loc) (ls : Array Slot), mPw G h0 ad F (va_up A 11 a_refused) (va_up (va_up L 22 res) 23 l_carried) H → va_S (mA h0 ad) s.heap H locs → lv_has ls 7 [] → W p l e ({ frames := 1, cells := 0, slots := 0, locals := 21 } : Room) s m args below meth c H locs 0 0 Q (F0 m 241 ls [])) → W p l e ({ frames := 1, cells := 0, slots := 0, locals := 21 } : Room) s m args below meth c H locs 0 0 Q (F0 m 205 ls []) := by
  intro fuel
  induction fuel with
  | zero =>
    intro x6 l_cells H locs ls hE
    exact it_n hE
  | succ fuel ih =>
    intro x6 l_cells H locs ls hE hP hS hl hX
    rw [sM_copy_h205] at hE
    refine lv_iload C.1 C.2.1 dX5_copy_205 (lv_at hl 4 rfl) ?_
    refine lv_iload C.1 C.2.1 dX5_copy_207 (lv_at hl 3 rfl) ?_
    refine lv_icmp_ge (tgt := 241) C.1 C.2.1 dX5_copy_209 (by decide) (fun c20601 => ?_) (fun c20601 => ?_)
    · have hE := it_t c20601 hE
      obtain rfl := Option.some.inj hE
      exact hX H locs ls hP hS (lv_sub hl [] rfl)
    · have hE := it_f c20601 hE
      refine lv_aload_n C.1 C.2.1 dX5_copy_212 rfl (lv_at hl 0 rfl) ?_
      refine ma_22 C hP dX5_copy_213 ?_
      refine lv_sipush (v := 160) C.1 C.2.1 dX5_copy_216 (by decide) ?_
      refine lv_iload_n C.1 C.2.1 dX5_copy_219 rfl (lv_at hl 1 rfl) ?_
      refine lv_imul C.1 C.2.1 dX5_copy_220 ?_
      refine lv_iload C.1 C.2.1 dX5_copy_221 (lv_at hl 2 rfl) ?_
      refine lv_iadd C.1 C.2.1 dX5_copy_223 ?_
      refine lv_iload C.1 C.2.1 dX5_copy_224 (lv_at hl 4 rfl) ?_
      refine lv_iadd C.1 C.2.1 dX5_copy_226 ?_
      refine lv_aload_n C.1 C.2.1 dX5_copy_227 rfl (lv_at hl 0 rfl) ?_
      refine ma_23 C hP dX5_copy_228 ?_
      refine lv_iload C.1 C.2.1 dX5_copy_231 (lv_at hl 4 rfl) ?_
      obtain ⟨g20602, hE⟩ := it_g hE
      refine ml_23 (v := (l_carried (x6).toNatClampNeg)) C hP (gi_in g20602) rfl dX5_copy_233 ?_
      obtain ⟨g20603, hE⟩ := it_g hE
      refine ms_22 (a := l_cells) C hP hS (gi_in g20603) rfl dX5_copy_234 (fun H locs hP hS => ?_)
      refine lv_iinc (v := (x6 + 1)) (lv' := [(6, .int (x6 + 1)), (0, .ref h0), (2, .int x2), (4, .int x4), (5, .int x5)]) C.1 C.2.1 dX5_copy_235 hl (k := 4) rfl rfl (by decide) rfl (fun ls hl => ?_)
      refine lv_goto (tgt := 205) C.1 C.2.1 dX5_copy_238 (by decide) ?_
      exact ih (x6 + 1) (vp_updL l_cells ((((160 * x2) + x4) + x6)).toNatClampNeg (l_carried (x6).toNatClampNeg)) _ _ _ hE hP hS (lv_sub hl [1, 2, 3, 4, 0] rfl) hX
set_option maxHeartbeats 4000000 in
theorem metM_copy (l : Launch) (G : kG) (h0 : Nat) (ad : Nat → Nat) (F : Nat → Int32) (A : Nat → Nat → Int32) (L : Nat → Nat → Int64) (p1 : Int32) (p2 : Int32) (p3 : Int32) (p4 : Int32) (p5 : Int32) (res : Int32 × (Nat → Int32) × (Nat → Int64) × (Nat → Int64)) (hE : sM_copy (A 11) (A 18) (A 19) (A 20) (L 22) (L 23) p1 p2 p3 p4 p5 = some res) : Met l yX5_copy (ws_ yX5_copy cX5_copy 7 (some .int)) ({ frames := 1, cells := 0, slots := 0, locals := 21 } : Room) (mPc G h0 ad F A L [.int p1, .int p2, .int p3, .int p4, .int p5]) (mQc G h0 ad F (va_up A 11 res.2.1) (va_up (va_up L 22 res.2.2.1) 23 res.2.2.2) (some (.int res.1))) 0 0 (mA h0 ad) := by
  refine m_ofW (by decide) rfl (Nat.le_of_ble_eq_true rfl) ?_
  intro p e s m args below meth c ls C hml hP hS hl hr hlocks
  have hl : lv_has ls 7 [(0, .ref h0), (1, .int p1), (2, .int p2), (3, .int p3), (4, .int p4), (5, .int p5)] := hl
  obtain ⟨Q, hQ⟩ : ∃ Q, Q = MQ below (mQc G h0 ad F (va_up A 11 res.2.1) (va_up (va_up L 22 res.2.2.1) 23 res.2.2.2) (some (.int res.1))) args s 0 0 (mA h0 ad) := ⟨_, rfl⟩
  rw [← hQ]
  have hret : ∀ (pc : Nat) (ls : Array Slot) (H : Heap) (locs : List Loc), decode cX5_copy pc = .ok (.ireturn, 1) → mPw G h0 ad F (va_up A 11 res.2.1) (va_up (va_up L 22 res.2.2.1) 23 res.2.2.2) H → va_S (mA h0 ad) s.heap H locs → W p l e ({ frames := 1, cells := 0, slots := 0, locals := 21 } : Room) s m args below meth c H locs 0 0 Q (F0 m pc ls [.int res.1]) := by
    intro pc ls H locs hd hP hS
    rw [hQ]
    exact m_iret C hr hlocks hd hP hS
  clear hQ
  obtain ⟨H, hH⟩ : ∃ H, H = s.heap := ⟨_, rfl⟩
  obtain ⟨locs, hlo⟩ : ∃ locs : List Loc, locs = [] := ⟨_, rfl⟩
  have hP : mPw G h0 ad F A L H := by rw [hH]; exact hP
  have hS : va_S (mA h0 ad) s.heap H locs := by rw [hH, hlo]; exact hS
  suffices hZ : W p l e ({ frames := 1, cells := 0, slots := 0, locals := 21 } : Room) s m args below meth c H locs 0 0 Q (F0 m 0 ls []) by rw [hH, hlo] at hZ; exact hZ
  clear hH hlo
  unfold sM_copy at hE
  refine lv_aload_n C.1 C.2.1 dX5_copy_0 rfl (lv_at hl 0 rfl) ?_
  refine lv_iload_n C.1 C.2.1 dX5_copy_1 rfl (lv_at hl 1 rfl) ?_
  obtain ⟨r1, hr1, hE⟩ := it_b hE
  refine m_call (n := 1) (As := [.int p1]) (rest := []) C hP hS hml (metM_isShelf l G h0 ad _ _ _ p1 r1 hr1) q1479 q1481 qs31 q1482 rfl rfl (by decide +kernel) ⟨Nat.le_of_ble_eq_true rfl, Nat.le_of_ble_eq_true rfl⟩ ⟨Nat.le_refl _, Nat.le_refl _⟩ rfl hl.1 rfl (Nat.le_of_ble_eq_true rfl) dX5_copy_2 (fun H locs hP hS => ?_)
  refine lv_if_eq (tgt := 16) C.1 C.2.1 dX5_copy_5 (by decide) (fun c2 => ?_) (fun c2 => ?_)
  · have hE := it_t c2 hE
    refine lv_aload_n C.1 C.2.1 dX5_copy_16 rfl (lv_at hl 0 rfl) ?_
    refine lv_iconst (v := (-1)) C.1 C.2.1 dX5_copy_17 (by decide) ?_
    obtain ⟨r3, hr3, hE⟩ := it_b hE
    refine m_call (n := 1) (As := [.int (-1)]) (rest := []) C hP hS hml (metM_no l G h0 ad _ _ _ (-1) r3 hr3) q1483 q1485 qs32 q1486 rfl rfl (by decide +kernel) ⟨Nat.le_of_ble_eq_true rfl, Nat.le_of_ble_eq_true rfl⟩ ⟨Nat.le_refl _, Nat.le_refl _⟩ rfl hl.1 rfl (Nat.le_of_ble_eq_true rfl) dX5_copy_18 (fun H locs hP hS => ?_)
    obtain rfl := Option.some.inj hE
    exact hret _ _ _ _ dX5_copy_21 hP hS
  · have hE := it_f c2 hE
    refine lv_aload_n C.1 C.2.1 dX5_copy_8 rfl (lv_at hl 0 rfl) ?_
    refine lv_iload_n C.1 C.2.1 dX5_copy_9 rfl (lv_at hl 2 rfl) ?_
    obtain ⟨r4, hr4, hE⟩ := it_b hE
    refine m_call (n := 1) (As := [.int p2]) (rest := []) C hP hS hml (metM_isShelf l G h0 ad _ _ _ p2 r4 hr4) q1479 q1481 qs31 q1482 rfl rfl (by decide +kernel) ⟨Nat.le_of_ble_eq_true rfl, Nat.le_of_ble_eq_true rfl⟩ ⟨Nat.le_refl _, Nat.le_refl _⟩ rfl hl.1 rfl (Nat.le_of_ble_eq_true rfl) dX5_copy_10 (fun H locs hP hS => ?_)
    refine lv_if_ne (tgt := 22) C.1 C.2.1 dX5_copy_13 (by decide) (fun c5 => ?_) (fun c5 => ?_)
    · have hE := it_f c5 hE
      refine lv_aload_n C.1 C.2.1 dX5_copy_22 rfl (lv_at hl 0 rfl) ?_
      refine ma_18 C hP dX5_copy_23 ?_
      refine lv_iload_n C.1 C.2.1 dX5_copy_26 rfl (lv_at hl 1 rfl) ?_
      obtain ⟨g6, hE⟩ := it_g hE
      refine ml_18 (v := ((A 18) (p1).toNatClampNeg)) C hP (gi_in g6) rfl dX5_copy_27 ?_
      refine lv_iconst (v := 2) C.1 C.2.1 dX5_copy_28 (by decide) ?_
      refine lv_icmp_eq (tgt := 77) C.1 C.2.1 dX5_copy_29 (by decide) (fun c7 => ?_) (fun c7 => ?_)
      · have hE := it_t c7 hE
        refine lv_aload_n C.1 C.2.1 dX5_copy_77 rfl (lv_at hl 0 rfl) ?_
        refine lv_bipush (v := (-2)) C.1 C.2.1 dX5_copy_78 (by decide) ?_
        obtain ⟨r8, hr8, hE⟩ := it_b hE
        refine m_call (n := 1) (As := [.int (-2)]) (rest := []) C hP hS hml (metM_no l G h0 ad _ _ _ (-2) r8 hr8) q1483 q1485 qs32 q1486 rfl rfl (by decide +kernel) ⟨Nat.le_of_ble_eq_true rfl, Nat.le_of_ble_eq_true rfl⟩ ⟨Nat.le_refl _, Nat.le_refl _⟩ rfl hl.1 rfl (Nat.le_of_ble_eq_true rfl) dX5_copy_80 (fun H locs hP hS => ?_)
        obtain rfl := Option.some.inj hE
        exact hret _ _ _ _ dX5_copy_83 hP hS
      · have hE := it_f c7 hE
        refine lv_aload_n C.1 C.2.1 dX5_copy_32 rfl (lv_at hl 0 rfl) ?_
        refine ma_18 C hP dX5_copy_33 ?_
        refine lv_iload_n C.1 C.2.1 dX5_copy_36 rfl (lv_at hl 2 rfl) ?_
        obtain ⟨g9, hE⟩ := it_g hE
        refine ml_18 (v := ((A 18) (p2).toNatClampNeg)) C hP (gi_in g9) rfl dX5_copy_37 ?_
        refine lv_iconst (v := 2) C.1 C.2.1 dX5_copy_38 (by decide) ?_
        refine lv_icmp_eq (tgt := 77) C.1 C.2.1 dX5_copy_39 (by decide) (fun c10 => ?_) (fun c10 => ?_)
        · have hE := it_t c10 hE
          refine lv_aload_n C.1 C.2.1 dX5_copy_77 rfl (lv_at hl 0 rfl) ?_
          refine lv_bipush (v := (-2)) C.1 C.2.1 dX5_copy_78 (by decide) ?_
          obtain ⟨r11, hr11, hE⟩ := it_b hE
          refine m_call (n := 1) (As := [.int (-2)]) (rest := []) C hP hS hml (metM_no l G h0 ad _ _ _ (-2) r11 hr11) q1483 q1485 qs32 q1486 rfl rfl (by decide +kernel) ⟨Nat.le_of_ble_eq_true rfl, Nat.le_of_ble_eq_true rfl⟩ ⟨Nat.le_refl _, Nat.le_refl _⟩ rfl hl.1 rfl (Nat.le_of_ble_eq_true rfl) dX5_copy_80 (fun H locs hP hS => ?_)
          obtain rfl := Option.some.inj hE
          exact hret _ _ _ _ dX5_copy_83 hP hS
        · have hE := it_f c10 hE
          refine lv_aload_n C.1 C.2.1 dX5_copy_42 rfl (lv_at hl 0 rfl) ?_
          refine ma_18 C hP dX5_copy_43 ?_
          refine lv_iload_n C.1 C.2.1 dX5_copy_46 rfl (lv_at hl 1 rfl) ?_
          obtain ⟨g12, hE⟩ := it_g hE
          refine ml_18 (v := ((A 18) (p1).toNatClampNeg)) C hP (gi_in g12) rfl dX5_copy_47 ?_
          refine lv_iconst (v := 1) C.1 C.2.1 dX5_copy_48 (by decide) ?_
          refine lv_icmp_ne (tgt := 84) C.1 C.2.1 dX5_copy_49 (by decide) (fun c13 => ?_) (fun c13 => ?_)
          · have hE := it_f c13 hE
            refine lv_aload_n C.1 C.2.1 dX5_copy_84 rfl (lv_at hl 0 rfl) ?_
            refine ma_18 C hP dX5_copy_85 ?_
            refine lv_iload_n C.1 C.2.1 dX5_copy_88 rfl (lv_at hl 1 rfl) ?_
            obtain ⟨g14, hE⟩ := it_g hE
            refine ml_18 (v := ((A 18) (p1).toNatClampNeg)) C hP (gi_in g14) rfl dX5_copy_89 ?_
            refine lv_if_eq (tgt := 102) C.1 C.2.1 dX5_copy_90 (by decide) (fun c15 => ?_) (fun c15 => ?_)
            · have hE := it_t c15 hE
              refine lv_aload_n C.1 C.2.1 dX5_copy_102 rfl (lv_at hl 0 rfl) ?_
              refine lv_bipush (v := (-3)) C.1 C.2.1 dX5_copy_103 (by decide) ?_
              obtain ⟨r16, hr16, hE⟩ := it_b hE
              refine m_call (n := 1) (As := [.int (-3)]) (rest := []) C hP hS hml (metM_no l G h0 ad _ _ _ (-3) r16 hr16) q1483 q1485 qs32 q1486 rfl rfl (by decide +kernel) ⟨Nat.le_of_ble_eq_true rfl, Nat.le_of_ble_eq_true rfl⟩ ⟨Nat.le_refl _, Nat.le_refl _⟩ rfl hl.1 rfl (Nat.le_of_ble_eq_true rfl) dX5_copy_105 (fun H locs hP hS => ?_)
              obtain rfl := Option.some.inj hE
              exact hret _ _ _ _ dX5_copy_108 hP hS
            · have hE := it_f c15 hE
              refine lv_aload_n C.1 C.2.1 dX5_copy_93 rfl (lv_at hl 0 rfl) ?_
              refine ma_18 C hP dX5_copy_94 ?_
              refine lv_iload_n C.1 C.2.1 dX5_copy_97 rfl (lv_at hl 2 rfl) ?_
              obtain ⟨g17, hE⟩ := it_g hE
              refine ml_18 (v := ((A 18) (p2).toNatClampNeg)) C hP (gi_in g17) rfl dX5_copy_98 ?_
              refine lv_if_ne (tgt := 109) C.1 C.2.1 dX5_copy_99 (by decide) (fun c18 => ?_) (fun c18 => ?_)
              · have hE := it_f c18 hE
                refine lv_iload C.1 C.2.1 dX5_copy_109 (lv_at hl 5 rfl) ?_
                refine lv_if_ge (tgt := 121) C.1 C.2.1 dX5_copy_111 (by decide) (fun c19 => ?_) (fun c19 => ?_)
                · have hE := it_t c19 hE
                  refine lv_iload_n C.1 C.2.1 dX5_copy_121 rfl (lv_at hl 3 rfl) ?_
                  refine lv_if_lt (tgt := 157) C.1 C.2.1 dX5_copy_122 (by decide) (fun c20 => ?_) (fun c20 => ?_)
                  · have hE := it_t c20 hE
                    refine lv_aload_n C.1 C.2.1 dX5_copy_157 rfl (lv_at hl 0 rfl) ?_
                    refine lv_bipush (v := (-5)) C.1 C.2.1 dX5_copy_158 (by decide) ?_
                    obtain ⟨r21, hr21, hE⟩ := it_b hE
                    refine m_call (n := 1) (As := [.int (-5)]) (rest := []) C hP hS hml (metM_no l G h0 ad _ _ _ (-5) r21 hr21) q1483 q1485 qs32 q1486 rfl rfl (by decide +kernel) ⟨Nat.le_of_ble_eq_true rfl, Nat.le_of_ble_eq_true rfl⟩ ⟨Nat.le_refl _, Nat.le_refl _⟩ rfl hl.1 rfl (Nat.le_of_ble_eq_true rfl) dX5_copy_160 (fun H locs hP hS => ?_)
                    obtain rfl := Option.some.inj hE
                    exact hret _ _ _ _ dX5_copy_163 hP hS
                  · have hE := it_f c20 hE
                    refine lv_iload C.1 C.2.1 dX5_copy_125 (lv_at hl 4 rfl) ?_
                    refine lv_if_lt (tgt := 157) C.1 C.2.1 dX5_copy_127 (by decide) (fun c22 => ?_) (fun c22 => ?_)
                    · have hE := it_t c22 hE
                      refine lv_aload_n C.1 C.2.1 dX5_copy_157 rfl (lv_at hl 0 rfl) ?_
                      refine lv_bipush (v := (-5)) C.1 C.2.1 dX5_copy_158 (by decide) ?_
                      obtain ⟨r23, hr23, hE⟩ := it_b hE
                      refine m_call (n := 1) (As := [.int (-5)]) (rest := []) C hP hS hml (metM_no l G h0 ad _ _ _ (-5) r23 hr23) q1483 q1485 qs32 q1486 rfl rfl (by decide +kernel) ⟨Nat.le_of_ble_eq_true rfl, Nat.le_of_ble_eq_true rfl⟩ ⟨Nat.le_refl _, Nat.le_refl _⟩ rfl hl.1 rfl (Nat.le_of_ble_eq_true rfl) dX5_copy_160 (fun H locs hP hS => ?_)
                      obtain rfl := Option.some.inj hE
                      exact hret _ _ _ _ dX5_copy_163 hP hS
                    · have hE := it_f c22 hE
                      refine lv_iload_n C.1 C.2.1 dX5_copy_130 rfl (lv_at hl 3 rfl) ?_
                      refine lv_aload_n C.1 C.2.1 dX5_copy_131 rfl (lv_at hl 0 rfl) ?_
                      refine ma_20 C hP dX5_copy_132 ?_
                      refine lv_iload_n C.1 C.2.1 dX5_copy_135 rfl (lv_at hl 1 rfl) ?_
                      obtain ⟨g24, hE⟩ := it_g hE
                      refine ml_20 (v := ((A 20) (p1).toNatClampNeg)) C hP (gi_in g24) rfl dX5_copy_136 ?_
                      refine lv_iload C.1 C.2.1 dX5_copy_137 (lv_at hl 5 rfl) ?_
                      refine lv_isub C.1 C.2.1 dX5_copy_139 ?_
                      refine lv_icmp_gt (tgt := 157) C.1 C.2.1 dX5_copy_140 (by decide) (fun c25 => ?_) (fun c25 => ?_)
                      · have hE := it_t c25 hE
                        refine lv_aload_n C.1 C.2.1 dX5_copy_157 rfl (lv_at hl 0 rfl) ?_
                        refine lv_bipush (v := (-5)) C.1 C.2.1 dX5_copy_158 (by decide) ?_
                        obtain ⟨r26, hr26, hE⟩ := it_b hE
                        refine m_call (n := 1) (As := [.int (-5)]) (rest := []) C hP hS hml (metM_no l G h0 ad _ _ _ (-5) r26 hr26) q1483 q1485 qs32 q1486 rfl rfl (by decide +kernel) ⟨Nat.le_of_ble_eq_true rfl, Nat.le_of_ble_eq_true rfl⟩ ⟨Nat.le_refl _, Nat.le_refl _⟩ rfl hl.1 rfl (Nat.le_of_ble_eq_true rfl) dX5_copy_160 (fun H locs hP hS => ?_)
                        obtain rfl := Option.some.inj hE
                        exact hret _ _ _ _ dX5_copy_163 hP hS
                      · have hE := it_f c25 hE
                        refine lv_iload C.1 C.2.1 dX5_copy_143 (lv_at hl 4 rfl) ?_
                        refine lv_aload_n C.1 C.2.1 dX5_copy_145 rfl (lv_at hl 0 rfl) ?_
                        refine ma_20 C hP dX5_copy_146 ?_
                        refine lv_iload_n C.1 C.2.1 dX5_copy_149 rfl (lv_at hl 2 rfl) ?_
                        obtain ⟨g27, hE⟩ := it_g hE
                        refine ml_20 (v := ((A 20) (p2).toNatClampNeg)) C hP (gi_in g27) rfl dX5_copy_150 ?_
                        refine lv_iload C.1 C.2.1 dX5_copy_151 (lv_at hl 5 rfl) ?_
                        refine lv_isub C.1 C.2.1 dX5_copy_153 ?_
                        refine lv_icmp_le (tgt := 164) C.1 C.2.1 dX5_copy_154 (by decide) (fun c28 => ?_) (fun c28 => ?_)
                        · have hE := it_t c28 hE
                          refine lv_iconst (v := 0) C.1 C.2.1 dX5_copy_164 (by decide) ?_
                          refine lv_istore (lv' := [(6, .int 0), (0, .ref h0), (1, .int p1), (2, .int p2), (3, .int p3), (4, .int p4), (5, .int p5)]) C.1 C.2.1 dX5_copy_165 hl (by decide) rfl (fun ls hl => ?_)
                          obtain ⟨u29, hu29, hE⟩ := it_b hE
                          refine wM_copy_h167 C hml F A L p1 p2 p3 p4 p5 (A 11) (L 22) u29 2000 0 (L 23) H locs ls hu29 hP hS (lv_sub hl [1, 2, 3, 4, 5, 6, 0] rfl) (fun H locs ls hP hS hl => ?_)
                          refine lv_iconst (v := 0) C.1 C.2.1 dX5_copy_202 (by decide) ?_
                          refine lv_istore (lv' := [(6, .int 0), (0, .ref h0), (2, .int p2), (4, .int p4), (5, .int p5)]) C.1 C.2.1 dX5_copy_203 hl (by decide) rfl (fun ls hl => ?_)
                          obtain ⟨u30, hu30, hE⟩ := it_b hE
                          refine wM_copy_h205 C hml F A L p2 p4 p5 (A 11) u29 u30 2000 0 (L 22) H locs ls hu30 hP hS (lv_sub hl [1, 2, 3, 4, 0] rfl) (fun H locs ls hP hS hl => ?_)
                          refine lv_iconst (v := 1) C.1 C.2.1 dX5_copy_241 (by decide) ?_
                          obtain rfl := Option.some.inj hE
                          exact hret _ _ _ _ dX5_copy_242 hP hS
                        · have hE := it_f c28 hE
                          refine lv_aload_n C.1 C.2.1 dX5_copy_157 rfl (lv_at hl 0 rfl) ?_
                          refine lv_bipush (v := (-5)) C.1 C.2.1 dX5_copy_158 (by decide) ?_
                          obtain ⟨r31, hr31, hE⟩ := it_b hE
                          refine m_call (n := 1) (As := [.int (-5)]) (rest := []) C hP hS hml (metM_no l G h0 ad _ _ _ (-5) r31 hr31) q1483 q1485 qs32 q1486 rfl rfl (by decide +kernel) ⟨Nat.le_of_ble_eq_true rfl, Nat.le_of_ble_eq_true rfl⟩ ⟨Nat.le_refl _, Nat.le_refl _⟩ rfl hl.1 rfl (Nat.le_of_ble_eq_true rfl) dX5_copy_160 (fun H locs hP hS => ?_)
                          obtain rfl := Option.some.inj hE
                          exact hret _ _ _ _ dX5_copy_163 hP hS
                · have hE := it_f c19 hE
                  refine lv_aload_n C.1 C.2.1 dX5_copy_114 rfl (lv_at hl 0 rfl) ?_
                  refine lv_bipush (v := (-4)) C.1 C.2.1 dX5_copy_115 (by decide) ?_
                  obtain ⟨r32, hr32, hE⟩ := it_b hE
                  refine m_call (n := 1) (As := [.int (-4)]) (rest := []) C hP hS hml (metM_no l G h0 ad _ _ _ (-4) r32 hr32) q1483 q1485 qs32 q1486 rfl rfl (by decide +kernel) ⟨Nat.le_of_ble_eq_true rfl, Nat.le_of_ble_eq_true rfl⟩ ⟨Nat.le_refl _, Nat.le_refl _⟩ rfl hl.1 rfl (Nat.le_of_ble_eq_true rfl) dX5_copy_117 (fun H locs hP hS => ?_)
                  obtain rfl := Option.some.inj hE
                  exact hret _ _ _ _ dX5_copy_120 hP hS
              · have hE := it_t c18 hE
                refine lv_aload_n C.1 C.2.1 dX5_copy_102 rfl (lv_at hl 0 rfl) ?_
                refine lv_bipush (v := (-3)) C.1 C.2.1 dX5_copy_103 (by decide) ?_
                obtain ⟨r33, hr33, hE⟩ := it_b hE
                refine m_call (n := 1) (As := [.int (-3)]) (rest := []) C hP hS hml (metM_no l G h0 ad _ _ _ (-3) r33 hr33) q1483 q1485 qs32 q1486 rfl rfl (by decide +kernel) ⟨Nat.le_of_ble_eq_true rfl, Nat.le_of_ble_eq_true rfl⟩ ⟨Nat.le_refl _, Nat.le_refl _⟩ rfl hl.1 rfl (Nat.le_of_ble_eq_true rfl) dX5_copy_105 (fun H locs hP hS => ?_)
                obtain rfl := Option.some.inj hE
                exact hret _ _ _ _ dX5_copy_108 hP hS
          · have hE := it_t c13 hE
            refine lv_aload_n C.1 C.2.1 dX5_copy_52 rfl (lv_at hl 0 rfl) ?_
            refine ma_18 C hP dX5_copy_53 ?_
            refine lv_iload_n C.1 C.2.1 dX5_copy_56 rfl (lv_at hl 2 rfl) ?_
            obtain ⟨g34, hE⟩ := it_g hE
            refine ml_18 (v := ((A 18) (p2).toNatClampNeg)) C hP (gi_in g34) rfl dX5_copy_57 ?_
            refine lv_iconst (v := 1) C.1 C.2.1 dX5_copy_58 (by decide) ?_
            obtain ⟨u36, hR, hE⟩ := it_b hE
            have hJ77u36 : u36 = true → ∀ (H : Heap) (locs : List Loc) (ls : Array Slot), mPw G h0 ad F A L H → va_S (mA h0 ad) s.heap H locs → lv_has ls 7 [(0, .ref h0)] → W p l e ({ frames := 1, cells := 0, slots := 0, locals := 21 } : Room) s m args below meth c H locs 0 0 Q (F0 m 77 ls []) := by
              intro hu H locs ls hP hS hl
              have hE := it_t hu hE
              refine lv_aload_n C.1 C.2.1 dX5_copy_77 rfl (lv_at hl 0 rfl) ?_
              refine lv_bipush (v := (-2)) C.1 C.2.1 dX5_copy_78 (by decide) ?_
              obtain ⟨r40, hr40, hE⟩ := it_b hE
              refine m_call (n := 1) (As := [.int (-2)]) (rest := []) C hP hS hml (metM_no l G h0 ad _ _ _ (-2) r40 hr40) q1483 q1485 qs32 q1486 rfl rfl (by decide +kernel) ⟨Nat.le_of_ble_eq_true rfl, Nat.le_of_ble_eq_true rfl⟩ ⟨Nat.le_refl _, Nat.le_refl _⟩ rfl hl.1 rfl (Nat.le_of_ble_eq_true rfl) dX5_copy_80 (fun H locs hP hS => ?_)
              obtain rfl := Option.some.inj hE
              exact hret _ _ _ _ dX5_copy_83 hP hS
            have hJ84u36 : ¬ u36 = true → ∀ (H : Heap) (locs : List Loc) (ls : Array Slot), mPw G h0 ad F A L H → va_S (mA h0 ad) s.heap H locs → lv_has ls 7 [(0, .ref h0), (1, .int p1), (2, .int p2), (3, .int p3), (4, .int p4), (5, .int p5)] → W p l e ({ frames := 1, cells := 0, slots := 0, locals := 21 } : Room) s m args below meth c H locs 0 0 Q (F0 m 84 ls []) := by
              intro hu H locs ls hP hS hl
              have hE := it_f hu hE
              refine lv_aload_n C.1 C.2.1 dX5_copy_84 rfl (lv_at hl 0 rfl) ?_
              refine ma_18 C hP dX5_copy_85 ?_
              refine lv_iload_n C.1 C.2.1 dX5_copy_88 rfl (lv_at hl 1 rfl) ?_
              obtain ⟨g41, hE⟩ := it_g hE
              refine ml_18 (v := ((A 18) (p1).toNatClampNeg)) C hP (gi_in g41) rfl dX5_copy_89 ?_
              refine lv_if_eq (tgt := 102) C.1 C.2.1 dX5_copy_90 (by decide) (fun c42 => ?_) (fun c42 => ?_)
              · have hE := it_t c42 hE
                refine lv_aload_n C.1 C.2.1 dX5_copy_102 rfl (lv_at hl 0 rfl) ?_
                refine lv_bipush (v := (-3)) C.1 C.2.1 dX5_copy_103 (by decide) ?_
                obtain ⟨r43, hr43, hE⟩ := it_b hE
                refine m_call (n := 1) (As := [.int (-3)]) (rest := []) C hP hS hml (metM_no l G h0 ad _ _ _ (-3) r43 hr43) q1483 q1485 qs32 q1486 rfl rfl (by decide +kernel) ⟨Nat.le_of_ble_eq_true rfl, Nat.le_of_ble_eq_true rfl⟩ ⟨Nat.le_refl _, Nat.le_refl _⟩ rfl hl.1 rfl (Nat.le_of_ble_eq_true rfl) dX5_copy_105 (fun H locs hP hS => ?_)
                obtain rfl := Option.some.inj hE
                exact hret _ _ _ _ dX5_copy_108 hP hS
              · have hE := it_f c42 hE
                refine lv_aload_n C.1 C.2.1 dX5_copy_93 rfl (lv_at hl 0 rfl) ?_
                refine ma_18 C hP dX5_copy_94 ?_
                refine lv_iload_n C.1 C.2.1 dX5_copy_97 rfl (lv_at hl 2 rfl) ?_
                obtain ⟨g44, hE⟩ := it_g hE
                refine ml_18 (v := ((A 18) (p2).toNatClampNeg)) C hP (gi_in g44) rfl dX5_copy_98 ?_
                refine lv_if_ne (tgt := 109) C.1 C.2.1 dX5_copy_99 (by decide) (fun c45 => ?_) (fun c45 => ?_)
                · have hE := it_f c45 hE
                  refine lv_iload C.1 C.2.1 dX5_copy_109 (lv_at hl 5 rfl) ?_
                  refine lv_if_ge (tgt := 121) C.1 C.2.1 dX5_copy_111 (by decide) (fun c46 => ?_) (fun c46 => ?_)
                  · have hE := it_t c46 hE
                    refine lv_iload_n C.1 C.2.1 dX5_copy_121 rfl (lv_at hl 3 rfl) ?_
                    refine lv_if_lt (tgt := 157) C.1 C.2.1 dX5_copy_122 (by decide) (fun c47 => ?_) (fun c47 => ?_)
                    · have hE := it_t c47 hE
                      refine lv_aload_n C.1 C.2.1 dX5_copy_157 rfl (lv_at hl 0 rfl) ?_
                      refine lv_bipush (v := (-5)) C.1 C.2.1 dX5_copy_158 (by decide) ?_
                      obtain ⟨r48, hr48, hE⟩ := it_b hE
                      refine m_call (n := 1) (As := [.int (-5)]) (rest := []) C hP hS hml (metM_no l G h0 ad _ _ _ (-5) r48 hr48) q1483 q1485 qs32 q1486 rfl rfl (by decide +kernel) ⟨Nat.le_of_ble_eq_true rfl, Nat.le_of_ble_eq_true rfl⟩ ⟨Nat.le_refl _, Nat.le_refl _⟩ rfl hl.1 rfl (Nat.le_of_ble_eq_true rfl) dX5_copy_160 (fun H locs hP hS => ?_)
                      obtain rfl := Option.some.inj hE
                      exact hret _ _ _ _ dX5_copy_163 hP hS
                    · have hE := it_f c47 hE
                      refine lv_iload C.1 C.2.1 dX5_copy_125 (lv_at hl 4 rfl) ?_
                      refine lv_if_lt (tgt := 157) C.1 C.2.1 dX5_copy_127 (by decide) (fun c49 => ?_) (fun c49 => ?_)
                      · have hE := it_t c49 hE
                        refine lv_aload_n C.1 C.2.1 dX5_copy_157 rfl (lv_at hl 0 rfl) ?_
                        refine lv_bipush (v := (-5)) C.1 C.2.1 dX5_copy_158 (by decide) ?_
                        obtain ⟨r50, hr50, hE⟩ := it_b hE
                        refine m_call (n := 1) (As := [.int (-5)]) (rest := []) C hP hS hml (metM_no l G h0 ad _ _ _ (-5) r50 hr50) q1483 q1485 qs32 q1486 rfl rfl (by decide +kernel) ⟨Nat.le_of_ble_eq_true rfl, Nat.le_of_ble_eq_true rfl⟩ ⟨Nat.le_refl _, Nat.le_refl _⟩ rfl hl.1 rfl (Nat.le_of_ble_eq_true rfl) dX5_copy_160 (fun H locs hP hS => ?_)
                        obtain rfl := Option.some.inj hE
                        exact hret _ _ _ _ dX5_copy_163 hP hS
                      · have hE := it_f c49 hE
                        refine lv_iload_n C.1 C.2.1 dX5_copy_130 rfl (lv_at hl 3 rfl) ?_
                        refine lv_aload_n C.1 C.2.1 dX5_copy_131 rfl (lv_at hl 0 rfl) ?_
                        refine ma_20 C hP dX5_copy_132 ?_
                        refine lv_iload_n C.1 C.2.1 dX5_copy_135 rfl (lv_at hl 1 rfl) ?_
                        obtain ⟨g51, hE⟩ := it_g hE
                        refine ml_20 (v := ((A 20) (p1).toNatClampNeg)) C hP (gi_in g51) rfl dX5_copy_136 ?_
                        refine lv_iload C.1 C.2.1 dX5_copy_137 (lv_at hl 5 rfl) ?_
                        refine lv_isub C.1 C.2.1 dX5_copy_139 ?_
                        refine lv_icmp_gt (tgt := 157) C.1 C.2.1 dX5_copy_140 (by decide) (fun c52 => ?_) (fun c52 => ?_)
                        · have hE := it_t c52 hE
                          refine lv_aload_n C.1 C.2.1 dX5_copy_157 rfl (lv_at hl 0 rfl) ?_
                          refine lv_bipush (v := (-5)) C.1 C.2.1 dX5_copy_158 (by decide) ?_
                          obtain ⟨r53, hr53, hE⟩ := it_b hE
                          refine m_call (n := 1) (As := [.int (-5)]) (rest := []) C hP hS hml (metM_no l G h0 ad _ _ _ (-5) r53 hr53) q1483 q1485 qs32 q1486 rfl rfl (by decide +kernel) ⟨Nat.le_of_ble_eq_true rfl, Nat.le_of_ble_eq_true rfl⟩ ⟨Nat.le_refl _, Nat.le_refl _⟩ rfl hl.1 rfl (Nat.le_of_ble_eq_true rfl) dX5_copy_160 (fun H locs hP hS => ?_)
                          obtain rfl := Option.some.inj hE
                          exact hret _ _ _ _ dX5_copy_163 hP hS
                        · have hE := it_f c52 hE
                          refine lv_iload C.1 C.2.1 dX5_copy_143 (lv_at hl 4 rfl) ?_
                          refine lv_aload_n C.1 C.2.1 dX5_copy_145 rfl (lv_at hl 0 rfl) ?_
                          refine ma_20 C hP dX5_copy_146 ?_
                          refine lv_iload_n C.1 C.2.1 dX5_copy_149 rfl (lv_at hl 2 rfl) ?_
                          obtain ⟨g54, hE⟩ := it_g hE
                          refine ml_20 (v := ((A 20) (p2).toNatClampNeg)) C hP (gi_in g54) rfl dX5_copy_150 ?_
                          refine lv_iload C.1 C.2.1 dX5_copy_151 (lv_at hl 5 rfl) ?_
                          refine lv_isub C.1 C.2.1 dX5_copy_153 ?_
                          refine lv_icmp_le (tgt := 164) C.1 C.2.1 dX5_copy_154 (by decide) (fun c55 => ?_) (fun c55 => ?_)
                          · have hE := it_t c55 hE
                            refine lv_iconst (v := 0) C.1 C.2.1 dX5_copy_164 (by decide) ?_
                            refine lv_istore (lv' := [(6, .int 0), (0, .ref h0), (1, .int p1), (2, .int p2), (3, .int p3), (4, .int p4), (5, .int p5)]) C.1 C.2.1 dX5_copy_165 hl (by decide) rfl (fun ls hl => ?_)
                            obtain ⟨u56, hu56, hE⟩ := it_b hE
                            refine wM_copy_h167 C hml F A L p1 p2 p3 p4 p5 (A 11) (L 22) u56 2000 0 (L 23) H locs ls hu56 hP hS (lv_sub hl [1, 2, 3, 4, 5, 6, 0] rfl) (fun H locs ls hP hS hl => ?_)
                            refine lv_iconst (v := 0) C.1 C.2.1 dX5_copy_202 (by decide) ?_
                            refine lv_istore (lv' := [(6, .int 0), (0, .ref h0), (2, .int p2), (4, .int p4), (5, .int p5)]) C.1 C.2.1 dX5_copy_203 hl (by decide) rfl (fun ls hl => ?_)
                            obtain ⟨u57, hu57, hE⟩ := it_b hE
                            refine wM_copy_h205 C hml F A L p2 p4 p5 (A 11) u56 u57 2000 0 (L 22) H locs ls hu57 hP hS (lv_sub hl [1, 2, 3, 4, 0] rfl) (fun H locs ls hP hS hl => ?_)
                            refine lv_iconst (v := 1) C.1 C.2.1 dX5_copy_241 (by decide) ?_
                            obtain rfl := Option.some.inj hE
                            exact hret _ _ _ _ dX5_copy_242 hP hS
                          · have hE := it_f c55 hE
                            refine lv_aload_n C.1 C.2.1 dX5_copy_157 rfl (lv_at hl 0 rfl) ?_
                            refine lv_bipush (v := (-5)) C.1 C.2.1 dX5_copy_158 (by decide) ?_
                            obtain ⟨r58, hr58, hE⟩ := it_b hE
                            refine m_call (n := 1) (As := [.int (-5)]) (rest := []) C hP hS hml (metM_no l G h0 ad _ _ _ (-5) r58 hr58) q1483 q1485 qs32 q1486 rfl rfl (by decide +kernel) ⟨Nat.le_of_ble_eq_true rfl, Nat.le_of_ble_eq_true rfl⟩ ⟨Nat.le_refl _, Nat.le_refl _⟩ rfl hl.1 rfl (Nat.le_of_ble_eq_true rfl) dX5_copy_160 (fun H locs hP hS => ?_)
                            obtain rfl := Option.some.inj hE
                            exact hret _ _ _ _ dX5_copy_163 hP hS
                  · have hE := it_f c46 hE
                    refine lv_aload_n C.1 C.2.1 dX5_copy_114 rfl (lv_at hl 0 rfl) ?_
                    refine lv_bipush (v := (-4)) C.1 C.2.1 dX5_copy_115 (by decide) ?_
                    obtain ⟨r59, hr59, hE⟩ := it_b hE
                    refine m_call (n := 1) (As := [.int (-4)]) (rest := []) C hP hS hml (metM_no l G h0 ad _ _ _ (-4) r59 hr59) q1483 q1485 qs32 q1486 rfl rfl (by decide +kernel) ⟨Nat.le_of_ble_eq_true rfl, Nat.le_of_ble_eq_true rfl⟩ ⟨Nat.le_refl _, Nat.le_refl _⟩ rfl hl.1 rfl (Nat.le_of_ble_eq_true rfl) dX5_copy_117 (fun H locs hP hS => ?_)
                    obtain rfl := Option.some.inj hE
                    exact hret _ _ _ _ dX5_copy_120 hP hS
                · have hE := it_t c45 hE
                  refine lv_aload_n C.1 C.2.1 dX5_copy_102 rfl (lv_at hl 0 rfl) ?_
                  refine lv_bipush (v := (-3)) C.1 C.2.1 dX5_copy_103 (by decide) ?_
                  obtain ⟨r60, hr60, hE⟩ := it_b hE
                  refine m_call (n := 1) (As := [.int (-3)]) (rest := []) C hP hS hml (metM_no l G h0 ad _ _ _ (-3) r60 hr60) q1483 q1485 qs32 q1486 rfl rfl (by decide +kernel) ⟨Nat.le_of_ble_eq_true rfl, Nat.le_of_ble_eq_true rfl⟩ ⟨Nat.le_refl _, Nat.le_refl _⟩ rfl hl.1 rfl (Nat.le_of_ble_eq_true rfl) dX5_copy_105 (fun H locs hP hS => ?_)
                  obtain rfl := Option.some.inj hE
                  exact hret _ _ _ _ dX5_copy_108 hP hS
            have hE := hR
            refine lv_icmp_ne (tgt := 84) C.1 C.2.1 dX5_copy_59 (by decide) (fun c35 => ?_) (fun c35 => ?_)
            · have hE := it_f c35 hE
              obtain rfl := Option.some.inj hE
              exact hJ84u36 (by decide) H locs ls hP hS (lv_sub hl [0, 1, 2, 3, 4, 5] rfl)
            · have hE := it_t c35 hE
              refine lv_aload_n C.1 C.2.1 dX5_copy_62 rfl (lv_at hl 0 rfl) ?_
              refine ma_19 C hP dX5_copy_63 ?_
              refine lv_iload_n C.1 C.2.1 dX5_copy_66 rfl (lv_at hl 1 rfl) ?_
              obtain ⟨g37, hE⟩ := it_g hE
              refine ml_19 (v := ((A 19) (p1).toNatClampNeg)) C hP (gi_in g37) rfl dX5_copy_67 ?_
              refine lv_aload_n C.1 C.2.1 dX5_copy_68 rfl (lv_at hl 0 rfl) ?_
              refine ma_19 C hP dX5_copy_69 ?_
              refine lv_iload_n C.1 C.2.1 dX5_copy_72 rfl (lv_at hl 2 rfl) ?_
              obtain ⟨g38, hE⟩ := it_g hE
              refine ml_19 (v := ((A 19) (p2).toNatClampNeg)) C hP (gi_in g38) rfl dX5_copy_73 ?_
              refine lv_icmp_eq (tgt := 84) C.1 C.2.1 dX5_copy_74 (by decide) (fun c39 => ?_) (fun c39 => ?_)
              · have hE := it_t c39 hE
                obtain rfl := Option.some.inj hE
                exact hJ84u36 (by decide) H locs ls hP hS (lv_sub hl [0, 1, 2, 3, 4, 5] rfl)
              · have hE := it_f c39 hE
                obtain rfl := Option.some.inj hE
                exact hJ77u36 rfl H locs ls hP hS (lv_sub hl [0] rfl)
    · have hE := it_t c5 hE
      refine lv_aload_n C.1 C.2.1 dX5_copy_16 rfl (lv_at hl 0 rfl) ?_
      refine lv_iconst (v := (-1)) C.1 C.2.1 dX5_copy_17 (by decide) ?_
      obtain ⟨r61, hr61, hE⟩ := it_b hE
      refine m_call (n := 1) (As := [.int (-1)]) (rest := []) C hP hS hml (metM_no l G h0 ad _ _ _ (-1) r61 hr61) q1483 q1485 qs32 q1486 rfl rfl (by decide +kernel) ⟨Nat.le_of_ble_eq_true rfl, Nat.le_of_ble_eq_true rfl⟩ ⟨Nat.le_refl _, Nat.le_refl _⟩ rfl hl.1 rfl (Nat.le_of_ble_eq_true rfl) dX5_copy_18 (fun H locs hP hS => ?_)
      obtain rfl := Option.some.inj hE
      exact hret _ _ _ _ dX5_copy_21 hP hS
def sM_element (a_held : Nat → Int32) (a_size : Nat → Int32) (l_cells : Nat → Int64) (p1 : Int32) (p2 : Int32) : Option (Int64) :=
  (sM_isShelf p1).bind fun r1 =>
  if r1 = 0 then
    some 0
  else
    if gi p1 8 then
    if (a_held (p1).toNatClampNeg) = 1 then
      if p2 < 0 then
        some 0
      else
        if gi p1 8 then
        if (a_size (p1).toNatClampNeg) ≤ p2 then
          some 0
        else
          if gi ((160 * p1) + p2) 1280 then
          some (l_cells (((160 * p1) + p2)).toNatClampNeg)
          else none
        else none
    else
      some 0
    else none
set_option maxHeartbeats 4000000 in
theorem metM_element (l : Launch) (G : kG) (h0 : Nat) (ad : Nat → Nat) (F : Nat → Int32) (A : Nat → Nat → Int32) (L : Nat → Nat → Int64) (p1 : Int32) (p2 : Int32) (res : Int64) (hE : sM_element (A 18) (A 20) (L 22) p1 p2 = some res) : Met l yX5_element (ws_ yX5_element cX5_element 3 (some .long)) ({ frames := 1, cells := 0, slots := 0, locals := 21 } : Room) (mPc G h0 ad F A L [.int p1, .int p2]) (mQc G h0 ad F A L (some (.long res))) 0 0 (mA h0 ad) := by
  refine m_ofW (by decide) rfl (Nat.le_of_ble_eq_true rfl) ?_
  intro p e s m args below meth c ls C hml hP hS hl hr hlocks
  have hl : lv_has ls 3 [(0, .ref h0), (1, .int p1), (2, .int p2)] := hl
  obtain ⟨Q, hQ⟩ : ∃ Q, Q = MQ below (mQc G h0 ad F A L (some (.long res))) args s 0 0 (mA h0 ad) := ⟨_, rfl⟩
  rw [← hQ]
  have hret : ∀ (pc : Nat) (ls : Array Slot) (H : Heap) (locs : List Loc), decode cX5_element pc = .ok (.lreturn, 1) → mPw G h0 ad F A L H → va_S (mA h0 ad) s.heap H locs → W p l e ({ frames := 1, cells := 0, slots := 0, locals := 21 } : Room) s m args below meth c H locs 0 0 Q (F0 m pc ls [.long res]) := by
    intro pc ls H locs hd hP hS
    rw [hQ]
    exact m_lret C hr hlocks hd hP hS
  clear hQ
  obtain ⟨H, hH⟩ : ∃ H, H = s.heap := ⟨_, rfl⟩
  obtain ⟨locs, hlo⟩ : ∃ locs : List Loc, locs = [] := ⟨_, rfl⟩
  have hP : mPw G h0 ad F A L H := by rw [hH]; exact hP
  have hS : va_S (mA h0 ad) s.heap H locs := by rw [hH, hlo]; exact hS
  suffices hZ : W p l e ({ frames := 1, cells := 0, slots := 0, locals := 21 } : Room) s m args below meth c H locs 0 0 Q (F0 m 0 ls []) by rw [hH, hlo] at hZ; exact hZ
  clear hH hlo
  unfold sM_element at hE
  refine lv_aload_n C.1 C.2.1 dX5_element_0 rfl (lv_at hl 0 rfl) ?_
  refine lv_iload_n C.1 C.2.1 dX5_element_1 rfl (lv_at hl 1 rfl) ?_
  obtain ⟨r1, hr1, hE⟩ := it_b hE
  refine m_call (n := 1) (As := [.int p1]) (rest := []) C hP hS hml (metM_isShelf l G h0 ad _ _ _ p1 r1 hr1) q1479 q1481 qs31 q1482 rfl rfl (by decide +kernel) ⟨Nat.le_of_ble_eq_true rfl, Nat.le_of_ble_eq_true rfl⟩ ⟨Nat.le_refl _, Nat.le_refl _⟩ rfl hl.1 rfl (Nat.le_of_ble_eq_true rfl) dX5_element_2 (fun H locs hP hS => ?_)
  refine lv_if_eq (tgt := 47) C.1 C.2.1 dX5_element_5 (by decide) (fun c2 => ?_) (fun c2 => ?_)
  · have hE := it_t c2 hE
    refine lv_lconst (v := 0) C.1 C.2.1 dX5_element_47 (by decide) ?_
    obtain rfl := Option.some.inj hE
    exact hret _ _ _ _ dX5_element_48 hP hS
  · have hE := it_f c2 hE
    refine lv_aload_n C.1 C.2.1 dX5_element_8 rfl (lv_at hl 0 rfl) ?_
    refine ma_18 C hP dX5_element_9 ?_
    refine lv_iload_n C.1 C.2.1 dX5_element_12 rfl (lv_at hl 1 rfl) ?_
    obtain ⟨g3, hE⟩ := it_g hE
    refine ml_18 (v := ((A 18) (p1).toNatClampNeg)) C hP (gi_in g3) rfl dX5_element_13 ?_
    refine lv_iconst (v := 1) C.1 C.2.1 dX5_element_14 (by decide) ?_
    refine lv_icmp_ne (tgt := 47) C.1 C.2.1 dX5_element_15 (by decide) (fun c4 => ?_) (fun c4 => ?_)
    · have hE := it_f c4 hE
      refine lv_lconst (v := 0) C.1 C.2.1 dX5_element_47 (by decide) ?_
      obtain rfl := Option.some.inj hE
      exact hret _ _ _ _ dX5_element_48 hP hS
    · have hE := it_t c4 hE
      refine lv_iload_n C.1 C.2.1 dX5_element_18 rfl (lv_at hl 2 rfl) ?_
      refine lv_if_lt (tgt := 47) C.1 C.2.1 dX5_element_19 (by decide) (fun c5 => ?_) (fun c5 => ?_)
      · have hE := it_t c5 hE
        refine lv_lconst (v := 0) C.1 C.2.1 dX5_element_47 (by decide) ?_
        obtain rfl := Option.some.inj hE
        exact hret _ _ _ _ dX5_element_48 hP hS
      · have hE := it_f c5 hE
        refine lv_iload_n C.1 C.2.1 dX5_element_22 rfl (lv_at hl 2 rfl) ?_
        refine lv_aload_n C.1 C.2.1 dX5_element_23 rfl (lv_at hl 0 rfl) ?_
        refine ma_20 C hP dX5_element_24 ?_
        refine lv_iload_n C.1 C.2.1 dX5_element_27 rfl (lv_at hl 1 rfl) ?_
        obtain ⟨g6, hE⟩ := it_g hE
        refine ml_20 (v := ((A 20) (p1).toNatClampNeg)) C hP (gi_in g6) rfl dX5_element_28 ?_
        refine lv_icmp_ge (tgt := 47) C.1 C.2.1 dX5_element_29 (by decide) (fun c7 => ?_) (fun c7 => ?_)
        · have hE := it_t c7 hE
          refine lv_lconst (v := 0) C.1 C.2.1 dX5_element_47 (by decide) ?_
          obtain rfl := Option.some.inj hE
          exact hret _ _ _ _ dX5_element_48 hP hS
        · have hE := it_f c7 hE
          refine lv_aload_n C.1 C.2.1 dX5_element_32 rfl (lv_at hl 0 rfl) ?_
          refine ma_22 C hP dX5_element_33 ?_
          refine lv_sipush (v := 160) C.1 C.2.1 dX5_element_36 (by decide) ?_
          refine lv_iload_n C.1 C.2.1 dX5_element_39 rfl (lv_at hl 1 rfl) ?_
          refine lv_imul C.1 C.2.1 dX5_element_40 ?_
          refine lv_iload_n C.1 C.2.1 dX5_element_41 rfl (lv_at hl 2 rfl) ?_
          refine lv_iadd C.1 C.2.1 dX5_element_42 ?_
          obtain ⟨g8, hE⟩ := it_g hE
          refine ml_22 (v := ((L 22) (((160 * p1) + p2)).toNatClampNeg)) C hP (gi_in g8) rfl dX5_element_43 ?_
          refine lv_goto (tgt := 48) C.1 C.2.1 dX5_element_44 (by decide) ?_
          obtain rfl := Option.some.inj hE
          exact hret _ _ _ _ dX5_element_48 hP hS
def sM_show (f_many : Int32) (a_refused : Nat → Int32) (a_held : Nat → Int32) (a_shown : Nat → Int32) (p1 : Int32) (p2 : Int32) : Option (Int32 × (Nat → Int32) × (Nat → Int32) × (Nat → Int32)) :=
  (sM_isShelf p1).bind fun r1 =>
  if r1 = 0 then
    (sM_no a_refused (-1)).bind fun r3 =>
    some (r3.1, r3.2, a_held, a_shown)
  else
    if p2 = (-1) then
      @Option.bind (Int32) _ (
        if p2 = (-1) then
          some 0
        else
          some 2) fun u6 =>
      if gi p1 8 then
      if gi p1 8 then
      if p2 = (-1) then
        some (0, a_refused, (upd a_held (p1).toNatClampNeg u6), (upd a_shown (p1).toNatClampNeg p2))
      else
        some (1, a_refused, (upd a_held (p1).toNatClampNeg u6), (upd a_shown (p1).toNatClampNeg p2))
      else none
      else none
    else
      (sM_isHome f_many p2).bind fun r10 =>
      if r10 = 0 then
        (sM_no a_refused (-1)).bind fun r17 =>
        some (r17.1, r17.2, a_held, a_shown)
      else
        @Option.bind (Int32) _ (
          if p2 = (-1) then
            some 0
          else
            some 2) fun u13 =>
        if gi p1 8 then
        if gi p1 8 then
        if p2 = (-1) then
          some (0, a_refused, (upd a_held (p1).toNatClampNeg u13), (upd a_shown (p1).toNatClampNeg p2))
        else
          some (1, a_refused, (upd a_held (p1).toNatClampNeg u13), (upd a_shown (p1).toNatClampNeg p2))
        else none
        else none
set_option maxHeartbeats 4000000 in
theorem metM_show (l : Launch) (G : kG) (h0 : Nat) (ad : Nat → Nat) (F : Nat → Int32) (A : Nat → Nat → Int32) (L : Nat → Nat → Int64) (p1 : Int32) (p2 : Int32) (res : Int32 × (Nat → Int32) × (Nat → Int32) × (Nat → Int32)) (hE : sM_show (F 0) (A 11) (A 18) (A 21) p1 p2 = some res) : Met l yX5_show (ws_ yX5_show cX5_show 3 (some .int)) ({ frames := 1, cells := 0, slots := 0, locals := 21 } : Room) (mPc G h0 ad F A L [.int p1, .int p2]) (mQc G h0 ad F (va_up (va_up (va_up A 11 res.2.1) 18 res.2.2.1) 21 res.2.2.2) L (some (.int res.1))) 0 0 (mA h0 ad) := by
  refine m_ofW (by decide) rfl (Nat.le_of_ble_eq_true rfl) ?_
  intro p e s m args below meth c ls C hml hP hS hl hr hlocks
  have hl : lv_has ls 3 [(0, .ref h0), (1, .int p1), (2, .int p2)] := hl
  obtain ⟨Q, hQ⟩ : ∃ Q, Q = MQ below (mQc G h0 ad F (va_up (va_up (va_up A 11 res.2.1) 18 res.2.2.1) 21 res.2.2.2) L (some (.int res.1))) args s 0 0 (mA h0 ad) := ⟨_, rfl⟩
  rw [← hQ]
  have hret : ∀ (pc : Nat) (ls : Array Slot) (H : Heap) (locs : List Loc), decode cX5_show pc = .ok (.ireturn, 1) → mPw G h0 ad F (va_up (va_up (va_up A 11 res.2.1) 18 res.2.2.1) 21 res.2.2.2) L H → va_S (mA h0 ad) s.heap H locs → W p l e ({ frames := 1, cells := 0, slots := 0, locals := 21 } : Room) s m args below meth c H locs 0 0 Q (F0 m pc ls [.int res.1]) := by
    intro pc ls H locs hd hP hS
    rw [hQ]
    exact m_iret C hr hlocks hd hP hS
  clear hQ
  obtain ⟨H, hH⟩ : ∃ H, H = s.heap := ⟨_, rfl⟩
  obtain ⟨locs, hlo⟩ : ∃ locs : List Loc, locs = [] := ⟨_, rfl⟩
  have hP : mPw G h0 ad F A L H := by rw [hH]; exact hP
  have hS : va_S (mA h0 ad) s.heap H locs := by rw [hH, hlo]; exact hS
  suffices hZ : W p l e ({ frames := 1, cells := 0, slots := 0, locals := 21 } : Room) s m args below meth c H locs 0 0 Q (F0 m 0 ls []) by rw [hH, hlo] at hZ; exact hZ
  clear hH hlo
  unfold sM_show at hE
  refine lv_aload_n C.1 C.2.1 dX5_show_0 rfl (lv_at hl 0 rfl) ?_
  refine lv_iload_n C.1 C.2.1 dX5_show_1 rfl (lv_at hl 1 rfl) ?_
  obtain ⟨r1, hr1, hE⟩ := it_b hE
  refine m_call (n := 1) (As := [.int p1]) (rest := []) C hP hS hml (metM_isShelf l G h0 ad _ _ _ p1 r1 hr1) q1479 q1481 qs31 q1482 rfl rfl (by decide +kernel) ⟨Nat.le_of_ble_eq_true rfl, Nat.le_of_ble_eq_true rfl⟩ ⟨Nat.le_refl _, Nat.le_refl _⟩ rfl hl.1 rfl (Nat.le_of_ble_eq_true rfl) dX5_show_2 (fun H locs hP hS => ?_)
  refine lv_if_eq (tgt := 21) C.1 C.2.1 dX5_show_5 (by decide) (fun c2 => ?_) (fun c2 => ?_)
  · have hE := it_t c2 hE
    refine lv_aload_n C.1 C.2.1 dX5_show_21 rfl (lv_at hl 0 rfl) ?_
    refine lv_iconst (v := (-1)) C.1 C.2.1 dX5_show_22 (by decide) ?_
    obtain ⟨r3, hr3, hE⟩ := it_b hE
    refine m_call (n := 1) (As := [.int (-1)]) (rest := []) C hP hS hml (metM_no l G h0 ad _ _ _ (-1) r3 hr3) q1483 q1485 qs32 q1486 rfl rfl (by decide +kernel) ⟨Nat.le_of_ble_eq_true rfl, Nat.le_of_ble_eq_true rfl⟩ ⟨Nat.le_refl _, Nat.le_refl _⟩ rfl hl.1 rfl (Nat.le_of_ble_eq_true rfl) dX5_show_23 (fun H locs hP hS => ?_)
    obtain rfl := Option.some.inj hE
    exact hret _ _ _ _ dX5_show_26 hP hS
  · have hE := it_f c2 hE
    refine lv_iload_n C.1 C.2.1 dX5_show_8 rfl (lv_at hl 2 rfl) ?_
    refine lv_iconst (v := (-1)) C.1 C.2.1 dX5_show_9 (by decide) ?_
    refine lv_icmp_eq (tgt := 27) C.1 C.2.1 dX5_show_10 (by decide) (fun c4 => ?_) (fun c4 => ?_)
    · have hE := it_t c4 hE
      refine lv_aload_n C.1 C.2.1 dX5_show_27 rfl (lv_at hl 0 rfl) ?_
      refine ma_18 C hP dX5_show_28 ?_
      refine lv_iload_n C.1 C.2.1 dX5_show_31 rfl (lv_at hl 1 rfl) ?_
      refine lv_iload_n C.1 C.2.1 dX5_show_32 rfl (lv_at hl 2 rfl) ?_
      refine lv_iconst (v := (-1)) C.1 C.2.1 dX5_show_33 (by decide) ?_
      obtain ⟨u6, hR, hE⟩ := it_b hE
      have hJ42u6 : ∀ (H : Heap) (locs : List Loc) (ls : Array Slot), mPw G h0 ad F A L H → va_S (mA h0 ad) s.heap H locs → lv_has ls 3 [(0, .ref h0), (1, .int p1), (2, .int p2)] → W p l e ({ frames := 1, cells := 0, slots := 0, locals := 21 } : Room) s m args below meth c H locs 0 0 Q (F0 m 42 ls [.int u6, .int p1, .ref (ad 18)]) := by
        intro H locs ls hP hS hl
        obtain ⟨g7, hE⟩ := it_g hE
        refine ms_18 (a := (A 18)) C hP hS (gi_in g7) rfl dX5_show_42 (fun H locs hP hS => ?_)
        refine lv_aload_n C.1 C.2.1 dX5_show_43 rfl (lv_at hl 0 rfl) ?_
        refine ma_21 C hP dX5_show_44 ?_
        refine lv_iload_n C.1 C.2.1 dX5_show_47 rfl (lv_at hl 1 rfl) ?_
        refine lv_iload_n C.1 C.2.1 dX5_show_48 rfl (lv_at hl 2 rfl) ?_
        obtain ⟨g8, hE⟩ := it_g hE
        refine ms_21 (a := (A 21)) C hP hS (gi_in g8) rfl dX5_show_49 (fun H locs hP hS => ?_)
        refine lv_iload_n C.1 C.2.1 dX5_show_50 rfl (lv_at hl 2 rfl) ?_
        refine lv_iconst (v := (-1)) C.1 C.2.1 dX5_show_51 (by decide) ?_
        refine lv_icmp_ne (tgt := 59) C.1 C.2.1 dX5_show_52 (by decide) (fun c9 => ?_) (fun c9 => ?_)
        · have hE := it_f c9 hE
          refine lv_iconst (v := 1) C.1 C.2.1 dX5_show_59 (by decide) ?_
          obtain rfl := Option.some.inj hE
          exact hret _ _ _ _ dX5_show_60 hP hS
        · have hE := it_t c9 hE
          refine lv_iconst (v := 0) C.1 C.2.1 dX5_show_55 (by decide) ?_
          refine lv_goto (tgt := 60) C.1 C.2.1 dX5_show_56 (by decide) ?_
          obtain rfl := Option.some.inj hE
          exact hret _ _ _ _ dX5_show_60 hP hS
      have hE := hR
      refine lv_icmp_ne (tgt := 41) C.1 C.2.1 dX5_show_34 (by decide) (fun c5 => ?_) (fun c5 => ?_)
      · have hE := it_f c5 hE
        refine lv_iconst (v := 2) C.1 C.2.1 dX5_show_41 (by decide) ?_
        obtain rfl := Option.some.inj hE
        exact hJ42u6 H locs ls hP hS (lv_sub hl [0, 1, 2] rfl)
      · have hE := it_t c5 hE
        refine lv_iconst (v := 0) C.1 C.2.1 dX5_show_37 (by decide) ?_
        refine lv_goto (tgt := 42) C.1 C.2.1 dX5_show_38 (by decide) ?_
        obtain rfl := Option.some.inj hE
        exact hJ42u6 H locs ls hP hS (lv_sub hl [0, 1, 2] rfl)
    · have hE := it_f c4 hE
      refine lv_aload_n C.1 C.2.1 dX5_show_13 rfl (lv_at hl 0 rfl) ?_
      refine lv_iload_n C.1 C.2.1 dX5_show_14 rfl (lv_at hl 2 rfl) ?_
      obtain ⟨r10, hr10, hE⟩ := it_b hE
      refine m_call (n := 1) (As := [.int p2]) (rest := []) C hP hS hml (metM_isHome l G h0 ad _ _ _ p2 r10 hr10) q1503 q1505 qs33 q1506 rfl rfl (by decide +kernel) ⟨Nat.le_of_ble_eq_true rfl, Nat.le_of_ble_eq_true rfl⟩ ⟨Nat.le_refl _, Nat.le_refl _⟩ rfl hl.1 rfl (Nat.le_of_ble_eq_true rfl) dX5_show_15 (fun H locs hP hS => ?_)
      refine lv_if_ne (tgt := 27) C.1 C.2.1 dX5_show_18 (by decide) (fun c11 => ?_) (fun c11 => ?_)
      · have hE := it_f c11 hE
        refine lv_aload_n C.1 C.2.1 dX5_show_27 rfl (lv_at hl 0 rfl) ?_
        refine ma_18 C hP dX5_show_28 ?_
        refine lv_iload_n C.1 C.2.1 dX5_show_31 rfl (lv_at hl 1 rfl) ?_
        refine lv_iload_n C.1 C.2.1 dX5_show_32 rfl (lv_at hl 2 rfl) ?_
        refine lv_iconst (v := (-1)) C.1 C.2.1 dX5_show_33 (by decide) ?_
        obtain ⟨u13, hR, hE⟩ := it_b hE
        have hJ42u13 : ∀ (H : Heap) (locs : List Loc) (ls : Array Slot), mPw G h0 ad F A L H → va_S (mA h0 ad) s.heap H locs → lv_has ls 3 [(0, .ref h0), (1, .int p1), (2, .int p2)] → W p l e ({ frames := 1, cells := 0, slots := 0, locals := 21 } : Room) s m args below meth c H locs 0 0 Q (F0 m 42 ls [.int u13, .int p1, .ref (ad 18)]) := by
          intro H locs ls hP hS hl
          obtain ⟨g14, hE⟩ := it_g hE
          refine ms_18 (a := (A 18)) C hP hS (gi_in g14) rfl dX5_show_42 (fun H locs hP hS => ?_)
          refine lv_aload_n C.1 C.2.1 dX5_show_43 rfl (lv_at hl 0 rfl) ?_
          refine ma_21 C hP dX5_show_44 ?_
          refine lv_iload_n C.1 C.2.1 dX5_show_47 rfl (lv_at hl 1 rfl) ?_
          refine lv_iload_n C.1 C.2.1 dX5_show_48 rfl (lv_at hl 2 rfl) ?_
          obtain ⟨g15, hE⟩ := it_g hE
          refine ms_21 (a := (A 21)) C hP hS (gi_in g15) rfl dX5_show_49 (fun H locs hP hS => ?_)
          refine lv_iload_n C.1 C.2.1 dX5_show_50 rfl (lv_at hl 2 rfl) ?_
          refine lv_iconst (v := (-1)) C.1 C.2.1 dX5_show_51 (by decide) ?_
          refine lv_icmp_ne (tgt := 59) C.1 C.2.1 dX5_show_52 (by decide) (fun c16 => ?_) (fun c16 => ?_)
          · have hE := it_f c16 hE
            refine lv_iconst (v := 1) C.1 C.2.1 dX5_show_59 (by decide) ?_
            obtain rfl := Option.some.inj hE
            exact hret _ _ _ _ dX5_show_60 hP hS
          · have hE := it_t c16 hE
            refine lv_iconst (v := 0) C.1 C.2.1 dX5_show_55 (by decide) ?_
            refine lv_goto (tgt := 60) C.1 C.2.1 dX5_show_56 (by decide) ?_
            obtain rfl := Option.some.inj hE
            exact hret _ _ _ _ dX5_show_60 hP hS
        have hE := hR
        refine lv_icmp_ne (tgt := 41) C.1 C.2.1 dX5_show_34 (by decide) (fun c12 => ?_) (fun c12 => ?_)
        · have hE := it_f c12 hE
          refine lv_iconst (v := 2) C.1 C.2.1 dX5_show_41 (by decide) ?_
          obtain rfl := Option.some.inj hE
          exact hJ42u13 H locs ls hP hS (lv_sub hl [0, 1, 2] rfl)
        · have hE := it_t c12 hE
          refine lv_iconst (v := 0) C.1 C.2.1 dX5_show_37 (by decide) ?_
          refine lv_goto (tgt := 42) C.1 C.2.1 dX5_show_38 (by decide) ?_
          obtain rfl := Option.some.inj hE
          exact hJ42u13 H locs ls hP hS (lv_sub hl [0, 1, 2] rfl)
      · have hE := it_t c11 hE
        refine lv_aload_n C.1 C.2.1 dX5_show_21 rfl (lv_at hl 0 rfl) ?_
        refine lv_iconst (v := (-1)) C.1 C.2.1 dX5_show_22 (by decide) ?_
        obtain ⟨r17, hr17, hE⟩ := it_b hE
        refine m_call (n := 1) (As := [.int (-1)]) (rest := []) C hP hS hml (metM_no l G h0 ad _ _ _ (-1) r17 hr17) q1483 q1485 qs32 q1486 rfl rfl (by decide +kernel) ⟨Nat.le_of_ble_eq_true rfl, Nat.le_of_ble_eq_true rfl⟩ ⟨Nat.le_refl _, Nat.le_refl _⟩ rfl hl.1 rfl (Nat.le_of_ble_eq_true rfl) dX5_show_23 (fun H locs hP hS => ?_)
        obtain rfl := Option.some.inj hE
        exact hret _ _ _ _ dX5_show_26 hP hS
def sM_holds (a_held : Nat → Int32) (a_sort : Nat → Int32) (a_shown : Nat → Int32) (p1 : Int32) : Option (Int32) :=
  (sM_isShelf p1).bind fun r1 =>
  if r1 = 0 then
    some (-1)
  else
    if gi p1 8 then
    if (a_held (p1).toNatClampNeg) = 0 then
      some (-1)
    else
      if gi p1 8 then
      if (a_held (p1).toNatClampNeg) = 1 then
        if gi p1 8 then
        some (100 + (a_sort (p1).toNatClampNeg))
        else none
      else
        if gi p1 8 then
        some (a_shown (p1).toNatClampNeg)
        else none
      else none
    else none
set_option maxHeartbeats 4000000 in
theorem metM_holds (l : Launch) (G : kG) (h0 : Nat) (ad : Nat → Nat) (F : Nat → Int32) (A : Nat → Nat → Int32) (L : Nat → Nat → Int64) (p1 : Int32) (res : Int32) (hE : sM_holds (A 18) (A 19) (A 21) p1 = some res) : Met l yX5_holds (ws_ yX5_holds cX5_holds 2 (some .int)) ({ frames := 1, cells := 0, slots := 0, locals := 21 } : Room) (mPc G h0 ad F A L [.int p1]) (mQc G h0 ad F A L (some (.int res))) 0 0 (mA h0 ad) := by
  refine m_ofW (by decide) rfl (Nat.le_of_ble_eq_true rfl) ?_
  intro p e s m args below meth c ls C hml hP hS hl hr hlocks
  have hl : lv_has ls 2 [(0, .ref h0), (1, .int p1)] := hl
  obtain ⟨Q, hQ⟩ : ∃ Q, Q = MQ below (mQc G h0 ad F A L (some (.int res))) args s 0 0 (mA h0 ad) := ⟨_, rfl⟩
  rw [← hQ]
  have hret : ∀ (pc : Nat) (ls : Array Slot) (H : Heap) (locs : List Loc), decode cX5_holds pc = .ok (.ireturn, 1) → mPw G h0 ad F A L H → va_S (mA h0 ad) s.heap H locs → W p l e ({ frames := 1, cells := 0, slots := 0, locals := 21 } : Room) s m args below meth c H locs 0 0 Q (F0 m pc ls [.int res]) := by
    intro pc ls H locs hd hP hS
    rw [hQ]
    exact m_iret C hr hlocks hd hP hS
  clear hQ
  obtain ⟨H, hH⟩ : ∃ H, H = s.heap := ⟨_, rfl⟩
  obtain ⟨locs, hlo⟩ : ∃ locs : List Loc, locs = [] := ⟨_, rfl⟩
  have hP : mPw G h0 ad F A L H := by rw [hH]; exact hP
  have hS : va_S (mA h0 ad) s.heap H locs := by rw [hH, hlo]; exact hS
  suffices hZ : W p l e ({ frames := 1, cells := 0, slots := 0, locals := 21 } : Room) s m args below meth c H locs 0 0 Q (F0 m 0 ls []) by rw [hH, hlo] at hZ; exact hZ
  clear hH hlo
  unfold sM_holds at hE
  refine lv_aload_n C.1 C.2.1 dX5_holds_0 rfl (lv_at hl 0 rfl) ?_
  refine lv_iload_n C.1 C.2.1 dX5_holds_1 rfl (lv_at hl 1 rfl) ?_
  obtain ⟨r1, hr1, hE⟩ := it_b hE
  refine m_call (n := 1) (As := [.int p1]) (rest := []) C hP hS hml (metM_isShelf l G h0 ad _ _ _ p1 r1 hr1) q1479 q1481 qs31 q1482 rfl rfl (by decide +kernel) ⟨Nat.le_of_ble_eq_true rfl, Nat.le_of_ble_eq_true rfl⟩ ⟨Nat.le_refl _, Nat.le_refl _⟩ rfl hl.1 rfl (Nat.le_of_ble_eq_true rfl) dX5_holds_2 (fun H locs hP hS => ?_)
  refine lv_if_eq (tgt := 17) C.1 C.2.1 dX5_holds_5 (by decide) (fun c2 => ?_) (fun c2 => ?_)
  · have hE := it_t c2 hE
    refine lv_iconst (v := (-1)) C.1 C.2.1 dX5_holds_17 (by decide) ?_
    obtain rfl := Option.some.inj hE
    exact hret _ _ _ _ dX5_holds_18 hP hS
  · have hE := it_f c2 hE
    refine lv_aload_n C.1 C.2.1 dX5_holds_8 rfl (lv_at hl 0 rfl) ?_
    refine ma_18 C hP dX5_holds_9 ?_
    refine lv_iload_n C.1 C.2.1 dX5_holds_12 rfl (lv_at hl 1 rfl) ?_
    obtain ⟨g3, hE⟩ := it_g hE
    refine ml_18 (v := ((A 18) (p1).toNatClampNeg)) C hP (gi_in g3) rfl dX5_holds_13 ?_
    refine lv_if_ne (tgt := 19) C.1 C.2.1 dX5_holds_14 (by decide) (fun c4 => ?_) (fun c4 => ?_)
    · have hE := it_f c4 hE
      refine lv_aload_n C.1 C.2.1 dX5_holds_19 rfl (lv_at hl 0 rfl) ?_
      refine ma_18 C hP dX5_holds_20 ?_
      refine lv_iload_n C.1 C.2.1 dX5_holds_23 rfl (lv_at hl 1 rfl) ?_
      obtain ⟨g5, hE⟩ := it_g hE
      refine ml_18 (v := ((A 18) (p1).toNatClampNeg)) C hP (gi_in g5) rfl dX5_holds_24 ?_
      refine lv_iconst (v := 1) C.1 C.2.1 dX5_holds_25 (by decide) ?_
      refine lv_icmp_ne (tgt := 41) C.1 C.2.1 dX5_holds_26 (by decide) (fun c6 => ?_) (fun c6 => ?_)
      · have hE := it_f c6 hE
        refine lv_aload_n C.1 C.2.1 dX5_holds_41 rfl (lv_at hl 0 rfl) ?_
        refine ma_21 C hP dX5_holds_42 ?_
        refine lv_iload_n C.1 C.2.1 dX5_holds_45 rfl (lv_at hl 1 rfl) ?_
        obtain ⟨g7, hE⟩ := it_g hE
        refine ml_21 (v := ((A 21) (p1).toNatClampNeg)) C hP (gi_in g7) rfl dX5_holds_46 ?_
        obtain rfl := Option.some.inj hE
        exact hret _ _ _ _ dX5_holds_47 hP hS
      · have hE := it_t c6 hE
        refine lv_bipush (v := 100) C.1 C.2.1 dX5_holds_29 (by decide) ?_
        refine lv_aload_n C.1 C.2.1 dX5_holds_31 rfl (lv_at hl 0 rfl) ?_
        refine ma_19 C hP dX5_holds_32 ?_
        refine lv_iload_n C.1 C.2.1 dX5_holds_35 rfl (lv_at hl 1 rfl) ?_
        obtain ⟨g8, hE⟩ := it_g hE
        refine ml_19 (v := ((A 19) (p1).toNatClampNeg)) C hP (gi_in g8) rfl dX5_holds_36 ?_
        refine lv_iadd C.1 C.2.1 dX5_holds_37 ?_
        refine lv_goto (tgt := 47) C.1 C.2.1 dX5_holds_38 (by decide) ?_
        obtain rfl := Option.some.inj hE
        exact hret _ _ _ _ dX5_holds_47 hP hS
    · have hE := it_t c4 hE
      refine lv_iconst (v := (-1)) C.1 C.2.1 dX5_holds_17 (by decide) ?_
      obtain rfl := Option.some.inj hE
      exact hret _ _ _ _ dX5_holds_18 hP hS
def sM_says (a_refused : Nat → Int32) (a_kind : Nat → Int32) (a_part : Nat → Int32) (a_had : Nat → Int32) (a_held : Nat → Int32) (a_shown : Nat → Int32) (p1 : Int32) (p2 : Int32) : Option (Int32 × (Nat → Int32)) :=
  (sM_isShelf p1).bind fun r1 =>
  if r1 = 0 then
    (sM_no a_refused (-1)).bind fun r3 =>
    some (r3.1, r3.2)
  else
    if p2 < 0 then
      (sM_no a_refused (-1)).bind fun r5 =>
      some (r5.1, r5.2)
    else
      if p2 ≤ 6 then
        if gi p1 8 then
        if (a_held (p1).toNatClampNeg) = 1 then
          (sM_no a_refused (-2)).bind fun r64 =>
          some (r64.1, r64.2)
        else
          if gi p1 8 then
          if (a_held (p1).toNatClampNeg) = 0 then
            (sM_no a_refused (-3)).bind fun r63 =>
            some (r63.1, r63.2)
          else
            if gi p1 8 then
            if gi (a_shown (p1).toNatClampNeg) 8 then
            if gi (a_shown (p1).toNatClampNeg) 8 then
            @Option.bind (Bool) _ (
              if p2 = 1 then
                if (a_kind ((a_shown (p1).toNatClampNeg)).toNatClampNeg) = 3 then
                  some true
                else
                  if p2 = 2 then
                    if (a_kind ((a_shown (p1).toNatClampNeg)).toNatClampNeg) = 5 then
                      some true
                    else
                      if p2 = 4 then
                        if (a_kind ((a_shown (p1).toNatClampNeg)).toNatClampNeg) = 6 then
                          some true
                        else
                          some false
                      else
                        some false
                  else
                    if p2 = 4 then
                      if (a_kind ((a_shown (p1).toNatClampNeg)).toNatClampNeg) = 6 then
                        some true
                      else
                        some false
                    else
                      some false
              else
                if p2 = 2 then
                  if (a_kind ((a_shown (p1).toNatClampNeg)).toNatClampNeg) = 5 then
                    some true
                  else
                    if p2 = 4 then
                      if (a_kind ((a_shown (p1).toNatClampNeg)).toNatClampNeg) = 6 then
                        some true
                      else
                        some false
                    else
                      some false
                else
                  if p2 = 4 then
                    if (a_kind ((a_shown (p1).toNatClampNeg)).toNatClampNeg) = 6 then
                      some true
                    else
                      some false
                  else
                    some false) fun u15 =>
            if u15 = true then
              @Option.bind (Bool) _ (
                if p2 = 0 then
                  some false
                else
                  if p2 = (a_kind ((a_shown (p1).toNatClampNeg)).toNatClampNeg) then
                    some false
                  else
                    some false) fun u30 =>
              if u30 = true then
                (sM_no a_refused (-2)).bind fun r33 =>
                some (r33.1, r33.2)
              else
                if p2 = 0 then
                  if gi (a_shown (p1).toNatClampNeg) 8 then
                  some ((a_had ((a_shown (p1).toNatClampNeg)).toNatClampNeg), a_refused)
                  else none
                else
                if p2 = 1 then
                  if (a_kind ((a_shown (p1).toNatClampNeg)).toNatClampNeg) = 1 then
                    some ((a_part ((a_shown (p1).toNatClampNeg)).toNatClampNeg), a_refused)
                  else
                    some (((2 * (a_part ((a_shown (p1).toNatClampNeg)).toNatClampNeg)) + 3), a_refused)
                else
                if p2 = 2 then
                  if (a_kind ((a_shown (p1).toNatClampNeg)).toNatClampNeg) = 2 then
                    some ((20 + (a_part ((a_shown (p1).toNatClampNeg)).toNatClampNeg)), a_refused)
                  else
                    some ((40 + (2 * (a_part ((a_shown (p1).toNatClampNeg)).toNatClampNeg))), a_refused)
                else
                if p2 = 3 then
                  if (a_kind ((a_shown (p1).toNatClampNeg)).toNatClampNeg) = 1 then
                    some ((a_part ((a_shown (p1).toNatClampNeg)).toNatClampNeg), a_refused)
                  else
                    some (((2 * (a_part ((a_shown (p1).toNatClampNeg)).toNatClampNeg)) + 3), a_refused)
                else
                if p2 = 5 then
                  if (a_kind ((a_shown (p1).toNatClampNeg)).toNatClampNeg) = 2 then
                    some ((20 + (a_part ((a_shown (p1).toNatClampNeg)).toNatClampNeg)), a_refused)
                  else
                    some ((40 + (2 * (a_part ((a_shown (p1).toNatClampNeg)).toNatClampNeg))), a_refused)
                else
                if (a_kind ((a_shown (p1).toNatClampNeg)).toNatClampNeg) = 4 then
                  some ((2 * (a_part ((a_shown (p1).toNatClampNeg)).toNatClampNeg)), a_refused)
                else
                  some (((2 * (a_part ((a_shown (p1).toNatClampNeg)).toNatClampNeg)) + 10), a_refused)
            else
              @Option.bind (Bool) _ (
                if p2 = 0 then
                  some false
                else
                  if p2 = (a_kind ((a_shown (p1).toNatClampNeg)).toNatClampNeg) then
                    some false
                  else
                    some true) fun u47 =>
              if u47 = true then
                (sM_no a_refused (-2)).bind fun r50 =>
                some (r50.1, r50.2)
              else
                if p2 = 0 then
                  if gi (a_shown (p1).toNatClampNeg) 8 then
                  some ((a_had ((a_shown (p1).toNatClampNeg)).toNatClampNeg), a_refused)
                  else none
                else
                if p2 = 1 then
                  if (a_kind ((a_shown (p1).toNatClampNeg)).toNatClampNeg) = 1 then
                    some ((a_part ((a_shown (p1).toNatClampNeg)).toNatClampNeg), a_refused)
                  else
                    some (((2 * (a_part ((a_shown (p1).toNatClampNeg)).toNatClampNeg)) + 3), a_refused)
                else
                if p2 = 2 then
                  if (a_kind ((a_shown (p1).toNatClampNeg)).toNatClampNeg) = 2 then
                    some ((20 + (a_part ((a_shown (p1).toNatClampNeg)).toNatClampNeg)), a_refused)
                  else
                    some ((40 + (2 * (a_part ((a_shown (p1).toNatClampNeg)).toNatClampNeg))), a_refused)
                else
                if p2 = 3 then
                  if (a_kind ((a_shown (p1).toNatClampNeg)).toNatClampNeg) = 1 then
                    some ((a_part ((a_shown (p1).toNatClampNeg)).toNatClampNeg), a_refused)
                  else
                    some (((2 * (a_part ((a_shown (p1).toNatClampNeg)).toNatClampNeg)) + 3), a_refused)
                else
                if p2 = 5 then
                  if (a_kind ((a_shown (p1).toNatClampNeg)).toNatClampNeg) = 2 then
                    some ((20 + (a_part ((a_shown (p1).toNatClampNeg)).toNatClampNeg)), a_refused)
                  else
                    some ((40 + (2 * (a_part ((a_shown (p1).toNatClampNeg)).toNatClampNeg))), a_refused)
                else
                if (a_kind ((a_shown (p1).toNatClampNeg)).toNatClampNeg) = 4 then
                  some ((2 * (a_part ((a_shown (p1).toNatClampNeg)).toNatClampNeg)), a_refused)
                else
                  some (((2 * (a_part ((a_shown (p1).toNatClampNeg)).toNatClampNeg)) + 10), a_refused)
            else none
            else none
            else none
          else none
        else none
      else
        (sM_no a_refused (-1)).bind fun r65 =>
        some (r65.1, r65.2)
set_option maxHeartbeats 4000000 in
theorem metM_says (l : Launch) (G : kG) (h0 : Nat) (ad : Nat → Nat) (F : Nat → Int32) (A : Nat → Nat → Int32) (L : Nat → Nat → Int64) (p1 : Int32) (p2 : Int32) (res : Int32 × (Nat → Int32)) (hE : sM_says (A 11) (A 12) (A 13) (A 16) (A 18) (A 21) p1 p2 = some res) : Met l yX5_says (ws_ yX5_says cX5_says 7 (some .int)) ({ frames := 1, cells := 0, slots := 0, locals := 21 } : Room) (mPc G h0 ad F A L [.int p1, .int p2]) (mQc G h0 ad F (va_up A 11 res.2) L (some (.int res.1))) 0 0 (mA h0 ad) := by
  refine m_ofW (by decide) rfl (Nat.le_of_ble_eq_true rfl) ?_
  intro p e s m args below meth c ls C hml hP hS hl hr hlocks
  have hl : lv_has ls 7 [(0, .ref h0), (1, .int p1), (2, .int p2)] := hl
  obtain ⟨Q, hQ⟩ : ∃ Q, Q = MQ below (mQc G h0 ad F (va_up A 11 res.2) L (some (.int res.1))) args s 0 0 (mA h0 ad) := ⟨_, rfl⟩
  rw [← hQ]
  have hret : ∀ (pc : Nat) (ls : Array Slot) (H : Heap) (locs : List Loc), decode cX5_says pc = .ok (.ireturn, 1) → mPw G h0 ad F (va_up A 11 res.2) L H → va_S (mA h0 ad) s.heap H locs → W p l e ({ frames := 1, cells := 0, slots := 0, locals := 21 } : Room) s m args below meth c H locs 0 0 Q (F0 m pc ls [.int res.1]) := by
    intro pc ls H locs hd hP hS
    rw [hQ]
    exact m_iret C hr hlocks hd hP hS
  clear hQ
  obtain ⟨H, hH⟩ : ∃ H, H = s.heap := ⟨_, rfl⟩
  obtain ⟨locs, hlo⟩ : ∃ locs : List Loc, locs = [] := ⟨_, rfl⟩
  have hP : mPw G h0 ad F A L H := by rw [hH]; exact hP
  have hS : va_S (mA h0 ad) s.heap H locs := by rw [hH, hlo]; exact hS
  suffices hZ : W p l e ({ frames := 1, cells := 0, slots := 0, locals := 21 } : Room) s m args below meth c H locs 0 0 Q (F0 m 0 ls []) by rw [hH, hlo] at hZ; exact hZ
  clear hH hlo
  unfold sM_says at hE
  refine lv_aload_n C.1 C.2.1 dX5_says_0 rfl (lv_at hl 0 rfl) ?_
  refine lv_iload_n C.1 C.2.1 dX5_says_1 rfl (lv_at hl 1 rfl) ?_
  obtain ⟨r1, hr1, hE⟩ := it_b hE
  refine m_call (n := 1) (As := [.int p1]) (rest := []) C hP hS hml (metM_isShelf l G h0 ad _ _ _ p1 r1 hr1) q1479 q1481 qs31 q1482 rfl rfl (by decide +kernel) ⟨Nat.le_of_ble_eq_true rfl, Nat.le_of_ble_eq_true rfl⟩ ⟨Nat.le_refl _, Nat.le_refl _⟩ rfl hl.1 rfl (Nat.le_of_ble_eq_true rfl) dX5_says_2 (fun H locs hP hS => ?_)
  refine lv_if_eq (tgt := 18) C.1 C.2.1 dX5_says_5 (by decide) (fun c2 => ?_) (fun c2 => ?_)
  · have hE := it_t c2 hE
    refine lv_aload_n C.1 C.2.1 dX5_says_18 rfl (lv_at hl 0 rfl) ?_
    refine lv_iconst (v := (-1)) C.1 C.2.1 dX5_says_19 (by decide) ?_
    obtain ⟨r3, hr3, hE⟩ := it_b hE
    refine m_call (n := 1) (As := [.int (-1)]) (rest := []) C hP hS hml (metM_no l G h0 ad _ _ _ (-1) r3 hr3) q1483 q1485 qs32 q1486 rfl rfl (by decide +kernel) ⟨Nat.le_of_ble_eq_true rfl, Nat.le_of_ble_eq_true rfl⟩ ⟨Nat.le_refl _, Nat.le_refl _⟩ rfl hl.1 rfl (Nat.le_of_ble_eq_true rfl) dX5_says_20 (fun H locs hP hS => ?_)
    obtain rfl := Option.some.inj hE
    exact hret _ _ _ _ dX5_says_23 hP hS
  · have hE := it_f c2 hE
    refine lv_iload_n C.1 C.2.1 dX5_says_8 rfl (lv_at hl 2 rfl) ?_
    refine lv_if_lt (tgt := 18) C.1 C.2.1 dX5_says_9 (by decide) (fun c4 => ?_) (fun c4 => ?_)
    · have hE := it_t c4 hE
      refine lv_aload_n C.1 C.2.1 dX5_says_18 rfl (lv_at hl 0 rfl) ?_
      refine lv_iconst (v := (-1)) C.1 C.2.1 dX5_says_19 (by decide) ?_
      obtain ⟨r5, hr5, hE⟩ := it_b hE
      refine m_call (n := 1) (As := [.int (-1)]) (rest := []) C hP hS hml (metM_no l G h0 ad _ _ _ (-1) r5 hr5) q1483 q1485 qs32 q1486 rfl rfl (by decide +kernel) ⟨Nat.le_of_ble_eq_true rfl, Nat.le_of_ble_eq_true rfl⟩ ⟨Nat.le_refl _, Nat.le_refl _⟩ rfl hl.1 rfl (Nat.le_of_ble_eq_true rfl) dX5_says_20 (fun H locs hP hS => ?_)
      obtain rfl := Option.some.inj hE
      exact hret _ _ _ _ dX5_says_23 hP hS
    · have hE := it_f c4 hE
      refine lv_iload_n C.1 C.2.1 dX5_says_12 rfl (lv_at hl 2 rfl) ?_
      refine lv_bipush (v := 6) C.1 C.2.1 dX5_says_13 (by decide) ?_
      refine lv_icmp_le (tgt := 24) C.1 C.2.1 dX5_says_15 (by decide) (fun c6 => ?_) (fun c6 => ?_)
      · have hE := it_t c6 hE
        refine lv_aload_n C.1 C.2.1 dX5_says_24 rfl (lv_at hl 0 rfl) ?_
        refine ma_18 C hP dX5_says_25 ?_
        refine lv_iload_n C.1 C.2.1 dX5_says_28 rfl (lv_at hl 1 rfl) ?_
        obtain ⟨g7, hE⟩ := it_g hE
        refine ml_18 (v := ((A 18) (p1).toNatClampNeg)) C hP (gi_in g7) rfl dX5_says_29 ?_
        refine lv_iconst (v := 1) C.1 C.2.1 dX5_says_30 (by decide) ?_
        refine lv_icmp_ne (tgt := 41) C.1 C.2.1 dX5_says_31 (by decide) (fun c8 => ?_) (fun c8 => ?_)
        · have hE := it_f c8 hE
          refine lv_aload_n C.1 C.2.1 dX5_says_41 rfl (lv_at hl 0 rfl) ?_
          refine ma_18 C hP dX5_says_42 ?_
          refine lv_iload_n C.1 C.2.1 dX5_says_45 rfl (lv_at hl 1 rfl) ?_
          obtain ⟨g9, hE⟩ := it_g hE
          refine ml_18 (v := ((A 18) (p1).toNatClampNeg)) C hP (gi_in g9) rfl dX5_says_46 ?_
          refine lv_if_ne (tgt := 57) C.1 C.2.1 dX5_says_47 (by decide) (fun c10 => ?_) (fun c10 => ?_)
          · have hE := it_f c10 hE
            refine lv_aload_n C.1 C.2.1 dX5_says_57 rfl (lv_at hl 0 rfl) ?_
            refine ma_21 C hP dX5_says_58 ?_
            refine lv_iload_n C.1 C.2.1 dX5_says_61 rfl (lv_at hl 1 rfl) ?_
            obtain ⟨g11, hE⟩ := it_g hE
            refine ml_21 (v := ((A 21) (p1).toNatClampNeg)) C hP (gi_in g11) rfl dX5_says_62 ?_
            refine lv_istore_n (lv' := [(3, .int ((A 21) (p1).toNatClampNeg)), (0, .ref h0), (1, .int p1), (2, .int p2)]) C.1 C.2.1 dX5_says_63 rfl hl (by decide) rfl (fun ls hl => ?_)
            refine lv_aload_n C.1 C.2.1 dX5_says_64 rfl (lv_at hl 1 rfl) ?_
            refine ma_12 C hP dX5_says_65 ?_
            refine lv_iload_n C.1 C.2.1 dX5_says_68 rfl (lv_at hl 0 rfl) ?_
            obtain ⟨g12, hE⟩ := it_g hE
            refine ml_12 (v := ((A 12) (((A 21) (p1).toNatClampNeg)).toNatClampNeg)) C hP (gi_in g12) rfl dX5_says_69 ?_
            refine lv_istore (lv' := [(4, .int ((A 12) (((A 21) (p1).toNatClampNeg)).toNatClampNeg)), (3, .int ((A 21) (p1).toNatClampNeg)), (0, .ref h0), (1, .int p1), (2, .int p2)]) C.1 C.2.1 dX5_says_70 hl (by decide) rfl (fun ls hl => ?_)
            refine lv_aload_n C.1 C.2.1 dX5_says_72 rfl (lv_at hl 2 rfl) ?_
            refine ma_13 C hP dX5_says_73 ?_
            refine lv_iload_n C.1 C.2.1 dX5_says_76 rfl (lv_at hl 1 rfl) ?_
            obtain ⟨g13, hE⟩ := it_g hE
            refine ml_13 (v := ((A 13) (((A 21) (p1).toNatClampNeg)).toNatClampNeg)) C hP (gi_in g13) rfl dX5_says_77 ?_
            refine lv_istore (lv' := [(5, .int ((A 13) (((A 21) (p1).toNatClampNeg)).toNatClampNeg)), (4, .int ((A 12) (((A 21) (p1).toNatClampNeg)).toNatClampNeg)), (3, .int ((A 21) (p1).toNatClampNeg)), (0, .ref h0), (1, .int p1), (2, .int p2)]) C.1 C.2.1 dX5_says_78 hl (by decide) rfl (fun ls hl => ?_)
            refine lv_iload_n C.1 C.2.1 dX5_says_80 rfl (lv_at hl 5 rfl) ?_
            refine lv_iconst (v := 1) C.1 C.2.1 dX5_says_81 (by decide) ?_
            obtain ⟨u15, hR, hE⟩ := it_b hE
            have hJ114u15 : u15 = true → ∀ (H : Heap) (locs : List Loc) (ls : Array Slot), mPw G h0 ad F A L H → va_S (mA h0 ad) s.heap H locs → lv_has ls 7 [(0, .ref h0), (2, .int p2), (3, .int ((A 21) (p1).toNatClampNeg)), (4, .int ((A 12) (((A 21) (p1).toNatClampNeg)).toNatClampNeg)), (5, .int ((A 13) (((A 21) (p1).toNatClampNeg)).toNatClampNeg))] → W p l e ({ frames := 1, cells := 0, slots := 0, locals := 21 } : Room) s m args below meth c H locs 0 0 Q (F0 m 114 ls []) := by
              intro hu H locs ls hP hS hl
              have hE := it_t hu hE
              refine lv_iconst (v := 1) C.1 C.2.1 dX5_says_114 (by decide) ?_
              refine lv_goto (tgt := 119) C.1 C.2.1 dX5_says_115 (by decide) ?_
              refine lv_istore (lv' := [(6, .int 1), (0, .ref h0), (2, .int p2), (3, .int ((A 21) (p1).toNatClampNeg)), (4, .int ((A 12) (((A 21) (p1).toNatClampNeg)).toNatClampNeg)), (5, .int ((A 13) (((A 21) (p1).toNatClampNeg)).toNatClampNeg))]) C.1 C.2.1 dX5_says_119 hl (by decide) rfl (fun ls hl => ?_)
              refine lv_iload_n C.1 C.2.1 dX5_says_121 rfl (lv_at hl 2 rfl) ?_
              obtain ⟨u30, hR, hE⟩ := it_b hE
              have hJ136u30 : u30 = true → ∀ (H : Heap) (locs : List Loc) (ls : Array Slot), mPw G h0 ad F A L H → va_S (mA h0 ad) s.heap H locs → lv_has ls 7 [(0, .ref h0)] → W p l e ({ frames := 1, cells := 0, slots := 0, locals := 21 } : Room) s m args below meth c H locs 0 0 Q (F0 m 136 ls []) := by
                intro hu H locs ls hP hS hl
                have hE := it_t hu hE
                refine lv_aload_n C.1 C.2.1 dX5_says_136 rfl (lv_at hl 0 rfl) ?_
                refine lv_bipush (v := (-2)) C.1 C.2.1 dX5_says_137 (by decide) ?_
                obtain ⟨r33, hr33, hE⟩ := it_b hE
                refine m_call (n := 1) (As := [.int (-2)]) (rest := []) C hP hS hml (metM_no l G h0 ad _ _ _ (-2) r33 hr33) q1483 q1485 qs32 q1486 rfl rfl (by decide +kernel) ⟨Nat.le_of_ble_eq_true rfl, Nat.le_of_ble_eq_true rfl⟩ ⟨Nat.le_refl _, Nat.le_refl _⟩ rfl hl.1 rfl (Nat.le_of_ble_eq_true rfl) dX5_says_139 (fun H locs hP hS => ?_)
                obtain rfl := Option.some.inj hE
                exact hret _ _ _ _ dX5_says_142 hP hS
              have hJ143u30 : ¬ u30 = true → ∀ (H : Heap) (locs : List Loc) (ls : Array Slot), mPw G h0 ad F A L H → va_S (mA h0 ad) s.heap H locs → lv_has ls 7 [(0, .ref h0), (2, .int p2), (3, .int ((A 21) (p1).toNatClampNeg)), (4, .int ((A 12) (((A 21) (p1).toNatClampNeg)).toNatClampNeg)), (5, .int ((A 13) (((A 21) (p1).toNatClampNeg)).toNatClampNeg))] → W p l e ({ frames := 1, cells := 0, slots := 0, locals := 21 } : Room) s m args below meth c H locs 0 0 Q (F0 m 143 ls []) := by
                intro hu H locs ls hP hS hl
                have hE := it_f hu hE
                refine lv_iload_n C.1 C.2.1 dX5_says_143 rfl (lv_at hl 1 rfl) ?_
                by_cases c34 : p2 = 0
                · have hE := it_t c34 hE
                  refine lv_tableIn (tgt := 184) C.1 C.2.1 dX5_says_144 (by rw [c34]; decide) (by rw [c34]; decide) (by rw [c34]; rfl) (by decide) ?_
                  refine lv_aload_n C.1 C.2.1 dX5_says_184 rfl (lv_at hl 0 rfl) ?_
                  refine ma_16 C hP dX5_says_185 ?_
                  refine lv_iload_n C.1 C.2.1 dX5_says_188 rfl (lv_at hl 2 rfl) ?_
                  obtain ⟨g35, hE⟩ := it_g hE
                  refine ml_16 (v := ((A 16) (((A 21) (p1).toNatClampNeg)).toNatClampNeg)) C hP (gi_in g35) rfl dX5_says_189 ?_
                  obtain rfl := Option.some.inj hE
                  exact hret _ _ _ _ dX5_says_190 hP hS
                have hE := it_f c34 hE
                by_cases c36 : p2 = 1
                · have hE := it_t c36 hE
                  refine lv_tableIn (tgt := 191) C.1 C.2.1 dX5_says_144 (by rw [c36]; decide) (by rw [c36]; decide) (by rw [c36]; rfl) (by decide) ?_
                  refine lv_iload C.1 C.2.1 dX5_says_191 (lv_at hl 3 rfl) ?_
                  refine lv_iconst (v := 1) C.1 C.2.1 dX5_says_193 (by decide) ?_
                  refine lv_icmp_ne (tgt := 202) C.1 C.2.1 dX5_says_194 (by decide) (fun c37 => ?_) (fun c37 => ?_)
                  · have hE := it_f c37 hE
                    refine lv_iconst (v := 2) C.1 C.2.1 dX5_says_202 (by decide) ?_
                    refine lv_iload C.1 C.2.1 dX5_says_203 (lv_at hl 4 rfl) ?_
                    refine lv_imul C.1 C.2.1 dX5_says_205 ?_
                    refine lv_iconst (v := 3) C.1 C.2.1 dX5_says_206 (by decide) ?_
                    refine lv_iadd C.1 C.2.1 dX5_says_207 ?_
                    obtain rfl := Option.some.inj hE
                    exact hret _ _ _ _ dX5_says_208 hP hS
                  · have hE := it_t c37 hE
                    refine lv_iload C.1 C.2.1 dX5_says_197 (lv_at hl 4 rfl) ?_
                    refine lv_goto (tgt := 208) C.1 C.2.1 dX5_says_199 (by decide) ?_
                    obtain rfl := Option.some.inj hE
                    exact hret _ _ _ _ dX5_says_208 hP hS
                have hE := it_f c36 hE
                by_cases c38 : p2 = 2
                · have hE := it_t c38 hE
                  refine lv_tableIn (tgt := 209) C.1 C.2.1 dX5_says_144 (by rw [c38]; decide) (by rw [c38]; decide) (by rw [c38]; rfl) (by decide) ?_
                  refine lv_iload C.1 C.2.1 dX5_says_209 (lv_at hl 3 rfl) ?_
                  refine lv_iconst (v := 2) C.1 C.2.1 dX5_says_211 (by decide) ?_
                  refine lv_icmp_ne (tgt := 223) C.1 C.2.1 dX5_says_212 (by decide) (fun c39 => ?_) (fun c39 => ?_)
                  · have hE := it_f c39 hE
                    refine lv_bipush (v := 40) C.1 C.2.1 dX5_says_223 (by decide) ?_
                    refine lv_iconst (v := 2) C.1 C.2.1 dX5_says_225 (by decide) ?_
                    refine lv_iload C.1 C.2.1 dX5_says_226 (lv_at hl 4 rfl) ?_
                    refine lv_imul C.1 C.2.1 dX5_says_228 ?_
                    refine lv_iadd C.1 C.2.1 dX5_says_229 ?_
                    obtain rfl := Option.some.inj hE
                    exact hret _ _ _ _ dX5_says_230 hP hS
                  · have hE := it_t c39 hE
                    refine lv_bipush (v := 20) C.1 C.2.1 dX5_says_215 (by decide) ?_
                    refine lv_iload C.1 C.2.1 dX5_says_217 (lv_at hl 4 rfl) ?_
                    refine lv_iadd C.1 C.2.1 dX5_says_219 ?_
                    refine lv_goto (tgt := 230) C.1 C.2.1 dX5_says_220 (by decide) ?_
                    obtain rfl := Option.some.inj hE
                    exact hret _ _ _ _ dX5_says_230 hP hS
                have hE := it_f c38 hE
                by_cases c40 : p2 = 3
                · have hE := it_t c40 hE
                  refine lv_tableIn (tgt := 191) C.1 C.2.1 dX5_says_144 (by rw [c40]; decide) (by rw [c40]; decide) (by rw [c40]; rfl) (by decide) ?_
                  refine lv_iload C.1 C.2.1 dX5_says_191 (lv_at hl 3 rfl) ?_
                  refine lv_iconst (v := 1) C.1 C.2.1 dX5_says_193 (by decide) ?_
                  refine lv_icmp_ne (tgt := 202) C.1 C.2.1 dX5_says_194 (by decide) (fun c41 => ?_) (fun c41 => ?_)
                  · have hE := it_f c41 hE
                    refine lv_iconst (v := 2) C.1 C.2.1 dX5_says_202 (by decide) ?_
                    refine lv_iload C.1 C.2.1 dX5_says_203 (lv_at hl 4 rfl) ?_
                    refine lv_imul C.1 C.2.1 dX5_says_205 ?_
                    refine lv_iconst (v := 3) C.1 C.2.1 dX5_says_206 (by decide) ?_
                    refine lv_iadd C.1 C.2.1 dX5_says_207 ?_
                    obtain rfl := Option.some.inj hE
                    exact hret _ _ _ _ dX5_says_208 hP hS
                  · have hE := it_t c41 hE
                    refine lv_iload C.1 C.2.1 dX5_says_197 (lv_at hl 4 rfl) ?_
                    refine lv_goto (tgt := 208) C.1 C.2.1 dX5_says_199 (by decide) ?_
                    obtain rfl := Option.some.inj hE
                    exact hret _ _ _ _ dX5_says_208 hP hS
                have hE := it_f c40 hE
                by_cases c42 : p2 = 5
                · have hE := it_t c42 hE
                  refine lv_tableIn (tgt := 209) C.1 C.2.1 dX5_says_144 (by rw [c42]; decide) (by rw [c42]; decide) (by rw [c42]; rfl) (by decide) ?_
                  refine lv_iload C.1 C.2.1 dX5_says_209 (lv_at hl 3 rfl) ?_
                  refine lv_iconst (v := 2) C.1 C.2.1 dX5_says_211 (by decide) ?_
                  refine lv_icmp_ne (tgt := 223) C.1 C.2.1 dX5_says_212 (by decide) (fun c43 => ?_) (fun c43 => ?_)
                  · have hE := it_f c43 hE
                    refine lv_bipush (v := 40) C.1 C.2.1 dX5_says_223 (by decide) ?_
                    refine lv_iconst (v := 2) C.1 C.2.1 dX5_says_225 (by decide) ?_
                    refine lv_iload C.1 C.2.1 dX5_says_226 (lv_at hl 4 rfl) ?_
                    refine lv_imul C.1 C.2.1 dX5_says_228 ?_
                    refine lv_iadd C.1 C.2.1 dX5_says_229 ?_
                    obtain rfl := Option.some.inj hE
                    exact hret _ _ _ _ dX5_says_230 hP hS
                  · have hE := it_t c43 hE
                    refine lv_bipush (v := 20) C.1 C.2.1 dX5_says_215 (by decide) ?_
                    refine lv_iload C.1 C.2.1 dX5_says_217 (lv_at hl 4 rfl) ?_
                    refine lv_iadd C.1 C.2.1 dX5_says_219 ?_
                    refine lv_goto (tgt := 230) C.1 C.2.1 dX5_says_220 (by decide) ?_
                    obtain rfl := Option.some.inj hE
                    exact hret _ _ _ _ dX5_says_230 hP hS
                have hE := it_f c42 hE
                refine sf_ (a := W p l e ({ frames := 1, cells := 0, slots := 0, locals := 21 } : Room) s m args below meth c H locs 0 0 Q (F0 m 231 ls [])) (fun hG => ?_) ?_
                · by_cases c44 : p2 = 4
                  · exact lv_tableIn (tgt := 231) C.1 C.2.1 dX5_says_144 (by rw [c44]; decide) (by rw [c44]; decide) (by rw [c44]; rfl) (by decide) hG
                  exact lv_tableOut (tgt := 231) C.1 C.2.1 dX5_says_144 (ts_e (ts_s (ts_s (ts_s (ts_s (ts_s (ts_s (ts_0 0) c34 rfl rfl) c36 rfl rfl) c38 rfl rfl) c40 rfl rfl) c44 rfl rfl) c42 rfl rfl) rfl) (by decide) hG
                refine lv_iload C.1 C.2.1 dX5_says_231 (lv_at hl 3 rfl) ?_
                refine lv_iconst (v := 4) C.1 C.2.1 dX5_says_233 (by decide) ?_
                refine lv_icmp_ne (tgt := 244) C.1 C.2.1 dX5_says_234 (by decide) (fun c45 => ?_) (fun c45 => ?_)
                · have hE := it_f c45 hE
                  refine lv_iconst (v := 2) C.1 C.2.1 dX5_says_244 (by decide) ?_
                  refine lv_iload C.1 C.2.1 dX5_says_245 (lv_at hl 4 rfl) ?_
                  refine lv_imul C.1 C.2.1 dX5_says_247 ?_
                  refine lv_bipush (v := 10) C.1 C.2.1 dX5_says_248 (by decide) ?_
                  refine lv_iadd C.1 C.2.1 dX5_says_250 ?_
                  obtain rfl := Option.some.inj hE
                  exact hret _ _ _ _ dX5_says_251 hP hS
                · have hE := it_t c45 hE
                  refine lv_iconst (v := 2) C.1 C.2.1 dX5_says_237 (by decide) ?_
                  refine lv_iload C.1 C.2.1 dX5_says_238 (lv_at hl 4 rfl) ?_
                  refine lv_imul C.1 C.2.1 dX5_says_240 ?_
                  refine lv_goto (tgt := 251) C.1 C.2.1 dX5_says_241 (by decide) ?_
                  obtain rfl := Option.some.inj hE
                  exact hret _ _ _ _ dX5_says_251 hP hS
              have hE := hR
              refine lv_if_eq (tgt := 143) C.1 C.2.1 dX5_says_122 (by decide) (fun c29 => ?_) (fun c29 => ?_)
              · have hE := it_t c29 hE
                obtain rfl := Option.some.inj hE
                exact hJ143u30 (by decide) H locs ls hP hS (lv_sub hl [1, 2, 3, 4, 5] rfl)
              · have hE := it_f c29 hE
                refine lv_iload_n C.1 C.2.1 dX5_says_125 rfl (lv_at hl 2 rfl) ?_
                refine lv_iload C.1 C.2.1 dX5_says_126 (lv_at hl 4 rfl) ?_
                refine lv_icmp_eq (tgt := 143) C.1 C.2.1 dX5_says_128 (by decide) (fun c31 => ?_) (fun c31 => ?_)
                · have hE := it_t c31 hE
                  obtain rfl := Option.some.inj hE
                  exact hJ143u30 (by decide) H locs ls hP hS (lv_sub hl [1, 2, 3, 4, 5] rfl)
                · have hE := it_f c31 hE
                  refine lv_iload C.1 C.2.1 dX5_says_131 (lv_at hl 0 rfl) ?_
                  refine lv_if_ne (tgt := 143) C.1 C.2.1 dX5_says_133 (by decide) (fun c32 => ?_) (fun c32 => absurd c32 (by decide))
                  obtain rfl := Option.some.inj hE
                  exact hJ143u30 (by decide) H locs ls hP hS (lv_sub hl [1, 2, 3, 4, 5] rfl)
            have hJ118u15 : ¬ u15 = true → ∀ (H : Heap) (locs : List Loc) (ls : Array Slot), mPw G h0 ad F A L H → va_S (mA h0 ad) s.heap H locs → lv_has ls 7 [(0, .ref h0), (2, .int p2), (3, .int ((A 21) (p1).toNatClampNeg)), (4, .int ((A 12) (((A 21) (p1).toNatClampNeg)).toNatClampNeg)), (5, .int ((A 13) (((A 21) (p1).toNatClampNeg)).toNatClampNeg))] → W p l e ({ frames := 1, cells := 0, slots := 0, locals := 21 } : Room) s m args below meth c H locs 0 0 Q (F0 m 118 ls []) := by
              intro hu H locs ls hP hS hl
              have hE := it_f hu hE
              refine lv_iconst (v := 0) C.1 C.2.1 dX5_says_118 (by decide) ?_
              refine lv_istore (lv' := [(6, .int 0), (0, .ref h0), (2, .int p2), (3, .int ((A 21) (p1).toNatClampNeg)), (4, .int ((A 12) (((A 21) (p1).toNatClampNeg)).toNatClampNeg)), (5, .int ((A 13) (((A 21) (p1).toNatClampNeg)).toNatClampNeg))]) C.1 C.2.1 dX5_says_119 hl (by decide) rfl (fun ls hl => ?_)
              refine lv_iload_n C.1 C.2.1 dX5_says_121 rfl (lv_at hl 2 rfl) ?_
              obtain ⟨u47, hR, hE⟩ := it_b hE
              have hJ136u47 : u47 = true → ∀ (H : Heap) (locs : List Loc) (ls : Array Slot), mPw G h0 ad F A L H → va_S (mA h0 ad) s.heap H locs → lv_has ls 7 [(0, .ref h0)] → W p l e ({ frames := 1, cells := 0, slots := 0, locals := 21 } : Room) s m args below meth c H locs 0 0 Q (F0 m 136 ls []) := by
                intro hu H locs ls hP hS hl
                have hE := it_t hu hE
                refine lv_aload_n C.1 C.2.1 dX5_says_136 rfl (lv_at hl 0 rfl) ?_
                refine lv_bipush (v := (-2)) C.1 C.2.1 dX5_says_137 (by decide) ?_
                obtain ⟨r50, hr50, hE⟩ := it_b hE
                refine m_call (n := 1) (As := [.int (-2)]) (rest := []) C hP hS hml (metM_no l G h0 ad _ _ _ (-2) r50 hr50) q1483 q1485 qs32 q1486 rfl rfl (by decide +kernel) ⟨Nat.le_of_ble_eq_true rfl, Nat.le_of_ble_eq_true rfl⟩ ⟨Nat.le_refl _, Nat.le_refl _⟩ rfl hl.1 rfl (Nat.le_of_ble_eq_true rfl) dX5_says_139 (fun H locs hP hS => ?_)
                obtain rfl := Option.some.inj hE
                exact hret _ _ _ _ dX5_says_142 hP hS
              have hJ143u47 : ¬ u47 = true → ∀ (H : Heap) (locs : List Loc) (ls : Array Slot), mPw G h0 ad F A L H → va_S (mA h0 ad) s.heap H locs → lv_has ls 7 [(0, .ref h0), (2, .int p2), (3, .int ((A 21) (p1).toNatClampNeg)), (4, .int ((A 12) (((A 21) (p1).toNatClampNeg)).toNatClampNeg)), (5, .int ((A 13) (((A 21) (p1).toNatClampNeg)).toNatClampNeg))] → W p l e ({ frames := 1, cells := 0, slots := 0, locals := 21 } : Room) s m args below meth c H locs 0 0 Q (F0 m 143 ls []) := by
                intro hu H locs ls hP hS hl
                have hE := it_f hu hE
                refine lv_iload_n C.1 C.2.1 dX5_says_143 rfl (lv_at hl 1 rfl) ?_
                by_cases c51 : p2 = 0
                · have hE := it_t c51 hE
                  refine lv_tableIn (tgt := 184) C.1 C.2.1 dX5_says_144 (by rw [c51]; decide) (by rw [c51]; decide) (by rw [c51]; rfl) (by decide) ?_
                  refine lv_aload_n C.1 C.2.1 dX5_says_184 rfl (lv_at hl 0 rfl) ?_
                  refine ma_16 C hP dX5_says_185 ?_
                  refine lv_iload_n C.1 C.2.1 dX5_says_188 rfl (lv_at hl 2 rfl) ?_
                  obtain ⟨g52, hE⟩ := it_g hE
                  refine ml_16 (v := ((A 16) (((A 21) (p1).toNatClampNeg)).toNatClampNeg)) C hP (gi_in g52) rfl dX5_says_189 ?_
                  obtain rfl := Option.some.inj hE
                  exact hret _ _ _ _ dX5_says_190 hP hS
                have hE := it_f c51 hE
                by_cases c53 : p2 = 1
                · have hE := it_t c53 hE
                  refine lv_tableIn (tgt := 191) C.1 C.2.1 dX5_says_144 (by rw [c53]; decide) (by rw [c53]; decide) (by rw [c53]; rfl) (by decide) ?_
                  refine lv_iload C.1 C.2.1 dX5_says_191 (lv_at hl 3 rfl) ?_
                  refine lv_iconst (v := 1) C.1 C.2.1 dX5_says_193 (by decide) ?_
                  refine lv_icmp_ne (tgt := 202) C.1 C.2.1 dX5_says_194 (by decide) (fun c54 => ?_) (fun c54 => ?_)
                  · have hE := it_f c54 hE
                    refine lv_iconst (v := 2) C.1 C.2.1 dX5_says_202 (by decide) ?_
                    refine lv_iload C.1 C.2.1 dX5_says_203 (lv_at hl 4 rfl) ?_
                    refine lv_imul C.1 C.2.1 dX5_says_205 ?_
                    refine lv_iconst (v := 3) C.1 C.2.1 dX5_says_206 (by decide) ?_
                    refine lv_iadd C.1 C.2.1 dX5_says_207 ?_
                    obtain rfl := Option.some.inj hE
                    exact hret _ _ _ _ dX5_says_208 hP hS
                  · have hE := it_t c54 hE
                    refine lv_iload C.1 C.2.1 dX5_says_197 (lv_at hl 4 rfl) ?_
                    refine lv_goto (tgt := 208) C.1 C.2.1 dX5_says_199 (by decide) ?_
                    obtain rfl := Option.some.inj hE
                    exact hret _ _ _ _ dX5_says_208 hP hS
                have hE := it_f c53 hE
                by_cases c55 : p2 = 2
                · have hE := it_t c55 hE
                  refine lv_tableIn (tgt := 209) C.1 C.2.1 dX5_says_144 (by rw [c55]; decide) (by rw [c55]; decide) (by rw [c55]; rfl) (by decide) ?_
                  refine lv_iload C.1 C.2.1 dX5_says_209 (lv_at hl 3 rfl) ?_
                  refine lv_iconst (v := 2) C.1 C.2.1 dX5_says_211 (by decide) ?_
                  refine lv_icmp_ne (tgt := 223) C.1 C.2.1 dX5_says_212 (by decide) (fun c56 => ?_) (fun c56 => ?_)
                  · have hE := it_f c56 hE
                    refine lv_bipush (v := 40) C.1 C.2.1 dX5_says_223 (by decide) ?_
                    refine lv_iconst (v := 2) C.1 C.2.1 dX5_says_225 (by decide) ?_
                    refine lv_iload C.1 C.2.1 dX5_says_226 (lv_at hl 4 rfl) ?_
                    refine lv_imul C.1 C.2.1 dX5_says_228 ?_
                    refine lv_iadd C.1 C.2.1 dX5_says_229 ?_
                    obtain rfl := Option.some.inj hE
                    exact hret _ _ _ _ dX5_says_230 hP hS
                  · have hE := it_t c56 hE
                    refine lv_bipush (v := 20) C.1 C.2.1 dX5_says_215 (by decide) ?_
                    refine lv_iload C.1 C.2.1 dX5_says_217 (lv_at hl 4 rfl) ?_
                    refine lv_iadd C.1 C.2.1 dX5_says_219 ?_
                    refine lv_goto (tgt := 230) C.1 C.2.1 dX5_says_220 (by decide) ?_
                    obtain rfl := Option.some.inj hE
                    exact hret _ _ _ _ dX5_says_230 hP hS
                have hE := it_f c55 hE
                by_cases c57 : p2 = 3
                · have hE := it_t c57 hE
                  refine lv_tableIn (tgt := 191) C.1 C.2.1 dX5_says_144 (by rw [c57]; decide) (by rw [c57]; decide) (by rw [c57]; rfl) (by decide) ?_
                  refine lv_iload C.1 C.2.1 dX5_says_191 (lv_at hl 3 rfl) ?_
                  refine lv_iconst (v := 1) C.1 C.2.1 dX5_says_193 (by decide) ?_
                  refine lv_icmp_ne (tgt := 202) C.1 C.2.1 dX5_says_194 (by decide) (fun c58 => ?_) (fun c58 => ?_)
                  · have hE := it_f c58 hE
                    refine lv_iconst (v := 2) C.1 C.2.1 dX5_says_202 (by decide) ?_
                    refine lv_iload C.1 C.2.1 dX5_says_203 (lv_at hl 4 rfl) ?_
                    refine lv_imul C.1 C.2.1 dX5_says_205 ?_
                    refine lv_iconst (v := 3) C.1 C.2.1 dX5_says_206 (by decide) ?_
                    refine lv_iadd C.1 C.2.1 dX5_says_207 ?_
                    obtain rfl := Option.some.inj hE
                    exact hret _ _ _ _ dX5_says_208 hP hS
                  · have hE := it_t c58 hE
                    refine lv_iload C.1 C.2.1 dX5_says_197 (lv_at hl 4 rfl) ?_
                    refine lv_goto (tgt := 208) C.1 C.2.1 dX5_says_199 (by decide) ?_
                    obtain rfl := Option.some.inj hE
                    exact hret _ _ _ _ dX5_says_208 hP hS
                have hE := it_f c57 hE
                by_cases c59 : p2 = 5
                · have hE := it_t c59 hE
                  refine lv_tableIn (tgt := 209) C.1 C.2.1 dX5_says_144 (by rw [c59]; decide) (by rw [c59]; decide) (by rw [c59]; rfl) (by decide) ?_
                  refine lv_iload C.1 C.2.1 dX5_says_209 (lv_at hl 3 rfl) ?_
                  refine lv_iconst (v := 2) C.1 C.2.1 dX5_says_211 (by decide) ?_
                  refine lv_icmp_ne (tgt := 223) C.1 C.2.1 dX5_says_212 (by decide) (fun c60 => ?_) (fun c60 => ?_)
                  · have hE := it_f c60 hE
                    refine lv_bipush (v := 40) C.1 C.2.1 dX5_says_223 (by decide) ?_
                    refine lv_iconst (v := 2) C.1 C.2.1 dX5_says_225 (by decide) ?_
                    refine lv_iload C.1 C.2.1 dX5_says_226 (lv_at hl 4 rfl) ?_
                    refine lv_imul C.1 C.2.1 dX5_says_228 ?_
                    refine lv_iadd C.1 C.2.1 dX5_says_229 ?_
                    obtain rfl := Option.some.inj hE
                    exact hret _ _ _ _ dX5_says_230 hP hS
                  · have hE := it_t c60 hE
                    refine lv_bipush (v := 20) C.1 C.2.1 dX5_says_215 (by decide) ?_
                    refine lv_iload C.1 C.2.1 dX5_says_217 (lv_at hl 4 rfl) ?_
                    refine lv_iadd C.1 C.2.1 dX5_says_219 ?_
                    refine lv_goto (tgt := 230) C.1 C.2.1 dX5_says_220 (by decide) ?_
                    obtain rfl := Option.some.inj hE
                    exact hret _ _ _ _ dX5_says_230 hP hS
                have hE := it_f c59 hE
                refine sf_ (a := W p l e ({ frames := 1, cells := 0, slots := 0, locals := 21 } : Room) s m args below meth c H locs 0 0 Q (F0 m 231 ls [])) (fun hG => ?_) ?_
                · by_cases c61 : p2 = 4
                  · exact lv_tableIn (tgt := 231) C.1 C.2.1 dX5_says_144 (by rw [c61]; decide) (by rw [c61]; decide) (by rw [c61]; rfl) (by decide) hG
                  exact lv_tableOut (tgt := 231) C.1 C.2.1 dX5_says_144 (ts_e (ts_s (ts_s (ts_s (ts_s (ts_s (ts_s (ts_0 0) c51 rfl rfl) c53 rfl rfl) c55 rfl rfl) c57 rfl rfl) c61 rfl rfl) c59 rfl rfl) rfl) (by decide) hG
                refine lv_iload C.1 C.2.1 dX5_says_231 (lv_at hl 3 rfl) ?_
                refine lv_iconst (v := 4) C.1 C.2.1 dX5_says_233 (by decide) ?_
                refine lv_icmp_ne (tgt := 244) C.1 C.2.1 dX5_says_234 (by decide) (fun c62 => ?_) (fun c62 => ?_)
                · have hE := it_f c62 hE
                  refine lv_iconst (v := 2) C.1 C.2.1 dX5_says_244 (by decide) ?_
                  refine lv_iload C.1 C.2.1 dX5_says_245 (lv_at hl 4 rfl) ?_
                  refine lv_imul C.1 C.2.1 dX5_says_247 ?_
                  refine lv_bipush (v := 10) C.1 C.2.1 dX5_says_248 (by decide) ?_
                  refine lv_iadd C.1 C.2.1 dX5_says_250 ?_
                  obtain rfl := Option.some.inj hE
                  exact hret _ _ _ _ dX5_says_251 hP hS
                · have hE := it_t c62 hE
                  refine lv_iconst (v := 2) C.1 C.2.1 dX5_says_237 (by decide) ?_
                  refine lv_iload C.1 C.2.1 dX5_says_238 (lv_at hl 4 rfl) ?_
                  refine lv_imul C.1 C.2.1 dX5_says_240 ?_
                  refine lv_goto (tgt := 251) C.1 C.2.1 dX5_says_241 (by decide) ?_
                  obtain rfl := Option.some.inj hE
                  exact hret _ _ _ _ dX5_says_251 hP hS
              have hE := hR
              refine lv_if_eq (tgt := 143) C.1 C.2.1 dX5_says_122 (by decide) (fun c46 => ?_) (fun c46 => ?_)
              · have hE := it_t c46 hE
                obtain rfl := Option.some.inj hE
                exact hJ143u47 (by decide) H locs ls hP hS (lv_sub hl [1, 2, 3, 4, 5] rfl)
              · have hE := it_f c46 hE
                refine lv_iload_n C.1 C.2.1 dX5_says_125 rfl (lv_at hl 2 rfl) ?_
                refine lv_iload C.1 C.2.1 dX5_says_126 (lv_at hl 4 rfl) ?_
                refine lv_icmp_eq (tgt := 143) C.1 C.2.1 dX5_says_128 (by decide) (fun c48 => ?_) (fun c48 => ?_)
                · have hE := it_t c48 hE
                  obtain rfl := Option.some.inj hE
                  exact hJ143u47 (by decide) H locs ls hP hS (lv_sub hl [1, 2, 3, 4, 5] rfl)
                · have hE := it_f c48 hE
                  refine lv_iload C.1 C.2.1 dX5_says_131 (lv_at hl 0 rfl) ?_
                  refine lv_if_ne (tgt := 143) C.1 C.2.1 dX5_says_133 (by decide) (fun c49 => absurd c49 (by decide)) (fun c49 => ?_)
                  obtain rfl := Option.some.inj hE
                  exact hJ136u47 rfl H locs ls hP hS (lv_sub hl [1] rfl)
            have hE := hR
            refine lv_icmp_ne (tgt := 91) C.1 C.2.1 dX5_says_82 (by decide) (fun c14 => ?_) (fun c14 => ?_)
            · have hE := it_f c14 hE
              refine lv_iload_n C.1 C.2.1 dX5_says_91 rfl (lv_at hl 5 rfl) ?_
              refine lv_iconst (v := 2) C.1 C.2.1 dX5_says_92 (by decide) ?_
              refine lv_icmp_ne (tgt := 102) C.1 C.2.1 dX5_says_93 (by decide) (fun c16 => ?_) (fun c16 => ?_)
              · have hE := it_f c16 hE
                refine lv_iload_n C.1 C.2.1 dX5_says_102 rfl (lv_at hl 5 rfl) ?_
                refine lv_iconst (v := 4) C.1 C.2.1 dX5_says_103 (by decide) ?_
                refine lv_icmp_ne (tgt := 118) C.1 C.2.1 dX5_says_104 (by decide) (fun c17 => ?_) (fun c17 => ?_)
                · have hE := it_f c17 hE
                  obtain rfl := Option.some.inj hE
                  exact hJ118u15 (by decide) H locs ls hP hS (lv_sub hl [3, 5, 2, 1, 0] rfl)
                · have hE := it_t c17 hE
                  refine lv_iload C.1 C.2.1 dX5_says_107 (lv_at hl 1 rfl) ?_
                  refine lv_bipush (v := 6) C.1 C.2.1 dX5_says_109 (by decide) ?_
                  refine lv_icmp_ne (tgt := 118) C.1 C.2.1 dX5_says_111 (by decide) (fun c18 => ?_) (fun c18 => ?_)
                  · have hE := it_f c18 hE
                    obtain rfl := Option.some.inj hE
                    exact hJ118u15 (by decide) H locs ls hP hS (lv_sub hl [3, 5, 2, 1, 0] rfl)
                  · have hE := it_t c18 hE
                    obtain rfl := Option.some.inj hE
                    exact hJ114u15 rfl H locs ls hP hS (lv_sub hl [3, 5, 2, 1, 0] rfl)
              · have hE := it_t c16 hE
                refine lv_iload C.1 C.2.1 dX5_says_96 (lv_at hl 1 rfl) ?_
                refine lv_iconst (v := 5) C.1 C.2.1 dX5_says_98 (by decide) ?_
                refine lv_icmp_eq (tgt := 114) C.1 C.2.1 dX5_says_99 (by decide) (fun c19 => ?_) (fun c19 => ?_)
                · have hE := it_t c19 hE
                  obtain rfl := Option.some.inj hE
                  exact hJ114u15 rfl H locs ls hP hS (lv_sub hl [3, 5, 2, 1, 0] rfl)
                · have hE := it_f c19 hE
                  refine lv_iload_n C.1 C.2.1 dX5_says_102 rfl (lv_at hl 5 rfl) ?_
                  refine lv_iconst (v := 4) C.1 C.2.1 dX5_says_103 (by decide) ?_
                  refine lv_icmp_ne (tgt := 118) C.1 C.2.1 dX5_says_104 (by decide) (fun c20 => ?_) (fun c20 => ?_)
                  · have hE := it_f c20 hE
                    obtain rfl := Option.some.inj hE
                    exact hJ118u15 (by decide) H locs ls hP hS (lv_sub hl [3, 5, 2, 1, 0] rfl)
                  · have hE := it_t c20 hE
                    refine lv_iload C.1 C.2.1 dX5_says_107 (lv_at hl 1 rfl) ?_
                    refine lv_bipush (v := 6) C.1 C.2.1 dX5_says_109 (by decide) ?_
                    refine lv_icmp_ne (tgt := 118) C.1 C.2.1 dX5_says_111 (by decide) (fun c21 => ?_) (fun c21 => ?_)
                    · have hE := it_f c21 hE
                      obtain rfl := Option.some.inj hE
                      exact hJ118u15 (by decide) H locs ls hP hS (lv_sub hl [3, 5, 2, 1, 0] rfl)
                    · have hE := it_t c21 hE
                      obtain rfl := Option.some.inj hE
                      exact hJ114u15 rfl H locs ls hP hS (lv_sub hl [3, 5, 2, 1, 0] rfl)
            · have hE := it_t c14 hE
              refine lv_iload C.1 C.2.1 dX5_says_85 (lv_at hl 1 rfl) ?_
              refine lv_iconst (v := 3) C.1 C.2.1 dX5_says_87 (by decide) ?_
              refine lv_icmp_eq (tgt := 114) C.1 C.2.1 dX5_says_88 (by decide) (fun c22 => ?_) (fun c22 => ?_)
              · have hE := it_t c22 hE
                obtain rfl := Option.some.inj hE
                exact hJ114u15 rfl H locs ls hP hS (lv_sub hl [3, 5, 2, 1, 0] rfl)
              · have hE := it_f c22 hE
                refine lv_iload_n C.1 C.2.1 dX5_says_91 rfl (lv_at hl 5 rfl) ?_
                refine lv_iconst (v := 2) C.1 C.2.1 dX5_says_92 (by decide) ?_
                refine lv_icmp_ne (tgt := 102) C.1 C.2.1 dX5_says_93 (by decide) (fun c23 => ?_) (fun c23 => ?_)
                · have hE := it_f c23 hE
                  refine lv_iload_n C.1 C.2.1 dX5_says_102 rfl (lv_at hl 5 rfl) ?_
                  refine lv_iconst (v := 4) C.1 C.2.1 dX5_says_103 (by decide) ?_
                  refine lv_icmp_ne (tgt := 118) C.1 C.2.1 dX5_says_104 (by decide) (fun c24 => ?_) (fun c24 => ?_)
                  · have hE := it_f c24 hE
                    obtain rfl := Option.some.inj hE
                    exact hJ118u15 (by decide) H locs ls hP hS (lv_sub hl [3, 5, 2, 1, 0] rfl)
                  · have hE := it_t c24 hE
                    refine lv_iload C.1 C.2.1 dX5_says_107 (lv_at hl 1 rfl) ?_
                    refine lv_bipush (v := 6) C.1 C.2.1 dX5_says_109 (by decide) ?_
                    refine lv_icmp_ne (tgt := 118) C.1 C.2.1 dX5_says_111 (by decide) (fun c25 => ?_) (fun c25 => ?_)
                    · have hE := it_f c25 hE
                      obtain rfl := Option.some.inj hE
                      exact hJ118u15 (by decide) H locs ls hP hS (lv_sub hl [3, 5, 2, 1, 0] rfl)
                    · have hE := it_t c25 hE
                      obtain rfl := Option.some.inj hE
                      exact hJ114u15 rfl H locs ls hP hS (lv_sub hl [3, 5, 2, 1, 0] rfl)
                · have hE := it_t c23 hE
                  refine lv_iload C.1 C.2.1 dX5_says_96 (lv_at hl 1 rfl) ?_
                  refine lv_iconst (v := 5) C.1 C.2.1 dX5_says_98 (by decide) ?_
                  refine lv_icmp_eq (tgt := 114) C.1 C.2.1 dX5_says_99 (by decide) (fun c26 => ?_) (fun c26 => ?_)
                  · have hE := it_t c26 hE
                    obtain rfl := Option.some.inj hE
                    exact hJ114u15 rfl H locs ls hP hS (lv_sub hl [3, 5, 2, 1, 0] rfl)
                  · have hE := it_f c26 hE
                    refine lv_iload_n C.1 C.2.1 dX5_says_102 rfl (lv_at hl 5 rfl) ?_
                    refine lv_iconst (v := 4) C.1 C.2.1 dX5_says_103 (by decide) ?_
                    refine lv_icmp_ne (tgt := 118) C.1 C.2.1 dX5_says_104 (by decide) (fun c27 => ?_) (fun c27 => ?_)
                    · have hE := it_f c27 hE
                      obtain rfl := Option.some.inj hE
                      exact hJ118u15 (by decide) H locs ls hP hS (lv_sub hl [3, 5, 2, 1, 0] rfl)
                    · have hE := it_t c27 hE
                      refine lv_iload C.1 C.2.1 dX5_says_107 (lv_at hl 1 rfl) ?_
                      refine lv_bipush (v := 6) C.1 C.2.1 dX5_says_109 (by decide) ?_
                      refine lv_icmp_ne (tgt := 118) C.1 C.2.1 dX5_says_111 (by decide) (fun c28 => ?_) (fun c28 => ?_)
                      · have hE := it_f c28 hE
                        obtain rfl := Option.some.inj hE
                        exact hJ118u15 (by decide) H locs ls hP hS (lv_sub hl [3, 5, 2, 1, 0] rfl)
                      · have hE := it_t c28 hE
                        obtain rfl := Option.some.inj hE
                        exact hJ114u15 rfl H locs ls hP hS (lv_sub hl [3, 5, 2, 1, 0] rfl)
          · have hE := it_t c10 hE
            refine lv_aload_n C.1 C.2.1 dX5_says_50 rfl (lv_at hl 0 rfl) ?_
            refine lv_bipush (v := (-3)) C.1 C.2.1 dX5_says_51 (by decide) ?_
            obtain ⟨r63, hr63, hE⟩ := it_b hE
            refine m_call (n := 1) (As := [.int (-3)]) (rest := []) C hP hS hml (metM_no l G h0 ad _ _ _ (-3) r63 hr63) q1483 q1485 qs32 q1486 rfl rfl (by decide +kernel) ⟨Nat.le_of_ble_eq_true rfl, Nat.le_of_ble_eq_true rfl⟩ ⟨Nat.le_refl _, Nat.le_refl _⟩ rfl hl.1 rfl (Nat.le_of_ble_eq_true rfl) dX5_says_53 (fun H locs hP hS => ?_)
            obtain rfl := Option.some.inj hE
            exact hret _ _ _ _ dX5_says_56 hP hS
        · have hE := it_t c8 hE
          refine lv_aload_n C.1 C.2.1 dX5_says_34 rfl (lv_at hl 0 rfl) ?_
          refine lv_bipush (v := (-2)) C.1 C.2.1 dX5_says_35 (by decide) ?_
          obtain ⟨r64, hr64, hE⟩ := it_b hE
          refine m_call (n := 1) (As := [.int (-2)]) (rest := []) C hP hS hml (metM_no l G h0 ad _ _ _ (-2) r64 hr64) q1483 q1485 qs32 q1486 rfl rfl (by decide +kernel) ⟨Nat.le_of_ble_eq_true rfl, Nat.le_of_ble_eq_true rfl⟩ ⟨Nat.le_refl _, Nat.le_refl _⟩ rfl hl.1 rfl (Nat.le_of_ble_eq_true rfl) dX5_says_37 (fun H locs hP hS => ?_)
          obtain rfl := Option.some.inj hE
          exact hret _ _ _ _ dX5_says_40 hP hS
      · have hE := it_f c6 hE
        refine lv_aload_n C.1 C.2.1 dX5_says_18 rfl (lv_at hl 0 rfl) ?_
        refine lv_iconst (v := (-1)) C.1 C.2.1 dX5_says_19 (by decide) ?_
        obtain ⟨r65, hr65, hE⟩ := it_b hE
        refine m_call (n := 1) (As := [.int (-1)]) (rest := []) C hP hS hml (metM_no l G h0 ad _ _ _ (-1) r65 hr65) q1483 q1485 qs32 q1486 rfl rfl (by decide +kernel) ⟨Nat.le_of_ble_eq_true rfl, Nat.le_of_ble_eq_true rfl⟩ ⟨Nat.le_refl _, Nat.le_refl _⟩ rfl hl.1 rfl (Nat.le_of_ble_eq_true rfl) dX5_says_20 (fun H locs hP hS => ?_)
        obtain rfl := Option.some.inj hE
        exact hret _ _ _ _ dX5_says_23 hP hS
def sM_wanted (a_held : Nat → Int32) (p1 : Int32) : Option (Int32) :=
  (sM_isShelf p1).bind fun r1 =>
  if r1 = 0 then
    some (-1)
  else
    if gi p1 8 then
    if (a_held (p1).toNatClampNeg) = 2 then
      some (-2)
    else
      if gi p1 8 then
      if (a_held (p1).toNatClampNeg) = 0 then
        some (-3)
      else
        some 0
      else none
    else none
set_option maxHeartbeats 4000000 in
theorem metM_wanted (l : Launch) (G : kG) (h0 : Nat) (ad : Nat → Nat) (F : Nat → Int32) (A : Nat → Nat → Int32) (L : Nat → Nat → Int64) (p1 : Int32) (res : Int32) (hE : sM_wanted (A 18) p1 = some res) : Met l yX5_wanted (ws_ yX5_wanted cX5_wanted 2 (some .int)) ({ frames := 1, cells := 0, slots := 0, locals := 21 } : Room) (mPc G h0 ad F A L [.int p1]) (mQc G h0 ad F A L (some (.int res))) 0 0 (mA h0 ad) := by
  refine m_ofW (by decide) rfl (Nat.le_of_ble_eq_true rfl) ?_
  intro p e s m args below meth c ls C hml hP hS hl hr hlocks
  have hl : lv_has ls 2 [(0, .ref h0), (1, .int p1)] := hl
  obtain ⟨Q, hQ⟩ : ∃ Q, Q = MQ below (mQc G h0 ad F A L (some (.int res))) args s 0 0 (mA h0 ad) := ⟨_, rfl⟩
  rw [← hQ]
  have hret : ∀ (pc : Nat) (ls : Array Slot) (H : Heap) (locs : List Loc), decode cX5_wanted pc = .ok (.ireturn, 1) → mPw G h0 ad F A L H → va_S (mA h0 ad) s.heap H locs → W p l e ({ frames := 1, cells := 0, slots := 0, locals := 21 } : Room) s m args below meth c H locs 0 0 Q (F0 m pc ls [.int res]) := by
    intro pc ls H locs hd hP hS
    rw [hQ]
    exact m_iret C hr hlocks hd hP hS
  clear hQ
  obtain ⟨H, hH⟩ : ∃ H, H = s.heap := ⟨_, rfl⟩
  obtain ⟨locs, hlo⟩ : ∃ locs : List Loc, locs = [] := ⟨_, rfl⟩
  have hP : mPw G h0 ad F A L H := by rw [hH]; exact hP
  have hS : va_S (mA h0 ad) s.heap H locs := by rw [hH, hlo]; exact hS
  suffices hZ : W p l e ({ frames := 1, cells := 0, slots := 0, locals := 21 } : Room) s m args below meth c H locs 0 0 Q (F0 m 0 ls []) by rw [hH, hlo] at hZ; exact hZ
  clear hH hlo
  unfold sM_wanted at hE
  refine lv_aload_n C.1 C.2.1 dX5_wanted_0 rfl (lv_at hl 0 rfl) ?_
  refine lv_iload_n C.1 C.2.1 dX5_wanted_1 rfl (lv_at hl 1 rfl) ?_
  obtain ⟨r1, hr1, hE⟩ := it_b hE
  refine m_call (n := 1) (As := [.int p1]) (rest := []) C hP hS hml (metM_isShelf l G h0 ad _ _ _ p1 r1 hr1) q1479 q1481 qs31 q1482 rfl rfl (by decide +kernel) ⟨Nat.le_of_ble_eq_true rfl, Nat.le_of_ble_eq_true rfl⟩ ⟨Nat.le_refl _, Nat.le_refl _⟩ rfl hl.1 rfl (Nat.le_of_ble_eq_true rfl) dX5_wanted_2 (fun H locs hP hS => ?_)
  refine lv_if_ne (tgt := 12) C.1 C.2.1 dX5_wanted_5 (by decide) (fun c2 => ?_) (fun c2 => ?_)
  · have hE := it_f c2 hE
    refine lv_aload_n C.1 C.2.1 dX5_wanted_12 rfl (lv_at hl 0 rfl) ?_
    refine ma_18 C hP dX5_wanted_13 ?_
    refine lv_iload_n C.1 C.2.1 dX5_wanted_16 rfl (lv_at hl 1 rfl) ?_
    obtain ⟨g3, hE⟩ := it_g hE
    refine ml_18 (v := ((A 18) (p1).toNatClampNeg)) C hP (gi_in g3) rfl dX5_wanted_17 ?_
    refine lv_iconst (v := 2) C.1 C.2.1 dX5_wanted_18 (by decide) ?_
    refine lv_icmp_ne (tgt := 27) C.1 C.2.1 dX5_wanted_19 (by decide) (fun c4 => ?_) (fun c4 => ?_)
    · have hE := it_f c4 hE
      refine lv_aload_n C.1 C.2.1 dX5_wanted_27 rfl (lv_at hl 0 rfl) ?_
      refine ma_18 C hP dX5_wanted_28 ?_
      refine lv_iload_n C.1 C.2.1 dX5_wanted_31 rfl (lv_at hl 1 rfl) ?_
      obtain ⟨g5, hE⟩ := it_g hE
      refine ml_18 (v := ((A 18) (p1).toNatClampNeg)) C hP (gi_in g5) rfl dX5_wanted_32 ?_
      refine lv_if_ne (tgt := 41) C.1 C.2.1 dX5_wanted_33 (by decide) (fun c6 => ?_) (fun c6 => ?_)
      · have hE := it_f c6 hE
        refine lv_iconst (v := 0) C.1 C.2.1 dX5_wanted_41 (by decide) ?_
        obtain rfl := Option.some.inj hE
        exact hret _ _ _ _ dX5_wanted_42 hP hS
      · have hE := it_t c6 hE
        refine lv_bipush (v := (-3)) C.1 C.2.1 dX5_wanted_36 (by decide) ?_
        refine lv_goto (tgt := 42) C.1 C.2.1 dX5_wanted_38 (by decide) ?_
        obtain rfl := Option.some.inj hE
        exact hret _ _ _ _ dX5_wanted_42 hP hS
    · have hE := it_t c4 hE
      refine lv_bipush (v := (-2)) C.1 C.2.1 dX5_wanted_22 (by decide) ?_
      refine lv_goto (tgt := 42) C.1 C.2.1 dX5_wanted_24 (by decide) ?_
      obtain rfl := Option.some.inj hE
      exact hret _ _ _ _ dX5_wanted_42 hP hS
  · have hE := it_t c2 hE
    refine lv_iconst (v := (-1)) C.1 C.2.1 dX5_wanted_8 (by decide) ?_
    refine lv_goto (tgt := 42) C.1 C.2.1 dX5_wanted_9 (by decide) ?_
    obtain rfl := Option.some.inj hE
    exact hret _ _ _ _ dX5_wanted_42 hP hS
def sM_intAt (l_cells : Nat → Int64) (p1 : Int32) (p2 : Int32) : Option (Int32) :=
  if gi ((160 * p1) + p2) 1280 then
  some (((l_cells (((160 * p1) + p2)).toNatClampNeg) : Int64).toInt32)
  else none
set_option maxHeartbeats 4000000 in
theorem metM_intAt (l : Launch) (G : kG) (h0 : Nat) (ad : Nat → Nat) (F : Nat → Int32) (A : Nat → Nat → Int32) (L : Nat → Nat → Int64) (p1 : Int32) (p2 : Int32) (res : Int32) (hE : sM_intAt (L 22) p1 p2 = some res) : Met l yX5_intAt (ws_ yX5_intAt cX5_intAt 3 (some .int)) ({ frames := 0, cells := 0, slots := 0, locals := 0 } : Room) (mPc G h0 ad F A L [.int p1, .int p2]) (mQc G h0 ad F A L (some (.int res))) 0 0 (mA h0 ad) := by
  refine m_ofW (by decide) rfl (Nat.le_of_ble_eq_true rfl) ?_
  intro p e s m args below meth c ls C hml hP hS hl hr hlocks
  have hl : lv_has ls 3 [(0, .ref h0), (1, .int p1), (2, .int p2)] := hl
  obtain ⟨Q, hQ⟩ : ∃ Q, Q = MQ below (mQc G h0 ad F A L (some (.int res))) args s 0 0 (mA h0 ad) := ⟨_, rfl⟩
  rw [← hQ]
  have hret : ∀ (pc : Nat) (ls : Array Slot) (H : Heap) (locs : List Loc), decode cX5_intAt pc = .ok (.ireturn, 1) → mPw G h0 ad F A L H → va_S (mA h0 ad) s.heap H locs → W p l e ({ frames := 0, cells := 0, slots := 0, locals := 0 } : Room) s m args below meth c H locs 0 0 Q (F0 m pc ls [.int res]) := by
    intro pc ls H locs hd hP hS
    rw [hQ]
    exact m_iret C hr hlocks hd hP hS
  clear hQ
  obtain ⟨H, hH⟩ : ∃ H, H = s.heap := ⟨_, rfl⟩
  obtain ⟨locs, hlo⟩ : ∃ locs : List Loc, locs = [] := ⟨_, rfl⟩
  have hP : mPw G h0 ad F A L H := by rw [hH]; exact hP
  have hS : va_S (mA h0 ad) s.heap H locs := by rw [hH, hlo]; exact hS
  suffices hZ : W p l e ({ frames := 0, cells := 0, slots := 0, locals := 0 } : Room) s m args below meth c H locs 0 0 Q (F0 m 0 ls []) by rw [hH, hlo] at hZ; exact hZ
  clear hH hlo
  unfold sM_intAt at hE
  refine lv_aload_n C.1 C.2.1 dX5_intAt_0 rfl (lv_at hl 0 rfl) ?_
  refine ma_22 C hP dX5_intAt_1 ?_
  refine lv_sipush (v := 160) C.1 C.2.1 dX5_intAt_4 (by decide) ?_
  refine lv_iload_n C.1 C.2.1 dX5_intAt_7 rfl (lv_at hl 1 rfl) ?_
  refine lv_imul C.1 C.2.1 dX5_intAt_8 ?_
  refine lv_iload_n C.1 C.2.1 dX5_intAt_9 rfl (lv_at hl 2 rfl) ?_
  refine lv_iadd C.1 C.2.1 dX5_intAt_10 ?_
  obtain ⟨g1, hE⟩ := it_g hE
  refine ml_22 (v := ((L 22) (((160 * p1) + p2)).toNatClampNeg)) C hP (gi_in g1) rfl dX5_intAt_11 ?_
  refine lv_l2i C.1 C.2.1 dX5_intAt_12 rfl ?_
  obtain rfl := Option.some.inj hE
  exact hret _ _ _ _ dX5_intAt_13 hP hS
def sM_bars (a_held : Nat → Int32) (a_size : Nat → Int32) (p1 : Int32) (p2 : Int32) : Option (Int32) :=
  (sM_wanted a_held p1).bind fun r1 =>
  if r1 = 0 then
    if 0 ≤ p2 then
      if gi p1 8 then
      if p2 ≤ (a_size (p1).toNatClampNeg) then
        some 0
      else
        some (-5)
      else none
    else
      some (-4)
  else
    some r1
set_option maxHeartbeats 4000000 in
theorem metM_bars (l : Launch) (G : kG) (h0 : Nat) (ad : Nat → Nat) (F : Nat → Int32) (A : Nat → Nat → Int32) (L : Nat → Nat → Int64) (p1 : Int32) (p2 : Int32) (res : Int32) (hE : sM_bars (A 18) (A 20) p1 p2 = some res) : Met l yX5_bars (ws_ yX5_bars cX5_bars 4 (some .int)) ({ frames := 2, cells := 0, slots := 0, locals := 42 } : Room) (mPc G h0 ad F A L [.int p1, .int p2]) (mQc G h0 ad F A L (some (.int res))) 0 0 (mA h0 ad) := by
  refine m_ofW (by decide) rfl (Nat.le_of_ble_eq_true rfl) ?_
  intro p e s m args below meth c ls C hml hP hS hl hr hlocks
  have hl : lv_has ls 4 [(0, .ref h0), (1, .int p1), (2, .int p2)] := hl
  obtain ⟨Q, hQ⟩ : ∃ Q, Q = MQ below (mQc G h0 ad F A L (some (.int res))) args s 0 0 (mA h0 ad) := ⟨_, rfl⟩
  rw [← hQ]
  have hret : ∀ (pc : Nat) (ls : Array Slot) (H : Heap) (locs : List Loc), decode cX5_bars pc = .ok (.ireturn, 1) → mPw G h0 ad F A L H → va_S (mA h0 ad) s.heap H locs → W p l e ({ frames := 2, cells := 0, slots := 0, locals := 42 } : Room) s m args below meth c H locs 0 0 Q (F0 m pc ls [.int res]) := by
    intro pc ls H locs hd hP hS
    rw [hQ]
    exact m_iret C hr hlocks hd hP hS
  clear hQ
  obtain ⟨H, hH⟩ : ∃ H, H = s.heap := ⟨_, rfl⟩
  obtain ⟨locs, hlo⟩ : ∃ locs : List Loc, locs = [] := ⟨_, rfl⟩
  have hP : mPw G h0 ad F A L H := by rw [hH]; exact hP
  have hS : va_S (mA h0 ad) s.heap H locs := by rw [hH, hlo]; exact hS
  suffices hZ : W p l e ({ frames := 2, cells := 0, slots := 0, locals := 42 } : Room) s m args below meth c H locs 0 0 Q (F0 m 0 ls []) by rw [hH, hlo] at hZ; exact hZ
  clear hH hlo
  unfold sM_bars at hE
  refine lv_aload_n C.1 C.2.1 dX5_bars_0 rfl (lv_at hl 0 rfl) ?_
  refine lv_iload_n C.1 C.2.1 dX5_bars_1 rfl (lv_at hl 1 rfl) ?_
  obtain ⟨r1, hr1, hE⟩ := it_b hE
  refine m_call (n := 1) (As := [.int p1]) (rest := []) C hP hS hml (metM_wanted l G h0 ad _ _ _ p1 r1 hr1) q1555 q1557 qs38 q1558 rfl rfl (by decide +kernel) ⟨Nat.le_of_ble_eq_true rfl, Nat.le_of_ble_eq_true rfl⟩ ⟨Nat.le_refl _, Nat.le_refl _⟩ rfl hl.1 rfl (Nat.le_of_ble_eq_true rfl) dX5_bars_2 (fun H locs hP hS => ?_)
  refine lv_istore_n (lv' := [(3, .int r1), (0, .ref h0), (1, .int p1), (2, .int p2)]) C.1 C.2.1 dX5_bars_5 rfl hl (by decide) rfl (fun ls hl => ?_)
  refine lv_iload_n C.1 C.2.1 dX5_bars_6 rfl (lv_at hl 0 rfl) ?_
  refine lv_if_eq (tgt := 12) C.1 C.2.1 dX5_bars_7 (by decide) (fun c2 => ?_) (fun c2 => ?_)
  · have hE := it_t c2 hE
    refine lv_iload_n C.1 C.2.1 dX5_bars_12 rfl (lv_at hl 3 rfl) ?_
    refine lv_if_ge (tgt := 21) C.1 C.2.1 dX5_bars_13 (by decide) (fun c3 => ?_) (fun c3 => ?_)
    · have hE := it_t c3 hE
      refine lv_iload_n C.1 C.2.1 dX5_bars_21 rfl (lv_at hl 3 rfl) ?_
      refine lv_aload_n C.1 C.2.1 dX5_bars_22 rfl (lv_at hl 1 rfl) ?_
      refine ma_20 C hP dX5_bars_23 ?_
      refine lv_iload_n C.1 C.2.1 dX5_bars_26 rfl (lv_at hl 2 rfl) ?_
      obtain ⟨g4, hE⟩ := it_g hE
      refine ml_20 (v := ((A 20) (p1).toNatClampNeg)) C hP (gi_in g4) rfl dX5_bars_27 ?_
      refine lv_icmp_le (tgt := 36) C.1 C.2.1 dX5_bars_28 (by decide) (fun c5 => ?_) (fun c5 => ?_)
      · have hE := it_t c5 hE
        refine lv_iconst (v := 0) C.1 C.2.1 dX5_bars_36 (by decide) ?_
        obtain rfl := Option.some.inj hE
        exact hret _ _ _ _ dX5_bars_37 hP hS
      · have hE := it_f c5 hE
        refine lv_bipush (v := (-5)) C.1 C.2.1 dX5_bars_31 (by decide) ?_
        refine lv_goto (tgt := 37) C.1 C.2.1 dX5_bars_33 (by decide) ?_
        obtain rfl := Option.some.inj hE
        exact hret _ _ _ _ dX5_bars_37 hP hS
    · have hE := it_f c3 hE
      refine lv_bipush (v := (-4)) C.1 C.2.1 dX5_bars_16 (by decide) ?_
      refine lv_goto (tgt := 37) C.1 C.2.1 dX5_bars_18 (by decide) ?_
      obtain rfl := Option.some.inj hE
      exact hret _ _ _ _ dX5_bars_37 hP hS
  · have hE := it_f c2 hE
    refine lv_iload_n C.1 C.2.1 dX5_bars_10 rfl (lv_at hl 0 rfl) ?_
    obtain rfl := Option.some.inj hE
    exact hret _ _ _ _ dX5_bars_11 hP hS
def sM_adds (f_many : Int32) (a_kind : Nat → Int32) (a_part : Nat → Int32) (a_marks : Nat → Int32) (a_ill : Nat → Int32) (a_had : Nat → Int32) (p1 : Int32) (p2 : Int32) : Option (Int32 × Int32 × (Nat → Int32) × (Nat → Int32) × (Nat → Int32) × (Nat → Int32) × (Nat → Int32)) :=
  if gi f_many 8 then
  if gi f_many 8 then
  if gi f_many 8 then
  if gi f_many 8 then
  if gi f_many 8 then
  some (f_many, (f_many + 1), (upd a_kind (f_many).toNatClampNeg p1), (upd a_part (f_many).toNatClampNeg p2), (upd a_marks (f_many).toNatClampNeg 0), (upd a_ill (f_many).toNatClampNeg 0), (upd a_had (f_many).toNatClampNeg 0))
  else none
  else none
  else none
  else none
  else none
set_option maxHeartbeats 4000000 in
theorem metM_adds (l : Launch) (G : kG) (h0 : Nat) (ad : Nat → Nat) (F : Nat → Int32) (A : Nat → Nat → Int32) (L : Nat → Nat → Int64) (p1 : Int32) (p2 : Int32) (res : Int32 × Int32 × (Nat → Int32) × (Nat → Int32) × (Nat → Int32) × (Nat → Int32) × (Nat → Int32)) (hE : sM_adds (F 0) (A 12) (A 13) (A 14) (A 15) (A 16) p1 p2 = some res) : Met l yX5_adds (ws_ yX5_adds cX5_adds 3 (some .int)) ({ frames := 0, cells := 0, slots := 0, locals := 0 } : Room) (mPc G h0 ad F A L [.int p1, .int p2]) (mQc G h0 ad (upd F 0 res.2.1) (va_up (va_up (va_up (va_up (va_up A 12 res.2.2.1) 13 res.2.2.2.1) 14 res.2.2.2.2.1) 15 res.2.2.2.2.2.1) 16 res.2.2.2.2.2.2) L (some (.int res.1))) 0 0 (mA h0 ad) := by
  refine m_ofW (by decide) rfl (Nat.le_of_ble_eq_true rfl) ?_
  intro p e s m args below meth c ls C hml hP hS hl hr hlocks
  have hl : lv_has ls 3 [(0, .ref h0), (1, .int p1), (2, .int p2)] := hl
  obtain ⟨Q, hQ⟩ : ∃ Q, Q = MQ below (mQc G h0 ad (upd F 0 res.2.1) (va_up (va_up (va_up (va_up (va_up A 12 res.2.2.1) 13 res.2.2.2.1) 14 res.2.2.2.2.1) 15 res.2.2.2.2.2.1) 16 res.2.2.2.2.2.2) L (some (.int res.1))) args s 0 0 (mA h0 ad) := ⟨_, rfl⟩
  rw [← hQ]
  have hret : ∀ (pc : Nat) (ls : Array Slot) (H : Heap) (locs : List Loc), decode cX5_adds pc = .ok (.ireturn, 1) → mPw G h0 ad (upd F 0 res.2.1) (va_up (va_up (va_up (va_up (va_up A 12 res.2.2.1) 13 res.2.2.2.1) 14 res.2.2.2.2.1) 15 res.2.2.2.2.2.1) 16 res.2.2.2.2.2.2) L H → va_S (mA h0 ad) s.heap H locs → W p l e ({ frames := 0, cells := 0, slots := 0, locals := 0 } : Room) s m args below meth c H locs 0 0 Q (F0 m pc ls [.int res.1]) := by
    intro pc ls H locs hd hP hS
    rw [hQ]
    exact m_iret C hr hlocks hd hP hS
  clear hQ
  obtain ⟨H, hH⟩ : ∃ H, H = s.heap := ⟨_, rfl⟩
  obtain ⟨locs, hlo⟩ : ∃ locs : List Loc, locs = [] := ⟨_, rfl⟩
  have hP : mPw G h0 ad F A L H := by rw [hH]; exact hP
  have hS : va_S (mA h0 ad) s.heap H locs := by rw [hH, hlo]; exact hS
  suffices hZ : W p l e ({ frames := 0, cells := 0, slots := 0, locals := 0 } : Room) s m args below meth c H locs 0 0 Q (F0 m 0 ls []) by rw [hH, hlo] at hZ; exact hZ
  clear hH hlo
  unfold sM_adds at hE
  refine lv_aload_n C.1 C.2.1 dX5_adds_0 rfl (lv_at hl 0 rfl) ?_
  refine ma_12 C hP dX5_adds_1 ?_
  refine lv_aload_n C.1 C.2.1 dX5_adds_4 rfl (lv_at hl 0 rfl) ?_
  refine mg_0 (v := (F 0)) C hP rfl dX5_adds_5 ?_
  refine lv_iload_n C.1 C.2.1 dX5_adds_8 rfl (lv_at hl 1 rfl) ?_
  obtain ⟨g1, hE⟩ := it_g hE
  refine ms_12 (a := (A 12)) C hP hS (gi_in g1) rfl dX5_adds_9 (fun H locs hP hS => ?_)
  refine lv_aload_n C.1 C.2.1 dX5_adds_10 rfl (lv_at hl 0 rfl) ?_
  refine ma_13 C hP dX5_adds_11 ?_
  refine lv_aload_n C.1 C.2.1 dX5_adds_14 rfl (lv_at hl 0 rfl) ?_
  refine mg_0 (v := (F 0)) C hP rfl dX5_adds_15 ?_
  refine lv_iload_n C.1 C.2.1 dX5_adds_18 rfl (lv_at hl 2 rfl) ?_
  obtain ⟨g2, hE⟩ := it_g hE
  refine ms_13 (a := (A 13)) C hP hS (gi_in g2) rfl dX5_adds_19 (fun H locs hP hS => ?_)
  refine lv_aload_n C.1 C.2.1 dX5_adds_20 rfl (lv_at hl 0 rfl) ?_
  refine ma_14 C hP dX5_adds_21 ?_
  refine lv_aload_n C.1 C.2.1 dX5_adds_24 rfl (lv_at hl 0 rfl) ?_
  refine mg_0 (v := (F 0)) C hP rfl dX5_adds_25 ?_
  refine lv_iconst (v := 0) C.1 C.2.1 dX5_adds_28 (by decide) ?_
  obtain ⟨g3, hE⟩ := it_g hE
  refine ms_14 (a := (A 14)) C hP hS (gi_in g3) rfl dX5_adds_29 (fun H locs hP hS => ?_)
  refine lv_aload_n C.1 C.2.1 dX5_adds_30 rfl (lv_at hl 0 rfl) ?_
  refine ma_15 C hP dX5_adds_31 ?_
  refine lv_aload_n C.1 C.2.1 dX5_adds_34 rfl (lv_at hl 0 rfl) ?_
  refine mg_0 (v := (F 0)) C hP rfl dX5_adds_35 ?_
  refine lv_iconst (v := 0) C.1 C.2.1 dX5_adds_38 (by decide) ?_
  obtain ⟨g4, hE⟩ := it_g hE
  refine ms_15 (a := (A 15)) C hP hS (gi_in g4) rfl dX5_adds_39 (fun H locs hP hS => ?_)
  refine lv_aload_n C.1 C.2.1 dX5_adds_40 rfl (lv_at hl 0 rfl) ?_
  refine ma_16 C hP dX5_adds_41 ?_
  refine lv_aload_n C.1 C.2.1 dX5_adds_44 rfl (lv_at hl 0 rfl) ?_
  refine mg_0 (v := (F 0)) C hP rfl dX5_adds_45 ?_
  refine lv_iconst (v := 0) C.1 C.2.1 dX5_adds_48 (by decide) ?_
  obtain ⟨g5, hE⟩ := it_g hE
  refine ms_16 (a := (A 16)) C hP hS (gi_in g5) rfl dX5_adds_49 (fun H locs hP hS => ?_)
  refine lv_aload_n C.1 C.2.1 dX5_adds_50 rfl (lv_at hl 0 rfl) ?_
  refine lv_dup C.1 C.2.1 dX5_adds_51 rfl ?_
  refine mg_0 (v := (F 0)) C hP rfl dX5_adds_52 ?_
  refine lv_dup_x1 C.1 C.2.1 dX5_adds_55 rfl rfl ?_
  refine lv_iconst (v := 1) C.1 C.2.1 dX5_adds_56 (by decide) ?_
  refine lv_iadd C.1 C.2.1 dX5_adds_57 ?_
  refine mp_0 C hP hS dX5_adds_58 (fun H locs hP hS => ?_)
  obtain rfl := Option.some.inj hE
  exact hret _ _ _ _ dX5_adds_61 hP hS
def sM_home (f_many : Int32) (a_refused : Nat → Int32) (a_kind : Nat → Int32) (a_part : Nat → Int32) (a_marks : Nat → Int32) (a_ill : Nat → Int32) (a_had : Nat → Int32) (p1 : Int32) (p2 : Int32) : Option (Int32 × Int32 × (Nat → Int32) × (Nat → Int32) × (Nat → Int32) × (Nat → Int32) × (Nat → Int32) × (Nat → Int32)) :=
  if p1 < 0 then
    (sM_no a_refused (-1)).bind fun r2 =>
    some (r2.1, f_many, r2.2, a_kind, a_part, a_marks, a_ill, a_had)
  else
    if p1 ≤ 6 then
      if p2 < 0 then
        (sM_no a_refused (-6)).bind fun r5 =>
        some (r5.1, f_many, r5.2, a_kind, a_part, a_marks, a_ill, a_had)
      else
        if p2 ≤ 9 then
          if f_many = 8 then
            (sM_no a_refused (-7)).bind fun r9 =>
            some (r9.1, f_many, r9.2, a_kind, a_part, a_marks, a_ill, a_had)
          else
            (sM_adds f_many a_kind a_part a_marks a_ill a_had p1 p2).bind fun r8 =>
            some (r8.1, r8.2.1, a_refused, r8.2.2.1, r8.2.2.2.1, r8.2.2.2.2.1, r8.2.2.2.2.2.1, r8.2.2.2.2.2.2)
        else
          (sM_no a_refused (-6)).bind fun r10 =>
          some (r10.1, f_many, r10.2, a_kind, a_part, a_marks, a_ill, a_had)
    else
      (sM_no a_refused (-1)).bind fun r11 =>
      some (r11.1, f_many, r11.2, a_kind, a_part, a_marks, a_ill, a_had)
set_option maxHeartbeats 4000000 in
theorem metM_home (l : Launch) (G : kG) (h0 : Nat) (ad : Nat → Nat) (F : Nat → Int32) (A : Nat → Nat → Int32) (L : Nat → Nat → Int64) (p1 : Int32) (p2 : Int32) (res : Int32 × Int32 × (Nat → Int32) × (Nat → Int32) × (Nat → Int32) × (Nat → Int32) × (Nat → Int32) × (Nat → Int32)) (hE : sM_home (F 0) (A 11) (A 12) (A 13) (A 14) (A 15) (A 16) p1 p2 = some res) : Met l yX5_home (ws_ yX5_home cX5_home 3 (some .int)) ({ frames := 1, cells := 0, slots := 0, locals := 22 } : Room) (mPc G h0 ad F A L [.int p1, .int p2]) (mQc G h0 ad (upd F 0 res.2.1) (va_up (va_up (va_up (va_up (va_up (va_up A 11 res.2.2.1) 12 res.2.2.2.1) 13 res.2.2.2.2.1) 14 res.2.2.2.2.2.1) 15 res.2.2.2.2.2.2.1) 16 res.2.2.2.2.2.2.2) L (some (.int res.1))) 0 0 (mA h0 ad) := by
  refine m_ofW (by decide) rfl (Nat.le_of_ble_eq_true rfl) ?_
  intro p e s m args below meth c ls C hml hP hS hl hr hlocks
  have hl : lv_has ls 3 [(0, .ref h0), (1, .int p1), (2, .int p2)] := hl
  obtain ⟨Q, hQ⟩ : ∃ Q, Q = MQ below (mQc G h0 ad (upd F 0 res.2.1) (va_up (va_up (va_up (va_up (va_up (va_up A 11 res.2.2.1) 12 res.2.2.2.1) 13 res.2.2.2.2.1) 14 res.2.2.2.2.2.1) 15 res.2.2.2.2.2.2.1) 16 res.2.2.2.2.2.2.2) L (some (.int res.1))) args s 0 0 (mA h0 ad) := ⟨_, rfl⟩
  rw [← hQ]
  have hret : ∀ (pc : Nat) (ls : Array Slot) (H : Heap) (locs : List Loc), decode cX5_home pc = .ok (.ireturn, 1) → mPw G h0 ad (upd F 0 res.2.1) (va_up (va_up (va_up (va_up (va_up (va_up A 11 res.2.2.1) 12 res.2.2.2.1) 13 res.2.2.2.2.1) 14 res.2.2.2.2.2.1) 15 res.2.2.2.2.2.2.1) 16 res.2.2.2.2.2.2.2) L H → va_S (mA h0 ad) s.heap H locs → W p l e ({ frames := 1, cells := 0, slots := 0, locals := 22 } : Room) s m args below meth c H locs 0 0 Q (F0 m pc ls [.int res.1]) := by
    intro pc ls H locs hd hP hS
    rw [hQ]
    exact m_iret C hr hlocks hd hP hS
  clear hQ
  obtain ⟨H, hH⟩ : ∃ H, H = s.heap := ⟨_, rfl⟩
  obtain ⟨locs, hlo⟩ : ∃ locs : List Loc, locs = [] := ⟨_, rfl⟩
  have hP : mPw G h0 ad F A L H := by rw [hH]; exact hP
  have hS : va_S (mA h0 ad) s.heap H locs := by rw [hH, hlo]; exact hS
  suffices hZ : W p l e ({ frames := 1, cells := 0, slots := 0, locals := 22 } : Room) s m args below meth c H locs 0 0 Q (F0 m 0 ls []) by rw [hH, hlo] at hZ; exact hZ
  clear hH hlo
  unfold sM_home at hE
  refine lv_iload_n C.1 C.2.1 dX5_home_0 rfl (lv_at hl 1 rfl) ?_
  refine lv_if_lt (tgt := 10) C.1 C.2.1 dX5_home_1 (by decide) (fun c1 => ?_) (fun c1 => ?_)
  · have hE := it_t c1 hE
    refine lv_aload_n C.1 C.2.1 dX5_home_10 rfl (lv_at hl 0 rfl) ?_
    refine lv_iconst (v := (-1)) C.1 C.2.1 dX5_home_11 (by decide) ?_
    obtain ⟨r2, hr2, hE⟩ := it_b hE
    refine m_call (n := 1) (As := [.int (-1)]) (rest := []) C hP hS hml (metM_no l G h0 ad _ _ _ (-1) r2 hr2) q1483 q1485 qs32 q1486 rfl rfl (by decide +kernel) ⟨Nat.le_of_ble_eq_true rfl, Nat.le_of_ble_eq_true rfl⟩ ⟨Nat.le_refl _, Nat.le_refl _⟩ rfl hl.1 rfl (Nat.le_of_ble_eq_true rfl) dX5_home_12 (fun H locs hP hS => ?_)
    obtain rfl := Option.some.inj hE
    exact hret _ _ _ _ dX5_home_15 hP hS
  · have hE := it_f c1 hE
    refine lv_iload_n C.1 C.2.1 dX5_home_4 rfl (lv_at hl 1 rfl) ?_
    refine lv_bipush (v := 6) C.1 C.2.1 dX5_home_5 (by decide) ?_
    refine lv_icmp_le (tgt := 16) C.1 C.2.1 dX5_home_7 (by decide) (fun c3 => ?_) (fun c3 => ?_)
    · have hE := it_t c3 hE
      refine lv_iload_n C.1 C.2.1 dX5_home_16 rfl (lv_at hl 2 rfl) ?_
      refine lv_if_lt (tgt := 26) C.1 C.2.1 dX5_home_17 (by decide) (fun c4 => ?_) (fun c4 => ?_)
      · have hE := it_t c4 hE
        refine lv_aload_n C.1 C.2.1 dX5_home_26 rfl (lv_at hl 0 rfl) ?_
        refine lv_bipush (v := (-6)) C.1 C.2.1 dX5_home_27 (by decide) ?_
        obtain ⟨r5, hr5, hE⟩ := it_b hE
        refine m_call (n := 1) (As := [.int (-6)]) (rest := []) C hP hS hml (metM_no l G h0 ad _ _ _ (-6) r5 hr5) q1483 q1485 qs32 q1486 rfl rfl (by decide +kernel) ⟨Nat.le_of_ble_eq_true rfl, Nat.le_of_ble_eq_true rfl⟩ ⟨Nat.le_refl _, Nat.le_refl _⟩ rfl hl.1 rfl (Nat.le_of_ble_eq_true rfl) dX5_home_29 (fun H locs hP hS => ?_)
        obtain rfl := Option.some.inj hE
        exact hret _ _ _ _ dX5_home_32 hP hS
      · have hE := it_f c4 hE
        refine lv_iload_n C.1 C.2.1 dX5_home_20 rfl (lv_at hl 2 rfl) ?_
        refine lv_bipush (v := 9) C.1 C.2.1 dX5_home_21 (by decide) ?_
        refine lv_icmp_le (tgt := 33) C.1 C.2.1 dX5_home_23 (by decide) (fun c6 => ?_) (fun c6 => ?_)
        · have hE := it_t c6 hE
          refine lv_aload_n C.1 C.2.1 dX5_home_33 rfl (lv_at hl 0 rfl) ?_
          refine mg_0 (v := (F 0)) C hP rfl dX5_home_34 ?_
          refine lv_bipush (v := 8) C.1 C.2.1 dX5_home_37 (by decide) ?_
          refine lv_icmp_ne (tgt := 51) C.1 C.2.1 dX5_home_39 (by decide) (fun c7 => ?_) (fun c7 => ?_)
          · have hE := it_f c7 hE
            refine lv_aload_n C.1 C.2.1 dX5_home_51 rfl (lv_at hl 0 rfl) ?_
            refine lv_iload_n C.1 C.2.1 dX5_home_52 rfl (lv_at hl 1 rfl) ?_
            refine lv_iload_n C.1 C.2.1 dX5_home_53 rfl (lv_at hl 2 rfl) ?_
            obtain ⟨r8, hr8, hE⟩ := it_b hE
            refine m_call (n := 2) (As := [.int p1, .int p2]) (rest := []) C hP hS hml (metM_adds l G h0 ad _ _ _ p1 p2 r8 hr8) q1519 q1521 qs34 q1522 rfl rfl (by decide +kernel) ⟨Nat.le_of_ble_eq_true rfl, Nat.le_of_ble_eq_true rfl⟩ ⟨Nat.le_refl _, Nat.le_refl _⟩ rfl hl.1 rfl (Nat.le_of_ble_eq_true rfl) dX5_home_54 (fun H locs hP hS => ?_)
            obtain rfl := Option.some.inj hE
            exact hret _ _ _ _ dX5_home_57 hP hS
          · have hE := it_t c7 hE
            refine lv_aload_n C.1 C.2.1 dX5_home_42 rfl (lv_at hl 0 rfl) ?_
            refine lv_bipush (v := (-7)) C.1 C.2.1 dX5_home_43 (by decide) ?_
            obtain ⟨r9, hr9, hE⟩ := it_b hE
            refine m_call (n := 1) (As := [.int (-7)]) (rest := []) C hP hS hml (metM_no l G h0 ad _ _ _ (-7) r9 hr9) q1483 q1485 qs32 q1486 rfl rfl (by decide +kernel) ⟨Nat.le_of_ble_eq_true rfl, Nat.le_of_ble_eq_true rfl⟩ ⟨Nat.le_refl _, Nat.le_refl _⟩ rfl hl.1 rfl (Nat.le_of_ble_eq_true rfl) dX5_home_45 (fun H locs hP hS => ?_)
            refine lv_goto (tgt := 57) C.1 C.2.1 dX5_home_48 (by decide) ?_
            obtain rfl := Option.some.inj hE
            exact hret _ _ _ _ dX5_home_57 hP hS
        · have hE := it_f c6 hE
          refine lv_aload_n C.1 C.2.1 dX5_home_26 rfl (lv_at hl 0 rfl) ?_
          refine lv_bipush (v := (-6)) C.1 C.2.1 dX5_home_27 (by decide) ?_
          obtain ⟨r10, hr10, hE⟩ := it_b hE
          refine m_call (n := 1) (As := [.int (-6)]) (rest := []) C hP hS hml (metM_no l G h0 ad _ _ _ (-6) r10 hr10) q1483 q1485 qs32 q1486 rfl rfl (by decide +kernel) ⟨Nat.le_of_ble_eq_true rfl, Nat.le_of_ble_eq_true rfl⟩ ⟨Nat.le_refl _, Nat.le_refl _⟩ rfl hl.1 rfl (Nat.le_of_ble_eq_true rfl) dX5_home_29 (fun H locs hP hS => ?_)
          obtain rfl := Option.some.inj hE
          exact hret _ _ _ _ dX5_home_32 hP hS
    · have hE := it_f c3 hE
      refine lv_aload_n C.1 C.2.1 dX5_home_10 rfl (lv_at hl 0 rfl) ?_
      refine lv_iconst (v := (-1)) C.1 C.2.1 dX5_home_11 (by decide) ?_
      obtain ⟨r11, hr11, hE⟩ := it_b hE
      refine m_call (n := 1) (As := [.int (-1)]) (rest := []) C hP hS hml (metM_no l G h0 ad _ _ _ (-1) r11 hr11) q1483 q1485 qs32 q1486 rfl rfl (by decide +kernel) ⟨Nat.le_of_ble_eq_true rfl, Nat.le_of_ble_eq_true rfl⟩ ⟨Nat.le_refl _, Nat.le_refl _⟩ rfl hl.1 rfl (Nat.le_of_ble_eq_true rfl) dX5_home_12 (fun H locs hP hS => ?_)
      obtain rfl := Option.some.inj hE
      exact hret _ _ _ _ dX5_home_15 hP hS
def sM_homeOf (f_many : Int32) (a_refused : Nat → Int32) (a_kind : Nat → Int32) (a_part : Nat → Int32) (a_marks : Nat → Int32) (a_ill : Nat → Int32) (a_had : Nat → Int32) (p1 : Int32) (p2 : Int32) : Option (Int32 × (Nat → Int32)) :=
  (sM_isHome f_many p1).bind fun r1 =>
  if r1 = 0 then
    (sM_no a_refused (-5)).bind fun r14 =>
    some (r14.1, r14.2)
  else
    if p2 = 0 then
      if gi p1 8 then
      some ((a_kind (p1).toNatClampNeg), a_refused)
      else none
    else
    if p2 = 1 then
      if gi p1 8 then
      some ((a_part (p1).toNatClampNeg), a_refused)
      else none
    else
    if p2 = 2 then
      if gi p1 8 then
      some ((a_marks (p1).toNatClampNeg), a_refused)
      else none
    else
    if p2 = 3 then
      if gi p1 8 then
      some ((a_ill (p1).toNatClampNeg), a_refused)
      else none
    else
    if p2 = 4 then
      if gi p1 8 then
      some ((a_had (p1).toNatClampNeg), a_refused)
      else none
    else
    (sM_no a_refused (-5)).bind fun r13 =>
    some (r13.1, r13.2)
set_option maxHeartbeats 4000000 in
theorem metM_homeOf (l : Launch) (G : kG) (h0 : Nat) (ad : Nat → Nat) (F : Nat → Int32) (A : Nat → Nat → Int32) (L : Nat → Nat → Int64) (p1 : Int32) (p2 : Int32) (res : Int32 × (Nat → Int32)) (hE : sM_homeOf (F 0) (A 11) (A 12) (A 13) (A 14) (A 15) (A 16) p1 p2 = some res) : Met l yX5_homeOf (ws_ yX5_homeOf cX5_homeOf 3 (some .int)) ({ frames := 1, cells := 0, slots := 0, locals := 21 } : Room) (mPc G h0 ad F A L [.int p1, .int p2]) (mQc G h0 ad F (va_up A 11 res.2) L (some (.int res.1))) 0 0 (mA h0 ad) := by
  refine m_ofW (by decide) rfl (Nat.le_of_ble_eq_true rfl) ?_
  intro p e s m args below meth c ls C hml hP hS hl hr hlocks
  have hl : lv_has ls 3 [(0, .ref h0), (1, .int p1), (2, .int p2)] := hl
  obtain ⟨Q, hQ⟩ : ∃ Q, Q = MQ below (mQc G h0 ad F (va_up A 11 res.2) L (some (.int res.1))) args s 0 0 (mA h0 ad) := ⟨_, rfl⟩
  rw [← hQ]
  have hret : ∀ (pc : Nat) (ls : Array Slot) (H : Heap) (locs : List Loc), decode cX5_homeOf pc = .ok (.ireturn, 1) → mPw G h0 ad F (va_up A 11 res.2) L H → va_S (mA h0 ad) s.heap H locs → W p l e ({ frames := 1, cells := 0, slots := 0, locals := 21 } : Room) s m args below meth c H locs 0 0 Q (F0 m pc ls [.int res.1]) := by
    intro pc ls H locs hd hP hS
    rw [hQ]
    exact m_iret C hr hlocks hd hP hS
  clear hQ
  obtain ⟨H, hH⟩ : ∃ H, H = s.heap := ⟨_, rfl⟩
  obtain ⟨locs, hlo⟩ : ∃ locs : List Loc, locs = [] := ⟨_, rfl⟩
  have hP : mPw G h0 ad F A L H := by rw [hH]; exact hP
  have hS : va_S (mA h0 ad) s.heap H locs := by rw [hH, hlo]; exact hS
  suffices hZ : W p l e ({ frames := 1, cells := 0, slots := 0, locals := 21 } : Room) s m args below meth c H locs 0 0 Q (F0 m 0 ls []) by rw [hH, hlo] at hZ; exact hZ
  clear hH hlo
  unfold sM_homeOf at hE
  refine lv_aload_n C.1 C.2.1 dX5_homeOf_0 rfl (lv_at hl 0 rfl) ?_
  refine lv_iload_n C.1 C.2.1 dX5_homeOf_1 rfl (lv_at hl 1 rfl) ?_
  obtain ⟨r1, hr1, hE⟩ := it_b hE
  refine m_call (n := 1) (As := [.int p1]) (rest := []) C hP hS hml (metM_isHome l G h0 ad _ _ _ p1 r1 hr1) q1503 q1505 qs33 q1506 rfl rfl (by decide +kernel) ⟨Nat.le_of_ble_eq_true rfl, Nat.le_of_ble_eq_true rfl⟩ ⟨Nat.le_refl _, Nat.le_refl _⟩ rfl hl.1 rfl (Nat.le_of_ble_eq_true rfl) dX5_homeOf_2 (fun H locs hP hS => ?_)
  refine lv_if_ne (tgt := 15) C.1 C.2.1 dX5_homeOf_5 (by decide) (fun c2 => ?_) (fun c2 => ?_)
  · have hE := it_f c2 hE
    refine lv_iload_n C.1 C.2.1 dX5_homeOf_15 rfl (lv_at hl 2 rfl) ?_
    by_cases c3 : p2 = 0
    · have hE := it_t c3 hE
      refine lv_tableIn (tgt := 52) C.1 C.2.1 dX5_homeOf_16 (by rw [c3]; decide) (by rw [c3]; decide) (by rw [c3]; rfl) (by decide) ?_
      refine lv_aload_n C.1 C.2.1 dX5_homeOf_52 rfl (lv_at hl 0 rfl) ?_
      refine ma_12 C hP dX5_homeOf_53 ?_
      refine lv_iload_n C.1 C.2.1 dX5_homeOf_56 rfl (lv_at hl 1 rfl) ?_
      obtain ⟨g4, hE⟩ := it_g hE
      refine ml_12 (v := ((A 12) (p1).toNatClampNeg)) C hP (gi_in g4) rfl dX5_homeOf_57 ?_
      obtain rfl := Option.some.inj hE
      exact hret _ _ _ _ dX5_homeOf_58 hP hS
    have hE := it_f c3 hE
    by_cases c5 : p2 = 1
    · have hE := it_t c5 hE
      refine lv_tableIn (tgt := 59) C.1 C.2.1 dX5_homeOf_16 (by rw [c5]; decide) (by rw [c5]; decide) (by rw [c5]; rfl) (by decide) ?_
      refine lv_aload_n C.1 C.2.1 dX5_homeOf_59 rfl (lv_at hl 0 rfl) ?_
      refine ma_13 C hP dX5_homeOf_60 ?_
      refine lv_iload_n C.1 C.2.1 dX5_homeOf_63 rfl (lv_at hl 1 rfl) ?_
      obtain ⟨g6, hE⟩ := it_g hE
      refine ml_13 (v := ((A 13) (p1).toNatClampNeg)) C hP (gi_in g6) rfl dX5_homeOf_64 ?_
      obtain rfl := Option.some.inj hE
      exact hret _ _ _ _ dX5_homeOf_65 hP hS
    have hE := it_f c5 hE
    by_cases c7 : p2 = 2
    · have hE := it_t c7 hE
      refine lv_tableIn (tgt := 66) C.1 C.2.1 dX5_homeOf_16 (by rw [c7]; decide) (by rw [c7]; decide) (by rw [c7]; rfl) (by decide) ?_
      refine lv_aload_n C.1 C.2.1 dX5_homeOf_66 rfl (lv_at hl 0 rfl) ?_
      refine ma_14 C hP dX5_homeOf_67 ?_
      refine lv_iload_n C.1 C.2.1 dX5_homeOf_70 rfl (lv_at hl 1 rfl) ?_
      obtain ⟨g8, hE⟩ := it_g hE
      refine ml_14 (v := ((A 14) (p1).toNatClampNeg)) C hP (gi_in g8) rfl dX5_homeOf_71 ?_
      obtain rfl := Option.some.inj hE
      exact hret _ _ _ _ dX5_homeOf_72 hP hS
    have hE := it_f c7 hE
    by_cases c9 : p2 = 3
    · have hE := it_t c9 hE
      refine lv_tableIn (tgt := 73) C.1 C.2.1 dX5_homeOf_16 (by rw [c9]; decide) (by rw [c9]; decide) (by rw [c9]; rfl) (by decide) ?_
      refine lv_aload_n C.1 C.2.1 dX5_homeOf_73 rfl (lv_at hl 0 rfl) ?_
      refine ma_15 C hP dX5_homeOf_74 ?_
      refine lv_iload_n C.1 C.2.1 dX5_homeOf_77 rfl (lv_at hl 1 rfl) ?_
      obtain ⟨g10, hE⟩ := it_g hE
      refine ml_15 (v := ((A 15) (p1).toNatClampNeg)) C hP (gi_in g10) rfl dX5_homeOf_78 ?_
      obtain rfl := Option.some.inj hE
      exact hret _ _ _ _ dX5_homeOf_79 hP hS
    have hE := it_f c9 hE
    by_cases c11 : p2 = 4
    · have hE := it_t c11 hE
      refine lv_tableIn (tgt := 80) C.1 C.2.1 dX5_homeOf_16 (by rw [c11]; decide) (by rw [c11]; decide) (by rw [c11]; rfl) (by decide) ?_
      refine lv_aload_n C.1 C.2.1 dX5_homeOf_80 rfl (lv_at hl 0 rfl) ?_
      refine ma_16 C hP dX5_homeOf_81 ?_
      refine lv_iload_n C.1 C.2.1 dX5_homeOf_84 rfl (lv_at hl 1 rfl) ?_
      obtain ⟨g12, hE⟩ := it_g hE
      refine ml_16 (v := ((A 16) (p1).toNatClampNeg)) C hP (gi_in g12) rfl dX5_homeOf_85 ?_
      obtain rfl := Option.some.inj hE
      exact hret _ _ _ _ dX5_homeOf_86 hP hS
    have hE := it_f c11 hE
    refine lv_tableOut (tgt := 87) C.1 C.2.1 dX5_homeOf_16 (ts_e (ts_s (ts_s (ts_s (ts_s (ts_s (ts_0 0) c3 rfl rfl) c5 rfl rfl) c7 rfl rfl) c9 rfl rfl) c11 rfl rfl) rfl) (by decide) ?_
    refine lv_aload_n C.1 C.2.1 dX5_homeOf_87 rfl (lv_at hl 0 rfl) ?_
    refine lv_bipush (v := (-5)) C.1 C.2.1 dX5_homeOf_88 (by decide) ?_
    obtain ⟨r13, hr13, hE⟩ := it_b hE
    refine m_call (n := 1) (As := [.int (-5)]) (rest := []) C hP hS hml (metM_no l G h0 ad _ _ _ (-5) r13 hr13) q1483 q1485 qs32 q1486 rfl rfl (by decide +kernel) ⟨Nat.le_of_ble_eq_true rfl, Nat.le_of_ble_eq_true rfl⟩ ⟨Nat.le_refl _, Nat.le_refl _⟩ rfl hl.1 rfl (Nat.le_of_ble_eq_true rfl) dX5_homeOf_90 (fun H locs hP hS => ?_)
    obtain rfl := Option.some.inj hE
    exact hret _ _ _ _ dX5_homeOf_93 hP hS
  · have hE := it_t c2 hE
    refine lv_aload_n C.1 C.2.1 dX5_homeOf_8 rfl (lv_at hl 0 rfl) ?_
    refine lv_bipush (v := (-5)) C.1 C.2.1 dX5_homeOf_9 (by decide) ?_
    obtain ⟨r14, hr14, hE⟩ := it_b hE
    refine m_call (n := 1) (As := [.int (-5)]) (rest := []) C hP hS hml (metM_no l G h0 ad _ _ _ (-5) r14 hr14) q1483 q1485 qs32 q1486 rfl rfl (by decide +kernel) ⟨Nat.le_of_ble_eq_true rfl, Nat.le_of_ble_eq_true rfl⟩ ⟨Nat.le_refl _, Nat.le_refl _⟩ rfl hl.1 rfl (Nat.le_of_ble_eq_true rfl) dX5_homeOf_11 (fun H locs hP hS => ?_)
    obtain rfl := Option.some.inj hE
    exact hret _ _ _ _ dX5_homeOf_14 hP hS
def sM_marks (f_many : Int32) (a_refused : Nat → Int32) (a_marks : Nat → Int32) (p1 : Int32) (p2 : Int32) : Option (Int32 × (Nat → Int32) × (Nat → Int32)) :=
  (sM_isHome f_many p1).bind fun r1 =>
  if r1 = 0 then
    (sM_no a_refused (-1)).bind fun r9 =>
    some (r9.1, r9.2, a_marks)
  else
    if p2 < 0 then
      (sM_no a_refused (-6)).bind fun r4 =>
      some (r4.1, r4.2, a_marks)
    else
      if p2 ≤ 9 then
        if gi p1 8 then
        if gi p1 8 then
        some ((a_marks (p1).toNatClampNeg), a_refused, (upd a_marks (p1).toNatClampNeg p2))
        else none
        else none
      else
        (sM_no a_refused (-6)).bind fun r8 =>
        some (r8.1, r8.2, a_marks)
set_option maxHeartbeats 4000000 in
theorem metM_marks (l : Launch) (G : kG) (h0 : Nat) (ad : Nat → Nat) (F : Nat → Int32) (A : Nat → Nat → Int32) (L : Nat → Nat → Int64) (p1 : Int32) (p2 : Int32) (res : Int32 × (Nat → Int32) × (Nat → Int32)) (hE : sM_marks (F 0) (A 11) (A 14) p1 p2 = some res) : Met l yX5_marks (ws_ yX5_marks cX5_marks 4 (some .int)) ({ frames := 1, cells := 0, slots := 0, locals := 21 } : Room) (mPc G h0 ad F A L [.int p1, .int p2]) (mQc G h0 ad F (va_up (va_up A 11 res.2.1) 14 res.2.2) L (some (.int res.1))) 0 0 (mA h0 ad) := by
  refine m_ofW (by decide) rfl (Nat.le_of_ble_eq_true rfl) ?_
  intro p e s m args below meth c ls C hml hP hS hl hr hlocks
  have hl : lv_has ls 4 [(0, .ref h0), (1, .int p1), (2, .int p2)] := hl
  obtain ⟨Q, hQ⟩ : ∃ Q, Q = MQ below (mQc G h0 ad F (va_up (va_up A 11 res.2.1) 14 res.2.2) L (some (.int res.1))) args s 0 0 (mA h0 ad) := ⟨_, rfl⟩
  rw [← hQ]
  have hret : ∀ (pc : Nat) (ls : Array Slot) (H : Heap) (locs : List Loc), decode cX5_marks pc = .ok (.ireturn, 1) → mPw G h0 ad F (va_up (va_up A 11 res.2.1) 14 res.2.2) L H → va_S (mA h0 ad) s.heap H locs → W p l e ({ frames := 1, cells := 0, slots := 0, locals := 21 } : Room) s m args below meth c H locs 0 0 Q (F0 m pc ls [.int res.1]) := by
    intro pc ls H locs hd hP hS
    rw [hQ]
    exact m_iret C hr hlocks hd hP hS
  clear hQ
  obtain ⟨H, hH⟩ : ∃ H, H = s.heap := ⟨_, rfl⟩
  obtain ⟨locs, hlo⟩ : ∃ locs : List Loc, locs = [] := ⟨_, rfl⟩
  have hP : mPw G h0 ad F A L H := by rw [hH]; exact hP
  have hS : va_S (mA h0 ad) s.heap H locs := by rw [hH, hlo]; exact hS
  suffices hZ : W p l e ({ frames := 1, cells := 0, slots := 0, locals := 21 } : Room) s m args below meth c H locs 0 0 Q (F0 m 0 ls []) by rw [hH, hlo] at hZ; exact hZ
  clear hH hlo
  unfold sM_marks at hE
  refine lv_aload_n C.1 C.2.1 dX5_marks_0 rfl (lv_at hl 0 rfl) ?_
  refine lv_iload_n C.1 C.2.1 dX5_marks_1 rfl (lv_at hl 1 rfl) ?_
  obtain ⟨r1, hr1, hE⟩ := it_b hE
  refine m_call (n := 1) (As := [.int p1]) (rest := []) C hP hS hml (metM_isHome l G h0 ad _ _ _ p1 r1 hr1) q1503 q1505 qs33 q1506 rfl rfl (by decide +kernel) ⟨Nat.le_of_ble_eq_true rfl, Nat.le_of_ble_eq_true rfl⟩ ⟨Nat.le_refl _, Nat.le_refl _⟩ rfl hl.1 rfl (Nat.le_of_ble_eq_true rfl) dX5_marks_2 (fun H locs hP hS => ?_)
  refine lv_if_ne (tgt := 14) C.1 C.2.1 dX5_marks_5 (by decide) (fun c2 => ?_) (fun c2 => ?_)
  · have hE := it_f c2 hE
    refine lv_iload_n C.1 C.2.1 dX5_marks_14 rfl (lv_at hl 2 rfl) ?_
    refine lv_if_lt (tgt := 24) C.1 C.2.1 dX5_marks_15 (by decide) (fun c3 => ?_) (fun c3 => ?_)
    · have hE := it_t c3 hE
      refine lv_aload_n C.1 C.2.1 dX5_marks_24 rfl (lv_at hl 0 rfl) ?_
      refine lv_bipush (v := (-6)) C.1 C.2.1 dX5_marks_25 (by decide) ?_
      obtain ⟨r4, hr4, hE⟩ := it_b hE
      refine m_call (n := 1) (As := [.int (-6)]) (rest := []) C hP hS hml (metM_no l G h0 ad _ _ _ (-6) r4 hr4) q1483 q1485 qs32 q1486 rfl rfl (by decide +kernel) ⟨Nat.le_of_ble_eq_true rfl, Nat.le_of_ble_eq_true rfl⟩ ⟨Nat.le_refl _, Nat.le_refl _⟩ rfl hl.1 rfl (Nat.le_of_ble_eq_true rfl) dX5_marks_27 (fun H locs hP hS => ?_)
      obtain rfl := Option.some.inj hE
      exact hret _ _ _ _ dX5_marks_30 hP hS
    · have hE := it_f c3 hE
      refine lv_iload_n C.1 C.2.1 dX5_marks_18 rfl (lv_at hl 2 rfl) ?_
      refine lv_bipush (v := 9) C.1 C.2.1 dX5_marks_19 (by decide) ?_
      refine lv_icmp_le (tgt := 31) C.1 C.2.1 dX5_marks_21 (by decide) (fun c5 => ?_) (fun c5 => ?_)
      · have hE := it_t c5 hE
        refine lv_aload_n C.1 C.2.1 dX5_marks_31 rfl (lv_at hl 0 rfl) ?_
        refine ma_14 C hP dX5_marks_32 ?_
        refine lv_iload_n C.1 C.2.1 dX5_marks_35 rfl (lv_at hl 1 rfl) ?_
        obtain ⟨g6, hE⟩ := it_g hE
        refine ml_14 (v := ((A 14) (p1).toNatClampNeg)) C hP (gi_in g6) rfl dX5_marks_36 ?_
        refine lv_istore_n (lv' := [(3, .int ((A 14) (p1).toNatClampNeg)), (0, .ref h0), (1, .int p1), (2, .int p2)]) C.1 C.2.1 dX5_marks_37 rfl hl (by decide) rfl (fun ls hl => ?_)
        refine lv_aload_n C.1 C.2.1 dX5_marks_38 rfl (lv_at hl 1 rfl) ?_
        refine ma_14 C hP dX5_marks_39 ?_
        refine lv_iload_n C.1 C.2.1 dX5_marks_42 rfl (lv_at hl 2 rfl) ?_
        refine lv_iload_n C.1 C.2.1 dX5_marks_43 rfl (lv_at hl 3 rfl) ?_
        obtain ⟨g7, hE⟩ := it_g hE
        refine ms_14 (a := (A 14)) C hP hS (gi_in g7) rfl dX5_marks_44 (fun H locs hP hS => ?_)
        refine lv_iload_n C.1 C.2.1 dX5_marks_45 rfl (lv_at hl 0 rfl) ?_
        obtain rfl := Option.some.inj hE
        exact hret _ _ _ _ dX5_marks_46 hP hS
      · have hE := it_f c5 hE
        refine lv_aload_n C.1 C.2.1 dX5_marks_24 rfl (lv_at hl 0 rfl) ?_
        refine lv_bipush (v := (-6)) C.1 C.2.1 dX5_marks_25 (by decide) ?_
        obtain ⟨r8, hr8, hE⟩ := it_b hE
        refine m_call (n := 1) (As := [.int (-6)]) (rest := []) C hP hS hml (metM_no l G h0 ad _ _ _ (-6) r8 hr8) q1483 q1485 qs32 q1486 rfl rfl (by decide +kernel) ⟨Nat.le_of_ble_eq_true rfl, Nat.le_of_ble_eq_true rfl⟩ ⟨Nat.le_refl _, Nat.le_refl _⟩ rfl hl.1 rfl (Nat.le_of_ble_eq_true rfl) dX5_marks_27 (fun H locs hP hS => ?_)
        obtain rfl := Option.some.inj hE
        exact hret _ _ _ _ dX5_marks_30 hP hS
  · have hE := it_t c2 hE
    refine lv_aload_n C.1 C.2.1 dX5_marks_8 rfl (lv_at hl 0 rfl) ?_
    refine lv_iconst (v := (-1)) C.1 C.2.1 dX5_marks_9 (by decide) ?_
    obtain ⟨r9, hr9, hE⟩ := it_b hE
    refine m_call (n := 1) (As := [.int (-1)]) (rest := []) C hP hS hml (metM_no l G h0 ad _ _ _ (-1) r9 hr9) q1483 q1485 qs32 q1486 rfl rfl (by decide +kernel) ⟨Nat.le_of_ble_eq_true rfl, Nat.le_of_ble_eq_true rfl⟩ ⟨Nat.le_refl _, Nat.le_refl _⟩ rfl hl.1 rfl (Nat.le_of_ble_eq_true rfl) dX5_marks_10 (fun H locs hP hS => ?_)
    obtain rfl := Option.some.inj hE
    exact hret _ _ _ _ dX5_marks_13 hP hS
def sM_allergic (f_many : Int32) (a_refused : Nat → Int32) (a_ill : Nat → Int32) (p1 : Int32) (p2 : Int32) : Option (Int32 × (Nat → Int32) × (Nat → Int32)) :=
  (sM_isHome f_many p1).bind fun r1 =>
  if r1 = 0 then
    (sM_no a_refused (-1)).bind fun r8 =>
    some (r8.1, r8.2, a_ill)
  else
    @Option.bind (Int32) _ (
      if p2 = 0 then
        some 0
      else
        some 1) fun u4 =>
    if gi p1 8 then
    if (a_ill (p1).toNatClampNeg) = u4 then
      some (0, a_refused, a_ill)
    else
      if gi p1 8 then
      some (1, a_refused, (upd a_ill (p1).toNatClampNeg u4))
      else none
    else none
set_option maxHeartbeats 4000000 in
theorem metM_allergic (l : Launch) (G : kG) (h0 : Nat) (ad : Nat → Nat) (F : Nat → Int32) (A : Nat → Nat → Int32) (L : Nat → Nat → Int64) (p1 : Int32) (p2 : Int32) (res : Int32 × (Nat → Int32) × (Nat → Int32)) (hE : sM_allergic (F 0) (A 11) (A 15) p1 p2 = some res) : Met l yX5_allergic (ws_ yX5_allergic cX5_allergic 4 (some .int)) ({ frames := 1, cells := 0, slots := 0, locals := 21 } : Room) (mPc G h0 ad F A L [.int p1, .int p2]) (mQc G h0 ad F (va_up (va_up A 11 res.2.1) 15 res.2.2) L (some (.int res.1))) 0 0 (mA h0 ad) := by
  refine m_ofW (by decide) rfl (Nat.le_of_ble_eq_true rfl) ?_
  intro p e s m args below meth c ls C hml hP hS hl hr hlocks
  have hl : lv_has ls 4 [(0, .ref h0), (1, .int p1), (2, .int p2)] := hl
  obtain ⟨Q, hQ⟩ : ∃ Q, Q = MQ below (mQc G h0 ad F (va_up (va_up A 11 res.2.1) 15 res.2.2) L (some (.int res.1))) args s 0 0 (mA h0 ad) := ⟨_, rfl⟩
  rw [← hQ]
  have hret : ∀ (pc : Nat) (ls : Array Slot) (H : Heap) (locs : List Loc), decode cX5_allergic pc = .ok (.ireturn, 1) → mPw G h0 ad F (va_up (va_up A 11 res.2.1) 15 res.2.2) L H → va_S (mA h0 ad) s.heap H locs → W p l e ({ frames := 1, cells := 0, slots := 0, locals := 21 } : Room) s m args below meth c H locs 0 0 Q (F0 m pc ls [.int res.1]) := by
    intro pc ls H locs hd hP hS
    rw [hQ]
    exact m_iret C hr hlocks hd hP hS
  clear hQ
  obtain ⟨H, hH⟩ : ∃ H, H = s.heap := ⟨_, rfl⟩
  obtain ⟨locs, hlo⟩ : ∃ locs : List Loc, locs = [] := ⟨_, rfl⟩
  have hP : mPw G h0 ad F A L H := by rw [hH]; exact hP
  have hS : va_S (mA h0 ad) s.heap H locs := by rw [hH, hlo]; exact hS
  suffices hZ : W p l e ({ frames := 1, cells := 0, slots := 0, locals := 21 } : Room) s m args below meth c H locs 0 0 Q (F0 m 0 ls []) by rw [hH, hlo] at hZ; exact hZ
  clear hH hlo
  unfold sM_allergic at hE
  refine lv_aload_n C.1 C.2.1 dX5_allergic_0 rfl (lv_at hl 0 rfl) ?_
  refine lv_iload_n C.1 C.2.1 dX5_allergic_1 rfl (lv_at hl 1 rfl) ?_
  obtain ⟨r1, hr1, hE⟩ := it_b hE
  refine m_call (n := 1) (As := [.int p1]) (rest := []) C hP hS hml (metM_isHome l G h0 ad _ _ _ p1 r1 hr1) q1503 q1505 qs33 q1506 rfl rfl (by decide +kernel) ⟨Nat.le_of_ble_eq_true rfl, Nat.le_of_ble_eq_true rfl⟩ ⟨Nat.le_refl _, Nat.le_refl _⟩ rfl hl.1 rfl (Nat.le_of_ble_eq_true rfl) dX5_allergic_2 (fun H locs hP hS => ?_)
  refine lv_if_ne (tgt := 14) C.1 C.2.1 dX5_allergic_5 (by decide) (fun c2 => ?_) (fun c2 => ?_)
  · have hE := it_f c2 hE
    refine lv_iload_n C.1 C.2.1 dX5_allergic_14 rfl (lv_at hl 2 rfl) ?_
    obtain ⟨u4, hR, hE⟩ := it_b hE
    have hJ23u4 : ∀ (H : Heap) (locs : List Loc) (ls : Array Slot), mPw G h0 ad F A L H → va_S (mA h0 ad) s.heap H locs → lv_has ls 4 [(0, .ref h0), (1, .int p1)] → W p l e ({ frames := 1, cells := 0, slots := 0, locals := 21 } : Room) s m args below meth c H locs 0 0 Q (F0 m 23 ls [.int u4]) := by
      intro H locs ls hP hS hl
      refine lv_istore_n (lv' := [(3, .int u4), (0, .ref h0), (1, .int p1)]) C.1 C.2.1 dX5_allergic_23 rfl hl (by decide) rfl (fun ls hl => ?_)
      refine lv_aload_n C.1 C.2.1 dX5_allergic_24 rfl (lv_at hl 1 rfl) ?_
      refine ma_15 C hP dX5_allergic_25 ?_
      refine lv_iload_n C.1 C.2.1 dX5_allergic_28 rfl (lv_at hl 2 rfl) ?_
      obtain ⟨g5, hE⟩ := it_g hE
      refine ml_15 (v := ((A 15) (p1).toNatClampNeg)) C hP (gi_in g5) rfl dX5_allergic_29 ?_
      refine lv_iload_n C.1 C.2.1 dX5_allergic_30 rfl (lv_at hl 0 rfl) ?_
      refine lv_icmp_ne (tgt := 36) C.1 C.2.1 dX5_allergic_31 (by decide) (fun c6 => ?_) (fun c6 => ?_)
      · have hE := it_f c6 hE
        refine lv_aload_n C.1 C.2.1 dX5_allergic_36 rfl (lv_at hl 1 rfl) ?_
        refine ma_15 C hP dX5_allergic_37 ?_
        refine lv_iload_n C.1 C.2.1 dX5_allergic_40 rfl (lv_at hl 2 rfl) ?_
        refine lv_iload_n C.1 C.2.1 dX5_allergic_41 rfl (lv_at hl 0 rfl) ?_
        obtain ⟨g7, hE⟩ := it_g hE
        refine ms_15 (a := (A 15)) C hP hS (gi_in g7) rfl dX5_allergic_42 (fun H locs hP hS => ?_)
        refine lv_iconst (v := 1) C.1 C.2.1 dX5_allergic_43 (by decide) ?_
        obtain rfl := Option.some.inj hE
        exact hret _ _ _ _ dX5_allergic_44 hP hS
      · have hE := it_t c6 hE
        refine lv_iconst (v := 0) C.1 C.2.1 dX5_allergic_34 (by decide) ?_
        obtain rfl := Option.some.inj hE
        exact hret _ _ _ _ dX5_allergic_35 hP hS
    have hE := hR
    refine lv_if_eq (tgt := 22) C.1 C.2.1 dX5_allergic_15 (by decide) (fun c3 => ?_) (fun c3 => ?_)
    · have hE := it_t c3 hE
      refine lv_iconst (v := 0) C.1 C.2.1 dX5_allergic_22 (by decide) ?_
      obtain rfl := Option.some.inj hE
      exact hJ23u4 H locs ls hP hS (lv_sub hl [0, 1] rfl)
    · have hE := it_f c3 hE
      refine lv_iconst (v := 1) C.1 C.2.1 dX5_allergic_18 (by decide) ?_
      refine lv_goto (tgt := 23) C.1 C.2.1 dX5_allergic_19 (by decide) ?_
      obtain rfl := Option.some.inj hE
      exact hJ23u4 H locs ls hP hS (lv_sub hl [0, 1] rfl)
  · have hE := it_t c2 hE
    refine lv_aload_n C.1 C.2.1 dX5_allergic_8 rfl (lv_at hl 0 rfl) ?_
    refine lv_iconst (v := (-1)) C.1 C.2.1 dX5_allergic_9 (by decide) ?_
    obtain ⟨r8, hr8, hE⟩ := it_b hE
    refine m_call (n := 1) (As := [.int (-1)]) (rest := []) C hP hS hml (metM_no l G h0 ad _ _ _ (-1) r8 hr8) q1483 q1485 qs32 q1486 rfl rfl (by decide +kernel) ⟨Nat.le_of_ble_eq_true rfl, Nat.le_of_ble_eq_true rfl⟩ ⟨Nat.le_refl _, Nat.le_refl _⟩ rfl hl.1 rfl (Nat.le_of_ble_eq_true rfl) dX5_allergic_10 (fun H locs hP hS => ?_)
    obtain rfl := Option.some.inj hE
    exact hret _ _ _ _ dX5_allergic_13 hP hS
def sM_isAsked (a_least : Nat → Int32) (a_greatest : Nat → Int32) (p1 : Int32) (p2 : Int32) : Option (Int32) :=
  if gi p1 6 then
  if p2 < (a_least (p1).toNatClampNeg) then
    some 0
  else
    if gi p1 6 then
    if (a_greatest (p1).toNatClampNeg) < p2 then
      some 0
    else
      some 1
    else none
  else none
set_option maxHeartbeats 4000000 in
theorem metM_isAsked (l : Launch) (G : kG) (h0 : Nat) (ad : Nat → Nat) (F : Nat → Int32) (A : Nat → Nat → Int32) (L : Nat → Nat → Int64) (p1 : Int32) (p2 : Int32) (res : Int32) (hE : sM_isAsked (A 24) (A 25) p1 p2 = some res) : Met l yX5_isAsked (ws_ yX5_isAsked cX5_isAsked 3 (some .boolean)) ({ frames := 0, cells := 0, slots := 0, locals := 0 } : Room) (mPc G h0 ad F A L [.int p1, .int p2]) (mQc G h0 ad F A L (some (.int res))) 0 0 (mA h0 ad) := by
  refine m_ofW (by decide) rfl (Nat.le_of_ble_eq_true rfl) ?_
  intro p e s m args below meth c ls C hml hP hS hl hr hlocks
  have hl : lv_has ls 3 [(0, .ref h0), (1, .int p1), (2, .int p2)] := hl
  obtain ⟨Q, hQ⟩ : ∃ Q, Q = MQ below (mQc G h0 ad F A L (some (.int res))) args s 0 0 (mA h0 ad) := ⟨_, rfl⟩
  rw [← hQ]
  have hret : ∀ (pc : Nat) (ls : Array Slot) (H : Heap) (locs : List Loc), narrow .boolean (.int res) = .int res → decode cX5_isAsked pc = .ok (.ireturn, 1) → mPw G h0 ad F A L H → va_S (mA h0 ad) s.heap H locs → W p l e ({ frames := 0, cells := 0, slots := 0, locals := 0 } : Room) s m args below meth c H locs 0 0 Q (F0 m pc ls [.int res]) := by
    intro pc ls H locs hn hd hP hS
    rw [hQ]
    exact m_zret C hr hlocks hn hd hP hS
  clear hQ
  obtain ⟨H, hH⟩ : ∃ H, H = s.heap := ⟨_, rfl⟩
  obtain ⟨locs, hlo⟩ : ∃ locs : List Loc, locs = [] := ⟨_, rfl⟩
  have hP : mPw G h0 ad F A L H := by rw [hH]; exact hP
  have hS : va_S (mA h0 ad) s.heap H locs := by rw [hH, hlo]; exact hS
  suffices hZ : W p l e ({ frames := 0, cells := 0, slots := 0, locals := 0 } : Room) s m args below meth c H locs 0 0 Q (F0 m 0 ls []) by rw [hH, hlo] at hZ; exact hZ
  clear hH hlo
  unfold sM_isAsked at hE
  refine lv_iload_n C.1 C.2.1 dX5_isAsked_0 rfl (lv_at hl 2 rfl) ?_
  refine lv_aload_n C.1 C.2.1 dX5_isAsked_1 rfl (lv_at hl 0 rfl) ?_
  refine ma_24 C hP dX5_isAsked_2 ?_
  refine lv_iload_n C.1 C.2.1 dX5_isAsked_5 rfl (lv_at hl 1 rfl) ?_
  obtain ⟨g1, hE⟩ := it_g hE
  refine ml_24 (v := ((A 24) (p1).toNatClampNeg)) C hP (gi_in g1) rfl dX5_isAsked_6 ?_
  refine lv_icmp_lt (tgt := 24) C.1 C.2.1 dX5_isAsked_7 (by decide) (fun c2 => ?_) (fun c2 => ?_)
  · have hE := it_t c2 hE
    refine lv_iconst (v := 0) C.1 C.2.1 dX5_isAsked_24 (by decide) ?_
    obtain rfl := Option.some.inj hE
    exact hret _ _ _ _ (nbz (Or.inl rfl)) dX5_isAsked_25 hP hS
  · have hE := it_f c2 hE
    refine lv_iload_n C.1 C.2.1 dX5_isAsked_10 rfl (lv_at hl 2 rfl) ?_
    refine lv_aload_n C.1 C.2.1 dX5_isAsked_11 rfl (lv_at hl 0 rfl) ?_
    refine ma_25 C hP dX5_isAsked_12 ?_
    refine lv_iload_n C.1 C.2.1 dX5_isAsked_15 rfl (lv_at hl 1 rfl) ?_
    obtain ⟨g3, hE⟩ := it_g hE
    refine ml_25 (v := ((A 25) (p1).toNatClampNeg)) C hP (gi_in g3) rfl dX5_isAsked_16 ?_
    refine lv_icmp_gt (tgt := 24) C.1 C.2.1 dX5_isAsked_17 (by decide) (fun c4 => ?_) (fun c4 => ?_)
    · have hE := it_t c4 hE
      refine lv_iconst (v := 0) C.1 C.2.1 dX5_isAsked_24 (by decide) ?_
      obtain rfl := Option.some.inj hE
      exact hret _ _ _ _ (nbz (Or.inl rfl)) dX5_isAsked_25 hP hS
    · have hE := it_f c4 hE
      refine lv_iconst (v := 1) C.1 C.2.1 dX5_isAsked_20 (by decide) ?_
      refine lv_goto (tgt := 25) C.1 C.2.1 dX5_isAsked_21 (by decide) ?_
      obtain rfl := Option.some.inj hE
      exact hret _ _ _ _ (nbz (Or.inr rfl)) dX5_isAsked_25 hP hS
def sM_told (f_weight : Int32) (f_fright : Int32) (f_age : Int32) (f_feed : Int32) (f_life : Int32) (f_low : Int32) (p1 : Int32) : Option (Int32) :=
  if p1 = 0 then
    some f_weight
  else
  if p1 = 1 then
    some f_fright
  else
  if p1 = 2 then
    some f_age
  else
  if p1 = 3 then
    some f_feed
  else
  if p1 = 4 then
    some f_life
  else
  some f_low
set_option maxHeartbeats 4000000 in
theorem metM_told (l : Launch) (G : kG) (h0 : Nat) (ad : Nat → Nat) (F : Nat → Int32) (A : Nat → Nat → Int32) (L : Nat → Nat → Int64) (p1 : Int32) (res : Int32) (hE : sM_told (F 1) (F 2) (F 3) (F 5) (F 6) (F 7) p1 = some res) : Met l yX5_told (ws_ yX5_told cX5_told 2 (some .int)) ({ frames := 0, cells := 0, slots := 0, locals := 0 } : Room) (mPc G h0 ad F A L [.int p1]) (mQc G h0 ad F A L (some (.int res))) 0 0 (mA h0 ad) := by
  refine m_ofW (by decide) rfl (Nat.le_of_ble_eq_true rfl) ?_
  intro p e s m args below meth c ls C hml hP hS hl hr hlocks
  have hl : lv_has ls 2 [(0, .ref h0), (1, .int p1)] := hl
  obtain ⟨Q, hQ⟩ : ∃ Q, Q = MQ below (mQc G h0 ad F A L (some (.int res))) args s 0 0 (mA h0 ad) := ⟨_, rfl⟩
  rw [← hQ]
  have hret : ∀ (pc : Nat) (ls : Array Slot) (H : Heap) (locs : List Loc), decode cX5_told pc = .ok (.ireturn, 1) → mPw G h0 ad F A L H → va_S (mA h0 ad) s.heap H locs → W p l e ({ frames := 0, cells := 0, slots := 0, locals := 0 } : Room) s m args below meth c H locs 0 0 Q (F0 m pc ls [.int res]) := by
    intro pc ls H locs hd hP hS
    rw [hQ]
    exact m_iret C hr hlocks hd hP hS
  clear hQ
  obtain ⟨H, hH⟩ : ∃ H, H = s.heap := ⟨_, rfl⟩
  obtain ⟨locs, hlo⟩ : ∃ locs : List Loc, locs = [] := ⟨_, rfl⟩
  have hP : mPw G h0 ad F A L H := by rw [hH]; exact hP
  have hS : va_S (mA h0 ad) s.heap H locs := by rw [hH, hlo]; exact hS
  suffices hZ : W p l e ({ frames := 0, cells := 0, slots := 0, locals := 0 } : Room) s m args below meth c H locs 0 0 Q (F0 m 0 ls []) by rw [hH, hlo] at hZ; exact hZ
  clear hH hlo
  unfold sM_told at hE
  refine lv_iload_n C.1 C.2.1 dX5_told_0 rfl (lv_at hl 1 rfl) ?_
  by_cases c1 : p1 = 0
  · have hE := it_t c1 hE
    refine lv_tableIn (tgt := 36) C.1 C.2.1 dX5_told_1 (by rw [c1]; decide) (by rw [c1]; decide) (by rw [c1]; rfl) (by decide) ?_
    refine lv_aload_n C.1 C.2.1 dX5_told_36 rfl (lv_at hl 0 rfl) ?_
    refine mg_1 (v := (F 1)) C hP rfl dX5_told_37 ?_
    obtain rfl := Option.some.inj hE
    exact hret _ _ _ _ dX5_told_40 hP hS
  have hE := it_f c1 hE
  by_cases c2 : p1 = 1
  · have hE := it_t c2 hE
    refine lv_tableIn (tgt := 41) C.1 C.2.1 dX5_told_1 (by rw [c2]; decide) (by rw [c2]; decide) (by rw [c2]; rfl) (by decide) ?_
    refine lv_aload_n C.1 C.2.1 dX5_told_41 rfl (lv_at hl 0 rfl) ?_
    refine mg_2 (v := (F 2)) C hP rfl dX5_told_42 ?_
    obtain rfl := Option.some.inj hE
    exact hret _ _ _ _ dX5_told_45 hP hS
  have hE := it_f c2 hE
  by_cases c3 : p1 = 2
  · have hE := it_t c3 hE
    refine lv_tableIn (tgt := 46) C.1 C.2.1 dX5_told_1 (by rw [c3]; decide) (by rw [c3]; decide) (by rw [c3]; rfl) (by decide) ?_
    refine lv_aload_n C.1 C.2.1 dX5_told_46 rfl (lv_at hl 0 rfl) ?_
    refine mg_3 (v := (F 3)) C hP rfl dX5_told_47 ?_
    obtain rfl := Option.some.inj hE
    exact hret _ _ _ _ dX5_told_50 hP hS
  have hE := it_f c3 hE
  by_cases c4 : p1 = 3
  · have hE := it_t c4 hE
    refine lv_tableIn (tgt := 51) C.1 C.2.1 dX5_told_1 (by rw [c4]; decide) (by rw [c4]; decide) (by rw [c4]; rfl) (by decide) ?_
    refine lv_aload_n C.1 C.2.1 dX5_told_51 rfl (lv_at hl 0 rfl) ?_
    refine mg_5 (v := (F 5)) C hP rfl dX5_told_52 ?_
    obtain rfl := Option.some.inj hE
    exact hret _ _ _ _ dX5_told_55 hP hS
  have hE := it_f c4 hE
  by_cases c5 : p1 = 4
  · have hE := it_t c5 hE
    refine lv_tableIn (tgt := 56) C.1 C.2.1 dX5_told_1 (by rw [c5]; decide) (by rw [c5]; decide) (by rw [c5]; rfl) (by decide) ?_
    refine lv_aload_n C.1 C.2.1 dX5_told_56 rfl (lv_at hl 0 rfl) ?_
    refine mg_6 (v := (F 6)) C hP rfl dX5_told_57 ?_
    obtain rfl := Option.some.inj hE
    exact hret _ _ _ _ dX5_told_60 hP hS
  have hE := it_f c5 hE
  refine lv_tableOut (tgt := 61) C.1 C.2.1 dX5_told_1 (ts_e (ts_s (ts_s (ts_s (ts_s (ts_s (ts_0 0) c1 rfl rfl) c2 rfl rfl) c3 rfl rfl) c4 rfl rfl) c5 rfl rfl) rfl) (by decide) ?_
  refine lv_aload_n C.1 C.2.1 dX5_told_61 rfl (lv_at hl 0 rfl) ?_
  refine mg_7 (v := (F 7)) C hP rfl dX5_told_62 ?_
  obtain rfl := Option.some.inj hE
  exact hret _ _ _ _ dX5_told_65 hP hS
def sM_tells (f_weight : Int32) (f_fright : Int32) (f_age : Int32) (f_feed : Int32) (f_life : Int32) (f_low : Int32) (p1 : Int32) (p2 : Int32) : Option (Int32 × Int32 × Int32 × Int32 × Int32 × Int32) :=
  if p1 = 0 then
    some (p2, f_fright, f_age, f_feed, f_life, f_low)
  else
  if p1 = 1 then
    some (f_weight, p2, f_age, f_feed, f_life, f_low)
  else
  if p1 = 2 then
    some (f_weight, f_fright, p2, f_feed, f_life, f_low)
  else
  if p1 = 3 then
    some (f_weight, f_fright, f_age, p2, f_life, f_low)
  else
  if p1 = 4 then
    some (f_weight, f_fright, f_age, f_feed, p2, f_low)
  else
  some (f_weight, f_fright, f_age, f_feed, f_life, p2)
set_option maxHeartbeats 4000000 in
theorem metM_tells (l : Launch) (G : kG) (h0 : Nat) (ad : Nat → Nat) (F : Nat → Int32) (A : Nat → Nat → Int32) (L : Nat → Nat → Int64) (p1 : Int32) (p2 : Int32) (res : Int32 × Int32 × Int32 × Int32 × Int32 × Int32) (hE : sM_tells (F 1) (F 2) (F 3) (F 5) (F 6) (F 7) p1 p2 = some res) : Met l yX5_tells (ws_ yX5_tells cX5_tells 3 none) ({ frames := 0, cells := 0, slots := 0, locals := 0 } : Room) (mPc G h0 ad F A L [.int p1, .int p2]) (mQc G h0 ad (upd (upd (upd (upd (upd (upd F 1 res.1) 2 res.2.1) 3 res.2.2.1) 5 res.2.2.2.1) 6 res.2.2.2.2.1) 7 res.2.2.2.2.2) A L none) 0 0 (mA h0 ad) := by
  refine m_ofW (by decide) rfl (Nat.le_of_ble_eq_true rfl) ?_
  intro p e s m args below meth c ls C hml hP hS hl hr hlocks
  have hl : lv_has ls 3 [(0, .ref h0), (1, .int p1), (2, .int p2)] := hl
  obtain ⟨Q, hQ⟩ : ∃ Q, Q = MQ below (mQc G h0 ad (upd (upd (upd (upd (upd (upd F 1 res.1) 2 res.2.1) 3 res.2.2.1) 5 res.2.2.2.1) 6 res.2.2.2.2.1) 7 res.2.2.2.2.2) A L none) args s 0 0 (mA h0 ad) := ⟨_, rfl⟩
  rw [← hQ]
  have hret : ∀ (pc : Nat) (ls : Array Slot) (H : Heap) (locs : List Loc), decode cX5_tells pc = .ok (.return_, 1) → mPw G h0 ad (upd (upd (upd (upd (upd (upd F 1 res.1) 2 res.2.1) 3 res.2.2.1) 5 res.2.2.2.1) 6 res.2.2.2.2.1) 7 res.2.2.2.2.2) A L H → va_S (mA h0 ad) s.heap H locs → W p l e ({ frames := 0, cells := 0, slots := 0, locals := 0 } : Room) s m args below meth c H locs 0 0 Q (F0 m pc ls []) := by
    intro pc ls H locs hd hP hS
    rw [hQ]
    exact m_vret C hr hlocks hd hP hS
  clear hQ
  obtain ⟨H, hH⟩ : ∃ H, H = s.heap := ⟨_, rfl⟩
  obtain ⟨locs, hlo⟩ : ∃ locs : List Loc, locs = [] := ⟨_, rfl⟩
  have hP : mPw G h0 ad F A L H := by rw [hH]; exact hP
  have hS : va_S (mA h0 ad) s.heap H locs := by rw [hH, hlo]; exact hS
  suffices hZ : W p l e ({ frames := 0, cells := 0, slots := 0, locals := 0 } : Room) s m args below meth c H locs 0 0 Q (F0 m 0 ls []) by rw [hH, hlo] at hZ; exact hZ
  clear hH hlo
  unfold sM_tells at hE
  refine lv_iload_n C.1 C.2.1 dX5_tells_0 rfl (lv_at hl 1 rfl) ?_
  by_cases c1 : p1 = 0
  · have hE := it_t c1 hE
    refine lv_tableIn (tgt := 36) C.1 C.2.1 dX5_tells_1 (by rw [c1]; decide) (by rw [c1]; decide) (by rw [c1]; rfl) (by decide) ?_
    refine lv_aload_n C.1 C.2.1 dX5_tells_36 rfl (lv_at hl 0 rfl) ?_
    refine lv_iload_n C.1 C.2.1 dX5_tells_37 rfl (lv_at hl 2 rfl) ?_
    refine mp_1 C hP hS dX5_tells_38 (fun H locs hP hS => ?_)
    refine lv_goto (tgt := 81) C.1 C.2.1 dX5_tells_41 (by decide) ?_
    obtain rfl := Option.some.inj hE
    exact hret _ _ _ _ dX5_tells_81 hP hS
  have hE := it_f c1 hE
  by_cases c2 : p1 = 1
  · have hE := it_t c2 hE
    refine lv_tableIn (tgt := 44) C.1 C.2.1 dX5_tells_1 (by rw [c2]; decide) (by rw [c2]; decide) (by rw [c2]; rfl) (by decide) ?_
    refine lv_aload_n C.1 C.2.1 dX5_tells_44 rfl (lv_at hl 0 rfl) ?_
    refine lv_iload_n C.1 C.2.1 dX5_tells_45 rfl (lv_at hl 2 rfl) ?_
    refine mp_2 C hP hS dX5_tells_46 (fun H locs hP hS => ?_)
    refine lv_goto (tgt := 81) C.1 C.2.1 dX5_tells_49 (by decide) ?_
    obtain rfl := Option.some.inj hE
    exact hret _ _ _ _ dX5_tells_81 hP hS
  have hE := it_f c2 hE
  by_cases c3 : p1 = 2
  · have hE := it_t c3 hE
    refine lv_tableIn (tgt := 52) C.1 C.2.1 dX5_tells_1 (by rw [c3]; decide) (by rw [c3]; decide) (by rw [c3]; rfl) (by decide) ?_
    refine lv_aload_n C.1 C.2.1 dX5_tells_52 rfl (lv_at hl 0 rfl) ?_
    refine lv_iload_n C.1 C.2.1 dX5_tells_53 rfl (lv_at hl 2 rfl) ?_
    refine mp_3 C hP hS dX5_tells_54 (fun H locs hP hS => ?_)
    refine lv_goto (tgt := 81) C.1 C.2.1 dX5_tells_57 (by decide) ?_
    obtain rfl := Option.some.inj hE
    exact hret _ _ _ _ dX5_tells_81 hP hS
  have hE := it_f c3 hE
  by_cases c4 : p1 = 3
  · have hE := it_t c4 hE
    refine lv_tableIn (tgt := 60) C.1 C.2.1 dX5_tells_1 (by rw [c4]; decide) (by rw [c4]; decide) (by rw [c4]; rfl) (by decide) ?_
    refine lv_aload_n C.1 C.2.1 dX5_tells_60 rfl (lv_at hl 0 rfl) ?_
    refine lv_iload_n C.1 C.2.1 dX5_tells_61 rfl (lv_at hl 2 rfl) ?_
    refine mp_5 C hP hS dX5_tells_62 (fun H locs hP hS => ?_)
    refine lv_goto (tgt := 81) C.1 C.2.1 dX5_tells_65 (by decide) ?_
    obtain rfl := Option.some.inj hE
    exact hret _ _ _ _ dX5_tells_81 hP hS
  have hE := it_f c4 hE
  by_cases c5 : p1 = 4
  · have hE := it_t c5 hE
    refine lv_tableIn (tgt := 68) C.1 C.2.1 dX5_tells_1 (by rw [c5]; decide) (by rw [c5]; decide) (by rw [c5]; rfl) (by decide) ?_
    refine lv_aload_n C.1 C.2.1 dX5_tells_68 rfl (lv_at hl 0 rfl) ?_
    refine lv_iload_n C.1 C.2.1 dX5_tells_69 rfl (lv_at hl 2 rfl) ?_
    refine mp_6 C hP hS dX5_tells_70 (fun H locs hP hS => ?_)
    refine lv_goto (tgt := 81) C.1 C.2.1 dX5_tells_73 (by decide) ?_
    obtain rfl := Option.some.inj hE
    exact hret _ _ _ _ dX5_tells_81 hP hS
  have hE := it_f c5 hE
  refine lv_tableOut (tgt := 76) C.1 C.2.1 dX5_tells_1 (ts_e (ts_s (ts_s (ts_s (ts_s (ts_s (ts_0 0) c1 rfl rfl) c2 rfl rfl) c3 rfl rfl) c4 rfl rfl) c5 rfl rfl) rfl) (by decide) ?_
  refine lv_aload_n C.1 C.2.1 dX5_tells_76 rfl (lv_at hl 0 rfl) ?_
  refine lv_iload_n C.1 C.2.1 dX5_tells_77 rfl (lv_at hl 2 rfl) ?_
  refine mp_7 C hP hS dX5_tells_78 (fun H locs hP hS => ?_)
  obtain rfl := Option.some.inj hE
  exact hret _ _ _ _ dX5_tells_81 hP hS
def sM_ask (f_weight : Int32) (f_fright : Int32) (f_age : Int32) (f_feed : Int32) (f_life : Int32) (f_low : Int32) (a_refused : Nat → Int32) (a_least : Nat → Int32) (a_greatest : Nat → Int32) (p1 : Int32) (p2 : Int32) : Option (Int32 × Int32 × Int32 × Int32 × Int32 × Int32 × Int32 × (Nat → Int32)) :=
  if p1 < 0 then
    (sM_no a_refused (-6)).bind fun r2 =>
    some (r2.1, f_weight, f_fright, f_age, f_feed, f_life, f_low, r2.2)
  else
    if 5 < p1 then
      (sM_no a_refused (-6)).bind fun r4 =>
      some (r4.1, f_weight, f_fright, f_age, f_feed, f_life, f_low, r4.2)
    else
      (sM_isAsked a_least a_greatest p1 p2).bind fun r5 =>
      if r5 = 0 then
        (sM_no a_refused (-6)).bind fun r9 =>
        some (r9.1, f_weight, f_fright, f_age, f_feed, f_life, f_low, r9.2)
      else
        (sM_told f_weight f_fright f_age f_feed f_life f_low p1).bind fun r7 =>
        (sM_tells f_weight f_fright f_age f_feed f_life f_low p1 p2).bind fun r8 =>
        some (r7, r8.1, r8.2.1, r8.2.2.1, r8.2.2.2.1, r8.2.2.2.2.1, r8.2.2.2.2.2, a_refused)
set_option maxHeartbeats 4000000 in
theorem metM_ask (l : Launch) (G : kG) (h0 : Nat) (ad : Nat → Nat) (F : Nat → Int32) (A : Nat → Nat → Int32) (L : Nat → Nat → Int64) (p1 : Int32) (p2 : Int32) (res : Int32 × Int32 × Int32 × Int32 × Int32 × Int32 × Int32 × (Nat → Int32)) (hE : sM_ask (F 1) (F 2) (F 3) (F 5) (F 6) (F 7) (A 11) (A 24) (A 25) p1 p2 = some res) : Met l yX5_ask (ws_ yX5_ask cX5_ask 4 (some .int)) ({ frames := 1, cells := 0, slots := 0, locals := 22 } : Room) (mPc G h0 ad F A L [.int p1, .int p2]) (mQc G h0 ad (upd (upd (upd (upd (upd (upd F 1 res.2.1) 2 res.2.2.1) 3 res.2.2.2.1) 5 res.2.2.2.2.1) 6 res.2.2.2.2.2.1) 7 res.2.2.2.2.2.2.1) (va_up A 11 res.2.2.2.2.2.2.2) L (some (.int res.1))) 0 0 (mA h0 ad) := by
  refine m_ofW (by decide) rfl (Nat.le_of_ble_eq_true rfl) ?_
  intro p e s m args below meth c ls C hml hP hS hl hr hlocks
  have hl : lv_has ls 4 [(0, .ref h0), (1, .int p1), (2, .int p2)] := hl
  obtain ⟨Q, hQ⟩ : ∃ Q, Q = MQ below (mQc G h0 ad (upd (upd (upd (upd (upd (upd F 1 res.2.1) 2 res.2.2.1) 3 res.2.2.2.1) 5 res.2.2.2.2.1) 6 res.2.2.2.2.2.1) 7 res.2.2.2.2.2.2.1) (va_up A 11 res.2.2.2.2.2.2.2) L (some (.int res.1))) args s 0 0 (mA h0 ad) := ⟨_, rfl⟩
  rw [← hQ]
  have hret : ∀ (pc : Nat) (ls : Array Slot) (H : Heap) (locs : List Loc), decode cX5_ask pc = .ok (.ireturn, 1) → mPw G h0 ad (upd (upd (upd (upd (upd (upd F 1 res.2.1) 2 res.2.2.1) 3 res.2.2.2.1) 5 res.2.2.2.2.1) 6 res.2.2.2.2.2.1) 7 res.2.2.2.2.2.2.1) (va_up A 11 res.2.2.2.2.2.2.2) L H → va_S (mA h0 ad) s.heap H locs → W p l e ({ frames := 1, cells := 0, slots := 0, locals := 22 } : Room) s m args below meth c H locs 0 0 Q (F0 m pc ls [.int res.1]) := by
    intro pc ls H locs hd hP hS
    rw [hQ]
    exact m_iret C hr hlocks hd hP hS
  clear hQ
  obtain ⟨H, hH⟩ : ∃ H, H = s.heap := ⟨_, rfl⟩
  obtain ⟨locs, hlo⟩ : ∃ locs : List Loc, locs = [] := ⟨_, rfl⟩
  have hP : mPw G h0 ad F A L H := by rw [hH]; exact hP
  have hS : va_S (mA h0 ad) s.heap H locs := by rw [hH, hlo]; exact hS
  suffices hZ : W p l e ({ frames := 1, cells := 0, slots := 0, locals := 22 } : Room) s m args below meth c H locs 0 0 Q (F0 m 0 ls []) by rw [hH, hlo] at hZ; exact hZ
  clear hH hlo
  unfold sM_ask at hE
  refine lv_iload_n C.1 C.2.1 dX5_ask_0 rfl (lv_at hl 1 rfl) ?_
  refine lv_if_lt (tgt := 18) C.1 C.2.1 dX5_ask_1 (by decide) (fun c1 => ?_) (fun c1 => ?_)
  · have hE := it_t c1 hE
    refine lv_aload_n C.1 C.2.1 dX5_ask_18 rfl (lv_at hl 0 rfl) ?_
    refine lv_bipush (v := (-6)) C.1 C.2.1 dX5_ask_19 (by decide) ?_
    obtain ⟨r2, hr2, hE⟩ := it_b hE
    refine m_call (n := 1) (As := [.int (-6)]) (rest := []) C hP hS hml (metM_no l G h0 ad _ _ _ (-6) r2 hr2) q1483 q1485 qs32 q1486 rfl rfl (by decide +kernel) ⟨Nat.le_of_ble_eq_true rfl, Nat.le_of_ble_eq_true rfl⟩ ⟨Nat.le_refl _, Nat.le_refl _⟩ rfl hl.1 rfl (Nat.le_of_ble_eq_true rfl) dX5_ask_21 (fun H locs hP hS => ?_)
    obtain rfl := Option.some.inj hE
    exact hret _ _ _ _ dX5_ask_24 hP hS
  · have hE := it_f c1 hE
    refine lv_iload_n C.1 C.2.1 dX5_ask_4 rfl (lv_at hl 1 rfl) ?_
    refine lv_iconst (v := 5) C.1 C.2.1 dX5_ask_5 (by decide) ?_
    refine lv_icmp_gt (tgt := 18) C.1 C.2.1 dX5_ask_6 (by decide) (fun c3 => ?_) (fun c3 => ?_)
    · have hE := it_t c3 hE
      refine lv_aload_n C.1 C.2.1 dX5_ask_18 rfl (lv_at hl 0 rfl) ?_
      refine lv_bipush (v := (-6)) C.1 C.2.1 dX5_ask_19 (by decide) ?_
      obtain ⟨r4, hr4, hE⟩ := it_b hE
      refine m_call (n := 1) (As := [.int (-6)]) (rest := []) C hP hS hml (metM_no l G h0 ad _ _ _ (-6) r4 hr4) q1483 q1485 qs32 q1486 rfl rfl (by decide +kernel) ⟨Nat.le_of_ble_eq_true rfl, Nat.le_of_ble_eq_true rfl⟩ ⟨Nat.le_refl _, Nat.le_refl _⟩ rfl hl.1 rfl (Nat.le_of_ble_eq_true rfl) dX5_ask_21 (fun H locs hP hS => ?_)
      obtain rfl := Option.some.inj hE
      exact hret _ _ _ _ dX5_ask_24 hP hS
    · have hE := it_f c3 hE
      refine lv_aload_n C.1 C.2.1 dX5_ask_9 rfl (lv_at hl 0 rfl) ?_
      refine lv_iload_n C.1 C.2.1 dX5_ask_10 rfl (lv_at hl 1 rfl) ?_
      refine lv_iload_n C.1 C.2.1 dX5_ask_11 rfl (lv_at hl 2 rfl) ?_
      obtain ⟨r5, hr5, hE⟩ := it_b hE
      refine m_call (n := 2) (As := [.int p1, .int p2]) (rest := []) C hP hS hml (metM_isAsked l G h0 ad _ _ _ p1 p2 r5 hr5) q1539 q1541 qs35 q1542 rfl rfl (by decide +kernel) ⟨Nat.le_of_ble_eq_true rfl, Nat.le_of_ble_eq_true rfl⟩ ⟨Nat.le_refl _, Nat.le_refl _⟩ rfl hl.1 rfl (Nat.le_of_ble_eq_true rfl) dX5_ask_12 (fun H locs hP hS => ?_)
      refine lv_if_ne (tgt := 25) C.1 C.2.1 dX5_ask_15 (by decide) (fun c6 => ?_) (fun c6 => ?_)
      · have hE := it_f c6 hE
        refine lv_aload_n C.1 C.2.1 dX5_ask_25 rfl (lv_at hl 0 rfl) ?_
        refine lv_iload_n C.1 C.2.1 dX5_ask_26 rfl (lv_at hl 1 rfl) ?_
        obtain ⟨r7, hr7, hE⟩ := it_b hE
        refine m_call (n := 1) (As := [.int p1]) (rest := []) C hP hS hml (metM_told l G h0 ad _ _ _ p1 r7 hr7) q1543 q1545 qs36 q1546 rfl rfl (by decide +kernel) ⟨Nat.le_of_ble_eq_true rfl, Nat.le_of_ble_eq_true rfl⟩ ⟨Nat.le_refl _, Nat.le_refl _⟩ rfl hl.1 rfl (Nat.le_of_ble_eq_true rfl) dX5_ask_27 (fun H locs hP hS => ?_)
        refine lv_istore_n (lv' := [(3, .int r7), (0, .ref h0), (1, .int p1), (2, .int p2)]) C.1 C.2.1 dX5_ask_30 rfl hl (by decide) rfl (fun ls hl => ?_)
        refine lv_aload_n C.1 C.2.1 dX5_ask_31 rfl (lv_at hl 1 rfl) ?_
        refine lv_iload_n C.1 C.2.1 dX5_ask_32 rfl (lv_at hl 2 rfl) ?_
        refine lv_iload_n C.1 C.2.1 dX5_ask_33 rfl (lv_at hl 3 rfl) ?_
        obtain ⟨r8, hr8, hE⟩ := it_b hE
        refine m_call (n := 2) (As := [.int p1, .int p2]) (rest := []) C hP hS hml (metM_tells l G h0 ad _ _ _ p1 p2 r8 hr8) q1547 q1549 qs37 q1550 rfl rfl (by decide +kernel) ⟨Nat.le_of_ble_eq_true rfl, Nat.le_of_ble_eq_true rfl⟩ ⟨Nat.le_refl _, Nat.le_refl _⟩ rfl hl.1 rfl (Nat.le_of_ble_eq_true rfl) dX5_ask_34 (fun H locs hP hS => ?_)
        refine lv_iload_n C.1 C.2.1 dX5_ask_37 rfl (lv_at hl 0 rfl) ?_
        obtain rfl := Option.some.inj hE
        exact hret _ _ _ _ dX5_ask_38 hP hS
      · have hE := it_t c6 hE
        refine lv_aload_n C.1 C.2.1 dX5_ask_18 rfl (lv_at hl 0 rfl) ?_
        refine lv_bipush (v := (-6)) C.1 C.2.1 dX5_ask_19 (by decide) ?_
        obtain ⟨r9, hr9, hE⟩ := it_b hE
        refine m_call (n := 1) (As := [.int (-6)]) (rest := []) C hP hS hml (metM_no l G h0 ad _ _ _ (-6) r9 hr9) q1483 q1485 qs32 q1486 rfl rfl (by decide +kernel) ⟨Nat.le_of_ble_eq_true rfl, Nat.le_of_ble_eq_true rfl⟩ ⟨Nat.le_refl _, Nat.le_refl _⟩ rfl hl.1 rfl (Nat.le_of_ble_eq_true rfl) dX5_ask_21 (fun H locs hP hS => ?_)
        obtain rfl := Option.some.inj hE
        exact hret _ _ _ _ dX5_ask_24 hP hS
def sM_wrong (f_wrongAt : Int32) (p1 : Int32) : Option (Int32 × Int32) :=
  some (0, p1)
set_option maxHeartbeats 4000000 in
theorem metM_wrong (l : Launch) (G : kG) (h0 : Nat) (ad : Nat → Nat) (F : Nat → Int32) (A : Nat → Nat → Int32) (L : Nat → Nat → Int64) (p1 : Int32) (res : Int32 × Int32) (hE : sM_wrong (F 32) p1 = some res) : Met l yX5_wrong (ws_ yX5_wrong cX5_wrong 2 (some .boolean)) ({ frames := 0, cells := 0, slots := 0, locals := 0 } : Room) (mPc G h0 ad F A L [.int p1]) (mQc G h0 ad (upd F 32 res.2) A L (some (.int res.1))) 0 0 (mA h0 ad) := by
  refine m_ofW (by decide) rfl (Nat.le_of_ble_eq_true rfl) ?_
  intro p e s m args below meth c ls C hml hP hS hl hr hlocks
  have hl : lv_has ls 2 [(0, .ref h0), (1, .int p1)] := hl
  obtain ⟨Q, hQ⟩ : ∃ Q, Q = MQ below (mQc G h0 ad (upd F 32 res.2) A L (some (.int res.1))) args s 0 0 (mA h0 ad) := ⟨_, rfl⟩
  rw [← hQ]
  have hret : ∀ (pc : Nat) (ls : Array Slot) (H : Heap) (locs : List Loc), narrow .boolean (.int res.1) = .int res.1 → decode cX5_wrong pc = .ok (.ireturn, 1) → mPw G h0 ad (upd F 32 res.2) A L H → va_S (mA h0 ad) s.heap H locs → W p l e ({ frames := 0, cells := 0, slots := 0, locals := 0 } : Room) s m args below meth c H locs 0 0 Q (F0 m pc ls [.int res.1]) := by
    intro pc ls H locs hn hd hP hS
    rw [hQ]
    exact m_zret C hr hlocks hn hd hP hS
  clear hQ
  obtain ⟨H, hH⟩ : ∃ H, H = s.heap := ⟨_, rfl⟩
  obtain ⟨locs, hlo⟩ : ∃ locs : List Loc, locs = [] := ⟨_, rfl⟩
  have hP : mPw G h0 ad F A L H := by rw [hH]; exact hP
  have hS : va_S (mA h0 ad) s.heap H locs := by rw [hH, hlo]; exact hS
  suffices hZ : W p l e ({ frames := 0, cells := 0, slots := 0, locals := 0 } : Room) s m args below meth c H locs 0 0 Q (F0 m 0 ls []) by rw [hH, hlo] at hZ; exact hZ
  clear hH hlo
  unfold sM_wrong at hE
  refine lv_aload_n C.1 C.2.1 dX5_wrong_0 rfl (lv_at hl 0 rfl) ?_
  refine lv_iload_n C.1 C.2.1 dX5_wrong_1 rfl (lv_at hl 1 rfl) ?_
  refine mp_32 C hP hS dX5_wrong_2 (fun H locs hP hS => ?_)
  refine lv_iconst (v := 0) C.1 C.2.1 dX5_wrong_5 (by decide) ?_
  obtain rfl := Option.some.inj hE
  exact hret _ _ _ _ (nbz (Or.inl rfl)) dX5_wrong_6 hP hS
def sM_isWordAt_h4 (x1 : Int32) (a_words : Nat → Int32) : Nat → Int32 → Int32 → Option (Int32)
  | 0, _, _ => none
  | fuel + 1, x2, x3 =>
    if x1 ≤ x3 then
      some x2
    else
      if gi x2 67 then
      @Option.bind (Int32) _ (
        if (a_words (x2).toNatClampNeg) = 0 then
          some 1
        else
          some 0) fun u504 =>
      sM_isWordAt_h4 x1 a_words fuel (x2 + 1) (x3 + u504)
      else none
def sM_isWordAt_h37 (f_base : Int32) (f_end : Int32) (a_words : Nat → Int32) (l_cells : Nat → Int64) : Nat → Int32 → Int32 → Option (Int32)
  | 0, _, _ => none
  | fuel + 1, x2, x3 =>
    if gi x2 67 then
    if (a_words (x2).toNatClampNeg) ≤ 32 then
      some x2
    else
      if f_end ≤ x3 then
        some x2
      else
        if gi (f_base + x3) 1280 then
        if gi x2 67 then
        if (((l_cells ((f_base + x3)).toNatClampNeg) : Int64).toInt32) = (a_words (x2).toNatClampNeg) then
          sM_isWordAt_h37 f_base f_end a_words l_cells fuel (x2 + 1) (x3 + 1)
        else
          some x2
        else none
        else none
    else none
def sM_isWordAt (f_base : Int32) (f_at : Int32) (f_end : Int32) (a_words : Nat → Int32) (l_cells : Nat → Int64) (p1 : Int32) : Option (Int32) :=
  (sM_isWordAt_h4 p1 a_words 2000 0 0).bind fun u1 =>
  (sM_isWordAt_h37 f_base f_end a_words l_cells 2000 u1 f_at).bind fun u2 =>
  if gi u2 67 then
  if 32 < (a_words (u2).toNatClampNeg) then
    some 0
  else
    some 1
  else none
set_option maxHeartbeats 4000000 in
theorem wM_isWordAt_h4 {p : Program} {l : Launch} {e : Env} {s : State} {m : MethodId} {args : Array Value} {below : List Frame} {meth : Method} {c : Code} {G : kG} {h0 : Nat} {ad : Nat → Nat} {Q : State → Prop} (C : mC p s m args c cX5_isWordAt G h0 ad) (hml : c.maxLocals = 4) (F : Nat → Int32) (A : Nat → Nat → Int32) (L : Nat → Nat → Int64) (x1 : Int32) (res : Int32) :
    ∀ (fuel : Nat) (x2 : Int32) (x3 : Int32) (H : Heap) (locs : List Loc) (ls : Array Slot), sM_isWordAt_h4 x1 (A 26) fuel x2 x3 = some res → mPw G h0 ad F A L H → va_S (mA h0 ad) s.heap H locs → lv_has ls 4 [(0, .ref h0), (1, .int x1), (2, .int x2), (3, .int x3)] → (∀ (H : Heap) (locs : List Loc) (ls : Array Slot), mPw G h0 ad F A L H → va_S (mA h0 ad) s.heap H locs → lv_has ls 4 [(0, .ref h0), (2, .int res)] → W p l e ({ frames := 0, cells := 0, slots := 0, locals := 0 } : Room) s m args below meth c H locs 0 0 Q (F0 m 32 ls [])) → W p l e ({ frames := 0, cells := 0, slots := 0, locals := 0 } : Room) s m args below meth c H locs 0 0 Q (F0 m 4 ls []) := by
  intro fuel
  induction fuel with
  | zero =>
    intro x2 x3 H locs ls hE
    exact it_n hE
  | succ fuel ih =>
    intro x2 x3 H locs ls hE hP hS hl hX
    rw [sM_isWordAt_h4] at hE
    refine lv_iload_n C.1 C.2.1 dX5_isWordAt_4 rfl (lv_at hl 3 rfl) ?_
    refine lv_iload_n C.1 C.2.1 dX5_isWordAt_5 rfl (lv_at hl 1 rfl) ?_
    refine lv_icmp_ge (tgt := 32) C.1 C.2.1 dX5_isWordAt_6 (by decide) (fun c501 => ?_) (fun c501 => ?_)
    · have hE := it_t c501 hE
      obtain rfl := Option.some.inj hE
      exact hX H locs ls hP hS (lv_sub hl [0, 2] rfl)
    · have hE := it_f c501 hE
      refine lv_iload_n C.1 C.2.1 dX5_isWordAt_9 rfl (lv_at hl 3 rfl) ?_
      refine lv_aload_n C.1 C.2.1 dX5_isWordAt_10 rfl (lv_at hl 0 rfl) ?_
      refine ma_26 C hP dX5_isWordAt_11 ?_
      refine lv_iload_n C.1 C.2.1 dX5_isWordAt_14 rfl (lv_at hl 2 rfl) ?_
      obtain ⟨g502, hE⟩ := it_g hE
      refine ml_26 (v := ((A 26) (x2).toNatClampNeg)) C hP (gi_in g502) rfl dX5_isWordAt_15 ?_
      obtain ⟨u504, hR, hE⟩ := it_b hE
      have hJ24u504 : ∀ (H : Heap) (locs : List Loc) (ls : Array Slot), mPw G h0 ad F A L H → va_S (mA h0 ad) s.heap H locs → lv_has ls 4 [(0, .ref h0), (1, .int x1), (2, .int x2)] → W p l e ({ frames := 0, cells := 0, slots := 0, locals := 0 } : Room) s m args below meth c H locs 0 0 Q (F0 m 24 ls [.int u504, .int x3]) := by
        intro H locs ls hP hS hl
        refine lv_iadd C.1 C.2.1 dX5_isWordAt_24 ?_
        refine lv_istore_n (lv' := [(3, .int (x3 + u504)), (0, .ref h0), (1, .int x1), (2, .int x2)]) C.1 C.2.1 dX5_isWordAt_25 rfl hl (by decide) rfl (fun ls hl => ?_)
        refine lv_iinc (v := (x2 + 1)) (lv' := [(2, .int (x2 + 1)), (3, .int (x3 + u504)), (0, .ref h0), (1, .int x1)]) C.1 C.2.1 dX5_isWordAt_26 hl (k := 3) rfl rfl (by decide) rfl (fun ls hl => ?_)
        refine lv_goto (tgt := 4) C.1 C.2.1 dX5_isWordAt_29 (by decide) ?_
        exact ih (x2 + 1) (x3 + u504) _ _ _ hE hP hS (lv_sub hl [2, 3, 0, 1] rfl) hX
      have hE := hR
      refine lv_if_ne (tgt := 23) C.1 C.2.1 dX5_isWordAt_16 (by decide) (fun c503 => ?_) (fun c503 => ?_)
      · have hE := it_f c503 hE
        refine lv_iconst (v := 0) C.1 C.2.1 dX5_isWordAt_23 (by decide) ?_
        obtain rfl := Option.some.inj hE
        exact hJ24u504 H locs ls hP hS (lv_sub hl [0, 1, 2] rfl)
      · have hE := it_t c503 hE
        refine lv_iconst (v := 1) C.1 C.2.1 dX5_isWordAt_19 (by decide) ?_
        refine lv_goto (tgt := 24) C.1 C.2.1 dX5_isWordAt_20 (by decide) ?_
        obtain rfl := Option.some.inj hE
        exact hJ24u504 H locs ls hP hS (lv_sub hl [0, 1, 2] rfl)
set_option maxHeartbeats 4000000 in
theorem wM_isWordAt_h37 {p : Program} {l : Launch} {e : Env} {s : State} {m : MethodId} {args : Array Value} {below : List Frame} {meth : Method} {c : Code} {G : kG} {h0 : Nat} {ad : Nat → Nat} {Q : State → Prop} (C : mC p s m args c cX5_isWordAt G h0 ad) (hml : c.maxLocals = 4) (F : Nat → Int32) (A : Nat → Nat → Int32) (L : Nat → Nat → Int64)  (res : Int32) :
    ∀ (fuel : Nat) (x2 : Int32) (x3 : Int32) (H : Heap) (locs : List Loc) (ls : Array Slot), sM_isWordAt_h37 (F 28) (F 30) (A 26) (L 22) fuel x2 x3 = some res → mPw G h0 ad F A L H → va_S (mA h0 ad) s.heap H locs → lv_has ls 4 [(0, .ref h0), (2, .int x2), (3, .int x3)] → (∀ (H : Heap) (locs : List Loc) (ls : Array Slot), mPw G h0 ad F A L H → va_S (mA h0 ad) s.heap H locs → lv_has ls 4 [(0, .ref h0), (2, .int res)] → W p l e ({ frames := 0, cells := 0, slots := 0, locals := 0 } : Room) s m args below meth c H locs 0 0 Q (F0 m 86 ls [])) → W p l e ({ frames := 0, cells := 0, slots := 0, locals := 0 } : Room) s m args below meth c H locs 0 0 Q (F0 m 37 ls []) := by
  intro fuel
  induction fuel with
  | zero =>
    intro x2 x3 H locs ls hE
    exact it_n hE
  | succ fuel ih =>
    intro x2 x3 H locs ls hE hP hS hl hX
    rw [sM_isWordAt_h37] at hE
    refine lv_aload_n C.1 C.2.1 dX5_isWordAt_37 rfl (lv_at hl 0 rfl) ?_
    refine ma_26 C hP dX5_isWordAt_38 ?_
    refine lv_iload_n C.1 C.2.1 dX5_isWordAt_41 rfl (lv_at hl 1 rfl) ?_
    obtain ⟨g3801, hE⟩ := it_g hE
    refine ml_26 (v := ((A 26) (x2).toNatClampNeg)) C hP (gi_in g3801) rfl dX5_isWordAt_42 ?_
    refine lv_bipush (v := 32) C.1 C.2.1 dX5_isWordAt_43 (by decide) ?_
    refine lv_icmp_le (tgt := 86) C.1 C.2.1 dX5_isWordAt_45 (by decide) (fun c3802 => ?_) (fun c3802 => ?_)
    · have hE := it_t c3802 hE
      obtain rfl := Option.some.inj hE
      exact hX H locs ls hP hS (lv_sub hl [0, 1] rfl)
    · have hE := it_f c3802 hE
      refine lv_iload_n C.1 C.2.1 dX5_isWordAt_48 rfl (lv_at hl 2 rfl) ?_
      refine lv_aload_n C.1 C.2.1 dX5_isWordAt_49 rfl (lv_at hl 0 rfl) ?_
      refine mg_30 (v := (F 30)) C hP rfl dX5_isWordAt_50 ?_
      refine lv_icmp_ge (tgt := 86) C.1 C.2.1 dX5_isWordAt_53 (by decide) (fun c3803 => ?_) (fun c3803 => ?_)
      · have hE := it_t c3803 hE
        obtain rfl := Option.some.inj hE
        exact hX H locs ls hP hS (lv_sub hl [0, 1] rfl)
      · have hE := it_f c3803 hE
        refine lv_aload_n C.1 C.2.1 dX5_isWordAt_56 rfl (lv_at hl 0 rfl) ?_
        refine ma_22 C hP dX5_isWordAt_57 ?_
        refine lv_aload_n C.1 C.2.1 dX5_isWordAt_60 rfl (lv_at hl 0 rfl) ?_
        refine mg_28 (v := (F 28)) C hP rfl dX5_isWordAt_61 ?_
        refine lv_iload_n C.1 C.2.1 dX5_isWordAt_64 rfl (lv_at hl 2 rfl) ?_
        refine lv_iadd C.1 C.2.1 dX5_isWordAt_65 ?_
        obtain ⟨g3804, hE⟩ := it_g hE
        refine ml_22 (v := ((L 22) (((F 28) + x3)).toNatClampNeg)) C hP (gi_in g3804) rfl dX5_isWordAt_66 ?_
        refine lv_l2i C.1 C.2.1 dX5_isWordAt_67 rfl ?_
        refine lv_aload_n C.1 C.2.1 dX5_isWordAt_68 rfl (lv_at hl 0 rfl) ?_
        refine ma_26 C hP dX5_isWordAt_69 ?_
        refine lv_iload_n C.1 C.2.1 dX5_isWordAt_72 rfl (lv_at hl 1 rfl) ?_
        obtain ⟨g3805, hE⟩ := it_g hE
        refine ml_26 (v := ((A 26) (x2).toNatClampNeg)) C hP (gi_in g3805) rfl dX5_isWordAt_73 ?_
        refine lv_icmp_ne (tgt := 86) C.1 C.2.1 dX5_isWordAt_74 (by decide) (fun c3806 => ?_) (fun c3806 => ?_)
        · have hE := it_f c3806 hE
          obtain rfl := Option.some.inj hE
          exact hX H locs ls hP hS (lv_sub hl [0, 1] rfl)
        · have hE := it_t c3806 hE
          refine lv_iinc (v := (x3 + 1)) (lv' := [(3, .int (x3 + 1)), (0, .ref h0), (2, .int x2)]) C.1 C.2.1 dX5_isWordAt_77 hl (k := 2) rfl rfl (by decide) rfl (fun ls hl => ?_)
          refine lv_iinc (v := (x2 + 1)) (lv' := [(2, .int (x2 + 1)), (3, .int (x3 + 1)), (0, .ref h0)]) C.1 C.2.1 dX5_isWordAt_80 hl (k := 2) rfl rfl (by decide) rfl (fun ls hl => ?_)
          refine lv_goto (tgt := 37) C.1 C.2.1 dX5_isWordAt_83 (by decide) ?_
          exact ih (x2 + 1) (x3 + 1) _ _ _ hE hP hS (lv_sub hl [2, 0, 1] rfl) hX
set_option maxHeartbeats 4000000 in
theorem metM_isWordAt (l : Launch) (G : kG) (h0 : Nat) (ad : Nat → Nat) (F : Nat → Int32) (A : Nat → Nat → Int32) (L : Nat → Nat → Int64) (p1 : Int32) (res : Int32) (hE : sM_isWordAt (F 28) (F 29) (F 30) (A 26) (L 22) p1 = some res) : Met l yX5_isWordAt (ws_ yX5_isWordAt cX5_isWordAt 4 (some .boolean)) ({ frames := 0, cells := 0, slots := 0, locals := 0 } : Room) (mPc G h0 ad F A L [.int p1]) (mQc G h0 ad F A L (some (.int res))) 0 0 (mA h0 ad) := by
  refine m_ofW (by decide) rfl (Nat.le_of_ble_eq_true rfl) ?_
  intro p e s m args below meth c ls C hml hP hS hl hr hlocks
  have hl : lv_has ls 4 [(0, .ref h0), (1, .int p1)] := hl
  obtain ⟨Q, hQ⟩ : ∃ Q, Q = MQ below (mQc G h0 ad F A L (some (.int res))) args s 0 0 (mA h0 ad) := ⟨_, rfl⟩
  rw [← hQ]
  have hret : ∀ (pc : Nat) (ls : Array Slot) (H : Heap) (locs : List Loc), narrow .boolean (.int res) = .int res → decode cX5_isWordAt pc = .ok (.ireturn, 1) → mPw G h0 ad F A L H → va_S (mA h0 ad) s.heap H locs → W p l e ({ frames := 0, cells := 0, slots := 0, locals := 0 } : Room) s m args below meth c H locs 0 0 Q (F0 m pc ls [.int res]) := by
    intro pc ls H locs hn hd hP hS
    rw [hQ]
    exact m_zret C hr hlocks hn hd hP hS
  clear hQ
  obtain ⟨H, hH⟩ : ∃ H, H = s.heap := ⟨_, rfl⟩
  obtain ⟨locs, hlo⟩ : ∃ locs : List Loc, locs = [] := ⟨_, rfl⟩
  have hP : mPw G h0 ad F A L H := by rw [hH]; exact hP
  have hS : va_S (mA h0 ad) s.heap H locs := by rw [hH, hlo]; exact hS
  suffices hZ : W p l e ({ frames := 0, cells := 0, slots := 0, locals := 0 } : Room) s m args below meth c H locs 0 0 Q (F0 m 0 ls []) by rw [hH, hlo] at hZ; exact hZ
  clear hH hlo
  unfold sM_isWordAt at hE
  refine lv_iconst (v := 0) C.1 C.2.1 dX5_isWordAt_0 (by decide) ?_
  refine lv_istore_n (lv' := [(2, .int 0), (0, .ref h0), (1, .int p1)]) C.1 C.2.1 dX5_isWordAt_1 rfl hl (by decide) rfl (fun ls hl => ?_)
  refine lv_iconst (v := 0) C.1 C.2.1 dX5_isWordAt_2 (by decide) ?_
  refine lv_istore_n (lv' := [(3, .int 0), (2, .int 0), (0, .ref h0), (1, .int p1)]) C.1 C.2.1 dX5_isWordAt_3 rfl hl (by decide) rfl (fun ls hl => ?_)
  obtain ⟨u1, hu1, hE⟩ := it_b hE
  refine wM_isWordAt_h4 C hml F A L p1 u1 2000 0 0 H locs ls hu1 hP hS (lv_sub hl [2, 3, 1, 0] rfl) (fun H locs ls hP hS hl => ?_)
  refine lv_aload_n C.1 C.2.1 dX5_isWordAt_32 rfl (lv_at hl 0 rfl) ?_
  refine mg_29 (v := (F 29)) C hP rfl dX5_isWordAt_33 ?_
  refine lv_istore_n (lv' := [(3, .int (F 29)), (0, .ref h0), (2, .int u1)]) C.1 C.2.1 dX5_isWordAt_36 rfl hl (by decide) rfl (fun ls hl => ?_)
  obtain ⟨u2, hu2, hE⟩ := it_b hE
  refine wM_isWordAt_h37 C hml F A L  u2 2000 u1 (F 29) H locs ls hu2 hP hS (lv_sub hl [1, 2, 0] rfl) (fun H locs ls hP hS hl => ?_)
  refine lv_aload_n C.1 C.2.1 dX5_isWordAt_86 rfl (lv_at hl 0 rfl) ?_
  refine ma_26 C hP dX5_isWordAt_87 ?_
  refine lv_iload_n C.1 C.2.1 dX5_isWordAt_90 rfl (lv_at hl 1 rfl) ?_
  obtain ⟨g3, hE⟩ := it_g hE
  refine ml_26 (v := ((A 26) (u2).toNatClampNeg)) C hP (gi_in g3) rfl dX5_isWordAt_91 ?_
  refine lv_bipush (v := 32) C.1 C.2.1 dX5_isWordAt_92 (by decide) ?_
  refine lv_icmp_gt (tgt := 101) C.1 C.2.1 dX5_isWordAt_94 (by decide) (fun c4 => ?_) (fun c4 => ?_)
  · have hE := it_t c4 hE
    refine lv_iconst (v := 0) C.1 C.2.1 dX5_isWordAt_101 (by decide) ?_
    obtain rfl := Option.some.inj hE
    exact hret _ _ _ _ (nbz (Or.inl rfl)) dX5_isWordAt_102 hP hS
  · have hE := it_f c4 hE
    refine lv_iconst (v := 1) C.1 C.2.1 dX5_isWordAt_97 (by decide) ?_
    refine lv_goto (tgt := 102) C.1 C.2.1 dX5_isWordAt_98 (by decide) ?_
    obtain rfl := Option.some.inj hE
    exact hret _ _ _ _ (nbz (Or.inr rfl)) dX5_isWordAt_102 hP hS
def sM_word_h24 (f_base : Int32) (f_end : Int32) (a_words : Nat → Int32) (l_cells : Nat → Int64) : Nat → Int32 → Int32 → Option (Int32 × Int32)
  | 0, _, _ => none
  | fuel + 1, x4, x5 =>
    if gi x5 67 then
    if (a_words (x5).toNatClampNeg) = 0 then
      some (x4, x5)
    else
      if f_end ≤ x4 then
        some (x4, x5)
      else
        if gi (f_base + x4) 1280 then
        if gi x5 67 then
        if (((l_cells ((f_base + x4)).toNatClampNeg) : Int64).toInt32) = (a_words (x5).toNatClampNeg) then
          sM_word_h24 f_base f_end a_words l_cells fuel (x4 + 1) (x5 + 1)
        else
          some (x4, x5)
        else none
        else none
    else none
def sM_word_h106 (a_words : Nat → Int32) : Nat → Int32 → Option (Int32)
  | 0, _ => none
  | fuel + 1, x1 =>
    if gi x1 67 then
    if (a_words (x1).toNatClampNeg) = 0 then
      some x1
    else
      sM_word_h106 a_words fuel (x1 + 1)
    else none
def sM_word_h9 (f_base : Int32) (f_at : Int32) (f_end : Int32) (f_wrongAt : Int32) (a_words : Nat → Int32) (l_cells : Nat → Int64) : Nat → Int32 → Int32 → Int32 → Option (Int32 × Int32 × Int32)
  | 0, _, _, _ => none
  | fuel + 1, x1, x2, x3 =>
    if 10 ≤ x3 then
      some ((-1), f_at, x2)
    else
      (sM_word_h24 f_base f_end a_words l_cells 2000 f_at x1).bind fun u1002 =>
      if gi u1002.2 67 then
      if (a_words (u1002.2).toNatClampNeg) = 0 then
        some (x3, u1002.1, f_wrongAt)
      else
        @Option.bind (Int32) _ (
          if u1002.1 ≤ x2 then
            some x2
          else
            some u1002.1) fun u1006 =>
        (sM_word_h106 a_words 2000 x1).bind fun u1007 =>
        sM_word_h9 f_base f_at f_end f_wrongAt a_words l_cells fuel (u1007 + 1) u1006 (x3 + 1)
      else none
def sM_word (f_base : Int32) (f_at : Int32) (f_end : Int32) (f_wrongAt : Int32) (a_words : Nat → Int32) (l_cells : Nat → Int64) : Option (Int32 × Int32 × Int32) :=
  sM_word_h9 f_base f_at f_end f_wrongAt a_words l_cells 2000 0 f_at 0
set_option maxHeartbeats 4000000 in
theorem wM_word_h24 {p : Program} {l : Launch} {e : Env} {s : State} {m : MethodId} {args : Array Value} {below : List Frame} {meth : Method} {c : Code} {G : kG} {h0 : Nat} {ad : Nat → Nat} {Q : State → Prop} (C : mC p s m args c cX5_word G h0 ad) (hml : c.maxLocals = 6) (F : Nat → Int32) (A : Nat → Nat → Int32) (L : Nat → Nat → Int64) (x1 : Int32) (x2 : Int32) (x3 : Int32) (f_at : Int32) (f_wrongAt : Int32) (res : Int32 × Int32) :
    ∀ (fuel : Nat) (x4 : Int32) (x5 : Int32) (H : Heap) (locs : List Loc) (ls : Array Slot), sM_word_h24 (F 28) (F 30) (A 26) (L 22) fuel x4 x5 = some res → mPw G h0 ad (upd (upd F 29 f_at) 32 f_wrongAt) A L H → va_S (mA h0 ad) s.heap H locs → lv_has ls 6 [(0, .ref h0), (1, .int x1), (2, .int x2), (3, .int x3), (4, .int x4), (5, .int x5)] → (∀ (H : Heap) (locs : List Loc) (ls : Array Slot), mPw G h0 ad (upd (upd F 29 f_at) 32 f_wrongAt) A L H → va_S (mA h0 ad) s.heap H locs → lv_has ls 6 [(0, .ref h0), (1, .int x1), (2, .int x2), (3, .int x3), (4, .int res.1), (5, .int res.2)] → W p l e ({ frames := 0, cells := 0, slots := 0, locals := 0 } : Room) s m args below meth c H locs 0 0 Q (F0 m 75 ls [])) → W p l e ({ frames := 0, cells := 0, slots := 0, locals := 0 } : Room) s m args below meth c H locs 0 0 Q (F0 m 24 ls []) := by
  intro fuel
  induction fuel with
  | zero =>
    intro x4 x5 H locs ls hE
    exact it_n hE
  | succ fuel ih =>
    intro x4 x5 H locs ls hE hP hS hl hX
    rw [sM_word_h24] at hE
    refine lv_aload_n C.1 C.2.1 dX5_word_24 rfl (lv_at hl 0 rfl) ?_
    refine ma_26 C hP dX5_word_25 ?_
    refine lv_iload C.1 C.2.1 dX5_word_28 (lv_at hl 5 rfl) ?_
    obtain ⟨g2501, hE⟩ := it_g hE
    refine ml_26 (v := ((A 26) (x5).toNatClampNeg)) C hP (gi_in g2501) rfl dX5_word_30 ?_
    refine lv_if_eq (tgt := 75) C.1 C.2.1 dX5_word_31 (by decide) (fun c2502 => ?_) (fun c2502 => ?_)
    · have hE := it_t c2502 hE
      obtain rfl := Option.some.inj hE
      exact hX H locs ls hP hS (lv_sub hl [0, 1, 2, 3, 4, 5] rfl)
    · have hE := it_f c2502 hE
      refine lv_iload C.1 C.2.1 dX5_word_34 (lv_at hl 4 rfl) ?_
      refine lv_aload_n C.1 C.2.1 dX5_word_36 rfl (lv_at hl 0 rfl) ?_
      refine mg_30 (v := (F 30)) C hP rfl dX5_word_37 ?_
      refine lv_icmp_ge (tgt := 75) C.1 C.2.1 dX5_word_40 (by decide) (fun c2503 => ?_) (fun c2503 => ?_)
      · have hE := it_t c2503 hE
        obtain rfl := Option.some.inj hE
        exact hX H locs ls hP hS (lv_sub hl [0, 1, 2, 3, 4, 5] rfl)
      · have hE := it_f c2503 hE
        refine lv_aload_n C.1 C.2.1 dX5_word_43 rfl (lv_at hl 0 rfl) ?_
        refine ma_22 C hP dX5_word_44 ?_
        refine lv_aload_n C.1 C.2.1 dX5_word_47 rfl (lv_at hl 0 rfl) ?_
        refine mg_28 (v := (F 28)) C hP rfl dX5_word_48 ?_
        refine lv_iload C.1 C.2.1 dX5_word_51 (lv_at hl 4 rfl) ?_
        refine lv_iadd C.1 C.2.1 dX5_word_53 ?_
        obtain ⟨g2504, hE⟩ := it_g hE
        refine ml_22 (v := ((L 22) (((F 28) + x4)).toNatClampNeg)) C hP (gi_in g2504) rfl dX5_word_54 ?_
        refine lv_l2i C.1 C.2.1 dX5_word_55 rfl ?_
        refine lv_aload_n C.1 C.2.1 dX5_word_56 rfl (lv_at hl 0 rfl) ?_
        refine ma_26 C hP dX5_word_57 ?_
        refine lv_iload C.1 C.2.1 dX5_word_60 (lv_at hl 5 rfl) ?_
        obtain ⟨g2505, hE⟩ := it_g hE
        refine ml_26 (v := ((A 26) (x5).toNatClampNeg)) C hP (gi_in g2505) rfl dX5_word_62 ?_
        refine lv_icmp_ne (tgt := 75) C.1 C.2.1 dX5_word_63 (by decide) (fun c2506 => ?_) (fun c2506 => ?_)
        · have hE := it_f c2506 hE
          obtain rfl := Option.some.inj hE
          exact hX H locs ls hP hS (lv_sub hl [0, 1, 2, 3, 4, 5] rfl)
        · have hE := it_t c2506 hE
          refine lv_iinc (v := (x4 + 1)) (lv' := [(4, .int (x4 + 1)), (0, .ref h0), (1, .int x1), (2, .int x2), (3, .int x3), (5, .int x5)]) C.1 C.2.1 dX5_word_66 hl (k := 4) rfl rfl (by decide) rfl (fun ls hl => ?_)
          refine lv_iinc (v := (x5 + 1)) (lv' := [(5, .int (x5 + 1)), (4, .int (x4 + 1)), (0, .ref h0), (1, .int x1), (2, .int x2), (3, .int x3)]) C.1 C.2.1 dX5_word_69 hl (k := 5) rfl rfl (by decide) rfl (fun ls hl => ?_)
          refine lv_goto (tgt := 24) C.1 C.2.1 dX5_word_72 (by decide) ?_
          exact ih (x4 + 1) (x5 + 1) _ _ _ hE hP hS (lv_sub hl [2, 3, 4, 5, 1, 0] rfl) hX
set_option maxHeartbeats 4000000 in
theorem wM_word_h106 {p : Program} {l : Launch} {e : Env} {s : State} {m : MethodId} {args : Array Value} {below : List Frame} {meth : Method} {c : Code} {G : kG} {h0 : Nat} {ad : Nat → Nat} {Q : State → Prop} (C : mC p s m args c cX5_word G h0 ad) (hml : c.maxLocals = 6) (F : Nat → Int32) (A : Nat → Nat → Int32) (L : Nat → Nat → Int64) (x2 : Int32) (x3 : Int32) (f_at : Int32) (f_wrongAt : Int32) (res : Int32) :
    ∀ (fuel : Nat) (x1 : Int32) (H : Heap) (locs : List Loc) (ls : Array Slot), sM_word_h106 (A 26) fuel x1 = some res → mPw G h0 ad (upd (upd F 29 f_at) 32 f_wrongAt) A L H → va_S (mA h0 ad) s.heap H locs → lv_has ls 6 [(0, .ref h0), (1, .int x1), (2, .int x2), (3, .int x3)] → (∀ (H : Heap) (locs : List Loc) (ls : Array Slot), mPw G h0 ad (upd (upd F 29 f_at) 32 f_wrongAt) A L H → va_S (mA h0 ad) s.heap H locs → lv_has ls 6 [(0, .ref h0), (1, .int res), (2, .int x2), (3, .int x3)] → W p l e ({ frames := 0, cells := 0, slots := 0, locals := 0 } : Room) s m args below meth c H locs 0 0 Q (F0 m 121 ls [])) → W p l e ({ frames := 0, cells := 0, slots := 0, locals := 0 } : Room) s m args below meth c H locs 0 0 Q (F0 m 106 ls []) := by
  intro fuel
  induction fuel with
  | zero =>
    intro x1 H locs ls hE
    exact it_n hE
  | succ fuel ih =>
    intro x1 H locs ls hE hP hS hl hX
    rw [sM_word_h106] at hE
    refine lv_aload_n C.1 C.2.1 dX5_word_106 rfl (lv_at hl 0 rfl) ?_
    refine ma_26 C hP dX5_word_107 ?_
    refine lv_iload_n C.1 C.2.1 dX5_word_110 rfl (lv_at hl 1 rfl) ?_
    obtain ⟨g10701, hE⟩ := it_g hE
    refine ml_26 (v := ((A 26) (x1).toNatClampNeg)) C hP (gi_in g10701) rfl dX5_word_111 ?_
    refine lv_if_eq (tgt := 121) C.1 C.2.1 dX5_word_112 (by decide) (fun c10702 => ?_) (fun c10702 => ?_)
    · have hE := it_t c10702 hE
      obtain rfl := Option.some.inj hE
      exact hX H locs ls hP hS (lv_sub hl [0, 1, 2, 3] rfl)
    · have hE := it_f c10702 hE
      refine lv_iinc (v := (x1 + 1)) (lv' := [(1, .int (x1 + 1)), (0, .ref h0), (2, .int x2), (3, .int x3)]) C.1 C.2.1 dX5_word_115 hl (k := 1) rfl rfl (by decide) rfl (fun ls hl => ?_)
      refine lv_goto (tgt := 106) C.1 C.2.1 dX5_word_118 (by decide) ?_
      exact ih (x1 + 1) _ _ _ hE hP hS (lv_sub hl [1, 0, 2, 3] rfl) hX
set_option maxHeartbeats 4000000 in
theorem wM_word_h9 {p : Program} {l : Launch} {e : Env} {s : State} {m : MethodId} {args : Array Value} {below : List Frame} {meth : Method} {c : Code} {G : kG} {h0 : Nat} {ad : Nat → Nat} {Q : State → Prop} (C : mC p s m args c cX5_word G h0 ad) (hml : c.maxLocals = 6) (F : Nat → Int32) (A : Nat → Nat → Int32) (L : Nat → Nat → Int64) (f_at : Int32) (f_wrongAt : Int32) (res : Int32 × Int32 × Int32) :
    ∀ (fuel : Nat) (x1 : Int32) (x2 : Int32) (x3 : Int32) (H : Heap) (locs : List Loc) (ls : Array Slot), sM_word_h9 (F 28) f_at (F 30) f_wrongAt (A 26) (L 22) fuel x1 x2 x3 = some res → mPw G h0 ad (upd (upd F 29 f_at) 32 f_wrongAt) A L H → va_S (mA h0 ad) s.heap H locs → lv_has ls 6 [(0, .ref h0), (1, .int x1), (2, .int x2), (3, .int x3)] → (∀ (pc : Nat) (ls : Array Slot) (H : Heap) (locs : List Loc), decode cX5_word pc = .ok (.ireturn, 1) → mPw G h0 ad (upd (upd F 29 res.2.1) 32 res.2.2) A L H → va_S (mA h0 ad) s.heap H locs → W p l e ({ frames := 0, cells := 0, slots := 0, locals := 0 } : Room) s m args below meth c H locs 0 0 Q (F0 m pc ls [.int res.1])) → W p l e ({ frames := 0, cells := 0, slots := 0, locals := 0 } : Room) s m args below meth c H locs 0 0 Q (F0 m 9 ls []) := by
  intro fuel
  induction fuel with
  | zero =>
    intro x1 x2 x3 H locs ls hE
    exact it_n hE
  | succ fuel ih =>
    intro x1 x2 x3 H locs ls hE hP hS hl hret
    rw [sM_word_h9] at hE
    refine lv_iload_n C.1 C.2.1 dX5_word_9 rfl (lv_at hl 3 rfl) ?_
    refine lv_bipush (v := 10) C.1 C.2.1 dX5_word_10 (by decide) ?_
    refine lv_icmp_ge (tgt := 130) C.1 C.2.1 dX5_word_12 (by decide) (fun c1001 => ?_) (fun c1001 => ?_)
    · have hE := it_t c1001 hE
      refine lv_aload_n C.1 C.2.1 dX5_word_130 rfl (lv_at hl 0 rfl) ?_
      refine lv_iload_n C.1 C.2.1 dX5_word_131 rfl (lv_at hl 2 rfl) ?_
      refine mp_32 C hP hS dX5_word_132 (fun H locs hP hS => ?_)
      refine lv_iconst (v := (-1)) C.1 C.2.1 dX5_word_135 (by decide) ?_
      obtain rfl := Option.some.inj hE
      exact hret _ _ _ _ dX5_word_136 hP hS
    · have hE := it_f c1001 hE
      refine lv_aload_n C.1 C.2.1 dX5_word_15 rfl (lv_at hl 0 rfl) ?_
      refine mg_29 (v := f_at) C hP rfl dX5_word_16 ?_
      refine lv_istore (lv' := [(4, .int f_at), (0, .ref h0), (1, .int x1), (2, .int x2), (3, .int x3)]) C.1 C.2.1 dX5_word_19 hl (by decide) rfl (fun ls hl => ?_)
      refine lv_iload_n C.1 C.2.1 dX5_word_21 rfl (lv_at hl 2 rfl) ?_
      refine lv_istore (lv' := [(5, .int x1), (4, .int f_at), (0, .ref h0), (1, .int x1), (2, .int x2), (3, .int x3)]) C.1 C.2.1 dX5_word_22 hl (by decide) rfl (fun ls hl => ?_)
      obtain ⟨u1002, hu1002, hE⟩ := it_b hE
      refine wM_word_h24 C hml F A L x1 x2 x3 f_at f_wrongAt u1002 2000 f_at x1 H locs ls hu1002 hP hS (lv_sub hl [2, 3, 4, 5, 1, 0] rfl) (fun H locs ls hP hS hl => ?_)
      refine lv_aload_n C.1 C.2.1 dX5_word_75 rfl (lv_at hl 0 rfl) ?_
      refine ma_26 C hP dX5_word_76 ?_
      refine lv_iload C.1 C.2.1 dX5_word_79 (lv_at hl 5 rfl) ?_
      obtain ⟨g1003, hE⟩ := it_g hE
      refine ml_26 (v := ((A 26) (u1002.2).toNatClampNeg)) C hP (gi_in g1003) rfl dX5_word_81 ?_
      refine lv_if_ne (tgt := 93) C.1 C.2.1 dX5_word_82 (by decide) (fun c1004 => ?_) (fun c1004 => ?_)
      · have hE := it_f c1004 hE
        refine lv_iload C.1 C.2.1 dX5_word_93 (lv_at hl 4 rfl) ?_
        refine lv_iload_n C.1 C.2.1 dX5_word_95 rfl (lv_at hl 2 rfl) ?_
        obtain ⟨u1006, hR, hE⟩ := it_b hE
        have hJ105u1006 : ∀ (H : Heap) (locs : List Loc) (ls : Array Slot), mPw G h0 ad (upd (upd F 29 f_at) 32 f_wrongAt) A L H → va_S (mA h0 ad) s.heap H locs → lv_has ls 6 [(0, .ref h0), (1, .int x1), (3, .int x3)] → W p l e ({ frames := 0, cells := 0, slots := 0, locals := 0 } : Room) s m args below meth c H locs 0 0 Q (F0 m 105 ls [.int u1006]) := by
          intro H locs ls hP hS hl
          refine lv_istore_n (lv' := [(2, .int u1006), (0, .ref h0), (1, .int x1), (3, .int x3)]) C.1 C.2.1 dX5_word_105 rfl hl (by decide) rfl (fun ls hl => ?_)
          obtain ⟨u1007, hu1007, hE⟩ := it_b hE
          refine wM_word_h106 C hml F A L u1006 x3 f_at f_wrongAt u1007 2000 x1 H locs ls hu1007 hP hS (lv_sub hl [1, 2, 0, 3] rfl) (fun H locs ls hP hS hl => ?_)
          refine lv_iinc (v := (u1007 + 1)) (lv' := [(1, .int (u1007 + 1)), (0, .ref h0), (2, .int u1006), (3, .int x3)]) C.1 C.2.1 dX5_word_121 hl (k := 1) rfl rfl (by decide) rfl (fun ls hl => ?_)
          refine lv_iinc (v := (x3 + 1)) (lv' := [(3, .int (x3 + 1)), (1, .int (u1007 + 1)), (0, .ref h0), (2, .int u1006)]) C.1 C.2.1 dX5_word_124 hl (k := 3) rfl rfl (by decide) rfl (fun ls hl => ?_)
          refine lv_goto (tgt := 9) C.1 C.2.1 dX5_word_127 (by decide) ?_
          exact ih (u1007 + 1) u1006 (x3 + 1) _ _ _ hE hP hS (lv_sub hl [2, 1, 3, 0] rfl) hret
        have hE := hR
        refine lv_icmp_le (tgt := 104) C.1 C.2.1 dX5_word_96 (by decide) (fun c1005 => ?_) (fun c1005 => ?_)
        · have hE := it_t c1005 hE
          refine lv_iload_n C.1 C.2.1 dX5_word_104 rfl (lv_at hl 2 rfl) ?_
          obtain rfl := Option.some.inj hE
          exact hJ105u1006 H locs ls hP hS (lv_sub hl [0, 1, 3] rfl)
        · have hE := it_f c1005 hE
          refine lv_iload C.1 C.2.1 dX5_word_99 (lv_at hl 4 rfl) ?_
          refine lv_goto (tgt := 105) C.1 C.2.1 dX5_word_101 (by decide) ?_
          obtain rfl := Option.some.inj hE
          exact hJ105u1006 H locs ls hP hS (lv_sub hl [0, 1, 3] rfl)
      · have hE := it_t c1004 hE
        refine lv_aload_n C.1 C.2.1 dX5_word_85 rfl (lv_at hl 0 rfl) ?_
        refine lv_iload C.1 C.2.1 dX5_word_86 (lv_at hl 4 rfl) ?_
        refine mp_29 C hP hS dX5_word_88 (fun H locs hP hS => ?_)
        refine lv_iload_n C.1 C.2.1 dX5_word_91 rfl (lv_at hl 3 rfl) ?_
        obtain rfl := Option.some.inj hE
        exact hret _ _ _ _ dX5_word_92 hP hS
set_option maxHeartbeats 4000000 in
theorem metM_word (l : Launch) (G : kG) (h0 : Nat) (ad : Nat → Nat) (F : Nat → Int32) (A : Nat → Nat → Int32) (L : Nat → Nat → Int64)  (res : Int32 × Int32 × Int32) (hE : sM_word (F 28) (F 29) (F 30) (F 32) (A 26) (L 22) = some res) : Met l yX5_word (ws_ yX5_word cX5_word 6 (some .int)) ({ frames := 0, cells := 0, slots := 0, locals := 0 } : Room) (mPc G h0 ad F A L []) (mQc G h0 ad (upd (upd F 29 res.2.1) 32 res.2.2) A L (some (.int res.1))) 0 0 (mA h0 ad) := by
  refine m_ofW (by decide) rfl (Nat.le_of_ble_eq_true rfl) ?_
  intro p e s m args below meth c ls C hml hP hS hl hr hlocks
  have hl : lv_has ls 6 [(0, .ref h0)] := hl
  obtain ⟨Q, hQ⟩ : ∃ Q, Q = MQ below (mQc G h0 ad (upd (upd F 29 res.2.1) 32 res.2.2) A L (some (.int res.1))) args s 0 0 (mA h0 ad) := ⟨_, rfl⟩
  rw [← hQ]
  have hret : ∀ (pc : Nat) (ls : Array Slot) (H : Heap) (locs : List Loc), decode cX5_word pc = .ok (.ireturn, 1) → mPw G h0 ad (upd (upd F 29 res.2.1) 32 res.2.2) A L H → va_S (mA h0 ad) s.heap H locs → W p l e ({ frames := 0, cells := 0, slots := 0, locals := 0 } : Room) s m args below meth c H locs 0 0 Q (F0 m pc ls [.int res.1]) := by
    intro pc ls H locs hd hP hS
    rw [hQ]
    exact m_iret C hr hlocks hd hP hS
  clear hQ
  obtain ⟨H, hH⟩ : ∃ H, H = s.heap := ⟨_, rfl⟩
  obtain ⟨locs, hlo⟩ : ∃ locs : List Loc, locs = [] := ⟨_, rfl⟩
  have hP : mPw G h0 ad F A L H := by rw [hH]; exact hP
  have hS : va_S (mA h0 ad) s.heap H locs := by rw [hH, hlo]; exact hS
  suffices hZ : W p l e ({ frames := 0, cells := 0, slots := 0, locals := 0 } : Room) s m args below meth c H locs 0 0 Q (F0 m 0 ls []) by rw [hH, hlo] at hZ; exact hZ
  clear hH hlo
  unfold sM_word at hE
  refine lv_iconst (v := 0) C.1 C.2.1 dX5_word_0 (by decide) ?_
  refine lv_istore_n (lv' := [(1, .int 0), (0, .ref h0)]) C.1 C.2.1 dX5_word_1 rfl hl (by decide) rfl (fun ls hl => ?_)
  refine lv_aload_n C.1 C.2.1 dX5_word_2 rfl (lv_at hl 1 rfl) ?_
  refine mg_29 (v := (F 29)) C hP rfl dX5_word_3 ?_
  refine lv_istore_n (lv' := [(2, .int (F 29)), (1, .int 0), (0, .ref h0)]) C.1 C.2.1 dX5_word_6 rfl hl (by decide) rfl (fun ls hl => ?_)
  refine lv_iconst (v := 0) C.1 C.2.1 dX5_word_7 (by decide) ?_
  refine lv_istore_n (lv' := [(3, .int 0), (2, .int (F 29)), (1, .int 0), (0, .ref h0)]) C.1 C.2.1 dX5_word_8 rfl hl (by decide) rfl (fun ls hl => ?_)
  exact wM_word_h9 C hml F A L (F 29) (F 32) res 2000 0 (F 29) 0 H locs ls hE hP hS (lv_sub hl [3, 2, 1, 0] rfl) hret
def sM_isDigit (f_base : Int32) (f_at : Int32) (f_end : Int32) (l_cells : Nat → Int64) : Option (Int32) :=
  if f_end ≤ f_at then
    some 0
  else
    if gi (f_base + f_at) 1280 then
    if (((l_cells ((f_base + f_at)).toNatClampNeg) : Int64).toInt32) < 48 then
      some 0
    else
      if gi (f_base + f_at) 1280 then
      if 57 < (((l_cells ((f_base + f_at)).toNatClampNeg) : Int64).toInt32) then
        some 0
      else
        some 1
      else none
    else none
set_option maxHeartbeats 4000000 in
theorem metM_isDigit (l : Launch) (G : kG) (h0 : Nat) (ad : Nat → Nat) (F : Nat → Int32) (A : Nat → Nat → Int32) (L : Nat → Nat → Int64)  (res : Int32) (hE : sM_isDigit (F 28) (F 29) (F 30) (L 22) = some res) : Met l yX5_isDigit (ws_ yX5_isDigit cX5_isDigit 1 (some .boolean)) ({ frames := 0, cells := 0, slots := 0, locals := 0 } : Room) (mPc G h0 ad F A L []) (mQc G h0 ad F A L (some (.int res))) 0 0 (mA h0 ad) := by
  refine m_ofW (by decide) rfl (Nat.le_of_ble_eq_true rfl) ?_
  intro p e s m args below meth c ls C hml hP hS hl hr hlocks
  have hl : lv_has ls 1 [(0, .ref h0)] := hl
  obtain ⟨Q, hQ⟩ : ∃ Q, Q = MQ below (mQc G h0 ad F A L (some (.int res))) args s 0 0 (mA h0 ad) := ⟨_, rfl⟩
  rw [← hQ]
  have hret : ∀ (pc : Nat) (ls : Array Slot) (H : Heap) (locs : List Loc), narrow .boolean (.int res) = .int res → decode cX5_isDigit pc = .ok (.ireturn, 1) → mPw G h0 ad F A L H → va_S (mA h0 ad) s.heap H locs → W p l e ({ frames := 0, cells := 0, slots := 0, locals := 0 } : Room) s m args below meth c H locs 0 0 Q (F0 m pc ls [.int res]) := by
    intro pc ls H locs hn hd hP hS
    rw [hQ]
    exact m_zret C hr hlocks hn hd hP hS
  clear hQ
  obtain ⟨H, hH⟩ : ∃ H, H = s.heap := ⟨_, rfl⟩
  obtain ⟨locs, hlo⟩ : ∃ locs : List Loc, locs = [] := ⟨_, rfl⟩
  have hP : mPw G h0 ad F A L H := by rw [hH]; exact hP
  have hS : va_S (mA h0 ad) s.heap H locs := by rw [hH, hlo]; exact hS
  suffices hZ : W p l e ({ frames := 0, cells := 0, slots := 0, locals := 0 } : Room) s m args below meth c H locs 0 0 Q (F0 m 0 ls []) by rw [hH, hlo] at hZ; exact hZ
  clear hH hlo
  unfold sM_isDigit at hE
  refine lv_aload_n C.1 C.2.1 dX5_isDigit_0 rfl (lv_at hl 0 rfl) ?_
  refine mg_29 (v := (F 29)) C hP rfl dX5_isDigit_1 ?_
  refine lv_aload_n C.1 C.2.1 dX5_isDigit_4 rfl (lv_at hl 0 rfl) ?_
  refine mg_30 (v := (F 30)) C hP rfl dX5_isDigit_5 ?_
  refine lv_icmp_ge (tgt := 55) C.1 C.2.1 dX5_isDigit_8 (by decide) (fun c1 => ?_) (fun c1 => ?_)
  · have hE := it_t c1 hE
    refine lv_iconst (v := 0) C.1 C.2.1 dX5_isDigit_55 (by decide) ?_
    obtain rfl := Option.some.inj hE
    exact hret _ _ _ _ (nbz (Or.inl rfl)) dX5_isDigit_56 hP hS
  · have hE := it_f c1 hE
    refine lv_aload_n C.1 C.2.1 dX5_isDigit_11 rfl (lv_at hl 0 rfl) ?_
    refine ma_22 C hP dX5_isDigit_12 ?_
    refine lv_aload_n C.1 C.2.1 dX5_isDigit_15 rfl (lv_at hl 0 rfl) ?_
    refine mg_28 (v := (F 28)) C hP rfl dX5_isDigit_16 ?_
    refine lv_aload_n C.1 C.2.1 dX5_isDigit_19 rfl (lv_at hl 0 rfl) ?_
    refine mg_29 (v := (F 29)) C hP rfl dX5_isDigit_20 ?_
    refine lv_iadd C.1 C.2.1 dX5_isDigit_23 ?_
    obtain ⟨g2, hE⟩ := it_g hE
    refine ml_22 (v := ((L 22) (((F 28) + (F 29))).toNatClampNeg)) C hP (gi_in g2) rfl dX5_isDigit_24 ?_
    refine lv_l2i C.1 C.2.1 dX5_isDigit_25 rfl ?_
    refine lv_bipush (v := 48) C.1 C.2.1 dX5_isDigit_26 (by decide) ?_
    refine lv_icmp_lt (tgt := 55) C.1 C.2.1 dX5_isDigit_28 (by decide) (fun c3 => ?_) (fun c3 => ?_)
    · have hE := it_t c3 hE
      refine lv_iconst (v := 0) C.1 C.2.1 dX5_isDigit_55 (by decide) ?_
      obtain rfl := Option.some.inj hE
      exact hret _ _ _ _ (nbz (Or.inl rfl)) dX5_isDigit_56 hP hS
    · have hE := it_f c3 hE
      refine lv_aload_n C.1 C.2.1 dX5_isDigit_31 rfl (lv_at hl 0 rfl) ?_
      refine ma_22 C hP dX5_isDigit_32 ?_
      refine lv_aload_n C.1 C.2.1 dX5_isDigit_35 rfl (lv_at hl 0 rfl) ?_
      refine mg_28 (v := (F 28)) C hP rfl dX5_isDigit_36 ?_
      refine lv_aload_n C.1 C.2.1 dX5_isDigit_39 rfl (lv_at hl 0 rfl) ?_
      refine mg_29 (v := (F 29)) C hP rfl dX5_isDigit_40 ?_
      refine lv_iadd C.1 C.2.1 dX5_isDigit_43 ?_
      obtain ⟨g4, hE⟩ := it_g hE
      refine ml_22 (v := ((L 22) (((F 28) + (F 29))).toNatClampNeg)) C hP (gi_in g4) rfl dX5_isDigit_44 ?_
      refine lv_l2i C.1 C.2.1 dX5_isDigit_45 rfl ?_
      refine lv_bipush (v := 57) C.1 C.2.1 dX5_isDigit_46 (by decide) ?_
      refine lv_icmp_gt (tgt := 55) C.1 C.2.1 dX5_isDigit_48 (by decide) (fun c5 => ?_) (fun c5 => ?_)
      · have hE := it_t c5 hE
        refine lv_iconst (v := 0) C.1 C.2.1 dX5_isDigit_55 (by decide) ?_
        obtain rfl := Option.some.inj hE
        exact hret _ _ _ _ (nbz (Or.inl rfl)) dX5_isDigit_56 hP hS
      · have hE := it_f c5 hE
        refine lv_iconst (v := 1) C.1 C.2.1 dX5_isDigit_51 (by decide) ?_
        refine lv_goto (tgt := 56) C.1 C.2.1 dX5_isDigit_52 (by decide) ?_
        obtain rfl := Option.some.inj hE
        exact hret _ _ _ _ (nbz (Or.inr rfl)) dX5_isDigit_56 hP hS
def sM_reads_h23 (f_base : Int32) (f_end : Int32) (l_cells : Nat → Int64) : Nat → Int32 → Int32 → Int32 → Option (Int32 × Int32)
  | 0, _, _, _ => none
  | fuel + 1, x1, f_at, f_number =>
    if 3 ≤ x1 then
      some (f_at, f_number)
    else
      (sM_isDigit f_base f_at f_end l_cells).bind fun r2402 =>
      if r2402 = 0 then
        some (f_at, f_number)
      else
        if gi (f_base + f_at) 1280 then
        sM_reads_h23 f_base f_end l_cells fuel (x1 + 1) (f_at + 1) (((10 * f_number) + (((l_cells ((f_base + f_at)).toNatClampNeg) : Int64).toInt32)) - 48)
        else none
def sM_reads (f_base : Int32) (f_at : Int32) (f_end : Int32) (f_number : Int32) (f_wrongAt : Int32) (l_cells : Nat → Int64) : Option (Int32 × Int32 × Int32 × Int32) :=
  (sM_isDigit f_base f_at f_end l_cells).bind fun r1 =>
  if r1 = 0 then
    (sM_wrong f_wrongAt f_at).bind fun r4 =>
    if r4.1 = 0 ∨ r4.1 = 1 then
    some (r4.1, f_at, 0, r4.2)
    else none
  else
    (sM_reads_h23 f_base f_end l_cells 2000 0 f_at 0).bind fun u3 =>
    some (1, u3.1, u3.2, f_wrongAt)
set_option maxHeartbeats 4000000 in
theorem wM_reads_h23 {p : Program} {l : Launch} {e : Env} {s : State} {m : MethodId} {args : Array Value} {below : List Frame} {meth : Method} {c : Code} {G : kG} {h0 : Nat} {ad : Nat → Nat} {Q : State → Prop} (C : mC p s m args c cX5_reads G h0 ad) (hml : c.maxLocals = 2) (F : Nat → Int32) (A : Nat → Nat → Int32) (L : Nat → Nat → Int64) (f_wrongAt : Int32) (res : Int32 × Int32) :
    ∀ (fuel : Nat) (x1 : Int32) (f_at : Int32) (f_number : Int32) (H : Heap) (locs : List Loc) (ls : Array Slot), sM_reads_h23 (F 28) (F 30) (L 22) fuel x1 f_at f_number = some res → mPw G h0 ad (upd (upd (upd F 29 f_at) 31 f_number) 32 f_wrongAt) A L H → va_S (mA h0 ad) s.heap H locs → lv_has ls 2 [(0, .ref h0), (1, .int x1)] → (∀ (H : Heap) (locs : List Loc) (ls : Array Slot), mPw G h0 ad (upd (upd (upd F 29 res.1) 31 res.2) 32 f_wrongAt) A L H → va_S (mA h0 ad) s.heap H locs → lv_has ls 2 [] → W p l e ({ frames := 1, cells := 0, slots := 0, locals := 21 } : Room) s m args below meth c H locs 0 0 Q (F0 m 81 ls [])) → W p l e ({ frames := 1, cells := 0, slots := 0, locals := 21 } : Room) s m args below meth c H locs 0 0 Q (F0 m 23 ls []) := by
  intro fuel
  induction fuel with
  | zero =>
    intro x1 f_at f_number H locs ls hE
    exact it_n hE
  | succ fuel ih =>
    intro x1 f_at f_number H locs ls hE hP hS hl hX
    rw [sM_reads_h23] at hE
    refine lv_iload_n C.1 C.2.1 dX5_reads_23 rfl (lv_at hl 1 rfl) ?_
    refine lv_iconst (v := 3) C.1 C.2.1 dX5_reads_24 (by decide) ?_
    refine lv_icmp_ge (tgt := 81) C.1 C.2.1 dX5_reads_25 (by decide) (fun c2401 => ?_) (fun c2401 => ?_)
    · have hE := it_t c2401 hE
      obtain rfl := Option.some.inj hE
      exact hX H locs ls hP hS (lv_sub hl [] rfl)
    · have hE := it_f c2401 hE
      refine lv_aload_n C.1 C.2.1 dX5_reads_28 rfl (lv_at hl 0 rfl) ?_
      obtain ⟨r2402, hr2402, hE⟩ := it_b hE
      refine m_call (n := 0) (As := []) (rest := []) C hP hS hml (metM_isDigit l G h0 ad _ _ _ r2402 hr2402) q1587 q1589 qs46 q1590 rfl rfl (by decide +kernel) ⟨Nat.le_of_ble_eq_true rfl, Nat.le_of_ble_eq_true rfl⟩ ⟨Nat.le_refl _, Nat.le_refl _⟩ rfl hl.1 rfl (Nat.le_of_ble_eq_true rfl) dX5_reads_29 (fun H locs hP hS => ?_)
      refine lv_if_eq (tgt := 81) C.1 C.2.1 dX5_reads_32 (by decide) (fun c2403 => ?_) (fun c2403 => ?_)
      · have hE := it_t c2403 hE
        obtain rfl := Option.some.inj hE
        exact hX H locs ls hP hS (lv_sub hl [] rfl)
      · have hE := it_f c2403 hE
        refine lv_aload_n C.1 C.2.1 dX5_reads_35 rfl (lv_at hl 0 rfl) ?_
        refine lv_bipush (v := 10) C.1 C.2.1 dX5_reads_36 (by decide) ?_
        refine lv_aload_n C.1 C.2.1 dX5_reads_38 rfl (lv_at hl 0 rfl) ?_
        refine mg_31 (v := f_number) C hP rfl dX5_reads_39 ?_
        refine lv_imul C.1 C.2.1 dX5_reads_42 ?_
        refine lv_aload_n C.1 C.2.1 dX5_reads_43 rfl (lv_at hl 0 rfl) ?_
        refine ma_22 C hP dX5_reads_44 ?_
        refine lv_aload_n C.1 C.2.1 dX5_reads_47 rfl (lv_at hl 0 rfl) ?_
        refine mg_28 (v := (F 28)) C hP rfl dX5_reads_48 ?_
        refine lv_aload_n C.1 C.2.1 dX5_reads_51 rfl (lv_at hl 0 rfl) ?_
        refine mg_29 (v := f_at) C hP rfl dX5_reads_52 ?_
        refine lv_iadd C.1 C.2.1 dX5_reads_55 ?_
        obtain ⟨g2404, hE⟩ := it_g hE
        refine ml_22 (v := ((L 22) (((F 28) + f_at)).toNatClampNeg)) C hP (gi_in g2404) rfl dX5_reads_56 ?_
        refine lv_l2i C.1 C.2.1 dX5_reads_57 rfl ?_
        refine lv_iadd C.1 C.2.1 dX5_reads_58 ?_
        refine lv_bipush (v := 48) C.1 C.2.1 dX5_reads_59 (by decide) ?_
        refine lv_isub C.1 C.2.1 dX5_reads_61 ?_
        refine mp_31 C hP hS dX5_reads_62 (fun H locs hP hS => ?_)
        refine lv_aload_n C.1 C.2.1 dX5_reads_65 rfl (lv_at hl 0 rfl) ?_
        refine lv_dup C.1 C.2.1 dX5_reads_66 rfl ?_
        refine mg_29 (v := f_at) C hP rfl dX5_reads_67 ?_
        refine lv_iconst (v := 1) C.1 C.2.1 dX5_reads_70 (by decide) ?_
        refine lv_iadd C.1 C.2.1 dX5_reads_71 ?_
        refine mp_29 C hP hS dX5_reads_72 (fun H locs hP hS => ?_)
        refine lv_iinc (v := (x1 + 1)) (lv' := [(1, .int (x1 + 1)), (0, .ref h0)]) C.1 C.2.1 dX5_reads_75 hl (k := 1) rfl rfl (by decide) rfl (fun ls hl => ?_)
        refine lv_goto (tgt := 23) C.1 C.2.1 dX5_reads_78 (by decide) ?_
        exact ih (x1 + 1) (f_at + 1) (((10 * f_number) + ((((L 22) (((F 28) + f_at)).toNatClampNeg) : Int64).toInt32)) - 48) _ _ _ hE hP hS (lv_sub hl [1, 0] rfl) hX
set_option maxHeartbeats 4000000 in
theorem metM_reads (l : Launch) (G : kG) (h0 : Nat) (ad : Nat → Nat) (F : Nat → Int32) (A : Nat → Nat → Int32) (L : Nat → Nat → Int64)  (res : Int32 × Int32 × Int32 × Int32) (hE : sM_reads (F 28) (F 29) (F 30) (F 31) (F 32) (L 22) = some res) : Met l yX5_reads (ws_ yX5_reads cX5_reads 2 (some .boolean)) ({ frames := 1, cells := 0, slots := 0, locals := 21 } : Room) (mPc G h0 ad F A L []) (mQc G h0 ad (upd (upd (upd F 29 res.2.1) 31 res.2.2.1) 32 res.2.2.2) A L (some (.int res.1))) 0 0 (mA h0 ad) := by
  refine m_ofW (by decide) rfl (Nat.le_of_ble_eq_true rfl) ?_
  intro p e s m args below meth c ls C hml hP hS hl hr hlocks
  have hl : lv_has ls 2 [(0, .ref h0)] := hl
  obtain ⟨Q, hQ⟩ : ∃ Q, Q = MQ below (mQc G h0 ad (upd (upd (upd F 29 res.2.1) 31 res.2.2.1) 32 res.2.2.2) A L (some (.int res.1))) args s 0 0 (mA h0 ad) := ⟨_, rfl⟩
  rw [← hQ]
  have hret : ∀ (pc : Nat) (ls : Array Slot) (H : Heap) (locs : List Loc), narrow .boolean (.int res.1) = .int res.1 → decode cX5_reads pc = .ok (.ireturn, 1) → mPw G h0 ad (upd (upd (upd F 29 res.2.1) 31 res.2.2.1) 32 res.2.2.2) A L H → va_S (mA h0 ad) s.heap H locs → W p l e ({ frames := 1, cells := 0, slots := 0, locals := 21 } : Room) s m args below meth c H locs 0 0 Q (F0 m pc ls [.int res.1]) := by
    intro pc ls H locs hn hd hP hS
    rw [hQ]
    exact m_zret C hr hlocks hn hd hP hS
  clear hQ
  obtain ⟨H, hH⟩ : ∃ H, H = s.heap := ⟨_, rfl⟩
  obtain ⟨locs, hlo⟩ : ∃ locs : List Loc, locs = [] := ⟨_, rfl⟩
  have hP : mPw G h0 ad F A L H := by rw [hH]; exact hP
  have hS : va_S (mA h0 ad) s.heap H locs := by rw [hH, hlo]; exact hS
  suffices hZ : W p l e ({ frames := 1, cells := 0, slots := 0, locals := 21 } : Room) s m args below meth c H locs 0 0 Q (F0 m 0 ls []) by rw [hH, hlo] at hZ; exact hZ
  clear hH hlo
  unfold sM_reads at hE
  refine lv_aload_n C.1 C.2.1 dX5_reads_0 rfl (lv_at hl 0 rfl) ?_
  refine lv_iconst (v := 0) C.1 C.2.1 dX5_reads_1 (by decide) ?_
  refine mp_31 C hP hS dX5_reads_2 (fun H locs hP hS => ?_)
  refine lv_aload_n C.1 C.2.1 dX5_reads_5 rfl (lv_at hl 0 rfl) ?_
  obtain ⟨r1, hr1, hE⟩ := it_b hE
  refine m_call (n := 0) (As := []) (rest := []) C hP hS hml (metM_isDigit l G h0 ad _ _ _ r1 hr1) q1587 q1589 qs46 q1590 rfl rfl (by decide +kernel) ⟨Nat.le_of_ble_eq_true rfl, Nat.le_of_ble_eq_true rfl⟩ ⟨Nat.le_refl _, Nat.le_refl _⟩ rfl hl.1 rfl (Nat.le_of_ble_eq_true rfl) dX5_reads_6 (fun H locs hP hS => ?_)
  refine lv_if_ne (tgt := 21) C.1 C.2.1 dX5_reads_9 (by decide) (fun c2 => ?_) (fun c2 => ?_)
  · have hE := it_f c2 hE
    refine lv_iconst (v := 0) C.1 C.2.1 dX5_reads_21 (by decide) ?_
    refine lv_istore_n (lv' := [(1, .int 0), (0, .ref h0)]) C.1 C.2.1 dX5_reads_22 rfl hl (by decide) rfl (fun ls hl => ?_)
    obtain ⟨u3, hu3, hE⟩ := it_b hE
    refine wM_reads_h23 C hml F A L (F 32) u3 2000 0 (F 29) 0 H locs ls hu3 hP hS (lv_sub hl [1, 0] rfl) (fun H locs ls hP hS hl => ?_)
    refine lv_iconst (v := 1) C.1 C.2.1 dX5_reads_81 (by decide) ?_
    obtain rfl := Option.some.inj hE
    exact hret _ _ _ _ (nbz (Or.inr rfl)) dX5_reads_82 hP hS
  · have hE := it_t c2 hE
    refine lv_aload_n C.1 C.2.1 dX5_reads_12 rfl (lv_at hl 0 rfl) ?_
    refine lv_aload_n C.1 C.2.1 dX5_reads_13 rfl (lv_at hl 0 rfl) ?_
    refine mg_29 (v := (F 29)) C hP rfl dX5_reads_14 ?_
    obtain ⟨r4, hr4, hE⟩ := it_b hE
    refine m_call (n := 1) (As := [.int (F 29)]) (rest := []) C hP hS hml (metM_wrong l G h0 ad _ _ _ (F 29) r4 hr4) q1575 q1577 qs43 q1578 rfl rfl (by decide +kernel) ⟨Nat.le_of_ble_eq_true rfl, Nat.le_of_ble_eq_true rfl⟩ ⟨Nat.le_refl _, Nat.le_refl _⟩ rfl hl.1 rfl (Nat.le_of_ble_eq_true rfl) dX5_reads_17 (fun H locs hP hS => ?_)
    obtain ⟨g5, hE⟩ := it_g hE
    obtain rfl := Option.some.inj hE
    exact hret _ _ _ _ (nbz g5) dX5_reads_20 hP hS
def sM_may (f_many : Int32) (a_ill : Nat → Int32) (p1 : Int32) : Option (Int32) :=
  (sM_isHome f_many p1).bind fun r1 =>
  if r1 = 0 then
    some 0
  else
    if gi p1 8 then
    if (a_ill (p1).toNatClampNeg) = 0 then
      some 1
    else
      some 0
    else none
set_option maxHeartbeats 4000000 in
theorem metM_may (l : Launch) (G : kG) (h0 : Nat) (ad : Nat → Nat) (F : Nat → Int32) (A : Nat → Nat → Int32) (L : Nat → Nat → Int64) (p1 : Int32) (res : Int32) (hE : sM_may (F 0) (A 15) p1 = some res) : Met l yX5_may (ws_ yX5_may cX5_may 2 (some .boolean)) ({ frames := 1, cells := 0, slots := 0, locals := 21 } : Room) (mPc G h0 ad F A L [.int p1]) (mQc G h0 ad F A L (some (.int res))) 0 0 (mA h0 ad) := by
  refine m_ofW (by decide) rfl (Nat.le_of_ble_eq_true rfl) ?_
  intro p e s m args below meth c ls C hml hP hS hl hr hlocks
  have hl : lv_has ls 2 [(0, .ref h0), (1, .int p1)] := hl
  obtain ⟨Q, hQ⟩ : ∃ Q, Q = MQ below (mQc G h0 ad F A L (some (.int res))) args s 0 0 (mA h0 ad) := ⟨_, rfl⟩
  rw [← hQ]
  have hret : ∀ (pc : Nat) (ls : Array Slot) (H : Heap) (locs : List Loc), narrow .boolean (.int res) = .int res → decode cX5_may pc = .ok (.ireturn, 1) → mPw G h0 ad F A L H → va_S (mA h0 ad) s.heap H locs → W p l e ({ frames := 1, cells := 0, slots := 0, locals := 21 } : Room) s m args below meth c H locs 0 0 Q (F0 m pc ls [.int res]) := by
    intro pc ls H locs hn hd hP hS
    rw [hQ]
    exact m_zret C hr hlocks hn hd hP hS
  clear hQ
  obtain ⟨H, hH⟩ : ∃ H, H = s.heap := ⟨_, rfl⟩
  obtain ⟨locs, hlo⟩ : ∃ locs : List Loc, locs = [] := ⟨_, rfl⟩
  have hP : mPw G h0 ad F A L H := by rw [hH]; exact hP
  have hS : va_S (mA h0 ad) s.heap H locs := by rw [hH, hlo]; exact hS
  suffices hZ : W p l e ({ frames := 1, cells := 0, slots := 0, locals := 21 } : Room) s m args below meth c H locs 0 0 Q (F0 m 0 ls []) by rw [hH, hlo] at hZ; exact hZ
  clear hH hlo
  unfold sM_may at hE
  refine lv_aload_n C.1 C.2.1 dX5_may_0 rfl (lv_at hl 0 rfl) ?_
  refine lv_iload_n C.1 C.2.1 dX5_may_1 rfl (lv_at hl 1 rfl) ?_
  obtain ⟨r1, hr1, hE⟩ := it_b hE
  refine m_call (n := 1) (As := [.int p1]) (rest := []) C hP hS hml (metM_isHome l G h0 ad _ _ _ p1 r1 hr1) q1503 q1505 qs33 q1506 rfl rfl (by decide +kernel) ⟨Nat.le_of_ble_eq_true rfl, Nat.le_of_ble_eq_true rfl⟩ ⟨Nat.le_refl _, Nat.le_refl _⟩ rfl hl.1 rfl (Nat.le_of_ble_eq_true rfl) dX5_may_2 (fun H locs hP hS => ?_)
  refine lv_if_eq (tgt := 21) C.1 C.2.1 dX5_may_5 (by decide) (fun c2 => ?_) (fun c2 => ?_)
  · have hE := it_t c2 hE
    refine lv_iconst (v := 0) C.1 C.2.1 dX5_may_21 (by decide) ?_
    obtain rfl := Option.some.inj hE
    exact hret _ _ _ _ (nbz (Or.inl rfl)) dX5_may_22 hP hS
  · have hE := it_f c2 hE
    refine lv_aload_n C.1 C.2.1 dX5_may_8 rfl (lv_at hl 0 rfl) ?_
    refine ma_15 C hP dX5_may_9 ?_
    refine lv_iload_n C.1 C.2.1 dX5_may_12 rfl (lv_at hl 1 rfl) ?_
    obtain ⟨g3, hE⟩ := it_g hE
    refine ml_15 (v := ((A 15) (p1).toNatClampNeg)) C hP (gi_in g3) rfl dX5_may_13 ?_
    refine lv_if_ne (tgt := 21) C.1 C.2.1 dX5_may_14 (by decide) (fun c4 => ?_) (fun c4 => ?_)
    · have hE := it_f c4 hE
      refine lv_iconst (v := 0) C.1 C.2.1 dX5_may_21 (by decide) ?_
      obtain rfl := Option.some.inj hE
      exact hret _ _ _ _ (nbz (Or.inl rfl)) dX5_may_22 hP hS
    · have hE := it_t c4 hE
      refine lv_iconst (v := 1) C.1 C.2.1 dX5_may_17 (by decide) ?_
      refine lv_goto (tgt := 22) C.1 C.2.1 dX5_may_18 (by decide) ?_
      obtain rfl := Option.some.inj hE
      exact hret _ _ _ _ (nbz (Or.inr rfl)) dX5_may_22 hP hS
def sM_isSo (f_many : Int32) (f_number : Int32) (a_ill : Nat → Int32) (a_least : Nat → Int32) (a_greatest : Nat → Int32) (p1 : Int32) (p2 : Int32) : Option (Int32) :=
  if p1 = 0 then
    @Option.bind (Int32) _ (
      if p2 = 0 then
        some 6
      else
        some 9) fun u3 =>
    if u3 < f_number then
      some 0
    else
      some 1
  else
  if p1 = 1 then
    if p2 = 0 then
      if f_many ≤ f_number then
        some 0
      else
        some 1
    else
      if 9 < f_number then
        some 0
      else
        some 1
  else
  if p1 = 2 then
    if f_many ≤ f_number then
      some 0
    else
      some 1
  else
  if p1 = 9 then
    (sM_may f_many a_ill f_number).bind fun r12 =>
    if r12 = 0 ∨ r12 = 1 then
    some r12
    else none
  else
  (sM_isAsked a_least a_greatest (p1 - 3) f_number).bind fun r20 =>
  if r20 = 0 ∨ r20 = 1 then
  some r20
  else none
set_option maxHeartbeats 4000000 in
theorem metM_isSo (l : Launch) (G : kG) (h0 : Nat) (ad : Nat → Nat) (F : Nat → Int32) (A : Nat → Nat → Int32) (L : Nat → Nat → Int64) (p1 : Int32) (p2 : Int32) (res : Int32) (hE : sM_isSo (F 0) (F 31) (A 15) (A 24) (A 25) p1 p2 = some res) : Met l yX5_isSo (ws_ yX5_isSo cX5_isSo 3 (some .boolean)) ({ frames := 2, cells := 0, slots := 0, locals := 42 } : Room) (mPc G h0 ad F A L [.int p1, .int p2]) (mQc G h0 ad F A L (some (.int res))) 0 0 (mA h0 ad) := by
  refine m_ofW (by decide) rfl (Nat.le_of_ble_eq_true rfl) ?_
  intro p e s m args below meth c ls C hml hP hS hl hr hlocks
  have hl : lv_has ls 3 [(0, .ref h0), (1, .int p1), (2, .int p2)] := hl
  obtain ⟨Q, hQ⟩ : ∃ Q, Q = MQ below (mQc G h0 ad F A L (some (.int res))) args s 0 0 (mA h0 ad) := ⟨_, rfl⟩
  rw [← hQ]
  have hret : ∀ (pc : Nat) (ls : Array Slot) (H : Heap) (locs : List Loc), narrow .boolean (.int res) = .int res → decode cX5_isSo pc = .ok (.ireturn, 1) → mPw G h0 ad F A L H → va_S (mA h0 ad) s.heap H locs → W p l e ({ frames := 2, cells := 0, slots := 0, locals := 42 } : Room) s m args below meth c H locs 0 0 Q (F0 m pc ls [.int res]) := by
    intro pc ls H locs hn hd hP hS
    rw [hQ]
    exact m_zret C hr hlocks hn hd hP hS
  clear hQ
  obtain ⟨H, hH⟩ : ∃ H, H = s.heap := ⟨_, rfl⟩
  obtain ⟨locs, hlo⟩ : ∃ locs : List Loc, locs = [] := ⟨_, rfl⟩
  have hP : mPw G h0 ad F A L H := by rw [hH]; exact hP
  have hS : va_S (mA h0 ad) s.heap H locs := by rw [hH, hlo]; exact hS
  suffices hZ : W p l e ({ frames := 2, cells := 0, slots := 0, locals := 42 } : Room) s m args below meth c H locs 0 0 Q (F0 m 0 ls []) by rw [hH, hlo] at hZ; exact hZ
  clear hH hlo
  unfold sM_isSo at hE
  refine lv_iload_n C.1 C.2.1 dX5_isSo_0 rfl (lv_at hl 1 rfl) ?_
  by_cases c1 : p1 = 0
  · have hE := it_t c1 hE
    refine lv_tableIn (tgt := 56) C.1 C.2.1 dX5_isSo_1 (by rw [c1]; decide) (by rw [c1]; decide) (by rw [c1]; rfl) (by decide) ?_
    refine lv_aload_n C.1 C.2.1 dX5_isSo_56 rfl (lv_at hl 0 rfl) ?_
    refine mg_31 (v := (F 31)) C hP rfl dX5_isSo_57 ?_
    refine lv_iload_n C.1 C.2.1 dX5_isSo_60 rfl (lv_at hl 2 rfl) ?_
    obtain ⟨u3, hR, hE⟩ := it_b hE
    have hJ71u3 : ∀ (H : Heap) (locs : List Loc) (ls : Array Slot), mPw G h0 ad F A L H → va_S (mA h0 ad) s.heap H locs → lv_has ls 3 [] → W p l e ({ frames := 2, cells := 0, slots := 0, locals := 42 } : Room) s m args below meth c H locs 0 0 Q (F0 m 71 ls [.int u3, .int (F 31)]) := by
      intro H locs ls hP hS hl
      refine lv_icmp_gt (tgt := 78) C.1 C.2.1 dX5_isSo_71 (by decide) (fun c4 => ?_) (fun c4 => ?_)
      · have hE := it_t c4 hE
        refine lv_iconst (v := 0) C.1 C.2.1 dX5_isSo_78 (by decide) ?_
        obtain rfl := Option.some.inj hE
        exact hret _ _ _ _ (nbz (Or.inl rfl)) dX5_isSo_79 hP hS
      · have hE := it_f c4 hE
        refine lv_iconst (v := 1) C.1 C.2.1 dX5_isSo_74 (by decide) ?_
        refine lv_goto (tgt := 79) C.1 C.2.1 dX5_isSo_75 (by decide) ?_
        obtain rfl := Option.some.inj hE
        exact hret _ _ _ _ (nbz (Or.inr rfl)) dX5_isSo_79 hP hS
    have hE := hR
    refine lv_if_ne (tgt := 69) C.1 C.2.1 dX5_isSo_61 (by decide) (fun c2 => ?_) (fun c2 => ?_)
    · have hE := it_f c2 hE
      refine lv_bipush (v := 9) C.1 C.2.1 dX5_isSo_69 (by decide) ?_
      obtain rfl := Option.some.inj hE
      exact hJ71u3 H locs ls hP hS (lv_sub hl [] rfl)
    · have hE := it_t c2 hE
      refine lv_bipush (v := 6) C.1 C.2.1 dX5_isSo_64 (by decide) ?_
      refine lv_goto (tgt := 71) C.1 C.2.1 dX5_isSo_66 (by decide) ?_
      obtain rfl := Option.some.inj hE
      exact hJ71u3 H locs ls hP hS (lv_sub hl [] rfl)
  have hE := it_f c1 hE
  by_cases c5 : p1 = 1
  · have hE := it_t c5 hE
    refine lv_tableIn (tgt := 80) C.1 C.2.1 dX5_isSo_1 (by rw [c5]; decide) (by rw [c5]; decide) (by rw [c5]; rfl) (by decide) ?_
    refine lv_iload_n C.1 C.2.1 dX5_isSo_80 rfl (lv_at hl 2 rfl) ?_
    refine lv_if_ne (tgt := 103) C.1 C.2.1 dX5_isSo_81 (by decide) (fun c6 => ?_) (fun c6 => ?_)
    · have hE := it_f c6 hE
      refine lv_aload_n C.1 C.2.1 dX5_isSo_103 rfl (lv_at hl 0 rfl) ?_
      refine mg_31 (v := (F 31)) C hP rfl dX5_isSo_104 ?_
      refine lv_bipush (v := 9) C.1 C.2.1 dX5_isSo_107 (by decide) ?_
      refine lv_icmp_gt (tgt := 116) C.1 C.2.1 dX5_isSo_109 (by decide) (fun c7 => ?_) (fun c7 => ?_)
      · have hE := it_t c7 hE
        refine lv_iconst (v := 0) C.1 C.2.1 dX5_isSo_116 (by decide) ?_
        obtain rfl := Option.some.inj hE
        exact hret _ _ _ _ (nbz (Or.inl rfl)) dX5_isSo_117 hP hS
      · have hE := it_f c7 hE
        refine lv_iconst (v := 1) C.1 C.2.1 dX5_isSo_112 (by decide) ?_
        refine lv_goto (tgt := 117) C.1 C.2.1 dX5_isSo_113 (by decide) ?_
        obtain rfl := Option.some.inj hE
        exact hret _ _ _ _ (nbz (Or.inr rfl)) dX5_isSo_117 hP hS
    · have hE := it_t c6 hE
      refine lv_aload_n C.1 C.2.1 dX5_isSo_84 rfl (lv_at hl 0 rfl) ?_
      refine mg_31 (v := (F 31)) C hP rfl dX5_isSo_85 ?_
      refine lv_aload_n C.1 C.2.1 dX5_isSo_88 rfl (lv_at hl 0 rfl) ?_
      refine mg_0 (v := (F 0)) C hP rfl dX5_isSo_89 ?_
      refine lv_icmp_ge (tgt := 99) C.1 C.2.1 dX5_isSo_92 (by decide) (fun c8 => ?_) (fun c8 => ?_)
      · have hE := it_t c8 hE
        refine lv_iconst (v := 0) C.1 C.2.1 dX5_isSo_99 (by decide) ?_
        refine lv_goto (tgt := 117) C.1 C.2.1 dX5_isSo_100 (by decide) ?_
        obtain rfl := Option.some.inj hE
        exact hret _ _ _ _ (nbz (Or.inl rfl)) dX5_isSo_117 hP hS
      · have hE := it_f c8 hE
        refine lv_iconst (v := 1) C.1 C.2.1 dX5_isSo_95 (by decide) ?_
        refine lv_goto (tgt := 117) C.1 C.2.1 dX5_isSo_96 (by decide) ?_
        obtain rfl := Option.some.inj hE
        exact hret _ _ _ _ (nbz (Or.inr rfl)) dX5_isSo_117 hP hS
  have hE := it_f c5 hE
  by_cases c9 : p1 = 2
  · have hE := it_t c9 hE
    refine lv_tableIn (tgt := 118) C.1 C.2.1 dX5_isSo_1 (by rw [c9]; decide) (by rw [c9]; decide) (by rw [c9]; rfl) (by decide) ?_
    refine lv_aload_n C.1 C.2.1 dX5_isSo_118 rfl (lv_at hl 0 rfl) ?_
    refine mg_31 (v := (F 31)) C hP rfl dX5_isSo_119 ?_
    refine lv_aload_n C.1 C.2.1 dX5_isSo_122 rfl (lv_at hl 0 rfl) ?_
    refine mg_0 (v := (F 0)) C hP rfl dX5_isSo_123 ?_
    refine lv_icmp_ge (tgt := 133) C.1 C.2.1 dX5_isSo_126 (by decide) (fun c10 => ?_) (fun c10 => ?_)
    · have hE := it_t c10 hE
      refine lv_iconst (v := 0) C.1 C.2.1 dX5_isSo_133 (by decide) ?_
      obtain rfl := Option.some.inj hE
      exact hret _ _ _ _ (nbz (Or.inl rfl)) dX5_isSo_134 hP hS
    · have hE := it_f c10 hE
      refine lv_iconst (v := 1) C.1 C.2.1 dX5_isSo_129 (by decide) ?_
      refine lv_goto (tgt := 134) C.1 C.2.1 dX5_isSo_130 (by decide) ?_
      obtain rfl := Option.some.inj hE
      exact hret _ _ _ _ (nbz (Or.inr rfl)) dX5_isSo_134 hP hS
  have hE := it_f c9 hE
  by_cases c11 : p1 = 9
  · have hE := it_t c11 hE
    refine lv_tableIn (tgt := 135) C.1 C.2.1 dX5_isSo_1 (by rw [c11]; decide) (by rw [c11]; decide) (by rw [c11]; rfl) (by decide) ?_
    refine lv_aload_n C.1 C.2.1 dX5_isSo_135 rfl (lv_at hl 0 rfl) ?_
    refine lv_aload_n C.1 C.2.1 dX5_isSo_136 rfl (lv_at hl 0 rfl) ?_
    refine mg_31 (v := (F 31)) C hP rfl dX5_isSo_137 ?_
    obtain ⟨r12, hr12, hE⟩ := it_b hE
    refine m_call (n := 1) (As := [.int (F 31)]) (rest := []) C hP hS hml (metM_may l G h0 ad _ _ _ (F 31) r12 hr12) q1595 q1597 qs48 q1598 rfl rfl (by decide +kernel) ⟨Nat.le_of_ble_eq_true rfl, Nat.le_of_ble_eq_true rfl⟩ ⟨Nat.le_refl _, Nat.le_refl _⟩ rfl hl.1 rfl (Nat.le_of_ble_eq_true rfl) dX5_isSo_140 (fun H locs hP hS => ?_)
    obtain ⟨g13, hE⟩ := it_g hE
    obtain rfl := Option.some.inj hE
    exact hret _ _ _ _ (nbz g13) dX5_isSo_143 hP hS
  have hE := it_f c11 hE
  refine sf_ (a := W p l e ({ frames := 2, cells := 0, slots := 0, locals := 42 } : Room) s m args below meth c H locs 0 0 Q (F0 m 144 ls [])) (fun hG => ?_) ?_
  · by_cases c14 : p1 = 3
    · exact lv_tableIn (tgt := 144) C.1 C.2.1 dX5_isSo_1 (by rw [c14]; decide) (by rw [c14]; decide) (by rw [c14]; rfl) (by decide) hG
    by_cases c15 : p1 = 4
    · exact lv_tableIn (tgt := 144) C.1 C.2.1 dX5_isSo_1 (by rw [c15]; decide) (by rw [c15]; decide) (by rw [c15]; rfl) (by decide) hG
    by_cases c16 : p1 = 5
    · exact lv_tableIn (tgt := 144) C.1 C.2.1 dX5_isSo_1 (by rw [c16]; decide) (by rw [c16]; decide) (by rw [c16]; rfl) (by decide) hG
    by_cases c17 : p1 = 6
    · exact lv_tableIn (tgt := 144) C.1 C.2.1 dX5_isSo_1 (by rw [c17]; decide) (by rw [c17]; decide) (by rw [c17]; rfl) (by decide) hG
    by_cases c18 : p1 = 7
    · exact lv_tableIn (tgt := 144) C.1 C.2.1 dX5_isSo_1 (by rw [c18]; decide) (by rw [c18]; decide) (by rw [c18]; rfl) (by decide) hG
    by_cases c19 : p1 = 8
    · exact lv_tableIn (tgt := 144) C.1 C.2.1 dX5_isSo_1 (by rw [c19]; decide) (by rw [c19]; decide) (by rw [c19]; rfl) (by decide) hG
    exact lv_tableOut (tgt := 144) C.1 C.2.1 dX5_isSo_1 (ts_e (ts_s (ts_s (ts_s (ts_s (ts_s (ts_s (ts_s (ts_s (ts_s (ts_s (ts_0 0) c1 rfl rfl) c5 rfl rfl) c9 rfl rfl) c14 rfl rfl) c15 rfl rfl) c16 rfl rfl) c17 rfl rfl) c18 rfl rfl) c19 rfl rfl) c11 rfl rfl) rfl) (by decide) hG
  refine lv_aload_n C.1 C.2.1 dX5_isSo_144 rfl (lv_at hl 0 rfl) ?_
  refine lv_iload_n C.1 C.2.1 dX5_isSo_145 rfl (lv_at hl 1 rfl) ?_
  refine lv_iconst (v := 3) C.1 C.2.1 dX5_isSo_146 (by decide) ?_
  refine lv_isub C.1 C.2.1 dX5_isSo_147 ?_
  refine lv_aload_n C.1 C.2.1 dX5_isSo_148 rfl (lv_at hl 0 rfl) ?_
  refine mg_31 (v := (F 31)) C hP rfl dX5_isSo_149 ?_
  obtain ⟨r20, hr20, hE⟩ := it_b hE
  refine m_call (n := 2) (As := [.int (p1 - 3), .int (F 31)]) (rest := []) C hP hS hml (metM_isAsked l G h0 ad _ _ _ (p1 - 3) (F 31) r20 hr20) q1539 q1541 qs35 q1542 rfl rfl (by decide +kernel) ⟨Nat.le_of_ble_eq_true rfl, Nat.le_of_ble_eq_true rfl⟩ ⟨Nat.le_refl _, Nat.le_refl _⟩ rfl hl.1 rfl (Nat.le_of_ble_eq_true rfl) dX5_isSo_152 (fun H locs hP hS => ?_)
  obtain ⟨g21, hE⟩ := it_g hE
  obtain rfl := Option.some.inj hE
  exact hret _ _ _ _ (nbz g21) dX5_isSo_155 hP hS
def sM_mays_h4 (f_many : Int32) (a_ill : Nat → Int32) : Nat → Int32 → Int32 → Option (Int32)
  | 0, _, _ => none
  | fuel + 1, x1, x2 =>
    if f_many ≤ x2 then
      some x1
    else
      (sM_may f_many a_ill x2).bind fun r502 =>
      @Option.bind (Int32) _ (
        if r502 = 0 then
          some x1
        else
          some (x1 + 1)) fun u504 =>
      sM_mays_h4 f_many a_ill fuel u504 (x2 + 1)
def sM_mays (f_many : Int32) (a_ill : Nat → Int32) : Option (Int32) :=
  (sM_mays_h4 f_many a_ill 2000 0 0).bind fun u1 =>
  some u1
set_option maxHeartbeats 4000000 in
theorem wM_mays_h4 {p : Program} {l : Launch} {e : Env} {s : State} {m : MethodId} {args : Array Value} {below : List Frame} {meth : Method} {c : Code} {G : kG} {h0 : Nat} {ad : Nat → Nat} {Q : State → Prop} (C : mC p s m args c cX5_mays G h0 ad) (hml : c.maxLocals = 3) (F : Nat → Int32) (A : Nat → Nat → Int32) (L : Nat → Nat → Int64)  (res : Int32) :
    ∀ (fuel : Nat) (x1 : Int32) (x2 : Int32) (H : Heap) (locs : List Loc) (ls : Array Slot), sM_mays_h4 (F 0) (A 15) fuel x1 x2 = some res → mPw G h0 ad F A L H → va_S (mA h0 ad) s.heap H locs → lv_has ls 3 [(0, .ref h0), (1, .int x1), (2, .int x2)] → (∀ (H : Heap) (locs : List Loc) (ls : Array Slot), mPw G h0 ad F A L H → va_S (mA h0 ad) s.heap H locs → lv_has ls 3 [(1, .int res)] → W p l e ({ frames := 2, cells := 0, slots := 0, locals := 42 } : Room) s m args below meth c H locs 0 0 Q (F0 m 29 ls [])) → W p l e ({ frames := 2, cells := 0, slots := 0, locals := 42 } : Room) s m args below meth c H locs 0 0 Q (F0 m 4 ls []) := by
  intro fuel
  induction fuel with
  | zero =>
    intro x1 x2 H locs ls hE
    exact it_n hE
  | succ fuel ih =>
    intro x1 x2 H locs ls hE hP hS hl hX
    rw [sM_mays_h4] at hE
    refine lv_iload_n C.1 C.2.1 dX5_mays_4 rfl (lv_at hl 2 rfl) ?_
    refine lv_aload_n C.1 C.2.1 dX5_mays_5 rfl (lv_at hl 0 rfl) ?_
    refine mg_0 (v := (F 0)) C hP rfl dX5_mays_6 ?_
    refine lv_icmp_ge (tgt := 29) C.1 C.2.1 dX5_mays_9 (by decide) (fun c501 => ?_) (fun c501 => ?_)
    · have hE := it_t c501 hE
      obtain rfl := Option.some.inj hE
      exact hX H locs ls hP hS (lv_sub hl [1] rfl)
    · have hE := it_f c501 hE
      refine lv_aload_n C.1 C.2.1 dX5_mays_12 rfl (lv_at hl 0 rfl) ?_
      refine lv_iload_n C.1 C.2.1 dX5_mays_13 rfl (lv_at hl 2 rfl) ?_
      obtain ⟨r502, hr502, hE⟩ := it_b hE
      refine m_call (n := 1) (As := [.int x2]) (rest := []) C hP hS hml (metM_may l G h0 ad _ _ _ x2 r502 hr502) q1595 q1597 qs48 q1598 rfl rfl (by decide +kernel) ⟨Nat.le_of_ble_eq_true rfl, Nat.le_of_ble_eq_true rfl⟩ ⟨Nat.le_refl _, Nat.le_refl _⟩ rfl hl.1 rfl (Nat.le_of_ble_eq_true rfl) dX5_mays_14 (fun H locs hP hS => ?_)
      obtain ⟨u504, hR, hE⟩ := it_b hE
      have hJ23u504 : ∀ (H : Heap) (locs : List Loc) (ls : Array Slot), mPw G h0 ad F A L H → va_S (mA h0 ad) s.heap H locs → lv_has ls 3 [(0, .ref h0), (1, .int u504), (2, .int x2)] → W p l e ({ frames := 2, cells := 0, slots := 0, locals := 42 } : Room) s m args below meth c H locs 0 0 Q (F0 m 23 ls []) := by
        intro H locs ls hP hS hl
        refine lv_iinc (v := (x2 + 1)) (lv' := [(2, .int (x2 + 1)), (0, .ref h0), (1, .int u504)]) C.1 C.2.1 dX5_mays_23 hl (k := 2) rfl rfl (by decide) rfl (fun ls hl => ?_)
        refine lv_goto (tgt := 4) C.1 C.2.1 dX5_mays_26 (by decide) ?_
        exact ih u504 (x2 + 1) _ _ _ hE hP hS (lv_sub hl [1, 2, 0] rfl) hX
      have hE := hR
      refine lv_if_eq (tgt := 23) C.1 C.2.1 dX5_mays_17 (by decide) (fun c503 => ?_) (fun c503 => ?_)
      · have hE := it_t c503 hE
        obtain rfl := Option.some.inj hE
        exact hJ23u504 H locs ls hP hS (lv_sub hl [0, 1, 2] rfl)
      · have hE := it_f c503 hE
        refine lv_iinc (v := (x1 + 1)) (lv' := [(1, .int (x1 + 1)), (0, .ref h0), (2, .int x2)]) C.1 C.2.1 dX5_mays_20 hl (k := 1) rfl rfl (by decide) rfl (fun ls hl => ?_)
        obtain rfl := Option.some.inj hE
        exact hJ23u504 H locs ls hP hS (lv_sub hl [1, 0, 2] rfl)
set_option maxHeartbeats 4000000 in
theorem metM_mays (l : Launch) (G : kG) (h0 : Nat) (ad : Nat → Nat) (F : Nat → Int32) (A : Nat → Nat → Int32) (L : Nat → Nat → Int64)  (res : Int32) (hE : sM_mays (F 0) (A 15) = some res) : Met l yX5_mays (ws_ yX5_mays cX5_mays 3 (some .int)) ({ frames := 2, cells := 0, slots := 0, locals := 42 } : Room) (mPc G h0 ad F A L []) (mQc G h0 ad F A L (some (.int res))) 0 0 (mA h0 ad) := by
  refine m_ofW (by decide) rfl (Nat.le_of_ble_eq_true rfl) ?_
  intro p e s m args below meth c ls C hml hP hS hl hr hlocks
  have hl : lv_has ls 3 [(0, .ref h0)] := hl
  obtain ⟨Q, hQ⟩ : ∃ Q, Q = MQ below (mQc G h0 ad F A L (some (.int res))) args s 0 0 (mA h0 ad) := ⟨_, rfl⟩
  rw [← hQ]
  have hret : ∀ (pc : Nat) (ls : Array Slot) (H : Heap) (locs : List Loc), decode cX5_mays pc = .ok (.ireturn, 1) → mPw G h0 ad F A L H → va_S (mA h0 ad) s.heap H locs → W p l e ({ frames := 2, cells := 0, slots := 0, locals := 42 } : Room) s m args below meth c H locs 0 0 Q (F0 m pc ls [.int res]) := by
    intro pc ls H locs hd hP hS
    rw [hQ]
    exact m_iret C hr hlocks hd hP hS
  clear hQ
  obtain ⟨H, hH⟩ : ∃ H, H = s.heap := ⟨_, rfl⟩
  obtain ⟨locs, hlo⟩ : ∃ locs : List Loc, locs = [] := ⟨_, rfl⟩
  have hP : mPw G h0 ad F A L H := by rw [hH]; exact hP
  have hS : va_S (mA h0 ad) s.heap H locs := by rw [hH, hlo]; exact hS
  suffices hZ : W p l e ({ frames := 2, cells := 0, slots := 0, locals := 42 } : Room) s m args below meth c H locs 0 0 Q (F0 m 0 ls []) by rw [hH, hlo] at hZ; exact hZ
  clear hH hlo
  unfold sM_mays at hE
  refine lv_iconst (v := 0) C.1 C.2.1 dX5_mays_0 (by decide) ?_
  refine lv_istore_n (lv' := [(1, .int 0), (0, .ref h0)]) C.1 C.2.1 dX5_mays_1 rfl hl (by decide) rfl (fun ls hl => ?_)
  refine lv_iconst (v := 0) C.1 C.2.1 dX5_mays_2 (by decide) ?_
  refine lv_istore_n (lv' := [(2, .int 0), (1, .int 0), (0, .ref h0)]) C.1 C.2.1 dX5_mays_3 rfl hl (by decide) rfl (fun ls hl => ?_)
  obtain ⟨u1, hu1, hE⟩ := it_b hE
  refine wM_mays_h4 C hml F A L  u1 2000 0 0 H locs ls hu1 hP hS (lv_sub hl [2, 1, 0] rfl) (fun H locs ls hP hS hl => ?_)
  refine lv_iload_n C.1 C.2.1 dX5_mays_29 rfl (lv_at hl 0 rfl) ?_
  obtain rfl := Option.some.inj hE
  exact hret _ _ _ _ dX5_mays_30 hP hS
def sM_mayAt_h4 (f_many : Int32) (a_ill : Nat → Int32) : Nat → Int32 → Int32 → Option (Int32)
  | 0, _, _ => none
  | fuel + 1, x2, x3 =>
    if f_many ≤ x3 then
      some (-1)
    else
      (sM_may f_many a_ill x3).bind fun r502 =>
      if r502 = 0 then
        sM_mayAt_h4 f_many a_ill fuel x2 (x3 + 1)
      else
        if x2 = 0 then
          some x3
        else
          sM_mayAt_h4 f_many a_ill fuel (x2 + (-1)) (x3 + 1)
def sM_mayAt (f_many : Int32) (a_ill : Nat → Int32) (p1 : Int32) : Option (Int32) :=
  sM_mayAt_h4 f_many a_ill 2000 p1 0
set_option maxHeartbeats 4000000 in
theorem wM_mayAt_h4 {p : Program} {l : Launch} {e : Env} {s : State} {m : MethodId} {args : Array Value} {below : List Frame} {meth : Method} {c : Code} {G : kG} {h0 : Nat} {ad : Nat → Nat} {Q : State → Prop} (C : mC p s m args c cX5_mayAt G h0 ad) (hml : c.maxLocals = 4) (F : Nat → Int32) (A : Nat → Nat → Int32) (L : Nat → Nat → Int64)  (res : Int32) :
    ∀ (fuel : Nat) (x2 : Int32) (x3 : Int32) (H : Heap) (locs : List Loc) (ls : Array Slot), sM_mayAt_h4 (F 0) (A 15) fuel x2 x3 = some res → mPw G h0 ad F A L H → va_S (mA h0 ad) s.heap H locs → lv_has ls 4 [(0, .ref h0), (2, .int x2), (3, .int x3)] → (∀ (pc : Nat) (ls : Array Slot) (H : Heap) (locs : List Loc), decode cX5_mayAt pc = .ok (.ireturn, 1) → mPw G h0 ad F A L H → va_S (mA h0 ad) s.heap H locs → W p l e ({ frames := 2, cells := 0, slots := 0, locals := 42 } : Room) s m args below meth c H locs 0 0 Q (F0 m pc ls [.int res])) → W p l e ({ frames := 2, cells := 0, slots := 0, locals := 42 } : Room) s m args below meth c H locs 0 0 Q (F0 m 4 ls []) := by
  intro fuel
  induction fuel with
  | zero =>
    intro x2 x3 H locs ls hE
    exact it_n hE
  | succ fuel ih =>
    intro x2 x3 H locs ls hE hP hS hl hret
    rw [sM_mayAt_h4] at hE
    refine lv_iload_n C.1 C.2.1 dX5_mayAt_4 rfl (lv_at hl 2 rfl) ?_
    refine lv_aload_n C.1 C.2.1 dX5_mayAt_5 rfl (lv_at hl 0 rfl) ?_
    refine mg_0 (v := (F 0)) C hP rfl dX5_mayAt_6 ?_
    refine lv_icmp_ge (tgt := 38) C.1 C.2.1 dX5_mayAt_9 (by decide) (fun c501 => ?_) (fun c501 => ?_)
    · have hE := it_t c501 hE
      refine lv_iconst (v := (-1)) C.1 C.2.1 dX5_mayAt_38 (by decide) ?_
      obtain rfl := Option.some.inj hE
      exact hret _ _ _ _ dX5_mayAt_39 hP hS
    · have hE := it_f c501 hE
      refine lv_aload_n C.1 C.2.1 dX5_mayAt_12 rfl (lv_at hl 0 rfl) ?_
      refine lv_iload_n C.1 C.2.1 dX5_mayAt_13 rfl (lv_at hl 2 rfl) ?_
      obtain ⟨r502, hr502, hE⟩ := it_b hE
      refine m_call (n := 1) (As := [.int x3]) (rest := []) C hP hS hml (metM_may l G h0 ad _ _ _ x3 r502 hr502) q1595 q1597 qs48 q1598 rfl rfl (by decide +kernel) ⟨Nat.le_of_ble_eq_true rfl, Nat.le_of_ble_eq_true rfl⟩ ⟨Nat.le_refl _, Nat.le_refl _⟩ rfl hl.1 rfl (Nat.le_of_ble_eq_true rfl) dX5_mayAt_14 (fun H locs hP hS => ?_)
      refine lv_if_ne (tgt := 23) C.1 C.2.1 dX5_mayAt_17 (by decide) (fun c503 => ?_) (fun c503 => ?_)
      · have hE := it_f c503 hE
        refine lv_iload_n C.1 C.2.1 dX5_mayAt_23 rfl (lv_at hl 1 rfl) ?_
        refine lv_if_ne (tgt := 29) C.1 C.2.1 dX5_mayAt_24 (by decide) (fun c504 => ?_) (fun c504 => ?_)
        · have hE := it_f c504 hE
          refine lv_iinc (v := (x2 + (-1))) (lv' := [(2, .int (x2 + (-1))), (0, .ref h0), (3, .int x3)]) C.1 C.2.1 dX5_mayAt_29 hl (k := 1) rfl rfl (by decide) rfl (fun ls hl => ?_)
          refine lv_iinc (v := (x3 + 1)) (lv' := [(3, .int (x3 + 1)), (2, .int (x2 + (-1))), (0, .ref h0)]) C.1 C.2.1 dX5_mayAt_32 hl (k := 2) rfl rfl (by decide) rfl (fun ls hl => ?_)
          refine lv_goto (tgt := 4) C.1 C.2.1 dX5_mayAt_35 (by decide) ?_
          exact ih (x2 + (-1)) (x3 + 1) _ _ _ hE hP hS (lv_sub hl [2, 1, 0] rfl) hret
        · have hE := it_t c504 hE
          refine lv_iload_n C.1 C.2.1 dX5_mayAt_27 rfl (lv_at hl 2 rfl) ?_
          obtain rfl := Option.some.inj hE
          exact hret _ _ _ _ dX5_mayAt_28 hP hS
      · have hE := it_t c503 hE
        refine lv_goto (tgt := 32) C.1 C.2.1 dX5_mayAt_20 (by decide) ?_
        refine lv_iinc (v := (x3 + 1)) (lv' := [(3, .int (x3 + 1)), (0, .ref h0), (2, .int x2)]) C.1 C.2.1 dX5_mayAt_32 hl (k := 2) rfl rfl (by decide) rfl (fun ls hl => ?_)
        refine lv_goto (tgt := 4) C.1 C.2.1 dX5_mayAt_35 (by decide) ?_
        exact ih x2 (x3 + 1) _ _ _ hE hP hS (lv_sub hl [1, 2, 0] rfl) hret
set_option maxHeartbeats 4000000 in
theorem metM_mayAt (l : Launch) (G : kG) (h0 : Nat) (ad : Nat → Nat) (F : Nat → Int32) (A : Nat → Nat → Int32) (L : Nat → Nat → Int64) (p1 : Int32) (res : Int32) (hE : sM_mayAt (F 0) (A 15) p1 = some res) : Met l yX5_mayAt (ws_ yX5_mayAt cX5_mayAt 4 (some .int)) ({ frames := 2, cells := 0, slots := 0, locals := 42 } : Room) (mPc G h0 ad F A L [.int p1]) (mQc G h0 ad F A L (some (.int res))) 0 0 (mA h0 ad) := by
  refine m_ofW (by decide) rfl (Nat.le_of_ble_eq_true rfl) ?_
  intro p e s m args below meth c ls C hml hP hS hl hr hlocks
  have hl : lv_has ls 4 [(0, .ref h0), (1, .int p1)] := hl
  obtain ⟨Q, hQ⟩ : ∃ Q, Q = MQ below (mQc G h0 ad F A L (some (.int res))) args s 0 0 (mA h0 ad) := ⟨_, rfl⟩
  rw [← hQ]
  have hret : ∀ (pc : Nat) (ls : Array Slot) (H : Heap) (locs : List Loc), decode cX5_mayAt pc = .ok (.ireturn, 1) → mPw G h0 ad F A L H → va_S (mA h0 ad) s.heap H locs → W p l e ({ frames := 2, cells := 0, slots := 0, locals := 42 } : Room) s m args below meth c H locs 0 0 Q (F0 m pc ls [.int res]) := by
    intro pc ls H locs hd hP hS
    rw [hQ]
    exact m_iret C hr hlocks hd hP hS
  clear hQ
  obtain ⟨H, hH⟩ : ∃ H, H = s.heap := ⟨_, rfl⟩
  obtain ⟨locs, hlo⟩ : ∃ locs : List Loc, locs = [] := ⟨_, rfl⟩
  have hP : mPw G h0 ad F A L H := by rw [hH]; exact hP
  have hS : va_S (mA h0 ad) s.heap H locs := by rw [hH, hlo]; exact hS
  suffices hZ : W p l e ({ frames := 2, cells := 0, slots := 0, locals := 42 } : Room) s m args below meth c H locs 0 0 Q (F0 m 0 ls []) by rw [hH, hlo] at hZ; exact hZ
  clear hH hlo
  unfold sM_mayAt at hE
  refine lv_iload_n C.1 C.2.1 dX5_mayAt_0 rfl (lv_at hl 1 rfl) ?_
  refine lv_istore_n (lv' := [(2, .int p1), (0, .ref h0), (1, .int p1)]) C.1 C.2.1 dX5_mayAt_1 rfl hl (by decide) rfl (fun ls hl => ?_)
  refine lv_iconst (v := 0) C.1 C.2.1 dX5_mayAt_2 (by decide) ?_
  refine lv_istore_n (lv' := [(3, .int 0), (2, .int p1), (0, .ref h0), (1, .int p1)]) C.1 C.2.1 dX5_mayAt_3 rfl hl (by decide) rfl (fun ls hl => ?_)
  exact wM_mayAt_h4 C hml F A L  res 2000 p1 0 H locs ls hE hP hS (lv_sub hl [2, 1, 0] rfl) hret
def sM_normOf (f_feed : Int32) (p1 : Int32) : Option (Int32) :=
  @Option.bind (Int32) _ (
    if p1 ≤ 51 then
      some (100 + (5 * f_feed))
    else
      some ((100 + (5 * f_feed)) - ((p1 - 51) / 2))) fun u2 =>
  if 0 ≤ u2 then
    some u2
  else
    some 0
set_option maxHeartbeats 4000000 in
theorem metM_normOf (l : Launch) (G : kG) (h0 : Nat) (ad : Nat → Nat) (F : Nat → Int32) (A : Nat → Nat → Int32) (L : Nat → Nat → Int64) (p1 : Int32) (res : Int32) (hE : sM_normOf (F 5) p1 = some res) : Met l yX5_normOf (ws_ yX5_normOf cX5_normOf 3 (some .int)) ({ frames := 0, cells := 0, slots := 0, locals := 0 } : Room) (mPc G h0 ad F A L [.int p1]) (mQc G h0 ad F A L (some (.int res))) 0 0 (mA h0 ad) := by
  refine m_ofW (by decide) rfl (Nat.le_of_ble_eq_true rfl) ?_
  intro p e s m args below meth c ls C hml hP hS hl hr hlocks
  have hl : lv_has ls 3 [(0, .ref h0), (1, .int p1)] := hl
  obtain ⟨Q, hQ⟩ : ∃ Q, Q = MQ below (mQc G h0 ad F A L (some (.int res))) args s 0 0 (mA h0 ad) := ⟨_, rfl⟩
  rw [← hQ]
  have hret : ∀ (pc : Nat) (ls : Array Slot) (H : Heap) (locs : List Loc), decode cX5_normOf pc = .ok (.ireturn, 1) → mPw G h0 ad F A L H → va_S (mA h0 ad) s.heap H locs → W p l e ({ frames := 0, cells := 0, slots := 0, locals := 0 } : Room) s m args below meth c H locs 0 0 Q (F0 m pc ls [.int res]) := by
    intro pc ls H locs hd hP hS
    rw [hQ]
    exact m_iret C hr hlocks hd hP hS
  clear hQ
  obtain ⟨H, hH⟩ : ∃ H, H = s.heap := ⟨_, rfl⟩
  obtain ⟨locs, hlo⟩ : ∃ locs : List Loc, locs = [] := ⟨_, rfl⟩
  have hP : mPw G h0 ad F A L H := by rw [hH]; exact hP
  have hS : va_S (mA h0 ad) s.heap H locs := by rw [hH, hlo]; exact hS
  suffices hZ : W p l e ({ frames := 0, cells := 0, slots := 0, locals := 0 } : Room) s m args below meth c H locs 0 0 Q (F0 m 0 ls []) by rw [hH, hlo] at hZ; exact hZ
  clear hH hlo
  unfold sM_normOf at hE
  refine lv_bipush (v := 100) C.1 C.2.1 dX5_normOf_0 (by decide) ?_
  refine lv_iconst (v := 5) C.1 C.2.1 dX5_normOf_2 (by decide) ?_
  refine lv_aload_n C.1 C.2.1 dX5_normOf_3 rfl (lv_at hl 0 rfl) ?_
  refine mg_5 (v := (F 5)) C hP rfl dX5_normOf_4 ?_
  refine lv_imul C.1 C.2.1 dX5_normOf_7 ?_
  refine lv_iadd C.1 C.2.1 dX5_normOf_8 ?_
  refine lv_istore_n (lv' := [(2, .int (100 + (5 * (F 5)))), (0, .ref h0), (1, .int p1)]) C.1 C.2.1 dX5_normOf_9 rfl hl (by decide) rfl (fun ls hl => ?_)
  refine lv_iload_n C.1 C.2.1 dX5_normOf_10 rfl (lv_at hl 2 rfl) ?_
  refine lv_bipush (v := 51) C.1 C.2.1 dX5_normOf_11 (by decide) ?_
  obtain ⟨u2, hR, hE⟩ := it_b hE
  have hJ25u2 : ∀ (H : Heap) (locs : List Loc) (ls : Array Slot), mPw G h0 ad F A L H → va_S (mA h0 ad) s.heap H locs → lv_has ls 3 [(2, .int u2)] → W p l e ({ frames := 0, cells := 0, slots := 0, locals := 0 } : Room) s m args below meth c H locs 0 0 Q (F0 m 25 ls []) := by
    intro H locs ls hP hS hl
    refine lv_iload_n C.1 C.2.1 dX5_normOf_25 rfl (lv_at hl 0 rfl) ?_
    refine lv_if_ge (tgt := 33) C.1 C.2.1 dX5_normOf_26 (by decide) (fun c3 => ?_) (fun c3 => ?_)
    · have hE := it_t c3 hE
      refine lv_iload_n C.1 C.2.1 dX5_normOf_33 rfl (lv_at hl 0 rfl) ?_
      obtain rfl := Option.some.inj hE
      exact hret _ _ _ _ dX5_normOf_34 hP hS
    · have hE := it_f c3 hE
      refine lv_iconst (v := 0) C.1 C.2.1 dX5_normOf_29 (by decide) ?_
      refine lv_goto (tgt := 34) C.1 C.2.1 dX5_normOf_30 (by decide) ?_
      obtain rfl := Option.some.inj hE
      exact hret _ _ _ _ dX5_normOf_34 hP hS
  have hE := hR
  refine lv_icmp_le (tgt := 25) C.1 C.2.1 dX5_normOf_13 (by decide) (fun c1 => ?_) (fun c1 => ?_)
  · have hE := it_t c1 hE
    obtain rfl := Option.some.inj hE
    exact hJ25u2 H locs ls hP hS (lv_sub hl [0] rfl)
  · have hE := it_f c1 hE
    refine lv_iload_n C.1 C.2.1 dX5_normOf_16 rfl (lv_at hl 0 rfl) ?_
    refine lv_iload_n C.1 C.2.1 dX5_normOf_17 rfl (lv_at hl 2 rfl) ?_
    refine lv_bipush (v := 51) C.1 C.2.1 dX5_normOf_18 (by decide) ?_
    refine lv_isub C.1 C.2.1 dX5_normOf_20 ?_
    refine lv_iconst (v := 2) C.1 C.2.1 dX5_normOf_21 (by decide) ?_
    refine lv_idiv C.1 C.2.1 dX5_normOf_22 (by decide) ?_
    refine lv_isub C.1 C.2.1 dX5_normOf_23 ?_
    refine lv_istore_n (lv' := [(2, .int ((100 + (5 * (F 5))) - ((p1 - 51) / 2))), (0, .ref h0), (1, .int p1)]) C.1 C.2.1 dX5_normOf_24 rfl hl (by decide) rfl (fun ls hl => ?_)
    obtain rfl := Option.some.inj hE
    exact hJ25u2 H locs ls hP hS (lv_sub hl [0] rfl)
def sM_norm (f_age : Int32) (f_feed : Int32) (a_refused : Nat → Int32) (p1 : Int32) : Option (Int32 × (Nat → Int32)) :=
  if p1 < 0 then
    (sM_no a_refused (-6)).bind fun r2 =>
    some (r2.1, r2.2)
  else
    if 999 < p1 then
      (sM_no a_refused (-6)).bind fun r4 =>
      some (r4.1, r4.2)
    else
      (sM_normOf f_feed (f_age + p1)).bind fun r5 =>
      some (r5, a_refused)
set_option maxHeartbeats 4000000 in
theorem metM_norm (l : Launch) (G : kG) (h0 : Nat) (ad : Nat → Nat) (F : Nat → Int32) (A : Nat → Nat → Int32) (L : Nat → Nat → Int64) (p1 : Int32) (res : Int32 × (Nat → Int32)) (hE : sM_norm (F 3) (F 5) (A 11) p1 = some res) : Met l yX5_norm (ws_ yX5_norm cX5_norm 2 (some .int)) ({ frames := 1, cells := 0, slots := 0, locals := 22 } : Room) (mPc G h0 ad F A L [.int p1]) (mQc G h0 ad F (va_up A 11 res.2) L (some (.int res.1))) 0 0 (mA h0 ad) := by
  refine m_ofW (by decide) rfl (Nat.le_of_ble_eq_true rfl) ?_
  intro p e s m args below meth c ls C hml hP hS hl hr hlocks
  have hl : lv_has ls 2 [(0, .ref h0), (1, .int p1)] := hl
  obtain ⟨Q, hQ⟩ : ∃ Q, Q = MQ below (mQc G h0 ad F (va_up A 11 res.2) L (some (.int res.1))) args s 0 0 (mA h0 ad) := ⟨_, rfl⟩
  rw [← hQ]
  have hret : ∀ (pc : Nat) (ls : Array Slot) (H : Heap) (locs : List Loc), decode cX5_norm pc = .ok (.ireturn, 1) → mPw G h0 ad F (va_up A 11 res.2) L H → va_S (mA h0 ad) s.heap H locs → W p l e ({ frames := 1, cells := 0, slots := 0, locals := 22 } : Room) s m args below meth c H locs 0 0 Q (F0 m pc ls [.int res.1]) := by
    intro pc ls H locs hd hP hS
    rw [hQ]
    exact m_iret C hr hlocks hd hP hS
  clear hQ
  obtain ⟨H, hH⟩ : ∃ H, H = s.heap := ⟨_, rfl⟩
  obtain ⟨locs, hlo⟩ : ∃ locs : List Loc, locs = [] := ⟨_, rfl⟩
  have hP : mPw G h0 ad F A L H := by rw [hH]; exact hP
  have hS : va_S (mA h0 ad) s.heap H locs := by rw [hH, hlo]; exact hS
  suffices hZ : W p l e ({ frames := 1, cells := 0, slots := 0, locals := 22 } : Room) s m args below meth c H locs 0 0 Q (F0 m 0 ls []) by rw [hH, hlo] at hZ; exact hZ
  clear hH hlo
  unfold sM_norm at hE
  refine lv_iload_n C.1 C.2.1 dX5_norm_0 rfl (lv_at hl 1 rfl) ?_
  refine lv_if_lt (tgt := 24) C.1 C.2.1 dX5_norm_1 (by decide) (fun c1 => ?_) (fun c1 => ?_)
  · have hE := it_t c1 hE
    refine lv_aload_n C.1 C.2.1 dX5_norm_24 rfl (lv_at hl 0 rfl) ?_
    refine lv_bipush (v := (-6)) C.1 C.2.1 dX5_norm_25 (by decide) ?_
    obtain ⟨r2, hr2, hE⟩ := it_b hE
    refine m_call (n := 1) (As := [.int (-6)]) (rest := []) C hP hS hml (metM_no l G h0 ad _ _ _ (-6) r2 hr2) q1483 q1485 qs32 q1486 rfl rfl (by decide +kernel) ⟨Nat.le_of_ble_eq_true rfl, Nat.le_of_ble_eq_true rfl⟩ ⟨Nat.le_refl _, Nat.le_refl _⟩ rfl hl.1 rfl (Nat.le_of_ble_eq_true rfl) dX5_norm_27 (fun H locs hP hS => ?_)
    obtain rfl := Option.some.inj hE
    exact hret _ _ _ _ dX5_norm_30 hP hS
  · have hE := it_f c1 hE
    refine lv_iload_n C.1 C.2.1 dX5_norm_4 rfl (lv_at hl 1 rfl) ?_
    refine lv_sipush (v := 999) C.1 C.2.1 dX5_norm_5 (by decide) ?_
    refine lv_icmp_gt (tgt := 24) C.1 C.2.1 dX5_norm_8 (by decide) (fun c3 => ?_) (fun c3 => ?_)
    · have hE := it_t c3 hE
      refine lv_aload_n C.1 C.2.1 dX5_norm_24 rfl (lv_at hl 0 rfl) ?_
      refine lv_bipush (v := (-6)) C.1 C.2.1 dX5_norm_25 (by decide) ?_
      obtain ⟨r4, hr4, hE⟩ := it_b hE
      refine m_call (n := 1) (As := [.int (-6)]) (rest := []) C hP hS hml (metM_no l G h0 ad _ _ _ (-6) r4 hr4) q1483 q1485 qs32 q1486 rfl rfl (by decide +kernel) ⟨Nat.le_of_ble_eq_true rfl, Nat.le_of_ble_eq_true rfl⟩ ⟨Nat.le_refl _, Nat.le_refl _⟩ rfl hl.1 rfl (Nat.le_of_ble_eq_true rfl) dX5_norm_27 (fun H locs hP hS => ?_)
      obtain rfl := Option.some.inj hE
      exact hret _ _ _ _ dX5_norm_30 hP hS
    · have hE := it_f c3 hE
      refine lv_aload_n C.1 C.2.1 dX5_norm_11 rfl (lv_at hl 0 rfl) ?_
      refine lv_aload_n C.1 C.2.1 dX5_norm_12 rfl (lv_at hl 0 rfl) ?_
      refine mg_3 (v := (F 3)) C hP rfl dX5_norm_13 ?_
      refine lv_iload_n C.1 C.2.1 dX5_norm_16 rfl (lv_at hl 1 rfl) ?_
      refine lv_iadd C.1 C.2.1 dX5_norm_17 ?_
      obtain ⟨r5, hr5, hE⟩ := it_b hE
      refine m_call (n := 1) (As := [.int ((F 3) + p1)]) (rest := []) C hP hS hml (metM_normOf l G h0 ad _ _ _ ((F 3) + p1) r5 hr5) q1615 q1617 qs53 q1618 rfl rfl (by decide +kernel) ⟨Nat.le_of_ble_eq_true rfl, Nat.le_of_ble_eq_true rfl⟩ ⟨Nat.le_refl _, Nat.le_refl _⟩ rfl hl.1 rfl (Nat.le_of_ble_eq_true rfl) dX5_norm_18 (fun H locs hP hS => ?_)
      refine lv_goto (tgt := 30) C.1 C.2.1 dX5_norm_21 (by decide) ?_
      obtain rfl := Option.some.inj hE
      exact hret _ _ _ _ dX5_norm_30 hP hS
def sM_wrongIn_h2 (x1 : Int32) (x2 : Int32) (f_many : Int32) (a_ill : Nat → Int32) (l_cells : Nat → Int64) : Nat → Int32 → Option (Int32)
  | 0, _ => none
  | fuel + 1, x3 =>
    if x2 ≤ x3 then
      some (-1)
    else
      (sM_intAt l_cells x1 x3).bind fun r302 =>
      if r302 = (-1) then
        sM_wrongIn_h2 x1 x2 f_many a_ill l_cells fuel (x3 + 1)
      else
        (sM_intAt l_cells x1 x3).bind fun r304 =>
        (sM_may f_many a_ill r304).bind fun r305 =>
        if r305 = 0 then
          some x3
        else
          sM_wrongIn_h2 x1 x2 f_many a_ill l_cells fuel (x3 + 1)
def sM_wrongIn (f_many : Int32) (a_ill : Nat → Int32) (l_cells : Nat → Int64) (p1 : Int32) (p2 : Int32) : Option (Int32) :=
  sM_wrongIn_h2 p1 p2 f_many a_ill l_cells 2000 0
set_option maxHeartbeats 4000000 in
theorem wM_wrongIn_h2 {p : Program} {l : Launch} {e : Env} {s : State} {m : MethodId} {args : Array Value} {below : List Frame} {meth : Method} {c : Code} {G : kG} {h0 : Nat} {ad : Nat → Nat} {Q : State → Prop} (C : mC p s m args c cX5_wrongIn G h0 ad) (hml : c.maxLocals = 4) (F : Nat → Int32) (A : Nat → Nat → Int32) (L : Nat → Nat → Int64) (x1 : Int32) (x2 : Int32) (res : Int32) :
    ∀ (fuel : Nat) (x3 : Int32) (H : Heap) (locs : List Loc) (ls : Array Slot), sM_wrongIn_h2 x1 x2 (F 0) (A 15) (L 22) fuel x3 = some res → mPw G h0 ad F A L H → va_S (mA h0 ad) s.heap H locs → lv_has ls 4 [(0, .ref h0), (1, .int x1), (2, .int x2), (3, .int x3)] → (∀ (pc : Nat) (ls : Array Slot) (H : Heap) (locs : List Loc), decode cX5_wrongIn pc = .ok (.ireturn, 1) → mPw G h0 ad F A L H → va_S (mA h0 ad) s.heap H locs → W p l e ({ frames := 2, cells := 0, slots := 0, locals := 42 } : Room) s m args below meth c H locs 0 0 Q (F0 m pc ls [.int res])) → W p l e ({ frames := 2, cells := 0, slots := 0, locals := 42 } : Room) s m args below meth c H locs 0 0 Q (F0 m 2 ls []) := by
  intro fuel
  induction fuel with
  | zero =>
    intro x3 H locs ls hE
    exact it_n hE
  | succ fuel ih =>
    intro x3 H locs ls hE hP hS hl hret
    rw [sM_wrongIn_h2] at hE
    refine lv_iload_n C.1 C.2.1 dX5_wrongIn_2 rfl (lv_at hl 3 rfl) ?_
    refine lv_iload_n C.1 C.2.1 dX5_wrongIn_3 rfl (lv_at hl 2 rfl) ?_
    refine lv_icmp_ge (tgt := 38) C.1 C.2.1 dX5_wrongIn_4 (by decide) (fun c301 => ?_) (fun c301 => ?_)
    · have hE := it_t c301 hE
      refine lv_iconst (v := (-1)) C.1 C.2.1 dX5_wrongIn_38 (by decide) ?_
      obtain rfl := Option.some.inj hE
      exact hret _ _ _ _ dX5_wrongIn_39 hP hS
    · have hE := it_f c301 hE
      refine lv_aload_n C.1 C.2.1 dX5_wrongIn_7 rfl (lv_at hl 0 rfl) ?_
      refine lv_iload_n C.1 C.2.1 dX5_wrongIn_8 rfl (lv_at hl 1 rfl) ?_
      refine lv_iload_n C.1 C.2.1 dX5_wrongIn_9 rfl (lv_at hl 3 rfl) ?_
      obtain ⟨r302, hr302, hE⟩ := it_b hE
      refine m_call (n := 2) (As := [.int x1, .int x3]) (rest := []) C hP hS hml (metM_intAt l G h0 ad _ _ _ x1 x3 r302 hr302) q1655 q1657 qs60 q1658 rfl rfl (by decide +kernel) ⟨Nat.le_of_ble_eq_true rfl, Nat.le_of_ble_eq_true rfl⟩ ⟨Nat.le_refl _, Nat.le_refl _⟩ rfl hl.1 rfl (Nat.le_of_ble_eq_true rfl) dX5_wrongIn_10 (fun H locs hP hS => ?_)
      refine lv_iconst (v := (-1)) C.1 C.2.1 dX5_wrongIn_13 (by decide) ?_
      refine lv_icmp_eq (tgt := 32) C.1 C.2.1 dX5_wrongIn_14 (by decide) (fun c303 => ?_) (fun c303 => ?_)
      · have hE := it_t c303 hE
        refine lv_iinc (v := (x3 + 1)) (lv' := [(3, .int (x3 + 1)), (0, .ref h0), (1, .int x1), (2, .int x2)]) C.1 C.2.1 dX5_wrongIn_32 hl (k := 3) rfl rfl (by decide) rfl (fun ls hl => ?_)
        refine lv_goto (tgt := 2) C.1 C.2.1 dX5_wrongIn_35 (by decide) ?_
        exact ih (x3 + 1) _ _ _ hE hP hS (lv_sub hl [1, 2, 3, 0] rfl) hret
      · have hE := it_f c303 hE
        refine lv_aload_n C.1 C.2.1 dX5_wrongIn_17 rfl (lv_at hl 0 rfl) ?_
        refine lv_aload_n C.1 C.2.1 dX5_wrongIn_18 rfl (lv_at hl 0 rfl) ?_
        refine lv_iload_n C.1 C.2.1 dX5_wrongIn_19 rfl (lv_at hl 1 rfl) ?_
        refine lv_iload_n C.1 C.2.1 dX5_wrongIn_20 rfl (lv_at hl 3 rfl) ?_
        obtain ⟨r304, hr304, hE⟩ := it_b hE
        refine m_call (n := 2) (As := [.int x1, .int x3]) (rest := [.ref h0]) C hP hS hml (metM_intAt l G h0 ad _ _ _ x1 x3 r304 hr304) q1655 q1657 qs60 q1658 rfl rfl (by decide +kernel) ⟨Nat.le_of_ble_eq_true rfl, Nat.le_of_ble_eq_true rfl⟩ ⟨Nat.le_refl _, Nat.le_refl _⟩ rfl hl.1 rfl (Nat.le_of_ble_eq_true rfl) dX5_wrongIn_21 (fun H locs hP hS => ?_)
        obtain ⟨r305, hr305, hE⟩ := it_b hE
        refine m_call (n := 1) (As := [.int r304]) (rest := []) C hP hS hml (metM_may l G h0 ad _ _ _ r304 r305 hr305) q1595 q1597 qs48 q1598 rfl rfl (by decide +kernel) ⟨Nat.le_of_ble_eq_true rfl, Nat.le_of_ble_eq_true rfl⟩ ⟨Nat.le_refl _, Nat.le_refl _⟩ rfl hl.1 rfl (Nat.le_of_ble_eq_true rfl) dX5_wrongIn_24 (fun H locs hP hS => ?_)
        refine lv_if_ne (tgt := 32) C.1 C.2.1 dX5_wrongIn_27 (by decide) (fun c306 => ?_) (fun c306 => ?_)
        · have hE := it_f c306 hE
          refine lv_iinc (v := (x3 + 1)) (lv' := [(3, .int (x3 + 1)), (0, .ref h0), (1, .int x1), (2, .int x2)]) C.1 C.2.1 dX5_wrongIn_32 hl (k := 3) rfl rfl (by decide) rfl (fun ls hl => ?_)
          refine lv_goto (tgt := 2) C.1 C.2.1 dX5_wrongIn_35 (by decide) ?_
          exact ih (x3 + 1) _ _ _ hE hP hS (lv_sub hl [1, 2, 3, 0] rfl) hret
        · have hE := it_t c306 hE
          refine lv_iload_n C.1 C.2.1 dX5_wrongIn_30 rfl (lv_at hl 3 rfl) ?_
          obtain rfl := Option.some.inj hE
          exact hret _ _ _ _ dX5_wrongIn_31 hP hS
set_option maxHeartbeats 4000000 in
theorem metM_wrongIn (l : Launch) (G : kG) (h0 : Nat) (ad : Nat → Nat) (F : Nat → Int32) (A : Nat → Nat → Int32) (L : Nat → Nat → Int64) (p1 : Int32) (p2 : Int32) (res : Int32) (hE : sM_wrongIn (F 0) (A 15) (L 22) p1 p2 = some res) : Met l yX5_wrongIn (ws_ yX5_wrongIn cX5_wrongIn 4 (some .int)) ({ frames := 2, cells := 0, slots := 0, locals := 42 } : Room) (mPc G h0 ad F A L [.int p1, .int p2]) (mQc G h0 ad F A L (some (.int res))) 0 0 (mA h0 ad) := by
  refine m_ofW (by decide) rfl (Nat.le_of_ble_eq_true rfl) ?_
  intro p e s m args below meth c ls C hml hP hS hl hr hlocks
  have hl : lv_has ls 4 [(0, .ref h0), (1, .int p1), (2, .int p2)] := hl
  obtain ⟨Q, hQ⟩ : ∃ Q, Q = MQ below (mQc G h0 ad F A L (some (.int res))) args s 0 0 (mA h0 ad) := ⟨_, rfl⟩
  rw [← hQ]
  have hret : ∀ (pc : Nat) (ls : Array Slot) (H : Heap) (locs : List Loc), decode cX5_wrongIn pc = .ok (.ireturn, 1) → mPw G h0 ad F A L H → va_S (mA h0 ad) s.heap H locs → W p l e ({ frames := 2, cells := 0, slots := 0, locals := 42 } : Room) s m args below meth c H locs 0 0 Q (F0 m pc ls [.int res]) := by
    intro pc ls H locs hd hP hS
    rw [hQ]
    exact m_iret C hr hlocks hd hP hS
  clear hQ
  obtain ⟨H, hH⟩ : ∃ H, H = s.heap := ⟨_, rfl⟩
  obtain ⟨locs, hlo⟩ : ∃ locs : List Loc, locs = [] := ⟨_, rfl⟩
  have hP : mPw G h0 ad F A L H := by rw [hH]; exact hP
  have hS : va_S (mA h0 ad) s.heap H locs := by rw [hH, hlo]; exact hS
  suffices hZ : W p l e ({ frames := 2, cells := 0, slots := 0, locals := 42 } : Room) s m args below meth c H locs 0 0 Q (F0 m 0 ls []) by rw [hH, hlo] at hZ; exact hZ
  clear hH hlo
  unfold sM_wrongIn at hE
  refine lv_iconst (v := 0) C.1 C.2.1 dX5_wrongIn_0 (by decide) ?_
  refine lv_istore_n (lv' := [(3, .int 0), (0, .ref h0), (1, .int p1), (2, .int p2)]) C.1 C.2.1 dX5_wrongIn_1 rfl hl (by decide) rfl (fun ls hl => ?_)
  exact wM_wrongIn_h2 C hml F A L p1 p2 res 2000 0 H locs ls hE hP hS (lv_sub hl [1, 2, 3, 0] rfl) hret
def sM_barsOf (a_held : Nat → Int32) (a_size : Nat → Int32) (p1 : Int32) (p2 : Int32) : Option (Int32) :=
  (sM_bars a_held a_size p1 p2).bind fun r1 =>
  if r1 = 0 then
    if p2 ≤ 40 then
      some r1
    else
      some (-6)
  else
    some r1
set_option maxHeartbeats 4000000 in
theorem metM_barsOf (l : Launch) (G : kG) (h0 : Nat) (ad : Nat → Nat) (F : Nat → Int32) (A : Nat → Nat → Int32) (L : Nat → Nat → Int64) (p1 : Int32) (p2 : Int32) (res : Int32) (hE : sM_barsOf (A 18) (A 20) p1 p2 = some res) : Met l yX5_barsOf (ws_ yX5_barsOf cX5_barsOf 4 (some .int)) ({ frames := 3, cells := 0, slots := 0, locals := 65 } : Room) (mPc G h0 ad F A L [.int p1, .int p2]) (mQc G h0 ad F A L (some (.int res))) 0 0 (mA h0 ad) := by
  refine m_ofW (by decide) rfl (Nat.le_of_ble_eq_true rfl) ?_
  intro p e s m args below meth c ls C hml hP hS hl hr hlocks
  have hl : lv_has ls 4 [(0, .ref h0), (1, .int p1), (2, .int p2)] := hl
  obtain ⟨Q, hQ⟩ : ∃ Q, Q = MQ below (mQc G h0 ad F A L (some (.int res))) args s 0 0 (mA h0 ad) := ⟨_, rfl⟩
  rw [← hQ]
  have hret : ∀ (pc : Nat) (ls : Array Slot) (H : Heap) (locs : List Loc), decode cX5_barsOf pc = .ok (.ireturn, 1) → mPw G h0 ad F A L H → va_S (mA h0 ad) s.heap H locs → W p l e ({ frames := 3, cells := 0, slots := 0, locals := 65 } : Room) s m args below meth c H locs 0 0 Q (F0 m pc ls [.int res]) := by
    intro pc ls H locs hd hP hS
    rw [hQ]
    exact m_iret C hr hlocks hd hP hS
  clear hQ
  obtain ⟨H, hH⟩ : ∃ H, H = s.heap := ⟨_, rfl⟩
  obtain ⟨locs, hlo⟩ : ∃ locs : List Loc, locs = [] := ⟨_, rfl⟩
  have hP : mPw G h0 ad F A L H := by rw [hH]; exact hP
  have hS : va_S (mA h0 ad) s.heap H locs := by rw [hH, hlo]; exact hS
  suffices hZ : W p l e ({ frames := 3, cells := 0, slots := 0, locals := 65 } : Room) s m args below meth c H locs 0 0 Q (F0 m 0 ls []) by rw [hH, hlo] at hZ; exact hZ
  clear hH hlo
  unfold sM_barsOf at hE
  refine lv_aload_n C.1 C.2.1 dX5_barsOf_0 rfl (lv_at hl 0 rfl) ?_
  refine lv_iload_n C.1 C.2.1 dX5_barsOf_1 rfl (lv_at hl 1 rfl) ?_
  refine lv_iload_n C.1 C.2.1 dX5_barsOf_2 rfl (lv_at hl 2 rfl) ?_
  obtain ⟨r1, hr1, hE⟩ := it_b hE
  refine m_call (n := 2) (As := [.int p1, .int p2]) (rest := []) C hP hS hml (metM_bars l G h0 ad _ _ _ p1 p2 r1 hr1) q1643 q1645 qs57 q1646 rfl rfl (by decide +kernel) ⟨Nat.le_of_ble_eq_true rfl, Nat.le_of_ble_eq_true rfl⟩ ⟨Nat.le_refl _, Nat.le_refl _⟩ rfl hl.1 rfl (Nat.le_of_ble_eq_true rfl) dX5_barsOf_3 (fun H locs hP hS => ?_)
  refine lv_istore_n (lv' := [(3, .int r1), (0, .ref h0), (1, .int p1), (2, .int p2)]) C.1 C.2.1 dX5_barsOf_6 rfl hl (by decide) rfl (fun ls hl => ?_)
  refine lv_iload_n C.1 C.2.1 dX5_barsOf_7 rfl (lv_at hl 0 rfl) ?_
  refine lv_if_ne (tgt := 22) C.1 C.2.1 dX5_barsOf_8 (by decide) (fun c2 => ?_) (fun c2 => ?_)
  · have hE := it_f c2 hE
    refine lv_iload_n C.1 C.2.1 dX5_barsOf_22 rfl (lv_at hl 0 rfl) ?_
    obtain rfl := Option.some.inj hE
    exact hret _ _ _ _ dX5_barsOf_23 hP hS
  · have hE := it_t c2 hE
    refine lv_iload_n C.1 C.2.1 dX5_barsOf_11 rfl (lv_at hl 3 rfl) ?_
    refine lv_bipush (v := 40) C.1 C.2.1 dX5_barsOf_12 (by decide) ?_
    refine lv_icmp_le (tgt := 22) C.1 C.2.1 dX5_barsOf_14 (by decide) (fun c3 => ?_) (fun c3 => ?_)
    · have hE := it_t c3 hE
      refine lv_iload_n C.1 C.2.1 dX5_barsOf_22 rfl (lv_at hl 0 rfl) ?_
      obtain rfl := Option.some.inj hE
      exact hret _ _ _ _ dX5_barsOf_23 hP hS
    · have hE := it_f c3 hE
      refine lv_bipush (v := (-6)) C.1 C.2.1 dX5_barsOf_17 (by decide) ?_
      refine lv_goto (tgt := 23) C.1 C.2.1 dX5_barsOf_19 (by decide) ?_
      obtain rfl := Option.some.inj hE
      exact hret _ _ _ _ dX5_barsOf_23 hP hS
def sM_barsRight (f_many : Int32) (a_ill : Nat → Int32) (a_held : Nat → Int32) (a_size : Nat → Int32) (l_cells : Nat → Int64) (p1 : Int32) (p2 : Int32) : Option (Int32) :=
  (sM_barsOf a_held a_size p1 p2).bind fun r1 =>
  if r1 = 0 then
    (sM_wrongIn f_many a_ill l_cells p1 p2).bind fun r3 =>
    if r3 = (-1) then
      some r1
    else
      some (-6)
  else
    some r1
set_option maxHeartbeats 4000000 in
theorem metM_barsRight (l : Launch) (G : kG) (h0 : Nat) (ad : Nat → Nat) (F : Nat → Int32) (A : Nat → Nat → Int32) (L : Nat → Nat → Int64) (p1 : Int32) (p2 : Int32) (res : Int32) (hE : sM_barsRight (F 0) (A 15) (A 18) (A 20) (L 22) p1 p2 = some res) : Met l yX5_barsRight (ws_ yX5_barsRight cX5_barsRight 4 (some .int)) ({ frames := 4, cells := 0, slots := 0, locals := 88 } : Room) (mPc G h0 ad F A L [.int p1, .int p2]) (mQc G h0 ad F A L (some (.int res))) 0 0 (mA h0 ad) := by
  refine m_ofW (by decide) rfl (Nat.le_of_ble_eq_true rfl) ?_
  intro p e s m args below meth c ls C hml hP hS hl hr hlocks
  have hl : lv_has ls 4 [(0, .ref h0), (1, .int p1), (2, .int p2)] := hl
  obtain ⟨Q, hQ⟩ : ∃ Q, Q = MQ below (mQc G h0 ad F A L (some (.int res))) args s 0 0 (mA h0 ad) := ⟨_, rfl⟩
  rw [← hQ]
  have hret : ∀ (pc : Nat) (ls : Array Slot) (H : Heap) (locs : List Loc), decode cX5_barsRight pc = .ok (.ireturn, 1) → mPw G h0 ad F A L H → va_S (mA h0 ad) s.heap H locs → W p l e ({ frames := 4, cells := 0, slots := 0, locals := 88 } : Room) s m args below meth c H locs 0 0 Q (F0 m pc ls [.int res]) := by
    intro pc ls H locs hd hP hS
    rw [hQ]
    exact m_iret C hr hlocks hd hP hS
  clear hQ
  obtain ⟨H, hH⟩ : ∃ H, H = s.heap := ⟨_, rfl⟩
  obtain ⟨locs, hlo⟩ : ∃ locs : List Loc, locs = [] := ⟨_, rfl⟩
  have hP : mPw G h0 ad F A L H := by rw [hH]; exact hP
  have hS : va_S (mA h0 ad) s.heap H locs := by rw [hH, hlo]; exact hS
  suffices hZ : W p l e ({ frames := 4, cells := 0, slots := 0, locals := 88 } : Room) s m args below meth c H locs 0 0 Q (F0 m 0 ls []) by rw [hH, hlo] at hZ; exact hZ
  clear hH hlo
  unfold sM_barsRight at hE
  refine lv_aload_n C.1 C.2.1 dX5_barsRight_0 rfl (lv_at hl 0 rfl) ?_
  refine lv_iload_n C.1 C.2.1 dX5_barsRight_1 rfl (lv_at hl 1 rfl) ?_
  refine lv_iload_n C.1 C.2.1 dX5_barsRight_2 rfl (lv_at hl 2 rfl) ?_
  obtain ⟨r1, hr1, hE⟩ := it_b hE
  refine m_call (n := 2) (As := [.int p1, .int p2]) (rest := []) C hP hS hml (metM_barsOf l G h0 ad _ _ _ p1 p2 r1 hr1) q1639 q1641 qs56 q1642 rfl rfl (by decide +kernel) ⟨Nat.le_of_ble_eq_true rfl, Nat.le_of_ble_eq_true rfl⟩ ⟨Nat.le_refl _, Nat.le_refl _⟩ rfl hl.1 rfl (Nat.le_of_ble_eq_true rfl) dX5_barsRight_3 (fun H locs hP hS => ?_)
  refine lv_istore_n (lv' := [(3, .int r1), (0, .ref h0), (1, .int p1), (2, .int p2)]) C.1 C.2.1 dX5_barsRight_6 rfl hl (by decide) rfl (fun ls hl => ?_)
  refine lv_iload_n C.1 C.2.1 dX5_barsRight_7 rfl (lv_at hl 0 rfl) ?_
  refine lv_if_ne (tgt := 26) C.1 C.2.1 dX5_barsRight_8 (by decide) (fun c2 => ?_) (fun c2 => ?_)
  · have hE := it_f c2 hE
    refine lv_iload_n C.1 C.2.1 dX5_barsRight_26 rfl (lv_at hl 0 rfl) ?_
    obtain rfl := Option.some.inj hE
    exact hret _ _ _ _ dX5_barsRight_27 hP hS
  · have hE := it_t c2 hE
    refine lv_aload_n C.1 C.2.1 dX5_barsRight_11 rfl (lv_at hl 1 rfl) ?_
    refine lv_iload_n C.1 C.2.1 dX5_barsRight_12 rfl (lv_at hl 2 rfl) ?_
    refine lv_iload_n C.1 C.2.1 dX5_barsRight_13 rfl (lv_at hl 3 rfl) ?_
    obtain ⟨r3, hr3, hE⟩ := it_b hE
    refine m_call (n := 2) (As := [.int p1, .int p2]) (rest := []) C hP hS hml (metM_wrongIn l G h0 ad _ _ _ p1 p2 r3 hr3) q1651 q1653 qs59 q1654 rfl rfl (by decide +kernel) ⟨Nat.le_of_ble_eq_true rfl, Nat.le_of_ble_eq_true rfl⟩ ⟨Nat.le_refl _, Nat.le_refl _⟩ rfl hl.1 rfl (Nat.le_of_ble_eq_true rfl) dX5_barsRight_14 (fun H locs hP hS => ?_)
    refine lv_iconst (v := (-1)) C.1 C.2.1 dX5_barsRight_17 (by decide) ?_
    refine lv_icmp_eq (tgt := 26) C.1 C.2.1 dX5_barsRight_18 (by decide) (fun c4 => ?_) (fun c4 => ?_)
    · have hE := it_t c4 hE
      refine lv_iload_n C.1 C.2.1 dX5_barsRight_26 rfl (lv_at hl 0 rfl) ?_
      obtain rfl := Option.some.inj hE
      exact hret _ _ _ _ dX5_barsRight_27 hP hS
    · have hE := it_f c4 hE
      refine lv_bipush (v := (-6)) C.1 C.2.1 dX5_barsRight_21 (by decide) ?_
      refine lv_goto (tgt := 27) C.1 C.2.1 dX5_barsRight_23 (by decide) ?_
      obtain rfl := Option.some.inj hE
      exact hret _ _ _ _ dX5_barsRight_27 hP hS
def sM_judge (f_many : Int32) (a_refused : Nat → Int32) (a_ill : Nat → Int32) (a_held : Nat → Int32) (a_size : Nat → Int32) (l_cells : Nat → Int64) (p1 : Int32) (p2 : Int32) : Option (Int32 × (Nat → Int32)) :=
  (sM_barsOf a_held a_size p1 p2).bind fun r1 =>
  if r1 = 0 then
    (sM_wrongIn f_many a_ill l_cells p1 p2).bind fun r3 =>
    some (r3, a_refused)
  else
    (sM_noTen a_refused r1).bind fun r4 =>
    some (r4.1, r4.2)
set_option maxHeartbeats 4000000 in
theorem metM_judge (l : Launch) (G : kG) (h0 : Nat) (ad : Nat → Nat) (F : Nat → Int32) (A : Nat → Nat → Int32) (L : Nat → Nat → Int64) (p1 : Int32) (p2 : Int32) (res : Int32 × (Nat → Int32)) (hE : sM_judge (F 0) (A 11) (A 15) (A 18) (A 20) (L 22) p1 p2 = some res) : Met l yX5_judge (ws_ yX5_judge cX5_judge 4 (some .int)) ({ frames := 4, cells := 0, slots := 0, locals := 88 } : Room) (mPc G h0 ad F A L [.int p1, .int p2]) (mQc G h0 ad F (va_up A 11 res.2) L (some (.int res.1))) 0 0 (mA h0 ad) := by
  refine m_ofW (by decide) rfl (Nat.le_of_ble_eq_true rfl) ?_
  intro p e s m args below meth c ls C hml hP hS hl hr hlocks
  have hl : lv_has ls 4 [(0, .ref h0), (1, .int p1), (2, .int p2)] := hl
  obtain ⟨Q, hQ⟩ : ∃ Q, Q = MQ below (mQc G h0 ad F (va_up A 11 res.2) L (some (.int res.1))) args s 0 0 (mA h0 ad) := ⟨_, rfl⟩
  rw [← hQ]
  have hret : ∀ (pc : Nat) (ls : Array Slot) (H : Heap) (locs : List Loc), decode cX5_judge pc = .ok (.ireturn, 1) → mPw G h0 ad F (va_up A 11 res.2) L H → va_S (mA h0 ad) s.heap H locs → W p l e ({ frames := 4, cells := 0, slots := 0, locals := 88 } : Room) s m args below meth c H locs 0 0 Q (F0 m pc ls [.int res.1]) := by
    intro pc ls H locs hd hP hS
    rw [hQ]
    exact m_iret C hr hlocks hd hP hS
  clear hQ
  obtain ⟨H, hH⟩ : ∃ H, H = s.heap := ⟨_, rfl⟩
  obtain ⟨locs, hlo⟩ : ∃ locs : List Loc, locs = [] := ⟨_, rfl⟩
  have hP : mPw G h0 ad F A L H := by rw [hH]; exact hP
  have hS : va_S (mA h0 ad) s.heap H locs := by rw [hH, hlo]; exact hS
  suffices hZ : W p l e ({ frames := 4, cells := 0, slots := 0, locals := 88 } : Room) s m args below meth c H locs 0 0 Q (F0 m 0 ls []) by rw [hH, hlo] at hZ; exact hZ
  clear hH hlo
  unfold sM_judge at hE
  refine lv_aload_n C.1 C.2.1 dX5_judge_0 rfl (lv_at hl 0 rfl) ?_
  refine lv_iload_n C.1 C.2.1 dX5_judge_1 rfl (lv_at hl 1 rfl) ?_
  refine lv_iload_n C.1 C.2.1 dX5_judge_2 rfl (lv_at hl 2 rfl) ?_
  obtain ⟨r1, hr1, hE⟩ := it_b hE
  refine m_call (n := 2) (As := [.int p1, .int p2]) (rest := []) C hP hS hml (metM_barsOf l G h0 ad _ _ _ p1 p2 r1 hr1) q1639 q1641 qs56 q1642 rfl rfl (by decide +kernel) ⟨Nat.le_of_ble_eq_true rfl, Nat.le_of_ble_eq_true rfl⟩ ⟨Nat.le_refl _, Nat.le_refl _⟩ rfl hl.1 rfl (Nat.le_of_ble_eq_true rfl) dX5_judge_3 (fun H locs hP hS => ?_)
  refine lv_istore_n (lv' := [(3, .int r1), (0, .ref h0), (1, .int p1), (2, .int p2)]) C.1 C.2.1 dX5_judge_6 rfl hl (by decide) rfl (fun ls hl => ?_)
  refine lv_iload_n C.1 C.2.1 dX5_judge_7 rfl (lv_at hl 0 rfl) ?_
  refine lv_if_eq (tgt := 19) C.1 C.2.1 dX5_judge_8 (by decide) (fun c2 => ?_) (fun c2 => ?_)
  · have hE := it_t c2 hE
    refine lv_aload_n C.1 C.2.1 dX5_judge_19 rfl (lv_at hl 1 rfl) ?_
    refine lv_iload_n C.1 C.2.1 dX5_judge_20 rfl (lv_at hl 2 rfl) ?_
    refine lv_iload_n C.1 C.2.1 dX5_judge_21 rfl (lv_at hl 3 rfl) ?_
    obtain ⟨r3, hr3, hE⟩ := it_b hE
    refine m_call (n := 2) (As := [.int p1, .int p2]) (rest := []) C hP hS hml (metM_wrongIn l G h0 ad _ _ _ p1 p2 r3 hr3) q1651 q1653 qs59 q1654 rfl rfl (by decide +kernel) ⟨Nat.le_of_ble_eq_true rfl, Nat.le_of_ble_eq_true rfl⟩ ⟨Nat.le_refl _, Nat.le_refl _⟩ rfl hl.1 rfl (Nat.le_of_ble_eq_true rfl) dX5_judge_22 (fun H locs hP hS => ?_)
    obtain rfl := Option.some.inj hE
    exact hret _ _ _ _ dX5_judge_25 hP hS
  · have hE := it_f c2 hE
    refine lv_aload_n C.1 C.2.1 dX5_judge_11 rfl (lv_at hl 1 rfl) ?_
    refine lv_iload_n C.1 C.2.1 dX5_judge_12 rfl (lv_at hl 0 rfl) ?_
    obtain ⟨r4, hr4, hE⟩ := it_b hE
    refine m_call (n := 1) (As := [.int r1]) (rest := []) C hP hS hml (metM_noTen l G h0 ad _ _ _ r1 r4 hr4) q1647 q1649 qs58 q1650 rfl rfl (by decide +kernel) ⟨Nat.le_of_ble_eq_true rfl, Nat.le_of_ble_eq_true rfl⟩ ⟨Nat.le_refl _, Nat.le_refl _⟩ rfl hl.1 rfl (Nat.le_of_ble_eq_true rfl) dX5_judge_13 (fun H locs hP hS => ?_)
    refine lv_goto (tgt := 25) C.1 C.2.1 dX5_judge_16 (by decide) ?_
    obtain rfl := Option.some.inj hE
    exact hret _ _ _ _ dX5_judge_25 hP hS
def sM_begins (f_weight : Int32) (f_fright : Int32) (f_age : Int32) (f_heft : Int32) (f_alarm : Int32) (f_old : Int32) (f_died : Int32) (f_ofWhat : Int32) (f_heavy : Int32) : Option (Int32 × Int32 × Int32 × Int32 × Int32 × Int32) :=
  some (f_weight, f_fright, f_age, 0, (-1), 0)
set_option maxHeartbeats 4000000 in
theorem metM_begins (l : Launch) (G : kG) (h0 : Nat) (ad : Nat → Nat) (F : Nat → Int32) (A : Nat → Nat → Int32) (L : Nat → Nat → Int64)  (res : Int32 × Int32 × Int32 × Int32 × Int32 × Int32) (hE : sM_begins (F 1) (F 2) (F 3) (F 35) (F 36) (F 37) (F 38) (F 39) (F 40) = some res) : Met l yX5_begins (ws_ yX5_begins cX5_begins 1 none) ({ frames := 0, cells := 0, slots := 0, locals := 0 } : Room) (mPc G h0 ad F A L []) (mQc G h0 ad (upd (upd (upd (upd (upd (upd F 35 res.1) 36 res.2.1) 37 res.2.2.1) 38 res.2.2.2.1) 39 res.2.2.2.2.1) 40 res.2.2.2.2.2) A L none) 0 0 (mA h0 ad) := by
  refine m_ofW (by decide) rfl (Nat.le_of_ble_eq_true rfl) ?_
  intro p e s m args below meth c ls C hml hP hS hl hr hlocks
  have hl : lv_has ls 1 [(0, .ref h0)] := hl
  obtain ⟨Q, hQ⟩ : ∃ Q, Q = MQ below (mQc G h0 ad (upd (upd (upd (upd (upd (upd F 35 res.1) 36 res.2.1) 37 res.2.2.1) 38 res.2.2.2.1) 39 res.2.2.2.2.1) 40 res.2.2.2.2.2) A L none) args s 0 0 (mA h0 ad) := ⟨_, rfl⟩
  rw [← hQ]
  have hret : ∀ (pc : Nat) (ls : Array Slot) (H : Heap) (locs : List Loc), decode cX5_begins pc = .ok (.return_, 1) → mPw G h0 ad (upd (upd (upd (upd (upd (upd F 35 res.1) 36 res.2.1) 37 res.2.2.1) 38 res.2.2.2.1) 39 res.2.2.2.2.1) 40 res.2.2.2.2.2) A L H → va_S (mA h0 ad) s.heap H locs → W p l e ({ frames := 0, cells := 0, slots := 0, locals := 0 } : Room) s m args below meth c H locs 0 0 Q (F0 m pc ls []) := by
    intro pc ls H locs hd hP hS
    rw [hQ]
    exact m_vret C hr hlocks hd hP hS
  clear hQ
  obtain ⟨H, hH⟩ : ∃ H, H = s.heap := ⟨_, rfl⟩
  obtain ⟨locs, hlo⟩ : ∃ locs : List Loc, locs = [] := ⟨_, rfl⟩
  have hP : mPw G h0 ad F A L H := by rw [hH]; exact hP
  have hS : va_S (mA h0 ad) s.heap H locs := by rw [hH, hlo]; exact hS
  suffices hZ : W p l e ({ frames := 0, cells := 0, slots := 0, locals := 0 } : Room) s m args below meth c H locs 0 0 Q (F0 m 0 ls []) by rw [hH, hlo] at hZ; exact hZ
  clear hH hlo
  unfold sM_begins at hE
  refine lv_aload_n C.1 C.2.1 dX5_begins_0 rfl (lv_at hl 0 rfl) ?_
  refine lv_aload_n C.1 C.2.1 dX5_begins_1 rfl (lv_at hl 0 rfl) ?_
  refine mg_1 (v := (F 1)) C hP rfl dX5_begins_2 ?_
  refine mp_35 C hP hS dX5_begins_5 (fun H locs hP hS => ?_)
  refine lv_aload_n C.1 C.2.1 dX5_begins_8 rfl (lv_at hl 0 rfl) ?_
  refine lv_aload_n C.1 C.2.1 dX5_begins_9 rfl (lv_at hl 0 rfl) ?_
  refine mg_2 (v := (F 2)) C hP rfl dX5_begins_10 ?_
  refine mp_36 C hP hS dX5_begins_13 (fun H locs hP hS => ?_)
  refine lv_aload_n C.1 C.2.1 dX5_begins_16 rfl (lv_at hl 0 rfl) ?_
  refine lv_aload_n C.1 C.2.1 dX5_begins_17 rfl (lv_at hl 0 rfl) ?_
  refine mg_3 (v := (F 3)) C hP rfl dX5_begins_18 ?_
  refine mp_37 C hP hS dX5_begins_21 (fun H locs hP hS => ?_)
  refine lv_aload_n C.1 C.2.1 dX5_begins_24 rfl (lv_at hl 0 rfl) ?_
  refine lv_iconst (v := 0) C.1 C.2.1 dX5_begins_25 (by decide) ?_
  refine mp_38 C hP hS dX5_begins_26 (fun H locs hP hS => ?_)
  refine lv_aload_n C.1 C.2.1 dX5_begins_29 rfl (lv_at hl 0 rfl) ?_
  refine lv_iconst (v := (-1)) C.1 C.2.1 dX5_begins_30 (by decide) ?_
  refine mp_39 C hP hS dX5_begins_31 (fun H locs hP hS => ?_)
  refine lv_aload_n C.1 C.2.1 dX5_begins_34 rfl (lv_at hl 0 rfl) ?_
  refine lv_iconst (v := 0) C.1 C.2.1 dX5_begins_35 (by decide) ?_
  refine mp_40 C hP hS dX5_begins_36 (fun H locs hP hS => ?_)
  obtain rfl := Option.some.inj hE
  exact hret _ _ _ _ dX5_begins_39 hP hS
def sM_school (f_feed : Int32) (f_heft : Int32) (f_alarm : Int32) (f_old : Int32) : Option (Int32 × Int32 × Int32) :=
  (sM_normOf f_feed f_old).bind fun r1 =>
  @Option.bind (Int32) _ (
    if r1 ≤ f_heft then
      @Option.bind (Int32) _ (
        if r1 ≤ (f_heft - f_feed) then
          some (f_heft - f_feed)
        else
          some r1) fun u5 =>
      some u5
    else
      @Option.bind (Int32) _ (
        if (f_heft + f_feed) ≤ r1 then
          some (f_heft + f_feed)
        else
          some r1) fun u7 =>
      some u7) fun u3 =>
  some (u3, (f_alarm / 2), (f_old + 1))
set_option maxHeartbeats 4000000 in
theorem metM_school (l : Launch) (G : kG) (h0 : Nat) (ad : Nat → Nat) (F : Nat → Int32) (A : Nat → Nat → Int32) (L : Nat → Nat → Int64)  (res : Int32 × Int32 × Int32) (hE : sM_school (F 5) (F 35) (F 36) (F 37) = some res) : Met l yX5_school (ws_ yX5_school cX5_school 2 none) ({ frames := 1, cells := 0, slots := 0, locals := 22 } : Room) (mPc G h0 ad F A L []) (mQc G h0 ad (upd (upd (upd F 35 res.1) 36 res.2.1) 37 res.2.2) A L none) 0 0 (mA h0 ad) := by
  refine m_ofW (by decide) rfl (Nat.le_of_ble_eq_true rfl) ?_
  intro p e s m args below meth c ls C hml hP hS hl hr hlocks
  have hl : lv_has ls 2 [(0, .ref h0)] := hl
  obtain ⟨Q, hQ⟩ : ∃ Q, Q = MQ below (mQc G h0 ad (upd (upd (upd F 35 res.1) 36 res.2.1) 37 res.2.2) A L none) args s 0 0 (mA h0 ad) := ⟨_, rfl⟩
  rw [← hQ]
  have hret : ∀ (pc : Nat) (ls : Array Slot) (H : Heap) (locs : List Loc), decode cX5_school pc = .ok (.return_, 1) → mPw G h0 ad (upd (upd (upd F 35 res.1) 36 res.2.1) 37 res.2.2) A L H → va_S (mA h0 ad) s.heap H locs → W p l e ({ frames := 1, cells := 0, slots := 0, locals := 22 } : Room) s m args below meth c H locs 0 0 Q (F0 m pc ls []) := by
    intro pc ls H locs hd hP hS
    rw [hQ]
    exact m_vret C hr hlocks hd hP hS
  clear hQ
  obtain ⟨H, hH⟩ : ∃ H, H = s.heap := ⟨_, rfl⟩
  obtain ⟨locs, hlo⟩ : ∃ locs : List Loc, locs = [] := ⟨_, rfl⟩
  have hP : mPw G h0 ad F A L H := by rw [hH]; exact hP
  have hS : va_S (mA h0 ad) s.heap H locs := by rw [hH, hlo]; exact hS
  suffices hZ : W p l e ({ frames := 1, cells := 0, slots := 0, locals := 22 } : Room) s m args below meth c H locs 0 0 Q (F0 m 0 ls []) by rw [hH, hlo] at hZ; exact hZ
  clear hH hlo
  unfold sM_school at hE
  refine lv_aload_n C.1 C.2.1 dX5_school_0 rfl (lv_at hl 0 rfl) ?_
  refine lv_aload_n C.1 C.2.1 dX5_school_1 rfl (lv_at hl 0 rfl) ?_
  refine mg_37 (v := (F 37)) C hP rfl dX5_school_2 ?_
  obtain ⟨r1, hr1, hE⟩ := it_b hE
  refine m_call (n := 1) (As := [.int (F 37)]) (rest := []) C hP hS hml (metM_normOf l G h0 ad _ _ _ (F 37) r1 hr1) q1615 q1617 qs53 q1618 rfl rfl (by decide +kernel) ⟨Nat.le_of_ble_eq_true rfl, Nat.le_of_ble_eq_true rfl⟩ ⟨Nat.le_refl _, Nat.le_refl _⟩ rfl hl.1 rfl (Nat.le_of_ble_eq_true rfl) dX5_school_5 (fun H locs hP hS => ?_)
  refine lv_istore_n (lv' := [(1, .int r1), (0, .ref h0)]) C.1 C.2.1 dX5_school_8 rfl hl (by decide) rfl (fun ls hl => ?_)
  refine lv_aload_n C.1 C.2.1 dX5_school_9 rfl (lv_at hl 1 rfl) ?_
  refine lv_dup C.1 C.2.1 dX5_school_10 rfl ?_
  refine mg_37 (v := (F 37)) C hP rfl dX5_school_11 ?_
  refine lv_iconst (v := 1) C.1 C.2.1 dX5_school_14 (by decide) ?_
  refine lv_iadd C.1 C.2.1 dX5_school_15 ?_
  refine mp_37 C hP hS dX5_school_16 (fun H locs hP hS => ?_)
  refine lv_aload_n C.1 C.2.1 dX5_school_19 rfl (lv_at hl 1 rfl) ?_
  refine mg_35 (v := (F 35)) C hP rfl dX5_school_20 ?_
  refine lv_iload_n C.1 C.2.1 dX5_school_23 rfl (lv_at hl 0 rfl) ?_
  obtain ⟨u3, hR, hE⟩ := it_b hE
  have hJ90u3 : ∀ (H : Heap) (locs : List Loc) (ls : Array Slot), mPw G h0 ad (upd (upd F 35 u3) 37 ((F 37) + 1)) A L H → va_S (mA h0 ad) s.heap H locs → lv_has ls 2 [(0, .ref h0)] → W p l e ({ frames := 1, cells := 0, slots := 0, locals := 22 } : Room) s m args below meth c H locs 0 0 Q (F0 m 90 ls []) := by
    intro H locs ls hP hS hl
    refine lv_aload_n C.1 C.2.1 dX5_school_90 rfl (lv_at hl 0 rfl) ?_
    refine lv_dup C.1 C.2.1 dX5_school_91 rfl ?_
    refine mg_36 (v := (F 36)) C hP rfl dX5_school_92 ?_
    refine lv_iconst (v := 2) C.1 C.2.1 dX5_school_95 (by decide) ?_
    refine lv_idiv C.1 C.2.1 dX5_school_96 (by decide) ?_
    refine mp_36 C hP hS dX5_school_97 (fun H locs hP hS => ?_)
    obtain rfl := Option.some.inj hE
    exact hret _ _ _ _ dX5_school_100 hP hS
  have hE := hR
  refine lv_icmp_ge (tgt := 60) C.1 C.2.1 dX5_school_24 (by decide) (fun c2 => ?_) (fun c2 => ?_)
  · have hE := it_t c2 hE
    refine lv_aload_n C.1 C.2.1 dX5_school_60 rfl (lv_at hl 1 rfl) ?_
    refine lv_aload_n C.1 C.2.1 dX5_school_61 rfl (lv_at hl 1 rfl) ?_
    refine mg_35 (v := (F 35)) C hP rfl dX5_school_62 ?_
    refine lv_aload_n C.1 C.2.1 dX5_school_65 rfl (lv_at hl 1 rfl) ?_
    refine mg_5 (v := (F 5)) C hP rfl dX5_school_66 ?_
    refine lv_isub C.1 C.2.1 dX5_school_69 ?_
    refine lv_iload_n C.1 C.2.1 dX5_school_70 rfl (lv_at hl 0 rfl) ?_
    obtain ⟨u5, hR, hE⟩ := it_b hE
    have hJ87u5 : ∀ (H : Heap) (locs : List Loc) (ls : Array Slot), mPw G h0 ad (upd F 37 ((F 37) + 1)) A L H → va_S (mA h0 ad) s.heap H locs → lv_has ls 2 [(0, .ref h0)] → W p l e ({ frames := 1, cells := 0, slots := 0, locals := 22 } : Room) s m args below meth c H locs 0 0 Q (F0 m 87 ls [.int u5, .ref h0]) := by
      intro H locs ls hP hS hl
      refine mp_35 C hP hS dX5_school_87 (fun H locs hP hS => ?_)
      obtain rfl := Option.some.inj hE
      exact hJ90u3 H locs ls hP hS (lv_sub hl [0] rfl)
    have hE := hR
    refine lv_icmp_ge (tgt := 78) C.1 C.2.1 dX5_school_71 (by decide) (fun c4 => ?_) (fun c4 => ?_)
    · have hE := it_t c4 hE
      refine lv_aload_n C.1 C.2.1 dX5_school_78 rfl (lv_at hl 1 rfl) ?_
      refine mg_35 (v := (F 35)) C hP rfl dX5_school_79 ?_
      refine lv_aload_n C.1 C.2.1 dX5_school_82 rfl (lv_at hl 1 rfl) ?_
      refine mg_5 (v := (F 5)) C hP rfl dX5_school_83 ?_
      refine lv_isub C.1 C.2.1 dX5_school_86 ?_
      obtain rfl := Option.some.inj hE
      exact hJ87u5 H locs ls hP hS (lv_sub hl [1] rfl)
    · have hE := it_f c4 hE
      refine lv_iload_n C.1 C.2.1 dX5_school_74 rfl (lv_at hl 0 rfl) ?_
      refine lv_goto (tgt := 87) C.1 C.2.1 dX5_school_75 (by decide) ?_
      obtain rfl := Option.some.inj hE
      exact hJ87u5 H locs ls hP hS (lv_sub hl [1] rfl)
  · have hE := it_f c2 hE
    refine lv_aload_n C.1 C.2.1 dX5_school_27 rfl (lv_at hl 1 rfl) ?_
    refine lv_aload_n C.1 C.2.1 dX5_school_28 rfl (lv_at hl 1 rfl) ?_
    refine mg_35 (v := (F 35)) C hP rfl dX5_school_29 ?_
    refine lv_aload_n C.1 C.2.1 dX5_school_32 rfl (lv_at hl 1 rfl) ?_
    refine mg_5 (v := (F 5)) C hP rfl dX5_school_33 ?_
    refine lv_iadd C.1 C.2.1 dX5_school_36 ?_
    refine lv_iload_n C.1 C.2.1 dX5_school_37 rfl (lv_at hl 0 rfl) ?_
    obtain ⟨u7, hR, hE⟩ := it_b hE
    have hJ54u7 : ∀ (H : Heap) (locs : List Loc) (ls : Array Slot), mPw G h0 ad (upd F 37 ((F 37) + 1)) A L H → va_S (mA h0 ad) s.heap H locs → lv_has ls 2 [(0, .ref h0)] → W p l e ({ frames := 1, cells := 0, slots := 0, locals := 22 } : Room) s m args below meth c H locs 0 0 Q (F0 m 54 ls [.int u7, .ref h0]) := by
      intro H locs ls hP hS hl
      refine mp_35 C hP hS dX5_school_54 (fun H locs hP hS => ?_)
      refine lv_goto (tgt := 90) C.1 C.2.1 dX5_school_57 (by decide) ?_
      obtain rfl := Option.some.inj hE
      exact hJ90u3 H locs ls hP hS (lv_sub hl [0] rfl)
    have hE := hR
    refine lv_icmp_le (tgt := 45) C.1 C.2.1 dX5_school_38 (by decide) (fun c6 => ?_) (fun c6 => ?_)
    · have hE := it_t c6 hE
      refine lv_aload_n C.1 C.2.1 dX5_school_45 rfl (lv_at hl 1 rfl) ?_
      refine mg_35 (v := (F 35)) C hP rfl dX5_school_46 ?_
      refine lv_aload_n C.1 C.2.1 dX5_school_49 rfl (lv_at hl 1 rfl) ?_
      refine mg_5 (v := (F 5)) C hP rfl dX5_school_50 ?_
      refine lv_iadd C.1 C.2.1 dX5_school_53 ?_
      obtain rfl := Option.some.inj hE
      exact hJ54u7 H locs ls hP hS (lv_sub hl [1] rfl)
    · have hE := it_f c6 hE
      refine lv_iload_n C.1 C.2.1 dX5_school_41 rfl (lv_at hl 0 rfl) ?_
      refine lv_goto (tgt := 54) C.1 C.2.1 dX5_school_42 (by decide) ?_
      obtain rfl := Option.some.inj hE
      exact hJ54u7 H locs ls hP hS (lv_sub hl [1] rfl)
def sM_bound (p1 : Int32) (p2 : Int32) : Option (Int32) :=
  if 0 ≤ p1 then
    if p1 ≤ p2 then
      some p1
    else
      some p2
  else
    some 0
set_option maxHeartbeats 4000000 in
theorem metM_bound (l : Launch) (G : kG) (h0 : Nat) (ad : Nat → Nat) (F : Nat → Int32) (A : Nat → Nat → Int32) (L : Nat → Nat → Int64) (p1 : Int32) (p2 : Int32) (res : Int32) (hE : sM_bound p1 p2 = some res) : Met l yX5_bound (ws_ yX5_bound cX5_bound 3 (some .int)) ({ frames := 0, cells := 0, slots := 0, locals := 0 } : Room) (mPc G h0 ad F A L [.int p1, .int p2]) (mQc G h0 ad F A L (some (.int res))) 0 0 (mA h0 ad) := by
  refine m_ofW (by decide) rfl (Nat.le_of_ble_eq_true rfl) ?_
  intro p e s m args below meth c ls C hml hP hS hl hr hlocks
  have hl : lv_has ls 3 [(0, .ref h0), (1, .int p1), (2, .int p2)] := hl
  obtain ⟨Q, hQ⟩ : ∃ Q, Q = MQ below (mQc G h0 ad F A L (some (.int res))) args s 0 0 (mA h0 ad) := ⟨_, rfl⟩
  rw [← hQ]
  have hret : ∀ (pc : Nat) (ls : Array Slot) (H : Heap) (locs : List Loc), decode cX5_bound pc = .ok (.ireturn, 1) → mPw G h0 ad F A L H → va_S (mA h0 ad) s.heap H locs → W p l e ({ frames := 0, cells := 0, slots := 0, locals := 0 } : Room) s m args below meth c H locs 0 0 Q (F0 m pc ls [.int res]) := by
    intro pc ls H locs hd hP hS
    rw [hQ]
    exact m_iret C hr hlocks hd hP hS
  clear hQ
  obtain ⟨H, hH⟩ : ∃ H, H = s.heap := ⟨_, rfl⟩
  obtain ⟨locs, hlo⟩ : ∃ locs : List Loc, locs = [] := ⟨_, rfl⟩
  have hP : mPw G h0 ad F A L H := by rw [hH]; exact hP
  have hS : va_S (mA h0 ad) s.heap H locs := by rw [hH, hlo]; exact hS
  suffices hZ : W p l e ({ frames := 0, cells := 0, slots := 0, locals := 0 } : Room) s m args below meth c H locs 0 0 Q (F0 m 0 ls []) by rw [hH, hlo] at hZ; exact hZ
  clear hH hlo
  unfold sM_bound at hE
  refine lv_iload_n C.1 C.2.1 dX5_bound_0 rfl (lv_at hl 1 rfl) ?_
  refine lv_if_ge (tgt := 8) C.1 C.2.1 dX5_bound_1 (by decide) (fun c1 => ?_) (fun c1 => ?_)
  · have hE := it_t c1 hE
    refine lv_iload_n C.1 C.2.1 dX5_bound_8 rfl (lv_at hl 1 rfl) ?_
    refine lv_iload_n C.1 C.2.1 dX5_bound_9 rfl (lv_at hl 2 rfl) ?_
    refine lv_icmp_le (tgt := 17) C.1 C.2.1 dX5_bound_10 (by decide) (fun c2 => ?_) (fun c2 => ?_)
    · have hE := it_t c2 hE
      refine lv_iload_n C.1 C.2.1 dX5_bound_17 rfl (lv_at hl 1 rfl) ?_
      obtain rfl := Option.some.inj hE
      exact hret _ _ _ _ dX5_bound_18 hP hS
    · have hE := it_f c2 hE
      refine lv_iload_n C.1 C.2.1 dX5_bound_13 rfl (lv_at hl 2 rfl) ?_
      refine lv_goto (tgt := 18) C.1 C.2.1 dX5_bound_14 (by decide) ?_
      obtain rfl := Option.some.inj hE
      exact hret _ _ _ _ dX5_bound_18 hP hS
  · have hE := it_f c1 hE
    refine lv_iconst (v := 0) C.1 C.2.1 dX5_bound_4 (by decide) ?_
    refine lv_goto (tgt := 18) C.1 C.2.1 dX5_bound_5 (by decide) ?_
    obtain rfl := Option.some.inj hE
    exact hret _ _ _ _ dX5_bound_18 hP hS
def sM_weekend (f_heft : Int32) (f_alarm : Int32) (p1 : Int32) (p2 : Int32) : Option (Int32 × Int32) :=
  @Option.bind (Int32 × Int32) _ (
    if p1 = 1 then
      some ((f_heft + p2), f_alarm)
    else
    if p1 = 2 then
      (sM_bound ((f_alarm + 10) + p2) 99).bind fun r4 =>
      if p1 = 5 then
        some ((f_heft - p2), (r4 * 2))
      else
        some ((f_heft - p2), r4)
    else
    if p1 = 3 then
      some ((f_heft + ((2 * p2) + 3)), f_alarm)
    else
    if p1 = 4 then
      (sM_bound (f_heft - (2 * p2)) 400).bind fun r8 =>
      if p1 = 6 then
        if f_alarm ≤ 20 then
          some (r8, f_alarm)
        else
          some ((r8 - 10), f_alarm)
      else
        some (r8, f_alarm)
    else
    if p1 = 5 then
      (sM_bound ((f_alarm + 10) + p2) 99).bind fun r12 =>
      if p1 = 5 then
        some ((f_heft - p2), (r12 * 2))
      else
        some ((f_heft - p2), r12)
    else
    if p1 = 6 then
      (sM_bound (f_heft - (2 * p2)) 400).bind fun r15 =>
      if p1 = 6 then
        if f_alarm ≤ 20 then
          some (r15, f_alarm)
        else
          some ((r15 - 10), f_alarm)
      else
        some (r15, f_alarm)
    else
    some ((f_heft - p2), f_alarm)) fun u1 =>
  (sM_bound u1.1 400).bind fun r18 =>
  (sM_bound u1.2 99).bind fun r19 =>
  some (r18, r19)
set_option maxHeartbeats 4000000 in
theorem metM_weekend (l : Launch) (G : kG) (h0 : Nat) (ad : Nat → Nat) (F : Nat → Int32) (A : Nat → Nat → Int32) (L : Nat → Nat → Int64) (p1 : Int32) (p2 : Int32) (res : Int32 × Int32) (hE : sM_weekend (F 35) (F 36) p1 p2 = some res) : Met l yX5_weekend (ws_ yX5_weekend cX5_weekend 3 none) ({ frames := 1, cells := 0, slots := 0, locals := 22 } : Room) (mPc G h0 ad F A L [.int p1, .int p2]) (mQc G h0 ad (upd (upd F 35 res.1) 36 res.2) A L none) 0 0 (mA h0 ad) := by
  refine m_ofW (by decide) rfl (Nat.le_of_ble_eq_true rfl) ?_
  intro p e s m args below meth c ls C hml hP hS hl hr hlocks
  have hl : lv_has ls 3 [(0, .ref h0), (1, .int p1), (2, .int p2)] := hl
  obtain ⟨Q, hQ⟩ : ∃ Q, Q = MQ below (mQc G h0 ad (upd (upd F 35 res.1) 36 res.2) A L none) args s 0 0 (mA h0 ad) := ⟨_, rfl⟩
  rw [← hQ]
  have hret : ∀ (pc : Nat) (ls : Array Slot) (H : Heap) (locs : List Loc), decode cX5_weekend pc = .ok (.return_, 1) → mPw G h0 ad (upd (upd F 35 res.1) 36 res.2) A L H → va_S (mA h0 ad) s.heap H locs → W p l e ({ frames := 1, cells := 0, slots := 0, locals := 22 } : Room) s m args below meth c H locs 0 0 Q (F0 m pc ls []) := by
    intro pc ls H locs hd hP hS
    rw [hQ]
    exact m_vret C hr hlocks hd hP hS
  clear hQ
  obtain ⟨H, hH⟩ : ∃ H, H = s.heap := ⟨_, rfl⟩
  obtain ⟨locs, hlo⟩ : ∃ locs : List Loc, locs = [] := ⟨_, rfl⟩
  have hP : mPw G h0 ad F A L H := by rw [hH]; exact hP
  have hS : va_S (mA h0 ad) s.heap H locs := by rw [hH, hlo]; exact hS
  suffices hZ : W p l e ({ frames := 1, cells := 0, slots := 0, locals := 22 } : Room) s m args below meth c H locs 0 0 Q (F0 m 0 ls []) by rw [hH, hlo] at hZ; exact hZ
  clear hH hlo
  unfold sM_weekend at hE
  refine lv_iload_n C.1 C.2.1 dX5_weekend_0 rfl (lv_at hl 1 rfl) ?_
  obtain ⟨u1, hR, hE⟩ := it_b hE
  have hJ175u1 : ∀ (H : Heap) (locs : List Loc) (ls : Array Slot), mPw G h0 ad (upd (upd F 35 u1.1) 36 u1.2) A L H → va_S (mA h0 ad) s.heap H locs → lv_has ls 3 [(0, .ref h0)] → W p l e ({ frames := 1, cells := 0, slots := 0, locals := 22 } : Room) s m args below meth c H locs 0 0 Q (F0 m 175 ls []) := by
    intro H locs ls hP hS hl
    refine lv_aload_n C.1 C.2.1 dX5_weekend_175 rfl (lv_at hl 0 rfl) ?_
    refine lv_aload_n C.1 C.2.1 dX5_weekend_176 rfl (lv_at hl 0 rfl) ?_
    refine lv_aload_n C.1 C.2.1 dX5_weekend_177 rfl (lv_at hl 0 rfl) ?_
    refine mg_35 (v := u1.1) C hP rfl dX5_weekend_178 ?_
    refine lv_sipush (v := 400) C.1 C.2.1 dX5_weekend_181 (by decide) ?_
    obtain ⟨r18, hr18, hE⟩ := it_b hE
    refine m_call (n := 2) (As := [.int u1.1, .int 400]) (rest := [.ref h0]) C hP hS hml (metM_bound l G h0 ad _ _ _ u1.1 400 r18 hr18) q1623 q1625 qs55 q1626 rfl rfl (by decide +kernel) ⟨Nat.le_of_ble_eq_true rfl, Nat.le_of_ble_eq_true rfl⟩ ⟨Nat.le_refl _, Nat.le_refl _⟩ rfl hl.1 rfl (Nat.le_of_ble_eq_true rfl) dX5_weekend_184 (fun H locs hP hS => ?_)
    refine mp_35 C hP hS dX5_weekend_187 (fun H locs hP hS => ?_)
    refine lv_aload_n C.1 C.2.1 dX5_weekend_190 rfl (lv_at hl 0 rfl) ?_
    refine lv_aload_n C.1 C.2.1 dX5_weekend_191 rfl (lv_at hl 0 rfl) ?_
    refine lv_aload_n C.1 C.2.1 dX5_weekend_192 rfl (lv_at hl 0 rfl) ?_
    refine mg_36 (v := u1.2) C hP rfl dX5_weekend_193 ?_
    refine lv_bipush (v := 99) C.1 C.2.1 dX5_weekend_196 (by decide) ?_
    obtain ⟨r19, hr19, hE⟩ := it_b hE
    refine m_call (n := 2) (As := [.int u1.2, .int 99]) (rest := [.ref h0]) C hP hS hml (metM_bound l G h0 ad _ _ _ u1.2 99 r19 hr19) q1623 q1625 qs55 q1626 rfl rfl (by decide +kernel) ⟨Nat.le_of_ble_eq_true rfl, Nat.le_of_ble_eq_true rfl⟩ ⟨Nat.le_refl _, Nat.le_refl _⟩ rfl hl.1 rfl (Nat.le_of_ble_eq_true rfl) dX5_weekend_198 (fun H locs hP hS => ?_)
    refine mp_36 C hP hS dX5_weekend_201 (fun H locs hP hS => ?_)
    obtain rfl := Option.some.inj hE
    exact hret _ _ _ _ dX5_weekend_204 hP hS
  have hE := hR
  by_cases c2 : p1 = 1
  · have hE := it_t c2 hE
    refine lv_tableIn (tgt := 40) C.1 C.2.1 dX5_weekend_1 (by rw [c2]; decide) (by rw [c2]; decide) (by rw [c2]; rfl) (by decide) ?_
    refine lv_aload_n C.1 C.2.1 dX5_weekend_40 rfl (lv_at hl 0 rfl) ?_
    refine lv_dup C.1 C.2.1 dX5_weekend_41 rfl ?_
    refine mg_35 (v := (F 35)) C hP rfl dX5_weekend_42 ?_
    refine lv_iload_n C.1 C.2.1 dX5_weekend_45 rfl (lv_at hl 2 rfl) ?_
    refine lv_iadd C.1 C.2.1 dX5_weekend_46 ?_
    refine mp_35 C hP hS dX5_weekend_47 (fun H locs hP hS => ?_)
    refine lv_goto (tgt := 175) C.1 C.2.1 dX5_weekend_50 (by decide) ?_
    obtain rfl := Option.some.inj hE
    exact hJ175u1 H locs ls hP hS (lv_sub hl [0] rfl)
  have hE := it_f c2 hE
  by_cases c3 : p1 = 2
  · have hE := it_t c3 hE
    refine lv_tableIn (tgt := 70) C.1 C.2.1 dX5_weekend_1 (by rw [c3]; decide) (by rw [c3]; decide) (by rw [c3]; rfl) (by decide) ?_
    refine lv_aload_n C.1 C.2.1 dX5_weekend_70 rfl (lv_at hl 0 rfl) ?_
    refine lv_dup C.1 C.2.1 dX5_weekend_71 rfl ?_
    refine mg_35 (v := (F 35)) C hP rfl dX5_weekend_72 ?_
    refine lv_iload_n C.1 C.2.1 dX5_weekend_75 rfl (lv_at hl 2 rfl) ?_
    refine lv_isub C.1 C.2.1 dX5_weekend_76 ?_
    refine mp_35 C hP hS dX5_weekend_77 (fun H locs hP hS => ?_)
    refine lv_aload_n C.1 C.2.1 dX5_weekend_80 rfl (lv_at hl 0 rfl) ?_
    refine lv_aload_n C.1 C.2.1 dX5_weekend_81 rfl (lv_at hl 0 rfl) ?_
    refine lv_aload_n C.1 C.2.1 dX5_weekend_82 rfl (lv_at hl 0 rfl) ?_
    refine mg_36 (v := (F 36)) C hP rfl dX5_weekend_83 ?_
    refine lv_bipush (v := 10) C.1 C.2.1 dX5_weekend_86 (by decide) ?_
    refine lv_iadd C.1 C.2.1 dX5_weekend_88 ?_
    refine lv_iload_n C.1 C.2.1 dX5_weekend_89 rfl (lv_at hl 2 rfl) ?_
    refine lv_iadd C.1 C.2.1 dX5_weekend_90 ?_
    refine lv_bipush (v := 99) C.1 C.2.1 dX5_weekend_91 (by decide) ?_
    obtain ⟨r4, hr4, hE⟩ := it_b hE
    refine m_call (n := 2) (As := [.int (((F 36) + 10) + p2), .int 99]) (rest := [.ref h0]) C hP hS hml (metM_bound l G h0 ad _ _ _ (((F 36) + 10) + p2) 99 r4 hr4) q1623 q1625 qs55 q1626 rfl rfl (by decide +kernel) ⟨Nat.le_of_ble_eq_true rfl, Nat.le_of_ble_eq_true rfl⟩ ⟨Nat.le_refl _, Nat.le_refl _⟩ rfl hl.1 rfl (Nat.le_of_ble_eq_true rfl) dX5_weekend_93 (fun H locs hP hS => ?_)
    refine mp_36 C hP hS dX5_weekend_96 (fun H locs hP hS => ?_)
    refine lv_iload_n C.1 C.2.1 dX5_weekend_99 rfl (lv_at hl 1 rfl) ?_
    refine lv_iconst (v := 5) C.1 C.2.1 dX5_weekend_100 (by decide) ?_
    refine lv_icmp_ne (tgt := 175) C.1 C.2.1 dX5_weekend_101 (by decide) (fun c5 => ?_) (fun c5 => ?_)
    · have hE := it_f c5 hE
      obtain rfl := Option.some.inj hE
      exact hJ175u1 H locs ls hP hS (lv_sub hl [0] rfl)
    · have hE := it_t c5 hE
      refine lv_aload_n C.1 C.2.1 dX5_weekend_104 rfl (lv_at hl 0 rfl) ?_
      refine lv_dup C.1 C.2.1 dX5_weekend_105 rfl ?_
      refine mg_36 (v := r4) C hP rfl dX5_weekend_106 ?_
      refine lv_iconst (v := 2) C.1 C.2.1 dX5_weekend_109 (by decide) ?_
      refine lv_imul C.1 C.2.1 dX5_weekend_110 ?_
      refine mp_36 C hP hS dX5_weekend_111 (fun H locs hP hS => ?_)
      refine lv_goto (tgt := 175) C.1 C.2.1 dX5_weekend_114 (by decide) ?_
      obtain rfl := Option.some.inj hE
      exact hJ175u1 H locs ls hP hS (lv_sub hl [0] rfl)
  have hE := it_f c3 hE
  by_cases c6 : p1 = 3
  · have hE := it_t c6 hE
    refine lv_tableIn (tgt := 53) C.1 C.2.1 dX5_weekend_1 (by rw [c6]; decide) (by rw [c6]; decide) (by rw [c6]; rfl) (by decide) ?_
    refine lv_aload_n C.1 C.2.1 dX5_weekend_53 rfl (lv_at hl 0 rfl) ?_
    refine lv_dup C.1 C.2.1 dX5_weekend_54 rfl ?_
    refine mg_35 (v := (F 35)) C hP rfl dX5_weekend_55 ?_
    refine lv_iconst (v := 2) C.1 C.2.1 dX5_weekend_58 (by decide) ?_
    refine lv_iload_n C.1 C.2.1 dX5_weekend_59 rfl (lv_at hl 2 rfl) ?_
    refine lv_imul C.1 C.2.1 dX5_weekend_60 ?_
    refine lv_iconst (v := 3) C.1 C.2.1 dX5_weekend_61 (by decide) ?_
    refine lv_iadd C.1 C.2.1 dX5_weekend_62 ?_
    refine lv_iadd C.1 C.2.1 dX5_weekend_63 ?_
    refine mp_35 C hP hS dX5_weekend_64 (fun H locs hP hS => ?_)
    refine lv_goto (tgt := 175) C.1 C.2.1 dX5_weekend_67 (by decide) ?_
    obtain rfl := Option.some.inj hE
    exact hJ175u1 H locs ls hP hS (lv_sub hl [0] rfl)
  have hE := it_f c6 hE
  by_cases c7 : p1 = 4
  · have hE := it_t c7 hE
    refine lv_tableIn (tgt := 117) C.1 C.2.1 dX5_weekend_1 (by rw [c7]; decide) (by rw [c7]; decide) (by rw [c7]; rfl) (by decide) ?_
    refine lv_aload_n C.1 C.2.1 dX5_weekend_117 rfl (lv_at hl 0 rfl) ?_
    refine lv_aload_n C.1 C.2.1 dX5_weekend_118 rfl (lv_at hl 0 rfl) ?_
    refine lv_aload_n C.1 C.2.1 dX5_weekend_119 rfl (lv_at hl 0 rfl) ?_
    refine mg_35 (v := (F 35)) C hP rfl dX5_weekend_120 ?_
    refine lv_iconst (v := 2) C.1 C.2.1 dX5_weekend_123 (by decide) ?_
    refine lv_iload_n C.1 C.2.1 dX5_weekend_124 rfl (lv_at hl 2 rfl) ?_
    refine lv_imul C.1 C.2.1 dX5_weekend_125 ?_
    refine lv_isub C.1 C.2.1 dX5_weekend_126 ?_
    refine lv_sipush (v := 400) C.1 C.2.1 dX5_weekend_127 (by decide) ?_
    obtain ⟨r8, hr8, hE⟩ := it_b hE
    refine m_call (n := 2) (As := [.int ((F 35) - (2 * p2)), .int 400]) (rest := [.ref h0]) C hP hS hml (metM_bound l G h0 ad _ _ _ ((F 35) - (2 * p2)) 400 r8 hr8) q1623 q1625 qs55 q1626 rfl rfl (by decide +kernel) ⟨Nat.le_of_ble_eq_true rfl, Nat.le_of_ble_eq_true rfl⟩ ⟨Nat.le_refl _, Nat.le_refl _⟩ rfl hl.1 rfl (Nat.le_of_ble_eq_true rfl) dX5_weekend_130 (fun H locs hP hS => ?_)
    refine mp_35 C hP hS dX5_weekend_133 (fun H locs hP hS => ?_)
    refine lv_iload_n C.1 C.2.1 dX5_weekend_136 rfl (lv_at hl 1 rfl) ?_
    refine lv_bipush (v := 6) C.1 C.2.1 dX5_weekend_137 (by decide) ?_
    refine lv_icmp_ne (tgt := 175) C.1 C.2.1 dX5_weekend_139 (by decide) (fun c9 => ?_) (fun c9 => ?_)
    · have hE := it_f c9 hE
      obtain rfl := Option.some.inj hE
      exact hJ175u1 H locs ls hP hS (lv_sub hl [0] rfl)
    · have hE := it_t c9 hE
      refine lv_aload_n C.1 C.2.1 dX5_weekend_142 rfl (lv_at hl 0 rfl) ?_
      refine mg_36 (v := (F 36)) C hP rfl dX5_weekend_143 ?_
      refine lv_bipush (v := 20) C.1 C.2.1 dX5_weekend_146 (by decide) ?_
      refine lv_icmp_le (tgt := 175) C.1 C.2.1 dX5_weekend_148 (by decide) (fun c10 => ?_) (fun c10 => ?_)
      · have hE := it_t c10 hE
        obtain rfl := Option.some.inj hE
        exact hJ175u1 H locs ls hP hS (lv_sub hl [0] rfl)
      · have hE := it_f c10 hE
        refine lv_aload_n C.1 C.2.1 dX5_weekend_151 rfl (lv_at hl 0 rfl) ?_
        refine lv_dup C.1 C.2.1 dX5_weekend_152 rfl ?_
        refine mg_35 (v := r8) C hP rfl dX5_weekend_153 ?_
        refine lv_bipush (v := 10) C.1 C.2.1 dX5_weekend_156 (by decide) ?_
        refine lv_isub C.1 C.2.1 dX5_weekend_158 ?_
        refine mp_35 C hP hS dX5_weekend_159 (fun H locs hP hS => ?_)
        refine lv_goto (tgt := 175) C.1 C.2.1 dX5_weekend_162 (by decide) ?_
        obtain rfl := Option.some.inj hE
        exact hJ175u1 H locs ls hP hS (lv_sub hl [0] rfl)
  have hE := it_f c7 hE
  by_cases c11 : p1 = 5
  · have hE := it_t c11 hE
    refine lv_tableIn (tgt := 70) C.1 C.2.1 dX5_weekend_1 (by rw [c11]; decide) (by rw [c11]; decide) (by rw [c11]; rfl) (by decide) ?_
    refine lv_aload_n C.1 C.2.1 dX5_weekend_70 rfl (lv_at hl 0 rfl) ?_
    refine lv_dup C.1 C.2.1 dX5_weekend_71 rfl ?_
    refine mg_35 (v := (F 35)) C hP rfl dX5_weekend_72 ?_
    refine lv_iload_n C.1 C.2.1 dX5_weekend_75 rfl (lv_at hl 2 rfl) ?_
    refine lv_isub C.1 C.2.1 dX5_weekend_76 ?_
    refine mp_35 C hP hS dX5_weekend_77 (fun H locs hP hS => ?_)
    refine lv_aload_n C.1 C.2.1 dX5_weekend_80 rfl (lv_at hl 0 rfl) ?_
    refine lv_aload_n C.1 C.2.1 dX5_weekend_81 rfl (lv_at hl 0 rfl) ?_
    refine lv_aload_n C.1 C.2.1 dX5_weekend_82 rfl (lv_at hl 0 rfl) ?_
    refine mg_36 (v := (F 36)) C hP rfl dX5_weekend_83 ?_
    refine lv_bipush (v := 10) C.1 C.2.1 dX5_weekend_86 (by decide) ?_
    refine lv_iadd C.1 C.2.1 dX5_weekend_88 ?_
    refine lv_iload_n C.1 C.2.1 dX5_weekend_89 rfl (lv_at hl 2 rfl) ?_
    refine lv_iadd C.1 C.2.1 dX5_weekend_90 ?_
    refine lv_bipush (v := 99) C.1 C.2.1 dX5_weekend_91 (by decide) ?_
    obtain ⟨r12, hr12, hE⟩ := it_b hE
    refine m_call (n := 2) (As := [.int (((F 36) + 10) + p2), .int 99]) (rest := [.ref h0]) C hP hS hml (metM_bound l G h0 ad _ _ _ (((F 36) + 10) + p2) 99 r12 hr12) q1623 q1625 qs55 q1626 rfl rfl (by decide +kernel) ⟨Nat.le_of_ble_eq_true rfl, Nat.le_of_ble_eq_true rfl⟩ ⟨Nat.le_refl _, Nat.le_refl _⟩ rfl hl.1 rfl (Nat.le_of_ble_eq_true rfl) dX5_weekend_93 (fun H locs hP hS => ?_)
    refine mp_36 C hP hS dX5_weekend_96 (fun H locs hP hS => ?_)
    refine lv_iload_n C.1 C.2.1 dX5_weekend_99 rfl (lv_at hl 1 rfl) ?_
    refine lv_iconst (v := 5) C.1 C.2.1 dX5_weekend_100 (by decide) ?_
    refine lv_icmp_ne (tgt := 175) C.1 C.2.1 dX5_weekend_101 (by decide) (fun c13 => ?_) (fun c13 => ?_)
    · have hE := it_f c13 hE
      obtain rfl := Option.some.inj hE
      exact hJ175u1 H locs ls hP hS (lv_sub hl [0] rfl)
    · have hE := it_t c13 hE
      refine lv_aload_n C.1 C.2.1 dX5_weekend_104 rfl (lv_at hl 0 rfl) ?_
      refine lv_dup C.1 C.2.1 dX5_weekend_105 rfl ?_
      refine mg_36 (v := r12) C hP rfl dX5_weekend_106 ?_
      refine lv_iconst (v := 2) C.1 C.2.1 dX5_weekend_109 (by decide) ?_
      refine lv_imul C.1 C.2.1 dX5_weekend_110 ?_
      refine mp_36 C hP hS dX5_weekend_111 (fun H locs hP hS => ?_)
      refine lv_goto (tgt := 175) C.1 C.2.1 dX5_weekend_114 (by decide) ?_
      obtain rfl := Option.some.inj hE
      exact hJ175u1 H locs ls hP hS (lv_sub hl [0] rfl)
  have hE := it_f c11 hE
  by_cases c14 : p1 = 6
  · have hE := it_t c14 hE
    refine lv_tableIn (tgt := 117) C.1 C.2.1 dX5_weekend_1 (by rw [c14]; decide) (by rw [c14]; decide) (by rw [c14]; rfl) (by decide) ?_
    refine lv_aload_n C.1 C.2.1 dX5_weekend_117 rfl (lv_at hl 0 rfl) ?_
    refine lv_aload_n C.1 C.2.1 dX5_weekend_118 rfl (lv_at hl 0 rfl) ?_
    refine lv_aload_n C.1 C.2.1 dX5_weekend_119 rfl (lv_at hl 0 rfl) ?_
    refine mg_35 (v := (F 35)) C hP rfl dX5_weekend_120 ?_
    refine lv_iconst (v := 2) C.1 C.2.1 dX5_weekend_123 (by decide) ?_
    refine lv_iload_n C.1 C.2.1 dX5_weekend_124 rfl (lv_at hl 2 rfl) ?_
    refine lv_imul C.1 C.2.1 dX5_weekend_125 ?_
    refine lv_isub C.1 C.2.1 dX5_weekend_126 ?_
    refine lv_sipush (v := 400) C.1 C.2.1 dX5_weekend_127 (by decide) ?_
    obtain ⟨r15, hr15, hE⟩ := it_b hE
    refine m_call (n := 2) (As := [.int ((F 35) - (2 * p2)), .int 400]) (rest := [.ref h0]) C hP hS hml (metM_bound l G h0 ad _ _ _ ((F 35) - (2 * p2)) 400 r15 hr15) q1623 q1625 qs55 q1626 rfl rfl (by decide +kernel) ⟨Nat.le_of_ble_eq_true rfl, Nat.le_of_ble_eq_true rfl⟩ ⟨Nat.le_refl _, Nat.le_refl _⟩ rfl hl.1 rfl (Nat.le_of_ble_eq_true rfl) dX5_weekend_130 (fun H locs hP hS => ?_)
    refine mp_35 C hP hS dX5_weekend_133 (fun H locs hP hS => ?_)
    refine lv_iload_n C.1 C.2.1 dX5_weekend_136 rfl (lv_at hl 1 rfl) ?_
    refine lv_bipush (v := 6) C.1 C.2.1 dX5_weekend_137 (by decide) ?_
    refine lv_icmp_ne (tgt := 175) C.1 C.2.1 dX5_weekend_139 (by decide) (fun c16 => ?_) (fun c16 => ?_)
    · have hE := it_f c16 hE
      obtain rfl := Option.some.inj hE
      exact hJ175u1 H locs ls hP hS (lv_sub hl [0] rfl)
    · have hE := it_t c16 hE
      refine lv_aload_n C.1 C.2.1 dX5_weekend_142 rfl (lv_at hl 0 rfl) ?_
      refine mg_36 (v := (F 36)) C hP rfl dX5_weekend_143 ?_
      refine lv_bipush (v := 20) C.1 C.2.1 dX5_weekend_146 (by decide) ?_
      refine lv_icmp_le (tgt := 175) C.1 C.2.1 dX5_weekend_148 (by decide) (fun c17 => ?_) (fun c17 => ?_)
      · have hE := it_t c17 hE
        obtain rfl := Option.some.inj hE
        exact hJ175u1 H locs ls hP hS (lv_sub hl [0] rfl)
      · have hE := it_f c17 hE
        refine lv_aload_n C.1 C.2.1 dX5_weekend_151 rfl (lv_at hl 0 rfl) ?_
        refine lv_dup C.1 C.2.1 dX5_weekend_152 rfl ?_
        refine mg_35 (v := r15) C hP rfl dX5_weekend_153 ?_
        refine lv_bipush (v := 10) C.1 C.2.1 dX5_weekend_156 (by decide) ?_
        refine lv_isub C.1 C.2.1 dX5_weekend_158 ?_
        refine mp_35 C hP hS dX5_weekend_159 (fun H locs hP hS => ?_)
        refine lv_goto (tgt := 175) C.1 C.2.1 dX5_weekend_162 (by decide) ?_
        obtain rfl := Option.some.inj hE
        exact hJ175u1 H locs ls hP hS (lv_sub hl [0] rfl)
  have hE := it_f c14 hE
  refine lv_tableOut (tgt := 165) C.1 C.2.1 dX5_weekend_1 (ts_e (ts_s (ts_s (ts_s (ts_s (ts_s (ts_s (ts_0 1) c2 rfl rfl) c3 rfl rfl) c6 rfl rfl) c7 rfl rfl) c11 rfl rfl) c14 rfl rfl) rfl) (by decide) ?_
  refine lv_aload_n C.1 C.2.1 dX5_weekend_165 rfl (lv_at hl 0 rfl) ?_
  refine lv_dup C.1 C.2.1 dX5_weekend_166 rfl ?_
  refine mg_35 (v := (F 35)) C hP rfl dX5_weekend_167 ?_
  refine lv_iload_n C.1 C.2.1 dX5_weekend_170 rfl (lv_at hl 2 rfl) ?_
  refine lv_isub C.1 C.2.1 dX5_weekend_171 ?_
  refine mp_35 C hP hS dX5_weekend_172 (fun H locs hP hS => ?_)
  obtain rfl := Option.some.inj hE
  exact hJ175u1 H locs ls hP hS (lv_sub hl [0] rfl)
def sM_goes (f_feed : Int32) (f_life : Int32) (f_low : Int32) (f_heft : Int32) (f_alarm : Int32) (f_old : Int32) (f_died : Int32) (f_ofWhat : Int32) (f_heavy : Int32) (a_kind : Nat → Int32) (a_part : Nat → Int32) (p1 : Int32) : Option (Int32 × Int32 × Int32 × Int32 × Int32 × Int32 × Int32) :=
  (sM_school f_feed f_heft f_alarm f_old).bind fun r1 =>
  @Option.bind (Int32 × Int32) _ (
    if p1 = (-1) then
      some (r1.1, r1.2.1)
    else
      if gi p1 8 then
      if gi p1 8 then
      (sM_weekend r1.1 r1.2.1 (a_kind (p1).toNatClampNeg) (a_part (p1).toNatClampNeg)).bind fun r6 =>
      some (r6.1, r6.2)
      else none
      else none) fun u3 =>
  @Option.bind (Int32) _ (
    if f_low ≤ u3.1 then
      if u3.2 ≤ 60 then
        if r1.2.2 ≤ f_life then
          some (-1)
        else
          some 2
      else
        some 1
    else
      some 0) fun u8 =>
  if u8 = (-1) then
    some (0, u3.1, u3.2, r1.2.2, f_died, u8, f_heavy)
  else
    some (1, 80, 0, 0, (f_died + 1), u8, u3.1)
set_option maxHeartbeats 4000000 in
theorem metM_goes (l : Launch) (G : kG) (h0 : Nat) (ad : Nat → Nat) (F : Nat → Int32) (A : Nat → Nat → Int32) (L : Nat → Nat → Int64) (p1 : Int32) (res : Int32 × Int32 × Int32 × Int32 × Int32 × Int32 × Int32) (hE : sM_goes (F 5) (F 6) (F 7) (F 35) (F 36) (F 37) (F 38) (F 39) (F 40) (A 12) (A 13) p1 = some res) : Met l yX5_goes (ws_ yX5_goes cX5_goes 2 (some .boolean)) ({ frames := 2, cells := 0, slots := 0, locals := 44 } : Room) (mPc G h0 ad F A L [.int p1]) (mQc G h0 ad (upd (upd (upd (upd (upd (upd F 35 res.2.1) 36 res.2.2.1) 37 res.2.2.2.1) 38 res.2.2.2.2.1) 39 res.2.2.2.2.2.1) 40 res.2.2.2.2.2.2) A L (some (.int res.1))) 0 0 (mA h0 ad) := by
  refine m_ofW (by decide) rfl (Nat.le_of_ble_eq_true rfl) ?_
  intro p e s m args below meth c ls C hml hP hS hl hr hlocks
  have hl : lv_has ls 2 [(0, .ref h0), (1, .int p1)] := hl
  obtain ⟨Q, hQ⟩ : ∃ Q, Q = MQ below (mQc G h0 ad (upd (upd (upd (upd (upd (upd F 35 res.2.1) 36 res.2.2.1) 37 res.2.2.2.1) 38 res.2.2.2.2.1) 39 res.2.2.2.2.2.1) 40 res.2.2.2.2.2.2) A L (some (.int res.1))) args s 0 0 (mA h0 ad) := ⟨_, rfl⟩
  rw [← hQ]
  have hret : ∀ (pc : Nat) (ls : Array Slot) (H : Heap) (locs : List Loc), narrow .boolean (.int res.1) = .int res.1 → decode cX5_goes pc = .ok (.ireturn, 1) → mPw G h0 ad (upd (upd (upd (upd (upd (upd F 35 res.2.1) 36 res.2.2.1) 37 res.2.2.2.1) 38 res.2.2.2.2.1) 39 res.2.2.2.2.2.1) 40 res.2.2.2.2.2.2) A L H → va_S (mA h0 ad) s.heap H locs → W p l e ({ frames := 2, cells := 0, slots := 0, locals := 44 } : Room) s m args below meth c H locs 0 0 Q (F0 m pc ls [.int res.1]) := by
    intro pc ls H locs hn hd hP hS
    rw [hQ]
    exact m_zret C hr hlocks hn hd hP hS
  clear hQ
  obtain ⟨H, hH⟩ : ∃ H, H = s.heap := ⟨_, rfl⟩
  obtain ⟨locs, hlo⟩ : ∃ locs : List Loc, locs = [] := ⟨_, rfl⟩
  have hP : mPw G h0 ad F A L H := by rw [hH]; exact hP
  have hS : va_S (mA h0 ad) s.heap H locs := by rw [hH, hlo]; exact hS
  suffices hZ : W p l e ({ frames := 2, cells := 0, slots := 0, locals := 44 } : Room) s m args below meth c H locs 0 0 Q (F0 m 0 ls []) by rw [hH, hlo] at hZ; exact hZ
  clear hH hlo
  unfold sM_goes at hE
  refine lv_aload_n C.1 C.2.1 dX5_goes_0 rfl (lv_at hl 0 rfl) ?_
  obtain ⟨r1, hr1, hE⟩ := it_b hE
  refine m_call (n := 0) (As := []) (rest := []) C hP hS hml (metM_school l G h0 ad _ _ _ r1 hr1) q1611 q1613 qs52 q1614 rfl rfl (by decide +kernel) ⟨Nat.le_of_ble_eq_true rfl, Nat.le_of_ble_eq_true rfl⟩ ⟨Nat.le_refl _, Nat.le_refl _⟩ rfl hl.1 rfl (Nat.le_of_ble_eq_true rfl) dX5_goes_1 (fun H locs hP hS => ?_)
  refine lv_iload_n C.1 C.2.1 dX5_goes_4 rfl (lv_at hl 1 rfl) ?_
  refine lv_iconst (v := (-1)) C.1 C.2.1 dX5_goes_5 (by decide) ?_
  obtain ⟨u3, hR, hE⟩ := it_b hE
  have hJ25u3 : ∀ (H : Heap) (locs : List Loc) (ls : Array Slot), mPw G h0 ad (upd (upd (upd F 35 u3.1) 36 u3.2) 37 r1.2.2) A L H → va_S (mA h0 ad) s.heap H locs → lv_has ls 2 [(0, .ref h0)] → W p l e ({ frames := 2, cells := 0, slots := 0, locals := 44 } : Room) s m args below meth c H locs 0 0 Q (F0 m 25 ls []) := by
    intro H locs ls hP hS hl
    refine lv_aload_n C.1 C.2.1 dX5_goes_25 rfl (lv_at hl 0 rfl) ?_
    refine lv_aload_n C.1 C.2.1 dX5_goes_26 rfl (lv_at hl 0 rfl) ?_
    refine mg_35 (v := u3.1) C hP rfl dX5_goes_27 ?_
    refine lv_aload_n C.1 C.2.1 dX5_goes_30 rfl (lv_at hl 0 rfl) ?_
    refine mg_7 (v := (F 7)) C hP rfl dX5_goes_31 ?_
    obtain ⟨u8, hR, hE⟩ := it_b hE
    have hJ70u8 : ∀ (H : Heap) (locs : List Loc) (ls : Array Slot), mPw G h0 ad (upd (upd (upd F 35 u3.1) 36 u3.2) 37 r1.2.2) A L H → va_S (mA h0 ad) s.heap H locs → lv_has ls 2 [(0, .ref h0)] → W p l e ({ frames := 2, cells := 0, slots := 0, locals := 44 } : Room) s m args below meth c H locs 0 0 Q (F0 m 70 ls [.int u8, .ref h0]) := by
      intro H locs ls hP hS hl
      refine mp_39 C hP hS dX5_goes_70 (fun H locs hP hS => ?_)
      refine lv_aload_n C.1 C.2.1 dX5_goes_73 rfl (lv_at hl 0 rfl) ?_
      refine mg_39 (v := u8) C hP rfl dX5_goes_74 ?_
      refine lv_iconst (v := (-1)) C.1 C.2.1 dX5_goes_77 (by decide) ?_
      refine lv_icmp_ne (tgt := 83) C.1 C.2.1 dX5_goes_78 (by decide) (fun c11 => ?_) (fun c11 => ?_)
      · have hE := it_f c11 hE
        refine lv_aload_n C.1 C.2.1 dX5_goes_83 rfl (lv_at hl 0 rfl) ?_
        refine lv_dup C.1 C.2.1 dX5_goes_84 rfl ?_
        refine mg_38 (v := (F 38)) C hP rfl dX5_goes_85 ?_
        refine lv_iconst (v := 1) C.1 C.2.1 dX5_goes_88 (by decide) ?_
        refine lv_iadd C.1 C.2.1 dX5_goes_89 ?_
        refine mp_38 C hP hS dX5_goes_90 (fun H locs hP hS => ?_)
        refine lv_aload_n C.1 C.2.1 dX5_goes_93 rfl (lv_at hl 0 rfl) ?_
        refine lv_aload_n C.1 C.2.1 dX5_goes_94 rfl (lv_at hl 0 rfl) ?_
        refine mg_35 (v := u3.1) C hP rfl dX5_goes_95 ?_
        refine mp_40 C hP hS dX5_goes_98 (fun H locs hP hS => ?_)
        refine lv_aload_n C.1 C.2.1 dX5_goes_101 rfl (lv_at hl 0 rfl) ?_
        refine lv_bipush (v := 80) C.1 C.2.1 dX5_goes_102 (by decide) ?_
        refine mp_35 C hP hS dX5_goes_104 (fun H locs hP hS => ?_)
        refine lv_aload_n C.1 C.2.1 dX5_goes_107 rfl (lv_at hl 0 rfl) ?_
        refine lv_iconst (v := 0) C.1 C.2.1 dX5_goes_108 (by decide) ?_
        refine mp_36 C hP hS dX5_goes_109 (fun H locs hP hS => ?_)
        refine lv_aload_n C.1 C.2.1 dX5_goes_112 rfl (lv_at hl 0 rfl) ?_
        refine lv_iconst (v := 0) C.1 C.2.1 dX5_goes_113 (by decide) ?_
        refine mp_37 C hP hS dX5_goes_114 (fun H locs hP hS => ?_)
        refine lv_iconst (v := 1) C.1 C.2.1 dX5_goes_117 (by decide) ?_
        obtain rfl := Option.some.inj hE
        exact hret _ _ _ _ (nbz (Or.inr rfl)) dX5_goes_118 hP hS
      · have hE := it_t c11 hE
        refine lv_iconst (v := 0) C.1 C.2.1 dX5_goes_81 (by decide) ?_
        obtain rfl := Option.some.inj hE
        exact hret _ _ _ _ (nbz (Or.inl rfl)) dX5_goes_82 hP hS
    have hE := hR
    refine lv_icmp_ge (tgt := 41) C.1 C.2.1 dX5_goes_34 (by decide) (fun c7 => ?_) (fun c7 => ?_)
    · have hE := it_t c7 hE
      refine lv_aload_n C.1 C.2.1 dX5_goes_41 rfl (lv_at hl 0 rfl) ?_
      refine mg_36 (v := u3.2) C hP rfl dX5_goes_42 ?_
      refine lv_bipush (v := 60) C.1 C.2.1 dX5_goes_45 (by decide) ?_
      refine lv_icmp_le (tgt := 54) C.1 C.2.1 dX5_goes_47 (by decide) (fun c9 => ?_) (fun c9 => ?_)
      · have hE := it_t c9 hE
        refine lv_aload_n C.1 C.2.1 dX5_goes_54 rfl (lv_at hl 0 rfl) ?_
        refine mg_37 (v := r1.2.2) C hP rfl dX5_goes_55 ?_
        refine lv_aload_n C.1 C.2.1 dX5_goes_58 rfl (lv_at hl 0 rfl) ?_
        refine mg_6 (v := (F 6)) C hP rfl dX5_goes_59 ?_
        refine lv_icmp_le (tgt := 69) C.1 C.2.1 dX5_goes_62 (by decide) (fun c10 => ?_) (fun c10 => ?_)
        · have hE := it_t c10 hE
          refine lv_iconst (v := (-1)) C.1 C.2.1 dX5_goes_69 (by decide) ?_
          obtain rfl := Option.some.inj hE
          exact hJ70u8 H locs ls hP hS (lv_sub hl [0] rfl)
        · have hE := it_f c10 hE
          refine lv_iconst (v := 2) C.1 C.2.1 dX5_goes_65 (by decide) ?_
          refine lv_goto (tgt := 70) C.1 C.2.1 dX5_goes_66 (by decide) ?_
          obtain rfl := Option.some.inj hE
          exact hJ70u8 H locs ls hP hS (lv_sub hl [0] rfl)
      · have hE := it_f c9 hE
        refine lv_iconst (v := 1) C.1 C.2.1 dX5_goes_50 (by decide) ?_
        refine lv_goto (tgt := 70) C.1 C.2.1 dX5_goes_51 (by decide) ?_
        obtain rfl := Option.some.inj hE
        exact hJ70u8 H locs ls hP hS (lv_sub hl [0] rfl)
    · have hE := it_f c7 hE
      refine lv_iconst (v := 0) C.1 C.2.1 dX5_goes_37 (by decide) ?_
      refine lv_goto (tgt := 70) C.1 C.2.1 dX5_goes_38 (by decide) ?_
      obtain rfl := Option.some.inj hE
      exact hJ70u8 H locs ls hP hS (lv_sub hl [0] rfl)
  have hE := hR
  refine lv_icmp_eq (tgt := 25) C.1 C.2.1 dX5_goes_6 (by decide) (fun c2 => ?_) (fun c2 => ?_)
  · have hE := it_t c2 hE
    obtain rfl := Option.some.inj hE
    exact hJ25u3 H locs ls hP hS (lv_sub hl [0] rfl)
  · have hE := it_f c2 hE
    refine lv_aload_n C.1 C.2.1 dX5_goes_9 rfl (lv_at hl 0 rfl) ?_
    refine lv_aload_n C.1 C.2.1 dX5_goes_10 rfl (lv_at hl 0 rfl) ?_
    refine ma_12 C hP dX5_goes_11 ?_
    refine lv_iload_n C.1 C.2.1 dX5_goes_14 rfl (lv_at hl 1 rfl) ?_
    obtain ⟨g4, hE⟩ := it_g hE
    refine ml_12 (v := ((A 12) (p1).toNatClampNeg)) C hP (gi_in g4) rfl dX5_goes_15 ?_
    refine lv_aload_n C.1 C.2.1 dX5_goes_16 rfl (lv_at hl 0 rfl) ?_
    refine ma_13 C hP dX5_goes_17 ?_
    refine lv_iload_n C.1 C.2.1 dX5_goes_20 rfl (lv_at hl 1 rfl) ?_
    obtain ⟨g5, hE⟩ := it_g hE
    refine ml_13 (v := ((A 13) (p1).toNatClampNeg)) C hP (gi_in g5) rfl dX5_goes_21 ?_
    obtain ⟨r6, hr6, hE⟩ := it_b hE
    refine m_call (n := 2) (As := [.int ((A 12) (p1).toNatClampNeg), .int ((A 13) (p1).toNatClampNeg)]) (rest := []) C hP hS hml (metM_weekend l G h0 ad _ _ _ ((A 12) (p1).toNatClampNeg) ((A 13) (p1).toNatClampNeg) r6 hr6) q1619 q1621 qs54 q1622 rfl rfl (by decide +kernel) ⟨Nat.le_of_ble_eq_true rfl, Nat.le_of_ble_eq_true rfl⟩ ⟨Nat.le_refl _, Nat.le_refl _⟩ rfl hl.1 rfl (Nat.le_of_ble_eq_true rfl) dX5_goes_22 (fun H locs hP hS => ?_)
    obtain rfl := Option.some.inj hE
    exact hJ25u3 H locs ls hP hS (lv_sub hl [0] rfl)
def sM_behind_h58 (x1 : Int32) (x2 : Int32) (f_feed : Int32) (f_life : Int32) (f_low : Int32) (a_kind : Nat → Int32) (a_part : Nat → Int32) (l_cells : Nat → Int64) : Nat → Int32 → Int32 → Int32 → Int32 → Int32 → Int32 → Int32 → Option (Int32 × Int32 × Int32 × Int32 × Int32 × Int32)
  | 0, _, _, _, _, _, _, _ => none
  | fuel + 1, x5, f_heft, f_alarm, f_old, f_died, f_ofWhat, f_heavy =>
    if x2 ≤ x5 then
      some (f_heft, f_alarm, f_old, f_died, f_ofWhat, f_heavy)
    else
      (sM_intAt l_cells x1 x5).bind fun r5902 =>
      (sM_goes f_feed f_life f_low f_heft f_alarm f_old f_died f_ofWhat f_heavy a_kind a_part r5902).bind fun r5903 =>
      sM_behind_h58 x1 x2 f_feed f_life f_low a_kind a_part l_cells fuel (x5 + 1) r5903.2.1 r5903.2.2.1 r5903.2.2.2.1 r5903.2.2.2.2.1 r5903.2.2.2.2.2.1 r5903.2.2.2.2.2.2
def sM_behind (f_many : Int32) (f_weight : Int32) (f_fright : Int32) (f_age : Int32) (f_feed : Int32) (f_life : Int32) (f_low : Int32) (f_heft : Int32) (f_alarm : Int32) (f_old : Int32) (f_died : Int32) (f_ofWhat : Int32) (f_heavy : Int32) (a_refused : Nat → Int32) (a_kind : Nat → Int32) (a_part : Nat → Int32) (a_ill : Nat → Int32) (a_held : Nat → Int32) (a_size : Nat → Int32) (l_cells : Nat → Int64) (p1 : Int32) (p2 : Int32) (p3 : Int32) : Option (Int32 × Int32 × Int32 × Int32 × Int32 × Int32 × Int32 × (Nat → Int32)) :=
  (sM_bars a_held a_size p1 p2).bind fun r1 =>
  @Option.bind (Int32) _ (
    if r1 = 0 then
      if p3 < 0 then
        some (-5)
      else
        if p3 ≤ 3 then
          some r1
        else
          some (-5)
    else
      some r1) fun u3 =>
  @Option.bind (Int32) _ (
    if u3 = 0 then
      (sM_barsRight f_many a_ill a_held a_size l_cells p1 p2).bind fun r8 =>
      some r8
    else
      some u3) fun u7 =>
  if u7 = 0 then
    (sM_begins f_weight f_fright f_age f_heft f_alarm f_old f_died f_ofWhat f_heavy).bind fun r10 =>
    (sM_behind_h58 p1 p2 f_feed f_life f_low a_kind a_part l_cells 2000 0 r10.1 r10.2.1 r10.2.2.1 r10.2.2.2.1 r10.2.2.2.2.1 r10.2.2.2.2.2).bind fun u11 =>
    if p3 = 0 then
      some (u11.1, u11.1, u11.2.1, u11.2.2.1, u11.2.2.2.1, u11.2.2.2.2.1, u11.2.2.2.2.2, a_refused)
    else
      if p3 = 1 then
        some (u11.2.1, u11.1, u11.2.1, u11.2.2.1, u11.2.2.2.1, u11.2.2.2.2.1, u11.2.2.2.2.2, a_refused)
      else
        if p3 = 2 then
          some (u11.2.2.1, u11.1, u11.2.1, u11.2.2.1, u11.2.2.2.1, u11.2.2.2.2.1, u11.2.2.2.2.2, a_refused)
        else
          some (u11.2.2.2.1, u11.1, u11.2.1, u11.2.2.1, u11.2.2.2.1, u11.2.2.2.2.1, u11.2.2.2.2.2, a_refused)
  else
    (sM_no a_refused u7).bind fun r15 =>
    some (r15.1, f_heft, f_alarm, f_old, f_died, f_ofWhat, f_heavy, r15.2)
set_option maxHeartbeats 4000000 in
theorem wM_behind_h58 {p : Program} {l : Launch} {e : Env} {s : State} {m : MethodId} {args : Array Value} {below : List Frame} {meth : Method} {c : Code} {G : kG} {h0 : Nat} {ad : Nat → Nat} {Q : State → Prop} (C : mC p s m args c cX5_behind G h0 ad) (hml : c.maxLocals = 6) (F : Nat → Int32) (A : Nat → Nat → Int32) (L : Nat → Nat → Int64) (x1 : Int32) (x2 : Int32) (x3 : Int32) (a_refused : Nat → Int32) (res : Int32 × Int32 × Int32 × Int32 × Int32 × Int32) :
    ∀ (fuel : Nat) (x5 : Int32) (f_heft : Int32) (f_alarm : Int32) (f_old : Int32) (f_died : Int32) (f_ofWhat : Int32) (f_heavy : Int32) (H : Heap) (locs : List Loc) (ls : Array Slot), sM_behind_h58 x1 x2 (F 5) (F 6) (F 7) (A 12) (A 13) (L 22) fuel x5 f_heft f_alarm f_old f_died f_ofWhat f_heavy = some res → mPw G h0 ad (upd (upd (upd (upd (upd (upd F 35 f_heft) 36 f_alarm) 37 f_old) 38 f_died) 39 f_ofWhat) 40 f_heavy) (va_up A 11 a_refused) L H → va_S (mA h0 ad) s.heap H locs → lv_has ls 6 [(0, .ref h0), (1, .int x1), (2, .int x2), (3, .int x3), (5, .int x5)] → (∀ (H : Heap) (locs : List Loc) (ls : Array Slot), mPw G h0 ad (upd (upd (upd (upd (upd (upd F 35 res.1) 36 res.2.1) 37 res.2.2.1) 38 res.2.2.2.1) 39 res.2.2.2.2.1) 40 res.2.2.2.2.2) (va_up A 11 a_refused) L H → va_S (mA h0 ad) s.heap H locs → lv_has ls 6 [(0, .ref h0), (3, .int x3)] → W p l e ({ frames := 5, cells := 0, slots := 0, locals := 111 } : Room) s m args below meth c H locs 0 0 Q (F0 m 82 ls [])) → W p l e ({ frames := 5, cells := 0, slots := 0, locals := 111 } : Room) s m args below meth c H locs 0 0 Q (F0 m 58 ls []) := by
  intro fuel
  induction fuel with
  | zero =>
    intro x5 f_heft f_alarm f_old f_died f_ofWhat f_heavy H locs ls hE
    exact it_n hE
  | succ fuel ih =>
    intro x5 f_heft f_alarm f_old f_died f_ofWhat f_heavy H locs ls hE hP hS hl hX
    rw [sM_behind_h58] at hE
    refine lv_iload C.1 C.2.1 dX5_behind_58 (lv_at hl 4 rfl) ?_
    refine lv_iload_n C.1 C.2.1 dX5_behind_60 rfl (lv_at hl 2 rfl) ?_
    refine lv_icmp_ge (tgt := 82) C.1 C.2.1 dX5_behind_61 (by decide) (fun c5901 => ?_) (fun c5901 => ?_)
    · have hE := it_t c5901 hE
      obtain rfl := Option.some.inj hE
      exact hX H locs ls hP hS (lv_sub hl [0, 3] rfl)
    · have hE := it_f c5901 hE
      refine lv_aload_n C.1 C.2.1 dX5_behind_64 rfl (lv_at hl 0 rfl) ?_
      refine lv_aload_n C.1 C.2.1 dX5_behind_65 rfl (lv_at hl 0 rfl) ?_
      refine lv_iload_n C.1 C.2.1 dX5_behind_66 rfl (lv_at hl 1 rfl) ?_
      refine lv_iload C.1 C.2.1 dX5_behind_67 (lv_at hl 4 rfl) ?_
      obtain ⟨r5902, hr5902, hE⟩ := it_b hE
      refine m_call (n := 2) (As := [.int x1, .int x5]) (rest := [.ref h0]) C hP hS hml (metM_intAt l G h0 ad _ _ _ x1 x5 r5902 hr5902) q1655 q1657 qs60 q1658 rfl rfl (by decide +kernel) ⟨Nat.le_of_ble_eq_true rfl, Nat.le_of_ble_eq_true rfl⟩ ⟨Nat.le_refl _, Nat.le_refl _⟩ rfl hl.1 rfl (Nat.le_of_ble_eq_true rfl) dX5_behind_69 (fun H locs hP hS => ?_)
      obtain ⟨r5903, hr5903, hE⟩ := it_b hE
      refine m_call (n := 1) (As := [.int r5902]) (rest := []) C hP hS hml (metM_goes l G h0 ad _ _ _ r5902 r5903 hr5903) q1607 q1609 qs51 q1610 rfl rfl (by decide +kernel) ⟨Nat.le_of_ble_eq_true rfl, Nat.le_of_ble_eq_true rfl⟩ ⟨Nat.le_refl _, Nat.le_refl _⟩ rfl hl.1 rfl (Nat.le_of_ble_eq_true rfl) dX5_behind_72 (fun H locs hP hS => ?_)
      refine lv_pop C.1 C.2.1 dX5_behind_75 rfl ?_
      refine lv_iinc (v := (x5 + 1)) (lv' := [(5, .int (x5 + 1)), (0, .ref h0), (1, .int x1), (2, .int x2), (3, .int x3)]) C.1 C.2.1 dX5_behind_76 hl (k := 4) rfl rfl (by decide) rfl (fun ls hl => ?_)
      refine lv_goto (tgt := 58) C.1 C.2.1 dX5_behind_79 (by decide) ?_
      exact ih (x5 + 1) r5903.2.1 r5903.2.2.1 r5903.2.2.2.1 r5903.2.2.2.2.1 r5903.2.2.2.2.2.1 r5903.2.2.2.2.2.2 _ _ _ hE hP hS (lv_sub hl [1, 2, 3, 4, 0] rfl) hX
set_option maxHeartbeats 4000000 in
theorem metM_behind (l : Launch) (G : kG) (h0 : Nat) (ad : Nat → Nat) (F : Nat → Int32) (A : Nat → Nat → Int32) (L : Nat → Nat → Int64) (p1 : Int32) (p2 : Int32) (p3 : Int32) (res : Int32 × Int32 × Int32 × Int32 × Int32 × Int32 × Int32 × (Nat → Int32)) (hE : sM_behind (F 0) (F 1) (F 2) (F 3) (F 5) (F 6) (F 7) (F 35) (F 36) (F 37) (F 38) (F 39) (F 40) (A 11) (A 12) (A 13) (A 15) (A 18) (A 20) (L 22) p1 p2 p3 = some res) : Met l yX5_behind (ws_ yX5_behind cX5_behind 6 (some .int)) ({ frames := 5, cells := 0, slots := 0, locals := 111 } : Room) (mPc G h0 ad F A L [.int p1, .int p2, .int p3]) (mQc G h0 ad (upd (upd (upd (upd (upd (upd F 35 res.2.1) 36 res.2.2.1) 37 res.2.2.2.1) 38 res.2.2.2.2.1) 39 res.2.2.2.2.2.1) 40 res.2.2.2.2.2.2.1) (va_up A 11 res.2.2.2.2.2.2.2) L (some (.int res.1))) 0 0 (mA h0 ad) := by
  refine m_ofW (by decide) rfl (Nat.le_of_ble_eq_true rfl) ?_
  intro p e s m args below meth c ls C hml hP hS hl hr hlocks
  have hl : lv_has ls 6 [(0, .ref h0), (1, .int p1), (2, .int p2), (3, .int p3)] := hl
  obtain ⟨Q, hQ⟩ : ∃ Q, Q = MQ below (mQc G h0 ad (upd (upd (upd (upd (upd (upd F 35 res.2.1) 36 res.2.2.1) 37 res.2.2.2.1) 38 res.2.2.2.2.1) 39 res.2.2.2.2.2.1) 40 res.2.2.2.2.2.2.1) (va_up A 11 res.2.2.2.2.2.2.2) L (some (.int res.1))) args s 0 0 (mA h0 ad) := ⟨_, rfl⟩
  rw [← hQ]
  have hret : ∀ (pc : Nat) (ls : Array Slot) (H : Heap) (locs : List Loc), decode cX5_behind pc = .ok (.ireturn, 1) → mPw G h0 ad (upd (upd (upd (upd (upd (upd F 35 res.2.1) 36 res.2.2.1) 37 res.2.2.2.1) 38 res.2.2.2.2.1) 39 res.2.2.2.2.2.1) 40 res.2.2.2.2.2.2.1) (va_up A 11 res.2.2.2.2.2.2.2) L H → va_S (mA h0 ad) s.heap H locs → W p l e ({ frames := 5, cells := 0, slots := 0, locals := 111 } : Room) s m args below meth c H locs 0 0 Q (F0 m pc ls [.int res.1]) := by
    intro pc ls H locs hd hP hS
    rw [hQ]
    exact m_iret C hr hlocks hd hP hS
  clear hQ
  obtain ⟨H, hH⟩ : ∃ H, H = s.heap := ⟨_, rfl⟩
  obtain ⟨locs, hlo⟩ : ∃ locs : List Loc, locs = [] := ⟨_, rfl⟩
  have hP : mPw G h0 ad F A L H := by rw [hH]; exact hP
  have hS : va_S (mA h0 ad) s.heap H locs := by rw [hH, hlo]; exact hS
  suffices hZ : W p l e ({ frames := 5, cells := 0, slots := 0, locals := 111 } : Room) s m args below meth c H locs 0 0 Q (F0 m 0 ls []) by rw [hH, hlo] at hZ; exact hZ
  clear hH hlo
  unfold sM_behind at hE
  refine lv_aload_n C.1 C.2.1 dX5_behind_0 rfl (lv_at hl 0 rfl) ?_
  refine lv_iload_n C.1 C.2.1 dX5_behind_1 rfl (lv_at hl 1 rfl) ?_
  refine lv_iload_n C.1 C.2.1 dX5_behind_2 rfl (lv_at hl 2 rfl) ?_
  obtain ⟨r1, hr1, hE⟩ := it_b hE
  refine m_call (n := 2) (As := [.int p1, .int p2]) (rest := []) C hP hS hml (metM_bars l G h0 ad _ _ _ p1 p2 r1 hr1) q1643 q1645 qs57 q1646 rfl rfl (by decide +kernel) ⟨Nat.le_of_ble_eq_true rfl, Nat.le_of_ble_eq_true rfl⟩ ⟨Nat.le_refl _, Nat.le_refl _⟩ rfl hl.1 rfl (Nat.le_of_ble_eq_true rfl) dX5_behind_3 (fun H locs hP hS => ?_)
  refine lv_istore (lv' := [(4, .int r1), (0, .ref h0), (1, .int p1), (2, .int p2), (3, .int p3)]) C.1 C.2.1 dX5_behind_6 hl (by decide) rfl (fun ls hl => ?_)
  refine lv_iload C.1 C.2.1 dX5_behind_8 (lv_at hl 0 rfl) ?_
  obtain ⟨u3, hR, hE⟩ := it_b hE
  have hJ26u3 : ∀ (H : Heap) (locs : List Loc) (ls : Array Slot), mPw G h0 ad F A L H → va_S (mA h0 ad) s.heap H locs → lv_has ls 6 [(0, .ref h0), (1, .int p1), (2, .int p2), (3, .int p3), (4, .int u3)] → W p l e ({ frames := 5, cells := 0, slots := 0, locals := 111 } : Room) s m args below meth c H locs 0 0 Q (F0 m 26 ls []) := by
    intro H locs ls hP hS hl
    refine lv_iload C.1 C.2.1 dX5_behind_26 (lv_at hl 4 rfl) ?_
    obtain ⟨u7, hR, hE⟩ := it_b hE
    have hJ39u7 : ∀ (H : Heap) (locs : List Loc) (ls : Array Slot), mPw G h0 ad F A L H → va_S (mA h0 ad) s.heap H locs → lv_has ls 6 [(0, .ref h0), (1, .int p1), (2, .int p2), (3, .int p3), (4, .int u7)] → W p l e ({ frames := 5, cells := 0, slots := 0, locals := 111 } : Room) s m args below meth c H locs 0 0 Q (F0 m 39 ls []) := by
      intro H locs ls hP hS hl
      refine lv_iload C.1 C.2.1 dX5_behind_39 (lv_at hl 4 rfl) ?_
      refine lv_if_eq (tgt := 51) C.1 C.2.1 dX5_behind_41 (by decide) (fun c9 => ?_) (fun c9 => ?_)
      · have hE := it_t c9 hE
        refine lv_aload_n C.1 C.2.1 dX5_behind_51 rfl (lv_at hl 0 rfl) ?_
        obtain ⟨r10, hr10, hE⟩ := it_b hE
        refine m_call (n := 0) (As := []) (rest := []) C hP hS hml (metM_begins l G h0 ad _ _ _ r10 hr10) q1603 q1605 qs50 q1606 rfl rfl (by decide +kernel) ⟨Nat.le_of_ble_eq_true rfl, Nat.le_of_ble_eq_true rfl⟩ ⟨Nat.le_refl _, Nat.le_refl _⟩ rfl hl.1 rfl (Nat.le_of_ble_eq_true rfl) dX5_behind_52 (fun H locs hP hS => ?_)
        refine lv_iconst (v := 0) C.1 C.2.1 dX5_behind_55 (by decide) ?_
        refine lv_istore (lv' := [(5, .int 0), (0, .ref h0), (1, .int p1), (2, .int p2), (3, .int p3), (4, .int u7)]) C.1 C.2.1 dX5_behind_56 hl (by decide) rfl (fun ls hl => ?_)
        obtain ⟨u11, hu11, hE⟩ := it_b hE
        refine wM_behind_h58 C hml F A L p1 p2 p3 (A 11) u11 2000 0 r10.1 r10.2.1 r10.2.2.1 r10.2.2.2.1 r10.2.2.2.2.1 r10.2.2.2.2.2 H locs ls hu11 hP hS (lv_sub hl [1, 2, 3, 4, 0] rfl) (fun H locs ls hP hS hl => ?_)
        refine lv_iload_n C.1 C.2.1 dX5_behind_82 rfl (lv_at hl 1 rfl) ?_
        refine lv_if_ne (tgt := 93) C.1 C.2.1 dX5_behind_83 (by decide) (fun c12 => ?_) (fun c12 => ?_)
        · have hE := it_f c12 hE
          refine lv_iload_n C.1 C.2.1 dX5_behind_93 rfl (lv_at hl 1 rfl) ?_
          refine lv_iconst (v := 1) C.1 C.2.1 dX5_behind_94 (by decide) ?_
          refine lv_icmp_ne (tgt := 105) C.1 C.2.1 dX5_behind_95 (by decide) (fun c13 => ?_) (fun c13 => ?_)
          · have hE := it_f c13 hE
            refine lv_iload_n C.1 C.2.1 dX5_behind_105 rfl (lv_at hl 1 rfl) ?_
            refine lv_iconst (v := 2) C.1 C.2.1 dX5_behind_106 (by decide) ?_
            refine lv_icmp_ne (tgt := 117) C.1 C.2.1 dX5_behind_107 (by decide) (fun c14 => ?_) (fun c14 => ?_)
            · have hE := it_f c14 hE
              refine lv_aload_n C.1 C.2.1 dX5_behind_117 rfl (lv_at hl 0 rfl) ?_
              refine mg_38 (v := u11.2.2.2.1) C hP rfl dX5_behind_118 ?_
              obtain rfl := Option.some.inj hE
              exact hret _ _ _ _ dX5_behind_121 hP hS
            · have hE := it_t c14 hE
              refine lv_aload_n C.1 C.2.1 dX5_behind_110 rfl (lv_at hl 0 rfl) ?_
              refine mg_37 (v := u11.2.2.1) C hP rfl dX5_behind_111 ?_
              refine lv_goto (tgt := 121) C.1 C.2.1 dX5_behind_114 (by decide) ?_
              obtain rfl := Option.some.inj hE
              exact hret _ _ _ _ dX5_behind_121 hP hS
          · have hE := it_t c13 hE
            refine lv_aload_n C.1 C.2.1 dX5_behind_98 rfl (lv_at hl 0 rfl) ?_
            refine mg_36 (v := u11.2.1) C hP rfl dX5_behind_99 ?_
            refine lv_goto (tgt := 121) C.1 C.2.1 dX5_behind_102 (by decide) ?_
            obtain rfl := Option.some.inj hE
            exact hret _ _ _ _ dX5_behind_121 hP hS
        · have hE := it_t c12 hE
          refine lv_aload_n C.1 C.2.1 dX5_behind_86 rfl (lv_at hl 0 rfl) ?_
          refine mg_35 (v := u11.1) C hP rfl dX5_behind_87 ?_
          refine lv_goto (tgt := 121) C.1 C.2.1 dX5_behind_90 (by decide) ?_
          obtain rfl := Option.some.inj hE
          exact hret _ _ _ _ dX5_behind_121 hP hS
      · have hE := it_f c9 hE
        refine lv_aload_n C.1 C.2.1 dX5_behind_44 rfl (lv_at hl 0 rfl) ?_
        refine lv_iload C.1 C.2.1 dX5_behind_45 (lv_at hl 4 rfl) ?_
        obtain ⟨r15, hr15, hE⟩ := it_b hE
        refine m_call (n := 1) (As := [.int u7]) (rest := []) C hP hS hml (metM_no l G h0 ad _ _ _ u7 r15 hr15) q1483 q1485 qs32 q1486 rfl rfl (by decide +kernel) ⟨Nat.le_of_ble_eq_true rfl, Nat.le_of_ble_eq_true rfl⟩ ⟨Nat.le_refl _, Nat.le_refl _⟩ rfl hl.1 rfl (Nat.le_of_ble_eq_true rfl) dX5_behind_47 (fun H locs hP hS => ?_)
        obtain rfl := Option.some.inj hE
        exact hret _ _ _ _ dX5_behind_50 hP hS
    have hE := hR
    refine lv_if_ne (tgt := 39) C.1 C.2.1 dX5_behind_28 (by decide) (fun c6 => ?_) (fun c6 => ?_)
    · have hE := it_f c6 hE
      obtain rfl := Option.some.inj hE
      exact hJ39u7 H locs ls hP hS (lv_sub hl [0, 1, 2, 3, 4] rfl)
    · have hE := it_t c6 hE
      refine lv_aload_n C.1 C.2.1 dX5_behind_31 rfl (lv_at hl 0 rfl) ?_
      refine lv_iload_n C.1 C.2.1 dX5_behind_32 rfl (lv_at hl 1 rfl) ?_
      refine lv_iload_n C.1 C.2.1 dX5_behind_33 rfl (lv_at hl 2 rfl) ?_
      obtain ⟨r8, hr8, hE⟩ := it_b hE
      refine m_call (n := 2) (As := [.int p1, .int p2]) (rest := []) C hP hS hml (metM_barsRight l G h0 ad _ _ _ p1 p2 r8 hr8) q1663 q1665 qs61 q1666 rfl rfl (by decide +kernel) ⟨Nat.le_of_ble_eq_true rfl, Nat.le_of_ble_eq_true rfl⟩ ⟨Nat.le_refl _, Nat.le_refl _⟩ rfl hl.1 rfl (Nat.le_of_ble_eq_true rfl) dX5_behind_34 (fun H locs hP hS => ?_)
      refine lv_istore (lv' := [(4, .int r8), (0, .ref h0), (1, .int p1), (2, .int p2), (3, .int p3)]) C.1 C.2.1 dX5_behind_37 hl (by decide) rfl (fun ls hl => ?_)
      obtain rfl := Option.some.inj hE
      exact hJ39u7 H locs ls hP hS (lv_sub hl [1, 2, 3, 4, 0] rfl)
  have hE := hR
  refine lv_if_ne (tgt := 26) C.1 C.2.1 dX5_behind_10 (by decide) (fun c2 => ?_) (fun c2 => ?_)
  · have hE := it_f c2 hE
    obtain rfl := Option.some.inj hE
    exact hJ26u3 H locs ls hP hS (lv_sub hl [1, 2, 3, 4, 0] rfl)
  · have hE := it_t c2 hE
    refine lv_iload_n C.1 C.2.1 dX5_behind_13 rfl (lv_at hl 4 rfl) ?_
    refine lv_if_lt (tgt := 22) C.1 C.2.1 dX5_behind_14 (by decide) (fun c4 => ?_) (fun c4 => ?_)
    · have hE := it_t c4 hE
      refine lv_bipush (v := (-5)) C.1 C.2.1 dX5_behind_22 (by decide) ?_
      refine lv_istore (lv' := [(4, .int (-5)), (0, .ref h0), (1, .int p1), (2, .int p2), (3, .int p3)]) C.1 C.2.1 dX5_behind_24 hl (by decide) rfl (fun ls hl => ?_)
      obtain rfl := Option.some.inj hE
      exact hJ26u3 H locs ls hP hS (lv_sub hl [1, 2, 3, 4, 0] rfl)
    · have hE := it_f c4 hE
      refine lv_iload_n C.1 C.2.1 dX5_behind_17 rfl (lv_at hl 4 rfl) ?_
      refine lv_iconst (v := 3) C.1 C.2.1 dX5_behind_18 (by decide) ?_
      refine lv_icmp_le (tgt := 26) C.1 C.2.1 dX5_behind_19 (by decide) (fun c5 => ?_) (fun c5 => ?_)
      · have hE := it_t c5 hE
        obtain rfl := Option.some.inj hE
        exact hJ26u3 H locs ls hP hS (lv_sub hl [1, 2, 3, 4, 0] rfl)
      · have hE := it_f c5 hE
        refine lv_bipush (v := (-5)) C.1 C.2.1 dX5_behind_22 (by decide) ?_
        refine lv_istore (lv' := [(4, .int (-5)), (0, .ref h0), (1, .int p1), (2, .int p2), (3, .int p3)]) C.1 C.2.1 dX5_behind_24 hl (by decide) rfl (fun ls hl => ?_)
        obtain rfl := Option.some.inj hE
        exact hJ26u3 H locs ls hP hS (lv_sub hl [1, 2, 3, 4, 0] rfl)
def sM_turn_h4 (x1 : Int32) (f_many : Int32) (a_marks : Nat → Int32) (a_ill : Nat → Int32) (a_had : Nat → Int32) : Nat → Int32 → Int32 → Option (Int32)
  | 0, _, _ => none
  | fuel + 1, x2, x3 =>
    if f_many ≤ x3 then
      some x2
    else
      (sM_may f_many a_ill x3).bind fun r502 =>
      @Option.bind (Int32) _ (
        if r502 = 0 then
          some x2
        else
          @Option.bind (Bool) _ (
            if x2 = (-1) then
              some true
            else
              if x1 = 1 then
                if gi x3 8 then
                if gi x2 8 then
                if (a_marks (x2).toNatClampNeg) < (a_marks (x3).toNatClampNeg) then
                  some true
                else
                  if x1 = 0 then
                    if gi x3 8 then
                    if gi x2 8 then
                    if (a_had (x2).toNatClampNeg) ≤ (a_had (x3).toNatClampNeg) then
                      some false
                    else
                      some true
                    else none
                    else none
                  else
                    if gi x3 8 then
                    if gi x2 8 then
                    if (a_marks (x3).toNatClampNeg) = (a_marks (x2).toNatClampNeg) then
                      if gi x3 8 then
                      if gi x2 8 then
                      if (a_had (x2).toNatClampNeg) ≤ (a_had (x3).toNatClampNeg) then
                        some false
                      else
                        some true
                      else none
                      else none
                    else
                      some false
                    else none
                    else none
                else none
                else none
              else
                if x1 = 0 then
                  if gi x3 8 then
                  if gi x2 8 then
                  if (a_had (x2).toNatClampNeg) ≤ (a_had (x3).toNatClampNeg) then
                    some false
                  else
                    some true
                  else none
                  else none
                else
                  if gi x3 8 then
                  if gi x2 8 then
                  if (a_marks (x3).toNatClampNeg) = (a_marks (x2).toNatClampNeg) then
                    if gi x3 8 then
                    if gi x2 8 then
                    if (a_had (x2).toNatClampNeg) ≤ (a_had (x3).toNatClampNeg) then
                      some false
                    else
                      some true
                    else none
                    else none
                  else
                    some false
                  else none
                  else none) fun u506 =>
          if u506 = true then
            some x3
          else
            some x2) fun u504 =>
      sM_turn_h4 x1 f_many a_marks a_ill a_had fuel u504 (x3 + 1)
def sM_turn (f_many : Int32) (a_marks : Nat → Int32) (a_ill : Nat → Int32) (a_had : Nat → Int32) (p1 : Int32) : Option (Int32) :=
  (sM_turn_h4 p1 f_many a_marks a_ill a_had 2000 (-1) 0).bind fun u1 =>
  some u1
set_option maxHeartbeats 4000000 in
theorem wM_turn_h4 {p : Program} {l : Launch} {e : Env} {s : State} {m : MethodId} {args : Array Value} {below : List Frame} {meth : Method} {c : Code} {G : kG} {h0 : Nat} {ad : Nat → Nat} {Q : State → Prop} (C : mC p s m args c cX5_turn G h0 ad) (hml : c.maxLocals = 5) (F : Nat → Int32) (A : Nat → Nat → Int32) (L : Nat → Nat → Int64) (x1 : Int32) (res : Int32) :
    ∀ (fuel : Nat) (x2 : Int32) (x3 : Int32) (H : Heap) (locs : List Loc) (ls : Array Slot), sM_turn_h4 x1 (F 0) (A 14) (A 15) (A 16) fuel x2 x3 = some res → mPw G h0 ad F A L H → va_S (mA h0 ad) s.heap H locs → lv_has ls 5 [(0, .ref h0), (1, .int x1), (2, .int x2), (3, .int x3)] → (∀ (H : Heap) (locs : List Loc) (ls : Array Slot), mPw G h0 ad F A L H → va_S (mA h0 ad) s.heap H locs → lv_has ls 5 [(2, .int res)] → W p l e ({ frames := 2, cells := 0, slots := 0, locals := 42 } : Room) s m args below meth c H locs 0 0 Q (F0 m 102 ls [])) → W p l e ({ frames := 2, cells := 0, slots := 0, locals := 42 } : Room) s m args below meth c H locs 0 0 Q (F0 m 4 ls []) := by
  intro fuel
  induction fuel with
  | zero =>
    intro x2 x3 H locs ls hE
    exact it_n hE
  | succ fuel ih =>
    intro x2 x3 H locs ls hE hP hS hl hX
    rw [sM_turn_h4] at hE
    refine lv_iload_n C.1 C.2.1 dX5_turn_4 rfl (lv_at hl 3 rfl) ?_
    refine lv_aload_n C.1 C.2.1 dX5_turn_5 rfl (lv_at hl 0 rfl) ?_
    refine mg_0 (v := (F 0)) C hP rfl dX5_turn_6 ?_
    refine lv_icmp_ge (tgt := 102) C.1 C.2.1 dX5_turn_9 (by decide) (fun c501 => ?_) (fun c501 => ?_)
    · have hE := it_t c501 hE
      obtain rfl := Option.some.inj hE
      exact hX H locs ls hP hS (lv_sub hl [2] rfl)
    · have hE := it_f c501 hE
      refine lv_aload_n C.1 C.2.1 dX5_turn_12 rfl (lv_at hl 0 rfl) ?_
      refine lv_iload_n C.1 C.2.1 dX5_turn_13 rfl (lv_at hl 3 rfl) ?_
      obtain ⟨r502, hr502, hE⟩ := it_b hE
      refine m_call (n := 1) (As := [.int x3]) (rest := []) C hP hS hml (metM_may l G h0 ad _ _ _ x3 r502 hr502) q1595 q1597 qs48 q1598 rfl rfl (by decide +kernel) ⟨Nat.le_of_ble_eq_true rfl, Nat.le_of_ble_eq_true rfl⟩ ⟨Nat.le_refl _, Nat.le_refl _⟩ rfl hl.1 rfl (Nat.le_of_ble_eq_true rfl) dX5_turn_14 (fun H locs hP hS => ?_)
      obtain ⟨u504, hR, hE⟩ := it_b hE
      have hJ96u504 : ∀ (H : Heap) (locs : List Loc) (ls : Array Slot), mPw G h0 ad F A L H → va_S (mA h0 ad) s.heap H locs → lv_has ls 5 [(0, .ref h0), (1, .int x1), (2, .int u504), (3, .int x3)] → W p l e ({ frames := 2, cells := 0, slots := 0, locals := 42 } : Room) s m args below meth c H locs 0 0 Q (F0 m 96 ls []) := by
        intro H locs ls hP hS hl
        refine lv_iinc (v := (x3 + 1)) (lv' := [(3, .int (x3 + 1)), (0, .ref h0), (1, .int x1), (2, .int u504)]) C.1 C.2.1 dX5_turn_96 hl (k := 3) rfl rfl (by decide) rfl (fun ls hl => ?_)
        refine lv_goto (tgt := 4) C.1 C.2.1 dX5_turn_99 (by decide) ?_
        exact ih u504 (x3 + 1) _ _ _ hE hP hS (lv_sub hl [1, 2, 3, 0] rfl) hX
      have hE := hR
      refine lv_if_ne (tgt := 23) C.1 C.2.1 dX5_turn_17 (by decide) (fun c503 => ?_) (fun c503 => ?_)
      · have hE := it_f c503 hE
        refine lv_iload_n C.1 C.2.1 dX5_turn_23 rfl (lv_at hl 2 rfl) ?_
        refine lv_iconst (v := (-1)) C.1 C.2.1 dX5_turn_24 (by decide) ?_
        obtain ⟨u506, hR, hE⟩ := it_b hE
        have hJ82u506 : u506 = true → ∀ (H : Heap) (locs : List Loc) (ls : Array Slot), mPw G h0 ad F A L H → va_S (mA h0 ad) s.heap H locs → lv_has ls 5 [(0, .ref h0), (1, .int x1), (2, .int x2), (3, .int x3)] → W p l e ({ frames := 2, cells := 0, slots := 0, locals := 42 } : Room) s m args below meth c H locs 0 0 Q (F0 m 82 ls []) := by
          intro hu H locs ls hP hS hl
          have hE := it_t hu hE
          refine lv_iconst (v := 1) C.1 C.2.1 dX5_turn_82 (by decide) ?_
          refine lv_goto (tgt := 87) C.1 C.2.1 dX5_turn_83 (by decide) ?_
          refine lv_istore (lv' := [(4, .int 1), (0, .ref h0), (1, .int x1), (2, .int x2), (3, .int x3)]) C.1 C.2.1 dX5_turn_87 hl (by decide) rfl (fun ls hl => ?_)
          refine lv_iload C.1 C.2.1 dX5_turn_89 (lv_at hl 0 rfl) ?_
          refine lv_if_eq (tgt := 96) C.1 C.2.1 dX5_turn_91 (by decide) (fun c531 => absurd c531 (by decide)) (fun c531 => ?_)
          refine lv_iload_n C.1 C.2.1 dX5_turn_94 rfl (lv_at hl 4 rfl) ?_
          refine lv_istore_n (lv' := [(2, .int x3), (4, .int 1), (0, .ref h0), (1, .int x1), (3, .int x3)]) C.1 C.2.1 dX5_turn_95 rfl hl (by decide) rfl (fun ls hl => ?_)
          obtain rfl := Option.some.inj hE
          exact hJ96u504 H locs ls hP hS (lv_sub hl [2, 3, 0, 4] rfl)
        have hJ86u506 : ¬ u506 = true → ∀ (H : Heap) (locs : List Loc) (ls : Array Slot), mPw G h0 ad F A L H → va_S (mA h0 ad) s.heap H locs → lv_has ls 5 [(0, .ref h0), (1, .int x1), (2, .int x2), (3, .int x3)] → W p l e ({ frames := 2, cells := 0, slots := 0, locals := 42 } : Room) s m args below meth c H locs 0 0 Q (F0 m 86 ls []) := by
          intro hu H locs ls hP hS hl
          have hE := it_f hu hE
          refine lv_iconst (v := 0) C.1 C.2.1 dX5_turn_86 (by decide) ?_
          refine lv_istore (lv' := [(4, .int 0), (0, .ref h0), (1, .int x1), (2, .int x2), (3, .int x3)]) C.1 C.2.1 dX5_turn_87 hl (by decide) rfl (fun ls hl => ?_)
          refine lv_iload C.1 C.2.1 dX5_turn_89 (lv_at hl 0 rfl) ?_
          refine lv_if_eq (tgt := 96) C.1 C.2.1 dX5_turn_91 (by decide) (fun c532 => ?_) (fun c532 => absurd c532 (by decide))
          obtain rfl := Option.some.inj hE
          exact hJ96u504 H locs ls hP hS (lv_sub hl [1, 2, 3, 4] rfl)
        have hE := hR
        refine lv_icmp_eq (tgt := 82) C.1 C.2.1 dX5_turn_25 (by decide) (fun c505 => ?_) (fun c505 => ?_)
        · have hE := it_t c505 hE
          obtain rfl := Option.some.inj hE
          exact hJ82u506 rfl H locs ls hP hS (lv_sub hl [0, 1, 2, 3] rfl)
        · have hE := it_f c505 hE
          refine lv_iload_n C.1 C.2.1 dX5_turn_28 rfl (lv_at hl 1 rfl) ?_
          refine lv_iconst (v := 1) C.1 C.2.1 dX5_turn_29 (by decide) ?_
          refine lv_icmp_ne (tgt := 48) C.1 C.2.1 dX5_turn_30 (by decide) (fun c507 => ?_) (fun c507 => ?_)
          · have hE := it_f c507 hE
            refine lv_iload_n C.1 C.2.1 dX5_turn_48 rfl (lv_at hl 1 rfl) ?_
            refine lv_if_eq (tgt := 67) C.1 C.2.1 dX5_turn_49 (by decide) (fun c508 => ?_) (fun c508 => ?_)
            · have hE := it_t c508 hE
              refine lv_aload_n C.1 C.2.1 dX5_turn_67 rfl (lv_at hl 0 rfl) ?_
              refine ma_16 C hP dX5_turn_68 ?_
              refine lv_iload_n C.1 C.2.1 dX5_turn_71 rfl (lv_at hl 3 rfl) ?_
              obtain ⟨g509, hE⟩ := it_g hE
              refine ml_16 (v := ((A 16) (x3).toNatClampNeg)) C hP (gi_in g509) rfl dX5_turn_72 ?_
              refine lv_aload_n C.1 C.2.1 dX5_turn_73 rfl (lv_at hl 0 rfl) ?_
              refine ma_16 C hP dX5_turn_74 ?_
              refine lv_iload_n C.1 C.2.1 dX5_turn_77 rfl (lv_at hl 2 rfl) ?_
              obtain ⟨g510, hE⟩ := it_g hE
              refine ml_16 (v := ((A 16) (x2).toNatClampNeg)) C hP (gi_in g510) rfl dX5_turn_78 ?_
              refine lv_icmp_ge (tgt := 86) C.1 C.2.1 dX5_turn_79 (by decide) (fun c511 => ?_) (fun c511 => ?_)
              · have hE := it_t c511 hE
                obtain rfl := Option.some.inj hE
                exact hJ86u506 (by decide) H locs ls hP hS (lv_sub hl [0, 1, 2, 3] rfl)
              · have hE := it_f c511 hE
                obtain rfl := Option.some.inj hE
                exact hJ82u506 rfl H locs ls hP hS (lv_sub hl [0, 1, 2, 3] rfl)
            · have hE := it_f c508 hE
              refine lv_aload_n C.1 C.2.1 dX5_turn_52 rfl (lv_at hl 0 rfl) ?_
              refine ma_14 C hP dX5_turn_53 ?_
              refine lv_iload_n C.1 C.2.1 dX5_turn_56 rfl (lv_at hl 3 rfl) ?_
              obtain ⟨g512, hE⟩ := it_g hE
              refine ml_14 (v := ((A 14) (x3).toNatClampNeg)) C hP (gi_in g512) rfl dX5_turn_57 ?_
              refine lv_aload_n C.1 C.2.1 dX5_turn_58 rfl (lv_at hl 0 rfl) ?_
              refine ma_14 C hP dX5_turn_59 ?_
              refine lv_iload_n C.1 C.2.1 dX5_turn_62 rfl (lv_at hl 2 rfl) ?_
              obtain ⟨g513, hE⟩ := it_g hE
              refine ml_14 (v := ((A 14) (x2).toNatClampNeg)) C hP (gi_in g513) rfl dX5_turn_63 ?_
              refine lv_icmp_ne (tgt := 86) C.1 C.2.1 dX5_turn_64 (by decide) (fun c514 => ?_) (fun c514 => ?_)
              · have hE := it_f c514 hE
                obtain rfl := Option.some.inj hE
                exact hJ86u506 (by decide) H locs ls hP hS (lv_sub hl [0, 1, 2, 3] rfl)
              · have hE := it_t c514 hE
                refine lv_aload_n C.1 C.2.1 dX5_turn_67 rfl (lv_at hl 0 rfl) ?_
                refine ma_16 C hP dX5_turn_68 ?_
                refine lv_iload_n C.1 C.2.1 dX5_turn_71 rfl (lv_at hl 3 rfl) ?_
                obtain ⟨g515, hE⟩ := it_g hE
                refine ml_16 (v := ((A 16) (x3).toNatClampNeg)) C hP (gi_in g515) rfl dX5_turn_72 ?_
                refine lv_aload_n C.1 C.2.1 dX5_turn_73 rfl (lv_at hl 0 rfl) ?_
                refine ma_16 C hP dX5_turn_74 ?_
                refine lv_iload_n C.1 C.2.1 dX5_turn_77 rfl (lv_at hl 2 rfl) ?_
                obtain ⟨g516, hE⟩ := it_g hE
                refine ml_16 (v := ((A 16) (x2).toNatClampNeg)) C hP (gi_in g516) rfl dX5_turn_78 ?_
                refine lv_icmp_ge (tgt := 86) C.1 C.2.1 dX5_turn_79 (by decide) (fun c517 => ?_) (fun c517 => ?_)
                · have hE := it_t c517 hE
                  obtain rfl := Option.some.inj hE
                  exact hJ86u506 (by decide) H locs ls hP hS (lv_sub hl [0, 1, 2, 3] rfl)
                · have hE := it_f c517 hE
                  obtain rfl := Option.some.inj hE
                  exact hJ82u506 rfl H locs ls hP hS (lv_sub hl [0, 1, 2, 3] rfl)
          · have hE := it_t c507 hE
            refine lv_aload_n C.1 C.2.1 dX5_turn_33 rfl (lv_at hl 0 rfl) ?_
            refine ma_14 C hP dX5_turn_34 ?_
            refine lv_iload_n C.1 C.2.1 dX5_turn_37 rfl (lv_at hl 3 rfl) ?_
            obtain ⟨g518, hE⟩ := it_g hE
            refine ml_14 (v := ((A 14) (x3).toNatClampNeg)) C hP (gi_in g518) rfl dX5_turn_38 ?_
            refine lv_aload_n C.1 C.2.1 dX5_turn_39 rfl (lv_at hl 0 rfl) ?_
            refine ma_14 C hP dX5_turn_40 ?_
            refine lv_iload_n C.1 C.2.1 dX5_turn_43 rfl (lv_at hl 2 rfl) ?_
            obtain ⟨g519, hE⟩ := it_g hE
            refine ml_14 (v := ((A 14) (x2).toNatClampNeg)) C hP (gi_in g519) rfl dX5_turn_44 ?_
            refine lv_icmp_gt (tgt := 82) C.1 C.2.1 dX5_turn_45 (by decide) (fun c520 => ?_) (fun c520 => ?_)
            · have hE := it_t c520 hE
              obtain rfl := Option.some.inj hE
              exact hJ82u506 rfl H locs ls hP hS (lv_sub hl [0, 1, 2, 3] rfl)
            · have hE := it_f c520 hE
              refine lv_iload_n C.1 C.2.1 dX5_turn_48 rfl (lv_at hl 1 rfl) ?_
              refine lv_if_eq (tgt := 67) C.1 C.2.1 dX5_turn_49 (by decide) (fun c521 => ?_) (fun c521 => ?_)
              · have hE := it_t c521 hE
                refine lv_aload_n C.1 C.2.1 dX5_turn_67 rfl (lv_at hl 0 rfl) ?_
                refine ma_16 C hP dX5_turn_68 ?_
                refine lv_iload_n C.1 C.2.1 dX5_turn_71 rfl (lv_at hl 3 rfl) ?_
                obtain ⟨g522, hE⟩ := it_g hE
                refine ml_16 (v := ((A 16) (x3).toNatClampNeg)) C hP (gi_in g522) rfl dX5_turn_72 ?_
                refine lv_aload_n C.1 C.2.1 dX5_turn_73 rfl (lv_at hl 0 rfl) ?_
                refine ma_16 C hP dX5_turn_74 ?_
                refine lv_iload_n C.1 C.2.1 dX5_turn_77 rfl (lv_at hl 2 rfl) ?_
                obtain ⟨g523, hE⟩ := it_g hE
                refine ml_16 (v := ((A 16) (x2).toNatClampNeg)) C hP (gi_in g523) rfl dX5_turn_78 ?_
                refine lv_icmp_ge (tgt := 86) C.1 C.2.1 dX5_turn_79 (by decide) (fun c524 => ?_) (fun c524 => ?_)
                · have hE := it_t c524 hE
                  obtain rfl := Option.some.inj hE
                  exact hJ86u506 (by decide) H locs ls hP hS (lv_sub hl [0, 1, 2, 3] rfl)
                · have hE := it_f c524 hE
                  obtain rfl := Option.some.inj hE
                  exact hJ82u506 rfl H locs ls hP hS (lv_sub hl [0, 1, 2, 3] rfl)
              · have hE := it_f c521 hE
                refine lv_aload_n C.1 C.2.1 dX5_turn_52 rfl (lv_at hl 0 rfl) ?_
                refine ma_14 C hP dX5_turn_53 ?_
                refine lv_iload_n C.1 C.2.1 dX5_turn_56 rfl (lv_at hl 3 rfl) ?_
                obtain ⟨g525, hE⟩ := it_g hE
                refine ml_14 (v := ((A 14) (x3).toNatClampNeg)) C hP (gi_in g525) rfl dX5_turn_57 ?_
                refine lv_aload_n C.1 C.2.1 dX5_turn_58 rfl (lv_at hl 0 rfl) ?_
                refine ma_14 C hP dX5_turn_59 ?_
                refine lv_iload_n C.1 C.2.1 dX5_turn_62 rfl (lv_at hl 2 rfl) ?_
                obtain ⟨g526, hE⟩ := it_g hE
                refine ml_14 (v := ((A 14) (x2).toNatClampNeg)) C hP (gi_in g526) rfl dX5_turn_63 ?_
                refine lv_icmp_ne (tgt := 86) C.1 C.2.1 dX5_turn_64 (by decide) (fun c527 => ?_) (fun c527 => ?_)
                · have hE := it_f c527 hE
                  obtain rfl := Option.some.inj hE
                  exact hJ86u506 (by decide) H locs ls hP hS (lv_sub hl [0, 1, 2, 3] rfl)
                · have hE := it_t c527 hE
                  refine lv_aload_n C.1 C.2.1 dX5_turn_67 rfl (lv_at hl 0 rfl) ?_
                  refine ma_16 C hP dX5_turn_68 ?_
                  refine lv_iload_n C.1 C.2.1 dX5_turn_71 rfl (lv_at hl 3 rfl) ?_
                  obtain ⟨g528, hE⟩ := it_g hE
                  refine ml_16 (v := ((A 16) (x3).toNatClampNeg)) C hP (gi_in g528) rfl dX5_turn_72 ?_
                  refine lv_aload_n C.1 C.2.1 dX5_turn_73 rfl (lv_at hl 0 rfl) ?_
                  refine ma_16 C hP dX5_turn_74 ?_
                  refine lv_iload_n C.1 C.2.1 dX5_turn_77 rfl (lv_at hl 2 rfl) ?_
                  obtain ⟨g529, hE⟩ := it_g hE
                  refine ml_16 (v := ((A 16) (x2).toNatClampNeg)) C hP (gi_in g529) rfl dX5_turn_78 ?_
                  refine lv_icmp_ge (tgt := 86) C.1 C.2.1 dX5_turn_79 (by decide) (fun c530 => ?_) (fun c530 => ?_)
                  · have hE := it_t c530 hE
                    obtain rfl := Option.some.inj hE
                    exact hJ86u506 (by decide) H locs ls hP hS (lv_sub hl [0, 1, 2, 3] rfl)
                  · have hE := it_f c530 hE
                    obtain rfl := Option.some.inj hE
                    exact hJ82u506 rfl H locs ls hP hS (lv_sub hl [0, 1, 2, 3] rfl)
      · have hE := it_t c503 hE
        refine lv_goto (tgt := 96) C.1 C.2.1 dX5_turn_20 (by decide) ?_
        obtain rfl := Option.some.inj hE
        exact hJ96u504 H locs ls hP hS (lv_sub hl [0, 1, 2, 3] rfl)
set_option maxHeartbeats 4000000 in
theorem metM_turn (l : Launch) (G : kG) (h0 : Nat) (ad : Nat → Nat) (F : Nat → Int32) (A : Nat → Nat → Int32) (L : Nat → Nat → Int64) (p1 : Int32) (res : Int32) (hE : sM_turn (F 0) (A 14) (A 15) (A 16) p1 = some res) : Met l yX5_turn (ws_ yX5_turn cX5_turn 5 (some .int)) ({ frames := 2, cells := 0, slots := 0, locals := 42 } : Room) (mPc G h0 ad F A L [.int p1]) (mQc G h0 ad F A L (some (.int res))) 0 0 (mA h0 ad) := by
  refine m_ofW (by decide) rfl (Nat.le_of_ble_eq_true rfl) ?_
  intro p e s m args below meth c ls C hml hP hS hl hr hlocks
  have hl : lv_has ls 5 [(0, .ref h0), (1, .int p1)] := hl
  obtain ⟨Q, hQ⟩ : ∃ Q, Q = MQ below (mQc G h0 ad F A L (some (.int res))) args s 0 0 (mA h0 ad) := ⟨_, rfl⟩
  rw [← hQ]
  have hret : ∀ (pc : Nat) (ls : Array Slot) (H : Heap) (locs : List Loc), decode cX5_turn pc = .ok (.ireturn, 1) → mPw G h0 ad F A L H → va_S (mA h0 ad) s.heap H locs → W p l e ({ frames := 2, cells := 0, slots := 0, locals := 42 } : Room) s m args below meth c H locs 0 0 Q (F0 m pc ls [.int res]) := by
    intro pc ls H locs hd hP hS
    rw [hQ]
    exact m_iret C hr hlocks hd hP hS
  clear hQ
  obtain ⟨H, hH⟩ : ∃ H, H = s.heap := ⟨_, rfl⟩
  obtain ⟨locs, hlo⟩ : ∃ locs : List Loc, locs = [] := ⟨_, rfl⟩
  have hP : mPw G h0 ad F A L H := by rw [hH]; exact hP
  have hS : va_S (mA h0 ad) s.heap H locs := by rw [hH, hlo]; exact hS
  suffices hZ : W p l e ({ frames := 2, cells := 0, slots := 0, locals := 42 } : Room) s m args below meth c H locs 0 0 Q (F0 m 0 ls []) by rw [hH, hlo] at hZ; exact hZ
  clear hH hlo
  unfold sM_turn at hE
  refine lv_iconst (v := (-1)) C.1 C.2.1 dX5_turn_0 (by decide) ?_
  refine lv_istore_n (lv' := [(2, .int (-1)), (0, .ref h0), (1, .int p1)]) C.1 C.2.1 dX5_turn_1 rfl hl (by decide) rfl (fun ls hl => ?_)
  refine lv_iconst (v := 0) C.1 C.2.1 dX5_turn_2 (by decide) ?_
  refine lv_istore_n (lv' := [(3, .int 0), (2, .int (-1)), (0, .ref h0), (1, .int p1)]) C.1 C.2.1 dX5_turn_3 rfl hl (by decide) rfl (fun ls hl => ?_)
  obtain ⟨u1, hu1, hE⟩ := it_b hE
  refine wM_turn_h4 C hml F A L p1 u1 2000 (-1) 0 H locs ls hu1 hP hS (lv_sub hl [2, 3, 1, 0] rfl) (fun H locs ls hP hS hl => ?_)
  refine lv_iload_n C.1 C.2.1 dX5_turn_102 rfl (lv_at hl 0 rfl) ?_
  obtain rfl := Option.some.inj hE
  exact hret _ _ _ _ dX5_turn_103 hP hS
def sM_whose (f_many : Int32) (a_refused : Nat → Int32) (a_marks : Nat → Int32) (a_ill : Nat → Int32) (a_had : Nat → Int32) (p1 : Int32) : Option (Int32 × (Nat → Int32)) :=
  if p1 < 0 then
    (sM_no a_refused (-5)).bind fun r2 =>
    some (r2.1, r2.2)
  else
    if 1 < p1 then
      (sM_no a_refused (-5)).bind fun r4 =>
      some (r4.1, r4.2)
    else
      (sM_mays f_many a_ill).bind fun r5 =>
      if r5 = 0 then
        (sM_no a_refused (-5)).bind fun r8 =>
        some (r8.1, r8.2)
      else
        (sM_turn f_many a_marks a_ill a_had p1).bind fun r7 =>
        some (r7, a_refused)
set_option maxHeartbeats 4000000 in
theorem metM_whose (l : Launch) (G : kG) (h0 : Nat) (ad : Nat → Nat) (F : Nat → Int32) (A : Nat → Nat → Int32) (L : Nat → Nat → Int64) (p1 : Int32) (res : Int32 × (Nat → Int32)) (hE : sM_whose (F 0) (A 11) (A 14) (A 15) (A 16) p1 = some res) : Met l yX5_whose (ws_ yX5_whose cX5_whose 2 (some .int)) ({ frames := 3, cells := 0, slots := 0, locals := 66 } : Room) (mPc G h0 ad F A L [.int p1]) (mQc G h0 ad F (va_up A 11 res.2) L (some (.int res.1))) 0 0 (mA h0 ad) := by
  refine m_ofW (by decide) rfl (Nat.le_of_ble_eq_true rfl) ?_
  intro p e s m args below meth c ls C hml hP hS hl hr hlocks
  have hl : lv_has ls 2 [(0, .ref h0), (1, .int p1)] := hl
  obtain ⟨Q, hQ⟩ : ∃ Q, Q = MQ below (mQc G h0 ad F (va_up A 11 res.2) L (some (.int res.1))) args s 0 0 (mA h0 ad) := ⟨_, rfl⟩
  rw [← hQ]
  have hret : ∀ (pc : Nat) (ls : Array Slot) (H : Heap) (locs : List Loc), decode cX5_whose pc = .ok (.ireturn, 1) → mPw G h0 ad F (va_up A 11 res.2) L H → va_S (mA h0 ad) s.heap H locs → W p l e ({ frames := 3, cells := 0, slots := 0, locals := 66 } : Room) s m args below meth c H locs 0 0 Q (F0 m pc ls [.int res.1]) := by
    intro pc ls H locs hd hP hS
    rw [hQ]
    exact m_iret C hr hlocks hd hP hS
  clear hQ
  obtain ⟨H, hH⟩ : ∃ H, H = s.heap := ⟨_, rfl⟩
  obtain ⟨locs, hlo⟩ : ∃ locs : List Loc, locs = [] := ⟨_, rfl⟩
  have hP : mPw G h0 ad F A L H := by rw [hH]; exact hP
  have hS : va_S (mA h0 ad) s.heap H locs := by rw [hH, hlo]; exact hS
  suffices hZ : W p l e ({ frames := 3, cells := 0, slots := 0, locals := 66 } : Room) s m args below meth c H locs 0 0 Q (F0 m 0 ls []) by rw [hH, hlo] at hZ; exact hZ
  clear hH hlo
  unfold sM_whose at hE
  refine lv_iload_n C.1 C.2.1 dX5_whose_0 rfl (lv_at hl 1 rfl) ?_
  refine lv_if_lt (tgt := 16) C.1 C.2.1 dX5_whose_1 (by decide) (fun c1 => ?_) (fun c1 => ?_)
  · have hE := it_t c1 hE
    refine lv_aload_n C.1 C.2.1 dX5_whose_16 rfl (lv_at hl 0 rfl) ?_
    refine lv_bipush (v := (-5)) C.1 C.2.1 dX5_whose_17 (by decide) ?_
    obtain ⟨r2, hr2, hE⟩ := it_b hE
    refine m_call (n := 1) (As := [.int (-5)]) (rest := []) C hP hS hml (metM_no l G h0 ad _ _ _ (-5) r2 hr2) q1483 q1485 qs32 q1486 rfl rfl (by decide +kernel) ⟨Nat.le_of_ble_eq_true rfl, Nat.le_of_ble_eq_true rfl⟩ ⟨Nat.le_refl _, Nat.le_refl _⟩ rfl hl.1 rfl (Nat.le_of_ble_eq_true rfl) dX5_whose_19 (fun H locs hP hS => ?_)
    obtain rfl := Option.some.inj hE
    exact hret _ _ _ _ dX5_whose_22 hP hS
  · have hE := it_f c1 hE
    refine lv_iload_n C.1 C.2.1 dX5_whose_4 rfl (lv_at hl 1 rfl) ?_
    refine lv_iconst (v := 1) C.1 C.2.1 dX5_whose_5 (by decide) ?_
    refine lv_icmp_gt (tgt := 16) C.1 C.2.1 dX5_whose_6 (by decide) (fun c3 => ?_) (fun c3 => ?_)
    · have hE := it_t c3 hE
      refine lv_aload_n C.1 C.2.1 dX5_whose_16 rfl (lv_at hl 0 rfl) ?_
      refine lv_bipush (v := (-5)) C.1 C.2.1 dX5_whose_17 (by decide) ?_
      obtain ⟨r4, hr4, hE⟩ := it_b hE
      refine m_call (n := 1) (As := [.int (-5)]) (rest := []) C hP hS hml (metM_no l G h0 ad _ _ _ (-5) r4 hr4) q1483 q1485 qs32 q1486 rfl rfl (by decide +kernel) ⟨Nat.le_of_ble_eq_true rfl, Nat.le_of_ble_eq_true rfl⟩ ⟨Nat.le_refl _, Nat.le_refl _⟩ rfl hl.1 rfl (Nat.le_of_ble_eq_true rfl) dX5_whose_19 (fun H locs hP hS => ?_)
      obtain rfl := Option.some.inj hE
      exact hret _ _ _ _ dX5_whose_22 hP hS
    · have hE := it_f c3 hE
      refine lv_aload_n C.1 C.2.1 dX5_whose_9 rfl (lv_at hl 0 rfl) ?_
      obtain ⟨r5, hr5, hE⟩ := it_b hE
      refine m_call (n := 0) (As := []) (rest := []) C hP hS hml (metM_mays l G h0 ad _ _ _ r5 hr5) q1671 q1673 qs62 q1674 rfl rfl (by decide +kernel) ⟨Nat.le_of_ble_eq_true rfl, Nat.le_of_ble_eq_true rfl⟩ ⟨Nat.le_refl _, Nat.le_refl _⟩ rfl hl.1 rfl (Nat.le_of_ble_eq_true rfl) dX5_whose_10 (fun H locs hP hS => ?_)
      refine lv_if_ne (tgt := 23) C.1 C.2.1 dX5_whose_13 (by decide) (fun c6 => ?_) (fun c6 => ?_)
      · have hE := it_f c6 hE
        refine lv_aload_n C.1 C.2.1 dX5_whose_23 rfl (lv_at hl 0 rfl) ?_
        refine lv_iload_n C.1 C.2.1 dX5_whose_24 rfl (lv_at hl 1 rfl) ?_
        obtain ⟨r7, hr7, hE⟩ := it_b hE
        refine m_call (n := 1) (As := [.int p1]) (rest := []) C hP hS hml (metM_turn l G h0 ad _ _ _ p1 r7 hr7) q1675 q1677 qs63 q1678 rfl rfl (by decide +kernel) ⟨Nat.le_of_ble_eq_true rfl, Nat.le_of_ble_eq_true rfl⟩ ⟨Nat.le_refl _, Nat.le_refl _⟩ rfl hl.1 rfl (Nat.le_of_ble_eq_true rfl) dX5_whose_25 (fun H locs hP hS => ?_)
        obtain rfl := Option.some.inj hE
        exact hret _ _ _ _ dX5_whose_28 hP hS
      · have hE := it_t c6 hE
        refine lv_aload_n C.1 C.2.1 dX5_whose_16 rfl (lv_at hl 0 rfl) ?_
        refine lv_bipush (v := (-5)) C.1 C.2.1 dX5_whose_17 (by decide) ?_
        obtain ⟨r8, hr8, hE⟩ := it_b hE
        refine m_call (n := 1) (As := [.int (-5)]) (rest := []) C hP hS hml (metM_no l G h0 ad _ _ _ (-5) r8 hr8) q1483 q1485 qs32 q1486 rfl rfl (by decide +kernel) ⟨Nat.le_of_ble_eq_true rfl, Nat.le_of_ble_eq_true rfl⟩ ⟨Nat.le_refl _, Nat.le_refl _⟩ rfl hl.1 rfl (Nat.le_of_ble_eq_true rfl) dX5_whose_19 (fun H locs hP hS => ?_)
        obtain rfl := Option.some.inj hE
        exact hret _ _ _ _ dX5_whose_22 hP hS
