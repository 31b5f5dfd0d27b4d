set_option maxRecDepth 100000
def sM_item_h40 (x1 : Int32) (f_many : Int32) (f_weight : Int32) (f_fright : Int32) (f_age : Int32) (f_pets : Int32) (f_feed : Int32) (f_life : Int32) (f_low : Int32) (f_last : Int32) (f_base : Int32) (f_end : Int32) (f_heft : Int32) (f_alarm : Int32) (f_old : Int32) (f_died : Int32) (f_ofWhat : Int32) (f_heavy : Int32) (a_kind : Nat → Int32) (a_part : Nat → Int32) (a_marks : Nat → Int32) (a_ill : Nat → Int32) (a_had : Nat → Int32) (a_deaths : Nat → Int32) (a_least : Nat → Int32) (a_greatest : Nat → Int32) (l_cells : Nat → Int64) : Nat → Int32 → Int32 → Int32 → Int32 → (Nat → Int32) → Option (Int32 × Int32 × Int32 × Int32 × Int32 × Int32 × Int32 × Int32 × Int32 × Int32 × Int32 × Int32 × Int32 × Int32 × Int32 × Int32 × Int32 × Int32 × Int32 × (Nat → Int32) × (Nat → Int32) × (Nat → Int32) × (Nat → Int32) × (Nat → Int32) × (Nat → Int32) × (Nat → Int32))
  | 0, _, _, _, _, _ => none
  | fuel + 1, x2, f_at, f_number, f_wrongAt, a_tell =>
    @Option.bind (Int32) _ (
      if 2 ≤ x1 then
        some 1
      else
        some 2) fun u4102 =>
    if u4102 ≤ x2 then
      @Option.bind (Int32 × Int32 × Int32 × Int32 × Int32 × Int32 × Int32 × Int32 × Int32 × Int32 × Int32 × Int32 × Int32 × Int32 × Int32 × (Nat → Int32) × (Nat → Int32) × (Nat → Int32) × (Nat → Int32) × (Nat → Int32) × (Nat → Int32)) _ (
        if x1 = 0 then
          (sM_adds f_many a_kind a_part a_marks a_ill a_had (a_tell 0) (a_tell 1)).bind fun r4106 =>
          some (r4106.2.1, f_weight, f_fright, f_age, f_pets, f_feed, f_life, f_low, f_last, f_heft, f_alarm, f_old, f_died, f_ofWhat, f_heavy, r4106.2.2.1, r4106.2.2.2.1, r4106.2.2.2.2.1, r4106.2.2.2.2.2.1, r4106.2.2.2.2.2.2, a_deaths)
        else
        if x1 = 1 then
          if gi (a_tell 0) 8 then
          some (f_many, f_weight, f_fright, f_age, f_pets, f_feed, f_life, f_low, f_last, f_heft, f_alarm, f_old, f_died, f_ofWhat, f_heavy, a_kind, a_part, (upd a_marks ((a_tell 0)).toNatClampNeg (a_tell 1)), a_ill, a_had, a_deaths)
          else none
        else
        if x1 = 2 then
          if gi (a_tell 0) 8 then
          some (f_many, f_weight, f_fright, f_age, f_pets, f_feed, f_life, f_low, f_last, f_heft, f_alarm, f_old, f_died, f_ofWhat, f_heavy, a_kind, a_part, a_marks, (upd a_ill ((a_tell 0)).toNatClampNeg 1), a_had, a_deaths)
          else none
        else
        if x1 = 9 then
          (sM_weekInTruth f_weight f_fright f_age f_pets f_feed f_life f_low f_last f_heft f_alarm f_old f_died f_ofWhat f_heavy a_kind a_part a_had a_deaths (a_tell 0)).bind fun r4112 =>
          some (f_many, r4112.2.1, r4112.2.2.1, r4112.2.2.2.1, r4112.2.2.2.2.1, f_feed, f_life, f_low, r4112.2.2.2.2.2.1, r4112.2.2.2.2.2.2.1, r4112.2.2.2.2.2.2.2.1, r4112.2.2.2.2.2.2.2.2.1, r4112.2.2.2.2.2.2.2.2.2.1, r4112.2.2.2.2.2.2.2.2.2.2.1, r4112.2.2.2.2.2.2.2.2.2.2.2.1, a_kind, a_part, a_marks, a_ill, r4112.2.2.2.2.2.2.2.2.2.2.2.2.1, r4112.2.2.2.2.2.2.2.2.2.2.2.2.2)
        else
        (sM_tells f_weight f_fright f_age f_feed f_life f_low (x1 - 3) (a_tell 0)).bind fun r4119 =>
        some (f_many, r4119.1, r4119.2.1, r4119.2.2.1, f_pets, r4119.2.2.2.1, r4119.2.2.2.2.1, r4119.2.2.2.2.2, f_last, f_heft, f_alarm, f_old, f_died, f_ofWhat, f_heavy, a_kind, a_part, a_marks, a_ill, a_had, a_deaths)) fun u4104 =>
      some (1, u4104.1, u4104.2.1, u4104.2.2.1, u4104.2.2.2.1, u4104.2.2.2.2.1, u4104.2.2.2.2.2.1, u4104.2.2.2.2.2.2.1, u4104.2.2.2.2.2.2.2.1, u4104.2.2.2.2.2.2.2.2.1, f_at, f_number, f_wrongAt, u4104.2.2.2.2.2.2.2.2.2.1, u4104.2.2.2.2.2.2.2.2.2.2.1, u4104.2.2.2.2.2.2.2.2.2.2.2.1, u4104.2.2.2.2.2.2.2.2.2.2.2.2.1, u4104.2.2.2.2.2.2.2.2.2.2.2.2.2.1, u4104.2.2.2.2.2.2.2.2.2.2.2.2.2.2.1, u4104.2.2.2.2.2.2.2.2.2.2.2.2.2.2.2.1, u4104.2.2.2.2.2.2.2.2.2.2.2.2.2.2.2.2.1, u4104.2.2.2.2.2.2.2.2.2.2.2.2.2.2.2.2.2.1, u4104.2.2.2.2.2.2.2.2.2.2.2.2.2.2.2.2.2.2.1, u4104.2.2.2.2.2.2.2.2.2.2.2.2.2.2.2.2.2.2.2.1, u4104.2.2.2.2.2.2.2.2.2.2.2.2.2.2.2.2.2.2.2.2, a_tell)
    else
      if x2 ≤ 0 then
        (sM_reads f_base f_at f_end f_number f_wrongAt l_cells).bind fun r4121 =>
        if r4121.1 = 0 then
          some (0, f_many, f_weight, f_fright, f_age, f_pets, f_feed, f_life, f_low, f_last, r4121.2.1, r4121.2.2.1, r4121.2.2.2, f_heft, f_alarm, f_old, f_died, f_ofWhat, f_heavy, a_kind, a_part, a_marks, a_ill, a_had, a_deaths, a_tell)
        else
          (sM_isSo f_many r4121.2.2.1 a_ill a_least a_greatest x1 x2).bind fun r4123 =>
          if r4123 = 0 then
            (sM_wrong r4121.2.2.2 f_at).bind fun r4126 =>
            if r4126.1 = 0 ∨ r4126.1 = 1 then
            some (r4126.1, f_many, f_weight, f_fright, f_age, f_pets, f_feed, f_life, f_low, f_last, r4121.2.1, r4121.2.2.1, r4126.2, f_heft, f_alarm, f_old, f_died, f_ofWhat, f_heavy, a_kind, a_part, a_marks, a_ill, a_had, a_deaths, a_tell)
            else none
          else
            if gi x2 2 then
            sM_item_h40 x1 f_many f_weight f_fright f_age f_pets f_feed f_life f_low f_last f_base f_end f_heft f_alarm f_old f_died f_ofWhat f_heavy a_kind a_part a_marks a_ill a_had a_deaths a_least a_greatest l_cells fuel (x2 + 1) r4121.2.1 r4121.2.2.1 r4121.2.2.2 (upd a_tell (x2).toNatClampNeg r4121.2.2.1)
            else none
      else
        if f_end ≤ f_at then
          (sM_wrong f_wrongAt f_at).bind fun r4129 =>
          if r4129.1 = 0 ∨ r4129.1 = 1 then
          some (r4129.1, f_many, f_weight, f_fright, f_age, f_pets, f_feed, f_life, f_low, f_last, f_at, f_number, r4129.2, f_heft, f_alarm, f_old, f_died, f_ofWhat, f_heavy, a_kind, a_part, a_marks, a_ill, a_had, a_deaths, a_tell)
          else none
        else
          if gi (f_base + f_at) 1280 then
          if (((l_cells ((f_base + f_at)).toNatClampNeg) : Int64).toInt32) = 32 then
            (sM_reads f_base (f_at + 1) f_end f_number f_wrongAt l_cells).bind fun r4133 =>
            if r4133.1 = 0 then
              some (0, f_many, f_weight, f_fright, f_age, f_pets, f_feed, f_life, f_low, f_last, r4133.2.1, r4133.2.2.1, r4133.2.2.2, f_heft, f_alarm, f_old, f_died, f_ofWhat, f_heavy, a_kind, a_part, a_marks, a_ill, a_had, a_deaths, a_tell)
            else
              (sM_isSo f_many r4133.2.2.1 a_ill a_least a_greatest x1 x2).bind fun r4135 =>
              if r4135 = 0 then
                (sM_wrong r4133.2.2.2 (f_at + 1)).bind fun r4138 =>
                if r4138.1 = 0 ∨ r4138.1 = 1 then
                some (r4138.1, f_many, f_weight, f_fright, f_age, f_pets, f_feed, f_life, f_low, f_last, r4133.2.1, r4133.2.2.1, r4138.2, f_heft, f_alarm, f_old, f_died, f_ofWhat, f_heavy, a_kind, a_part, a_marks, a_ill, a_had, a_deaths, a_tell)
                else none
              else
                if gi x2 2 then
                sM_item_h40 x1 f_many f_weight f_fright f_age f_pets f_feed f_life f_low f_last f_base f_end f_heft f_alarm f_old f_died f_ofWhat f_heavy a_kind a_part a_marks a_ill a_had a_deaths a_least a_greatest l_cells fuel (x2 + 1) r4133.2.1 r4133.2.2.1 r4133.2.2.2 (upd a_tell (x2).toNatClampNeg r4133.2.2.1)
                else none
          else
            (sM_wrong f_wrongAt f_at).bind fun r4140 =>
            if r4140.1 = 0 ∨ r4140.1 = 1 then
            some (r4140.1, f_many, f_weight, f_fright, f_age, f_pets, f_feed, f_life, f_low, f_last, f_at, f_number, r4140.2, f_heft, f_alarm, f_old, f_died, f_ofWhat, f_heavy, a_kind, a_part, a_marks, a_ill, a_had, a_deaths, a_tell)
            else none
          else none
def sM_item (f_many : Int32) (f_weight : Int32) (f_fright : Int32) (f_age : Int32) (f_pets : Int32) (f_feed : Int32) (f_life : Int32) (f_low : Int32) (f_last : Int32) (f_base : Int32) (f_at : Int32) (f_end : Int32) (f_number : Int32) (f_wrongAt : Int32) (f_heft : Int32) (f_alarm : Int32) (f_old : Int32) (f_died : Int32) (f_ofWhat : Int32) (f_heavy : Int32) (a_kind : Nat → Int32) (a_part : Nat → Int32) (a_marks : Nat → Int32) (a_ill : Nat → Int32) (a_had : Nat → Int32) (a_deaths : Nat → Int32) (a_least : Nat → Int32) (a_greatest : Nat → Int32) (a_words : Nat → Int32) (a_tell : Nat → Int32) (l_cells : Nat → Int64) : Option (Int32 × Int32 × Int32 × Int32 × Int32 × Int32 × Int32 × Int32 × Int32 × Int32 × Int32 × Int32 × Int32 × Int32 × Int32 × Int32 × Int32 × Int32 × Int32 × (Nat → Int32) × (Nat → Int32) × (Nat → Int32) × (Nat → Int32) × (Nat → Int32) × (Nat → Int32) × (Nat → Int32)) :=
  (sM_isWordAt f_base f_at f_end a_words l_cells 0).bind fun r1 =>
  @Option.bind (Bool) _ (
    if r1 = 0 then
      some false
    else
      if f_many = 8 then
        some true
      else
        some false) fun u3 =>
  if u3 = true then
    (sM_wrong f_wrongAt f_at).bind fun r5 =>
    if r5.1 = 0 ∨ r5.1 = 1 then
    some (r5.1, f_many, f_weight, f_fright, f_age, f_pets, f_feed, f_life, f_low, f_last, f_at, f_number, r5.2, f_heft, f_alarm, f_old, f_died, f_ofWhat, f_heavy, a_kind, a_part, a_marks, a_ill, a_had, a_deaths, a_tell)
    else none
  else
    (sM_word f_base f_at f_end f_wrongAt a_words l_cells).bind fun r7 =>
    if r7.1 = (-1) then
      some (0, f_many, f_weight, f_fright, f_age, f_pets, f_feed, f_life, f_low, f_last, r7.2.1, f_number, r7.2.2, f_heft, f_alarm, f_old, f_died, f_ofWhat, f_heavy, a_kind, a_part, a_marks, a_ill, a_had, a_deaths, a_tell)
    else
      sM_item_h40 r7.1 f_many f_weight f_fright f_age f_pets f_feed f_life f_low f_last f_base f_end f_heft f_alarm f_old f_died f_ofWhat f_heavy a_kind a_part a_marks a_ill a_had a_deaths a_least a_greatest l_cells 2000 0 r7.2.1 f_number r7.2.2 a_tell
set_option maxHeartbeats 4000000 in
theorem wM_item_h40 {p : Program} {l : Launch} {e : Env} {s : State} {m : MethodId} {args : Array Value} {below : List Frame} {meth : Method} {c : Code} {G : kG} {h0 : Nat} {ad : Nat → Nat} {Q : State → Prop} (C : mC p s m args c cX5_item G h0 ad) (hml : c.maxLocals = 4) (F : Nat → Int32) (A : Nat → Nat → Int32) (L : Nat → Nat → Int64) (x1 : Int32) (f_many : Int32) (f_weight : Int32) (f_fright : Int32) (f_age : Int32) (f_pets : Int32) (f_feed : Int32) (f_life : Int32) (f_low : Int32) (f_last : Int32) (f_heft : Int32) (f_alarm : Int32) (f_old : Int32) (f_died : Int32) (f_ofWhat : Int32) (f_heavy : Int32) (a_kind : Nat → Int32) (a_part : Nat → Int32) (a_marks : Nat → Int32) (a_ill : Nat → Int32) (a_had : Nat → Int32) (a_deaths : Nat → Int32) (res : Int32 × Int32 × Int32 × Int32 × Int32 × Int32 × Int32 × Int32 × Int32 × Int32 × Int32 × Int32 × Int32 × Int32 × Int32 × Int32 × Int32 × Int32 × Int32 × (Nat → Int32) × (Nat → Int32) × (Nat → Int32) × (Nat → Int32) × (Nat → Int32) × (Nat → Int32) × (Nat → Int32)) :
    ∀ (fuel : Nat) (x2 : Int32) (f_at : Int32) (f_number : Int32) (f_wrongAt : Int32) (a_tell : Nat → Int32) (H : Heap) (locs : List Loc) (ls : Array Slot), sM_item_h40 x1 f_many f_weight f_fright f_age f_pets f_feed f_life f_low f_last (F 28) (F 30) f_heft f_alarm f_old f_died f_ofWhat f_heavy a_kind a_part a_marks a_ill a_had a_deaths (A 24) (A 25) (L 22) fuel x2 f_at f_number f_wrongAt a_tell = some res → mPw G h0 ad (upd (upd (upd (upd (upd (upd (upd (upd (upd (upd (upd (upd (upd (upd (upd (upd (upd (upd F 0 f_many) 1 f_weight) 2 f_fright) 3 f_age) 4 f_pets) 5 f_feed) 6 f_life) 7 f_low) 8 f_last) 29 f_at) 31 f_number) 32 f_wrongAt) 35 f_heft) 36 f_alarm) 37 f_old) 38 f_died) 39 f_ofWhat) 40 f_heavy) (va_up (va_up (va_up (va_up (va_up (va_up (va_up A 12 a_kind) 13 a_part) 14 a_marks) 15 a_ill) 16 a_had) 17 a_deaths) 27 a_tell) L H → va_S (mA h0 ad) s.heap H locs → lv_has ls 4 [(0, .ref h0), (1, .int x1), (2, .int x2)] → (∀ (pc : Nat) (ls : Array Slot) (H : Heap) (locs : List Loc), narrow .boolean (.int res.1) = .int res.1 → decode cX5_item pc = .ok (.ireturn, 1) → mPw G h0 ad (upd (upd (upd (upd (upd (upd (upd (upd (upd (upd (upd (upd (upd (upd (upd (upd (upd (upd F 0 res.2.1) 1 res.2.2.1) 2 res.2.2.2.1) 3 res.2.2.2.2.1) 4 res.2.2.2.2.2.1) 5 res.2.2.2.2.2.2.1) 6 res.2.2.2.2.2.2.2.1) 7 res.2.2.2.2.2.2.2.2.1) 8 res.2.2.2.2.2.2.2.2.2.1) 29 res.2.2.2.2.2.2.2.2.2.2.1) 31 res.2.2.2.2.2.2.2.2.2.2.2.1) 32 res.2.2.2.2.2.2.2.2.2.2.2.2.1) 35 res.2.2.2.2.2.2.2.2.2.2.2.2.2.1) 36 res.2.2.2.2.2.2.2.2.2.2.2.2.2.2.1) 37 res.2.2.2.2.2.2.2.2.2.2.2.2.2.2.2.1) 38 res.2.2.2.2.2.2.2.2.2.2.2.2.2.2.2.2.1) 39 res.2.2.2.2.2.2.2.2.2.2.2.2.2.2.2.2.2.1) 40 res.2.2.2.2.2.2.2.2.2.2.2.2.2.2.2.2.2.2.1) (va_up (va_up (va_up (va_up (va_up (va_up (va_up A 12 res.2.2.2.2.2.2.2.2.2.2.2.2.2.2.2.2.2.2.2.1) 13 res.2.2.2.2.2.2.2.2.2.2.2.2.2.2.2.2.2.2.2.2.1) 14 res.2.2.2.2.2.2.2.2.2.2.2.2.2.2.2.2.2.2.2.2.2.1) 15 res.2.2.2.2.2.2.2.2.2.2.2.2.2.2.2.2.2.2.2.2.2.2.1) 16 res.2.2.2.2.2.2.2.2.2.2.2.2.2.2.2.2.2.2.2.2.2.2.2.1) 17 res.2.2.2.2.2.2.2.2.2.2.2.2.2.2.2.2.2.2.2.2.2.2.2.2.1) 27 res.2.2.2.2.2.2.2.2.2.2.2.2.2.2.2.2.2.2.2.2.2.2.2.2.2) L H → va_S (mA h0 ad) s.heap H locs → W p l e ({ frames := 4, cells := 0, slots := 0, locals := 87 } : Room) s m args below meth c H locs 0 0 Q (F0 m pc ls [.int res.1])) → W p l e ({ frames := 4, cells := 0, slots := 0, locals := 87 } : Room) s m args below meth c H locs 0 0 Q (F0 m 40 ls []) := by
  intro fuel
  induction fuel with
  | zero =>
    intro x2 f_at f_number f_wrongAt a_tell H locs ls hE
    exact it_n hE
  | succ fuel ih =>
    intro x2 f_at f_number f_wrongAt a_tell H locs ls hE hP hS hl hret
    rw [sM_item_h40] at hE
    refine lv_iload_n C.1 C.2.1 dX5_item_40 rfl (lv_at hl 2 rfl) ?_
    refine lv_iload_n C.1 C.2.1 dX5_item_41 rfl (lv_at hl 1 rfl) ?_
    refine lv_iconst (v := 2) C.1 C.2.1 dX5_item_42 (by decide) ?_
    obtain ⟨u4102, hR, hE⟩ := it_b hE
    have hJ51u4102 : ∀ (H : Heap) (locs : List Loc) (ls : Array Slot), mPw G h0 ad (upd (upd (upd (upd (upd (upd (upd (upd (upd (upd (upd (upd (upd (upd (upd (upd (upd (upd F 0 f_many) 1 f_weight) 2 f_fright) 3 f_age) 4 f_pets) 5 f_feed) 6 f_life) 7 f_low) 8 f_last) 29 f_at) 31 f_number) 32 f_wrongAt) 35 f_heft) 36 f_alarm) 37 f_old) 38 f_died) 39 f_ofWhat) 40 f_heavy) (va_up (va_up (va_up (va_up (va_up (va_up (va_up A 12 a_kind) 13 a_part) 14 a_marks) 15 a_ill) 16 a_had) 17 a_deaths) 27 a_tell) L H → va_S (mA h0 ad) s.heap H locs → lv_has ls 4 [(0, .ref h0), (1, .int x1), (2, .int x2)] → W p l e ({ frames := 4, cells := 0, slots := 0, locals := 87 } : Room) s m args below meth c H locs 0 0 Q (F0 m 51 ls [.int u4102, .int x2]) := by
      intro H locs ls hP hS hl
      refine lv_icmp_ge (tgt := 153) C.1 C.2.1 dX5_item_51 (by decide) (fun c4103 => ?_) (fun c4103 => ?_)
      · have hE := it_t c4103 hE
        refine lv_iload_n C.1 C.2.1 dX5_item_153 rfl (lv_at hl 1 rfl) ?_
        obtain ⟨u4104, hR, hE⟩ := it_b hE
        have hJ290u4104 : ∀ (H : Heap) (locs : List Loc) (ls : Array Slot), mPw G h0 ad (upd (upd (upd (upd (upd (upd (upd (upd (upd (upd (upd (upd (upd (upd (upd (upd (upd (upd F 0 u4104.1) 1 u4104.2.1) 2 u4104.2.2.1) 3 u4104.2.2.2.1) 4 u4104.2.2.2.2.1) 5 u4104.2.2.2.2.2.1) 6 u4104.2.2.2.2.2.2.1) 7 u4104.2.2.2.2.2.2.2.1) 8 u4104.2.2.2.2.2.2.2.2.1) 29 f_at) 31 f_number) 32 f_wrongAt) 35 u4104.2.2.2.2.2.2.2.2.2.1) 36 u4104.2.2.2.2.2.2.2.2.2.2.1) 37 u4104.2.2.2.2.2.2.2.2.2.2.2.1) 38 u4104.2.2.2.2.2.2.2.2.2.2.2.2.1) 39 u4104.2.2.2.2.2.2.2.2.2.2.2.2.2.1) 40 u4104.2.2.2.2.2.2.2.2.2.2.2.2.2.2.1) (va_up (va_up (va_up (va_up (va_up (va_up (va_up A 12 u4104.2.2.2.2.2.2.2.2.2.2.2.2.2.2.2.1) 13 u4104.2.2.2.2.2.2.2.2.2.2.2.2.2.2.2.2.1) 14 u4104.2.2.2.2.2.2.2.2.2.2.2.2.2.2.2.2.2.1) 15 u4104.2.2.2.2.2.2.2.2.2.2.2.2.2.2.2.2.2.2.1) 16 u4104.2.2.2.2.2.2.2.2.2.2.2.2.2.2.2.2.2.2.2.1) 17 u4104.2.2.2.2.2.2.2.2.2.2.2.2.2.2.2.2.2.2.2.2) 27 a_tell) L H → va_S (mA h0 ad) s.heap H locs → lv_has ls 4 [] → W p l e ({ frames := 4, cells := 0, slots := 0, locals := 87 } : Room) s m args below meth c H locs 0 0 Q (F0 m 290 ls []) := by
          intro H locs ls hP hS hl
          refine lv_iconst (v := 1) C.1 C.2.1 dX5_item_290 (by decide) ?_
          obtain rfl := Option.some.inj hE
          exact hret _ _ _ _ (nbz (Or.inr rfl)) dX5_item_291 hP hS
        have hE := hR
        by_cases c4105 : x1 = 0
        · have hE := it_t c4105 hE
          refine lv_tableIn (tgt := 208) C.1 C.2.1 dX5_item_154 (by rw [c4105]; decide) (by rw [c4105]; decide) (by rw [c4105]; rfl) (by decide) ?_
          refine lv_aload_n C.1 C.2.1 dX5_item_208 rfl (lv_at hl 0 rfl) ?_
          refine lv_aload_n C.1 C.2.1 dX5_item_209 rfl (lv_at hl 0 rfl) ?_
          refine ma_27 C hP dX5_item_210 ?_
          refine lv_iconst (v := 0) C.1 C.2.1 dX5_item_213 (by decide) ?_
          refine ml_27 (v := (a_tell 0)) C hP (gi_in (by decide)) rfl dX5_item_214 ?_
          refine lv_aload_n C.1 C.2.1 dX5_item_215 rfl (lv_at hl 0 rfl) ?_
          refine ma_27 C hP dX5_item_216 ?_
          refine lv_iconst (v := 1) C.1 C.2.1 dX5_item_219 (by decide) ?_
          refine ml_27 (v := (a_tell 1)) C hP (gi_in (by decide)) rfl dX5_item_220 ?_
          obtain ⟨r4106, hr4106, hE⟩ := it_b hE
          refine m_call (n := 2) (As := [.int (a_tell 0), .int (a_tell 1)]) (rest := []) C hP hS hml (metM_adds l G h0 ad _ _ _ (a_tell 0) (a_tell 1) r4106 hr4106) q1519 q1521 qs34 q1522 rfl rfl (by decide +kernel) ⟨Nat.le_of_ble_eq_true rfl, Nat.le_of_ble_eq_true rfl⟩ ⟨Nat.le_refl _, Nat.le_refl _⟩ rfl hl.1 rfl (Nat.le_of_ble_eq_true rfl) dX5_item_221 (fun H locs hP hS => ?_)
          refine lv_pop C.1 C.2.1 dX5_item_224 rfl ?_
          refine lv_goto (tgt := 290) C.1 C.2.1 dX5_item_225 (by decide) ?_
          obtain rfl := Option.some.inj hE
          exact hJ290u4104 H locs ls hP hS (lv_sub hl [] rfl)
        have hE := it_f c4105 hE
        by_cases c4107 : x1 = 1
        · have hE := it_t c4107 hE
          refine lv_tableIn (tgt := 228) C.1 C.2.1 dX5_item_154 (by rw [c4107]; decide) (by rw [c4107]; decide) (by rw [c4107]; rfl) (by decide) ?_
          refine lv_aload_n C.1 C.2.1 dX5_item_228 rfl (lv_at hl 0 rfl) ?_
          refine ma_14 C hP dX5_item_229 ?_
          refine lv_aload_n C.1 C.2.1 dX5_item_232 rfl (lv_at hl 0 rfl) ?_
          refine ma_27 C hP dX5_item_233 ?_
          refine lv_iconst (v := 0) C.1 C.2.1 dX5_item_236 (by decide) ?_
          refine ml_27 (v := (a_tell 0)) C hP (gi_in (by decide)) rfl dX5_item_237 ?_
          refine lv_aload_n C.1 C.2.1 dX5_item_238 rfl (lv_at hl 0 rfl) ?_
          refine ma_27 C hP dX5_item_239 ?_
          refine lv_iconst (v := 1) C.1 C.2.1 dX5_item_242 (by decide) ?_
          refine ml_27 (v := (a_tell 1)) C hP (gi_in (by decide)) rfl dX5_item_243 ?_
          obtain ⟨g4108, hE⟩ := it_g hE
          refine ms_14 (a := a_marks) C hP hS (gi_in g4108) rfl dX5_item_244 (fun H locs hP hS => ?_)
          refine lv_goto (tgt := 290) C.1 C.2.1 dX5_item_245 (by decide) ?_
          obtain rfl := Option.some.inj hE
          exact hJ290u4104 H locs ls hP hS (lv_sub hl [] rfl)
        have hE := it_f c4107 hE
        by_cases c4109 : x1 = 2
        · have hE := it_t c4109 hE
          refine lv_tableIn (tgt := 248) C.1 C.2.1 dX5_item_154 (by rw [c4109]; decide) (by rw [c4109]; decide) (by rw [c4109]; rfl) (by decide) ?_
          refine lv_aload_n C.1 C.2.1 dX5_item_248 rfl (lv_at hl 0 rfl) ?_
          refine ma_15 C hP dX5_item_249 ?_
          refine lv_aload_n C.1 C.2.1 dX5_item_252 rfl (lv_at hl 0 rfl) ?_
          refine ma_27 C hP dX5_item_253 ?_
          refine lv_iconst (v := 0) C.1 C.2.1 dX5_item_256 (by decide) ?_
          refine ml_27 (v := (a_tell 0)) C hP (gi_in (by decide)) rfl dX5_item_257 ?_
          refine lv_iconst (v := 1) C.1 C.2.1 dX5_item_258 (by decide) ?_
          obtain ⟨g4110, hE⟩ := it_g hE
          refine ms_15 (a := a_ill) C hP hS (gi_in g4110) rfl dX5_item_259 (fun H locs hP hS => ?_)
          refine lv_goto (tgt := 290) C.1 C.2.1 dX5_item_260 (by decide) ?_
          obtain rfl := Option.some.inj hE
          exact hJ290u4104 H locs ls hP hS (lv_sub hl [] rfl)
        have hE := it_f c4109 hE
        by_cases c4111 : x1 = 9
        · have hE := it_t c4111 hE
          refine lv_tableIn (tgt := 263) C.1 C.2.1 dX5_item_154 (by rw [c4111]; decide) (by rw [c4111]; decide) (by rw [c4111]; rfl) (by decide) ?_
          refine lv_aload_n C.1 C.2.1 dX5_item_263 rfl (lv_at hl 0 rfl) ?_
          refine lv_aload_n C.1 C.2.1 dX5_item_264 rfl (lv_at hl 0 rfl) ?_
          refine ma_27 C hP dX5_item_265 ?_
          refine lv_iconst (v := 0) C.1 C.2.1 dX5_item_268 (by decide) ?_
          refine ml_27 (v := (a_tell 0)) C hP (gi_in (by decide)) rfl dX5_item_269 ?_
          obtain ⟨r4112, hr4112, hE⟩ := it_b hE
          refine m_call (n := 1) (As := [.int (a_tell 0)]) (rest := []) C hP hS hml (metM_weekInTruth l G h0 ad _ _ _ (a_tell 0) r4112 hr4112) q1599 q1601 qs49 q1602 rfl rfl (by decide +kernel) ⟨Nat.le_of_ble_eq_true rfl, Nat.le_of_ble_eq_true rfl⟩ ⟨Nat.le_refl _, Nat.le_refl _⟩ rfl hl.1 rfl (Nat.le_of_ble_eq_true rfl) dX5_item_270 (fun H locs hP hS => ?_)
          refine lv_pop C.1 C.2.1 dX5_item_273 rfl ?_
          refine lv_goto (tgt := 290) C.1 C.2.1 dX5_item_274 (by decide) ?_
          obtain rfl := Option.some.inj hE
          exact hJ290u4104 H locs ls hP hS (lv_sub hl [] rfl)
        have hE := it_f c4111 hE
        refine sf_ (a := W p l e ({ frames := 4, cells := 0, slots := 0, locals := 87 } : Room) s m args below meth c H locs 0 0 Q (F0 m 277 ls [])) (fun hG => ?_) ?_
        · by_cases c4113 : x1 = 3
          · exact lv_tableIn (tgt := 277) C.1 C.2.1 dX5_item_154 (by rw [c4113]; decide) (by rw [c4113]; decide) (by rw [c4113]; rfl) (by decide) hG
          by_cases c4114 : x1 = 4
          · exact lv_tableIn (tgt := 277) C.1 C.2.1 dX5_item_154 (by rw [c4114]; decide) (by rw [c4114]; decide) (by rw [c4114]; rfl) (by decide) hG
          by_cases c4115 : x1 = 5
          · exact lv_tableIn (tgt := 277) C.1 C.2.1 dX5_item_154 (by rw [c4115]; decide) (by rw [c4115]; decide) (by rw [c4115]; rfl) (by decide) hG
          by_cases c4116 : x1 = 6
          · exact lv_tableIn (tgt := 277) C.1 C.2.1 dX5_item_154 (by rw [c4116]; decide) (by rw [c4116]; decide) (by rw [c4116]; rfl) (by decide) hG
          by_cases c4117 : x1 = 7
          · exact lv_tableIn (tgt := 277) C.1 C.2.1 dX5_item_154 (by rw [c4117]; decide) (by rw [c4117]; decide) (by rw [c4117]; rfl) (by decide) hG
          by_cases c4118 : x1 = 8
          · exact lv_tableIn (tgt := 277) C.1 C.2.1 dX5_item_154 (by rw [c4118]; decide) (by rw [c4118]; decide) (by rw [c4118]; rfl) (by decide) hG
          exact lv_tableOut (tgt := 277) C.1 C.2.1 dX5_item_154 (ts_e (ts_s (ts_s (ts_s (ts_s (ts_s (ts_s (ts_s (ts_s (ts_s (ts_s (ts_0 0) c4105 rfl rfl) c4107 rfl rfl) c4109 rfl rfl) c4113 rfl rfl) c4114 rfl rfl) c4115 rfl rfl) c4116 rfl rfl) c4117 rfl rfl) c4118 rfl rfl) c4111 rfl rfl) rfl) (by decide) hG
        refine lv_aload_n C.1 C.2.1 dX5_item_277 rfl (lv_at hl 0 rfl) ?_
        refine lv_iload_n C.1 C.2.1 dX5_item_278 rfl (lv_at hl 1 rfl) ?_
        refine lv_iconst (v := 3) C.1 C.2.1 dX5_item_279 (by decide) ?_
        refine lv_isub C.1 C.2.1 dX5_item_280 ?_
        refine lv_aload_n C.1 C.2.1 dX5_item_281 rfl (lv_at hl 0 rfl) ?_
        refine ma_27 C hP dX5_item_282 ?_
        refine lv_iconst (v := 0) C.1 C.2.1 dX5_item_285 (by decide) ?_
        refine ml_27 (v := (a_tell 0)) C hP (gi_in (by decide)) rfl dX5_item_286 ?_
        obtain ⟨r4119, hr4119, hE⟩ := it_b hE
        refine m_call (n := 2) (As := [.int (x1 - 3), .int (a_tell 0)]) (rest := []) C hP hS hml (metM_tells l G h0 ad _ _ _ (x1 - 3) (a_tell 0) r4119 hr4119) q1547 q1549 qs37 q1550 rfl rfl (by decide +kernel) ⟨Nat.le_of_ble_eq_true rfl, Nat.le_of_ble_eq_true rfl⟩ ⟨Nat.le_refl _, Nat.le_refl _⟩ rfl hl.1 rfl (Nat.le_of_ble_eq_true rfl) dX5_item_287 (fun H locs hP hS => ?_)
        obtain rfl := Option.some.inj hE
        exact hJ290u4104 H locs ls hP hS (lv_sub hl [] rfl)
      · have hE := it_f c4103 hE
        refine lv_iload_n C.1 C.2.1 dX5_item_54 rfl (lv_at hl 2 rfl) ?_
        refine lv_if_le (tgt := 108) C.1 C.2.1 dX5_item_55 (by decide) (fun c4120 => ?_) (fun c4120 => ?_)
        · have hE := it_t c4120 hE
          refine lv_aload_n C.1 C.2.1 dX5_item_108 rfl (lv_at hl 0 rfl) ?_
          refine mg_29 (v := f_at) C hP rfl dX5_item_109 ?_
          refine lv_istore_n (lv' := [(3, .int f_at), (0, .ref h0), (1, .int x1), (2, .int x2)]) C.1 C.2.1 dX5_item_112 rfl hl (by decide) rfl (fun ls hl => ?_)
          refine lv_aload_n C.1 C.2.1 dX5_item_113 rfl (lv_at hl 1 rfl) ?_
          obtain ⟨r4121, hr4121, hE⟩ := it_b hE
          refine m_call (n := 0) (As := []) (rest := []) C hP hS hml (metM_reads l G h0 ad _ _ _ r4121 hr4121) q1583 q1585 qs45 q1586 rfl rfl (by decide +kernel) ⟨Nat.le_of_ble_eq_true rfl, Nat.le_of_ble_eq_true rfl⟩ ⟨Nat.le_refl _, Nat.le_refl _⟩ rfl hl.1 rfl (Nat.le_of_ble_eq_true rfl) dX5_item_114 (fun H locs hP hS => ?_)
          refine lv_if_ne (tgt := 122) C.1 C.2.1 dX5_item_117 (by decide) (fun c4122 => ?_) (fun c4122 => ?_)
          · have hE := it_f c4122 hE
            refine lv_aload_n C.1 C.2.1 dX5_item_122 rfl (lv_at hl 1 rfl) ?_
            refine lv_iload_n C.1 C.2.1 dX5_item_123 rfl (lv_at hl 2 rfl) ?_
            refine lv_iload_n C.1 C.2.1 dX5_item_124 rfl (lv_at hl 3 rfl) ?_
            obtain ⟨r4123, hr4123, hE⟩ := it_b hE
            refine m_call (n := 2) (As := [.int x1, .int x2]) (rest := []) C hP hS hml (metM_isSo l G h0 ad _ _ _ x1 x2 r4123 hr4123) q1591 q1593 qs47 q1594 rfl rfl (by decide +kernel) ⟨Nat.le_of_ble_eq_true rfl, Nat.le_of_ble_eq_true rfl⟩ ⟨Nat.le_refl _, Nat.le_refl _⟩ rfl hl.1 rfl (Nat.le_of_ble_eq_true rfl) dX5_item_125 (fun H locs hP hS => ?_)
            refine lv_if_ne (tgt := 137) C.1 C.2.1 dX5_item_128 (by decide) (fun c4124 => ?_) (fun c4124 => ?_)
            · have hE := it_f c4124 hE
              refine lv_aload_n C.1 C.2.1 dX5_item_137 rfl (lv_at hl 1 rfl) ?_
              refine ma_27 C hP dX5_item_138 ?_
              refine lv_iload_n C.1 C.2.1 dX5_item_141 rfl (lv_at hl 3 rfl) ?_
              refine lv_aload_n C.1 C.2.1 dX5_item_142 rfl (lv_at hl 1 rfl) ?_
              refine mg_31 (v := r4121.2.2.1) C hP rfl dX5_item_143 ?_
              obtain ⟨g4125, hE⟩ := it_g hE
              refine ms_27 (a := a_tell) C hP hS (gi_in g4125) rfl dX5_item_146 (fun H locs hP hS => ?_)
              refine lv_iinc (v := (x2 + 1)) (lv' := [(2, .int (x2 + 1)), (3, .int f_at), (0, .ref h0), (1, .int x1)]) C.1 C.2.1 dX5_item_147 hl (k := 3) rfl rfl (by decide) rfl (fun ls hl => ?_)
              refine lv_goto (tgt := 40) C.1 C.2.1 dX5_item_150 (by decide) ?_
              exact ih (x2 + 1) r4121.2.1 r4121.2.2.1 r4121.2.2.2 (upd a_tell (x2).toNatClampNeg r4121.2.2.1) _ _ _ hE hP hS (lv_sub hl [2, 3, 0] rfl) hret
            · have hE := it_t c4124 hE
              refine lv_aload_n C.1 C.2.1 dX5_item_131 rfl (lv_at hl 1 rfl) ?_
              refine lv_iload_n C.1 C.2.1 dX5_item_132 rfl (lv_at hl 0 rfl) ?_
              obtain ⟨r4126, hr4126, hE⟩ := it_b hE
              refine m_call (n := 1) (As := [.int f_at]) (rest := []) C hP hS hml (metM_wrong l G h0 ad _ _ _ f_at r4126 hr4126) q1575 q1577 qs43 q1578 rfl rfl (by decide +kernel) ⟨Nat.le_of_ble_eq_true rfl, Nat.le_of_ble_eq_true rfl⟩ ⟨Nat.le_refl _, Nat.le_refl _⟩ rfl hl.1 rfl (Nat.le_of_ble_eq_true rfl) dX5_item_133 (fun H locs hP hS => ?_)
              obtain ⟨g4127, hE⟩ := it_g hE
              obtain rfl := Option.some.inj hE
              exact hret _ _ _ _ (nbz g4127) dX5_item_136 hP hS
          · have hE := it_t c4122 hE
            refine lv_iconst (v := 0) C.1 C.2.1 dX5_item_120 (by decide) ?_
            obtain rfl := Option.some.inj hE
            exact hret _ _ _ _ (nbz (Or.inl rfl)) dX5_item_121 hP hS
        · have hE := it_f c4120 hE
          refine lv_aload_n C.1 C.2.1 dX5_item_58 rfl (lv_at hl 0 rfl) ?_
          refine mg_29 (v := f_at) C hP rfl dX5_item_59 ?_
          refine lv_aload_n C.1 C.2.1 dX5_item_62 rfl (lv_at hl 0 rfl) ?_
          refine mg_30 (v := (F 30)) C hP rfl dX5_item_63 ?_
          refine lv_icmp_ge (tgt := 89) C.1 C.2.1 dX5_item_66 (by decide) (fun c4128 => ?_) (fun c4128 => ?_)
          · have hE := it_t c4128 hE
            refine lv_aload_n C.1 C.2.1 dX5_item_89 rfl (lv_at hl 0 rfl) ?_
            refine lv_aload_n C.1 C.2.1 dX5_item_90 rfl (lv_at hl 0 rfl) ?_
            refine mg_29 (v := f_at) C hP rfl dX5_item_91 ?_
            obtain ⟨r4129, hr4129, hE⟩ := it_b hE
            refine m_call (n := 1) (As := [.int f_at]) (rest := []) C hP hS hml (metM_wrong l G h0 ad _ _ _ f_at r4129 hr4129) q1575 q1577 qs43 q1578 rfl rfl (by decide +kernel) ⟨Nat.le_of_ble_eq_true rfl, Nat.le_of_ble_eq_true rfl⟩ ⟨Nat.le_refl _, Nat.le_refl _⟩ rfl hl.1 rfl (Nat.le_of_ble_eq_true rfl) dX5_item_94 (fun H locs hP hS => ?_)
            obtain ⟨g4130, hE⟩ := it_g hE
            obtain rfl := Option.some.inj hE
            exact hret _ _ _ _ (nbz g4130) dX5_item_97 hP hS
          · have hE := it_f c4128 hE
            refine lv_aload_n C.1 C.2.1 dX5_item_69 rfl (lv_at hl 0 rfl) ?_
            refine ma_22 C hP dX5_item_70 ?_
            refine lv_aload_n C.1 C.2.1 dX5_item_73 rfl (lv_at hl 0 rfl) ?_
            refine mg_28 (v := (F 28)) C hP rfl dX5_item_74 ?_
            refine lv_aload_n C.1 C.2.1 dX5_item_77 rfl (lv_at hl 0 rfl) ?_
            refine mg_29 (v := f_at) C hP rfl dX5_item_78 ?_
            refine lv_iadd C.1 C.2.1 dX5_item_81 ?_
            obtain ⟨g4131, hE⟩ := it_g hE
            refine ml_22 (v := ((L 22) (((F 28) + f_at)).toNatClampNeg)) C hP (gi_in g4131) rfl dX5_item_82 ?_
            refine lv_l2i C.1 C.2.1 dX5_item_83 rfl ?_
            refine lv_bipush (v := 32) C.1 C.2.1 dX5_item_84 (by decide) ?_
            refine lv_icmp_eq (tgt := 98) C.1 C.2.1 dX5_item_86 (by decide) (fun c4132 => ?_) (fun c4132 => ?_)
            · have hE := it_t c4132 hE
              refine lv_aload_n C.1 C.2.1 dX5_item_98 rfl (lv_at hl 0 rfl) ?_
              refine lv_dup C.1 C.2.1 dX5_item_99 rfl ?_
              refine mg_29 (v := f_at) C hP rfl dX5_item_100 ?_
              refine lv_iconst (v := 1) C.1 C.2.1 dX5_item_103 (by decide) ?_
              refine lv_iadd C.1 C.2.1 dX5_item_104 ?_
              refine mp_29 C hP hS dX5_item_105 (fun H locs hP hS => ?_)
              refine lv_aload_n C.1 C.2.1 dX5_item_108 rfl (lv_at hl 0 rfl) ?_
              refine mg_29 (v := (f_at + 1)) C hP rfl dX5_item_109 ?_
              refine lv_istore_n (lv' := [(3, .int (f_at + 1)), (0, .ref h0), (1, .int x1), (2, .int x2)]) C.1 C.2.1 dX5_item_112 rfl hl (by decide) rfl (fun ls hl => ?_)
              refine lv_aload_n C.1 C.2.1 dX5_item_113 rfl (lv_at hl 1 rfl) ?_
              obtain ⟨r4133, hr4133, hE⟩ := it_b hE
              refine m_call (n := 0) (As := []) (rest := []) C hP hS hml (metM_reads l G h0 ad _ _ _ r4133 hr4133) q1583 q1585 qs45 q1586 rfl rfl (by decide +kernel) ⟨Nat.le_of_ble_eq_true rfl, Nat.le_of_ble_eq_true rfl⟩ ⟨Nat.le_refl _, Nat.le_refl _⟩ rfl hl.1 rfl (Nat.le_of_ble_eq_true rfl) dX5_item_114 (fun H locs hP hS => ?_)
              refine lv_if_ne (tgt := 122) C.1 C.2.1 dX5_item_117 (by decide) (fun c4134 => ?_) (fun c4134 => ?_)
              · have hE := it_f c4134 hE
                refine lv_aload_n C.1 C.2.1 dX5_item_122 rfl (lv_at hl 1 rfl) ?_
                refine lv_iload_n C.1 C.2.1 dX5_item_123 rfl (lv_at hl 2 rfl) ?_
                refine lv_iload_n C.1 C.2.1 dX5_item_124 rfl (lv_at hl 3 rfl) ?_
                obtain ⟨r4135, hr4135, hE⟩ := it_b hE
                refine m_call (n := 2) (As := [.int x1, .int x2]) (rest := []) C hP hS hml (metM_isSo l G h0 ad _ _ _ x1 x2 r4135 hr4135) q1591 q1593 qs47 q1594 rfl rfl (by decide +kernel) ⟨Nat.le_of_ble_eq_true rfl, Nat.le_of_ble_eq_true rfl⟩ ⟨Nat.le_refl _, Nat.le_refl _⟩ rfl hl.1 rfl (Nat.le_of_ble_eq_true rfl) dX5_item_125 (fun H locs hP hS => ?_)
                refine lv_if_ne (tgt := 137) C.1 C.2.1 dX5_item_128 (by decide) (fun c4136 => ?_) (fun c4136 => ?_)
                · have hE := it_f c4136 hE
                  refine lv_aload_n C.1 C.2.1 dX5_item_137 rfl (lv_at hl 1 rfl) ?_
                  refine ma_27 C hP dX5_item_138 ?_
                  refine lv_iload_n C.1 C.2.1 dX5_item_141 rfl (lv_at hl 3 rfl) ?_
                  refine lv_aload_n C.1 C.2.1 dX5_item_142 rfl (lv_at hl 1 rfl) ?_
                  refine mg_31 (v := r4133.2.2.1) C hP rfl dX5_item_143 ?_
                  obtain ⟨g4137, hE⟩ := it_g hE
                  refine ms_27 (a := a_tell) C hP hS (gi_in g4137) rfl dX5_item_146 (fun H locs hP hS => ?_)
                  refine lv_iinc (v := (x2 + 1)) (lv' := [(2, .int (x2 + 1)), (3, .int (f_at + 1)), (0, .ref h0), (1, .int x1)]) C.1 C.2.1 dX5_item_147 hl (k := 3) rfl rfl (by decide) rfl (fun ls hl => ?_)
                  refine lv_goto (tgt := 40) C.1 C.2.1 dX5_item_150 (by decide) ?_
                  exact ih (x2 + 1) r4133.2.1 r4133.2.2.1 r4133.2.2.2 (upd a_tell (x2).toNatClampNeg r4133.2.2.1) _ _ _ hE hP hS (lv_sub hl [2, 3, 0] rfl) hret
                · have hE := it_t c4136 hE
                  refine lv_aload_n C.1 C.2.1 dX5_item_131 rfl (lv_at hl 1 rfl) ?_
                  refine lv_iload_n C.1 C.2.1 dX5_item_132 rfl (lv_at hl 0 rfl) ?_
                  obtain ⟨r4138, hr4138, hE⟩ := it_b hE
                  refine m_call (n := 1) (As := [.int (f_at + 1)]) (rest := []) C hP hS hml (metM_wrong l G h0 ad _ _ _ (f_at + 1) r4138 hr4138) q1575 q1577 qs43 q1578 rfl rfl (by decide +kernel) ⟨Nat.le_of_ble_eq_true rfl, Nat.le_of_ble_eq_true rfl⟩ ⟨Nat.le_refl _, Nat.le_refl _⟩ rfl hl.1 rfl (Nat.le_of_ble_eq_true rfl) dX5_item_133 (fun H locs hP hS => ?_)
                  obtain ⟨g4139, hE⟩ := it_g hE
                  obtain rfl := Option.some.inj hE
                  exact hret _ _ _ _ (nbz g4139) dX5_item_136 hP hS
              · have hE := it_t c4134 hE
                refine lv_iconst (v := 0) C.1 C.2.1 dX5_item_120 (by decide) ?_
                obtain rfl := Option.some.inj hE
                exact hret _ _ _ _ (nbz (Or.inl rfl)) dX5_item_121 hP hS
            · have hE := it_f c4132 hE
              refine lv_aload_n C.1 C.2.1 dX5_item_89 rfl (lv_at hl 0 rfl) ?_
              refine lv_aload_n C.1 C.2.1 dX5_item_90 rfl (lv_at hl 0 rfl) ?_
              refine mg_29 (v := f_at) C hP rfl dX5_item_91 ?_
              obtain ⟨r4140, hr4140, hE⟩ := it_b hE
              refine m_call (n := 1) (As := [.int f_at]) (rest := []) C hP hS hml (metM_wrong l G h0 ad _ _ _ f_at r4140 hr4140) q1575 q1577 qs43 q1578 rfl rfl (by decide +kernel) ⟨Nat.le_of_ble_eq_true rfl, Nat.le_of_ble_eq_true rfl⟩ ⟨Nat.le_refl _, Nat.le_refl _⟩ rfl hl.1 rfl (Nat.le_of_ble_eq_true rfl) dX5_item_94 (fun H locs hP hS => ?_)
              obtain ⟨g4141, hE⟩ := it_g hE
              obtain rfl := Option.some.inj hE
              exact hret _ _ _ _ (nbz g4141) dX5_item_97 hP hS
    have hE := hR
    refine lv_icmp_ge (tgt := 50) C.1 C.2.1 dX5_item_43 (by decide) (fun c4101 => ?_) (fun c4101 => ?_)
    · have hE := it_t c4101 hE
      refine lv_iconst (v := 1) C.1 C.2.1 dX5_item_50 (by decide) ?_
      obtain rfl := Option.some.inj hE
      exact hJ51u4102 H locs ls hP hS (lv_sub hl [0, 1, 2] rfl)
    · have hE := it_f c4101 hE
      refine lv_iconst (v := 2) C.1 C.2.1 dX5_item_46 (by decide) ?_
      refine lv_goto (tgt := 51) C.1 C.2.1 dX5_item_47 (by decide) ?_
      obtain rfl := Option.some.inj hE
      exact hJ51u4102 H locs ls hP hS (lv_sub hl [0, 1, 2] rfl)
set_option maxHeartbeats 4000000 in
theorem metM_item (l : Launch) (G : kG) (h0 : Nat) (ad : Nat → Nat) (F : Nat → Int32) (A : Nat → Nat → Int32) (L : Nat → Nat → Int64)  (res : Int32 × Int32 × Int32 × Int32 × Int32 × Int32 × Int32 × Int32 × Int32 × Int32 × Int32 × Int32 × Int32 × Int32 × Int32 × Int32 × Int32 × Int32 × Int32 × (Nat → Int32) × (Nat → Int32) × (Nat → Int32) × (Nat → Int32) × (Nat → Int32) × (Nat → Int32) × (Nat → Int32)) (hE : sM_item (F 0) (F 1) (F 2) (F 3) (F 4) (F 5) (F 6) (F 7) (F 8) (F 28) (F 29) (F 30) (F 31) (F 32) (F 35) (F 36) (F 37) (F 38) (F 39) (F 40) (A 12) (A 13) (A 14) (A 15) (A 16) (A 17) (A 24) (A 25) (A 26) (A 27) (L 22) = some res) : Met l yX5_item (ws_ yX5_item cX5_item 4 (some .boolean)) ({ frames := 4, cells := 0, slots := 0, locals := 87 } : Room) (mPc G h0 ad F A L []) (mQc G h0 ad (upd (upd (upd (upd (upd (upd (upd (upd (upd (upd (upd (upd (upd (upd (upd (upd (upd (upd F 0 res.2.1) 1 res.2.2.1) 2 res.2.2.2.1) 3 res.2.2.2.2.1) 4 res.2.2.2.2.2.1) 5 res.2.2.2.2.2.2.1) 6 res.2.2.2.2.2.2.2.1) 7 res.2.2.2.2.2.2.2.2.1) 8 res.2.2.2.2.2.2.2.2.2.1) 29 res.2.2.2.2.2.2.2.2.2.2.1) 31 res.2.2.2.2.2.2.2.2.2.2.2.1) 32 res.2.2.2.2.2.2.2.2.2.2.2.2.1) 35 res.2.2.2.2.2.2.2.2.2.2.2.2.2.1) 36 res.2.2.2.2.2.2.2.2.2.2.2.2.2.2.1) 37 res.2.2.2.2.2.2.2.2.2.2.2.2.2.2.2.1) 38 res.2.2.2.2.2.2.2.2.2.2.2.2.2.2.2.2.1) 39 res.2.2.2.2.2.2.2.2.2.2.2.2.2.2.2.2.2.1) 40 res.2.2.2.2.2.2.2.2.2.2.2.2.2.2.2.2.2.2.1) (va_up (va_up (va_up (va_up (va_up (va_up (va_up A 12 res.2.2.2.2.2.2.2.2.2.2.2.2.2.2.2.2.2.2.2.1) 13 res.2.2.2.2.2.2.2.2.2.2.2.2.2.2.2.2.2.2.2.2.1) 14 res.2.2.2.2.2.2.2.2.2.2.2.2.2.2.2.2.2.2.2.2.2.1) 15 res.2.2.2.2.2.2.2.2.2.2.2.2.2.2.2.2.2.2.2.2.2.2.1) 16 res.2.2.2.2.2.2.2.2.2.2.2.2.2.2.2.2.2.2.2.2.2.2.2.1) 17 res.2.2.2.2.2.2.2.2.2.2.2.2.2.2.2.2.2.2.2.2.2.2.2.2.1) 27 res.2.2.2.2.2.2.2.2.2.2.2.2.2.2.2.2.2.2.2.2.2.2.2.2.2) L (some (.int res.1))) 0 0 (mA h0 ad) := by
  refine m_ofW (by decide) rfl (Nat.le_of_ble_eq_true rfl) ?_
  intro p e s m args below meth c ls C hml hP hS hl hr hlocks
  have hl : lv_has ls 4 [(0, .ref h0)] := hl
  obtain ⟨Q, hQ⟩ : ∃ Q, Q = MQ below (mQc G h0 ad (upd (upd (upd (upd (upd (upd (upd (upd (upd (upd (upd (upd (upd (upd (upd (upd (upd (upd F 0 res.2.1) 1 res.2.2.1) 2 res.2.2.2.1) 3 res.2.2.2.2.1) 4 res.2.2.2.2.2.1) 5 res.2.2.2.2.2.2.1) 6 res.2.2.2.2.2.2.2.1) 7 res.2.2.2.2.2.2.2.2.1) 8 res.2.2.2.2.2.2.2.2.2.1) 29 res.2.2.2.2.2.2.2.2.2.2.1) 31 res.2.2.2.2.2.2.2.2.2.2.2.1) 32 res.2.2.2.2.2.2.2.2.2.2.2.2.1) 35 res.2.2.2.2.2.2.2.2.2.2.2.2.2.1) 36 res.2.2.2.2.2.2.2.2.2.2.2.2.2.2.1) 37 res.2.2.2.2.2.2.2.2.2.2.2.2.2.2.2.1) 38 res.2.2.2.2.2.2.2.2.2.2.2.2.2.2.2.2.1) 39 res.2.2.2.2.2.2.2.2.2.2.2.2.2.2.2.2.2.1) 40 res.2.2.2.2.2.2.2.2.2.2.2.2.2.2.2.2.2.2.1) (va_up (va_up (va_up (va_up (va_up (va_up (va_up A 12 res.2.2.2.2.2.2.2.2.2.2.2.2.2.2.2.2.2.2.2.1) 13 res.2.2.2.2.2.2.2.2.2.2.2.2.2.2.2.2.2.2.2.2.1) 14 res.2.2.2.2.2.2.2.2.2.2.2.2.2.2.2.2.2.2.2.2.2.1) 15 res.2.2.2.2.2.2.2.2.2.2.2.2.2.2.2.2.2.2.2.2.2.2.1) 16 res.2.2.2.2.2.2.2.2.2.2.2.2.2.2.2.2.2.2.2.2.2.2.2.1) 17 res.2.2.2.2.2.2.2.2.2.2.2.2.2.2.2.2.2.2.2.2.2.2.2.2.1) 27 res.2.2.2.2.2.2.2.2.2.2.2.2.2.2.2.2.2.2.2.2.2.2.2.2.2) L (some (.int res.1))) args s 0 0 (mA h0 ad) := ⟨_, rfl⟩
  rw [← hQ]
  have hret : ∀ (pc : Nat) (ls : Array Slot) (H : Heap) (locs : List Loc), narrow .boolean (.int res.1) = .int res.1 → decode cX5_item pc = .ok (.ireturn, 1) → mPw G h0 ad (upd (upd (upd (upd (upd (upd (upd (upd (upd (upd (upd (upd (upd (upd (upd (upd (upd (upd F 0 res.2.1) 1 res.2.2.1) 2 res.2.2.2.1) 3 res.2.2.2.2.1) 4 res.2.2.2.2.2.1) 5 res.2.2.2.2.2.2.1) 6 res.2.2.2.2.2.2.2.1) 7 res.2.2.2.2.2.2.2.2.1) 8 res.2.2.2.2.2.2.2.2.2.1) 29 res.2.2.2.2.2.2.2.2.2.2.1) 31 res.2.2.2.2.2.2.2.2.2.2.2.1) 32 res.2.2.2.2.2.2.2.2.2.2.2.2.1) 35 res.2.2.2.2.2.2.2.2.2.2.2.2.2.1) 36 res.2.2.2.2.2.2.2.2.2.2.2.2.2.2.1) 37 res.2.2.2.2.2.2.2.2.2.2.2.2.2.2.2.1) 38 res.2.2.2.2.2.2.2.2.2.2.2.2.2.2.2.2.1) 39 res.2.2.2.2.2.2.2.2.2.2.2.2.2.2.2.2.2.1) 40 res.2.2.2.2.2.2.2.2.2.2.2.2.2.2.2.2.2.2.1) (va_up (va_up (va_up (va_up (va_up (va_up (va_up A 12 res.2.2.2.2.2.2.2.2.2.2.2.2.2.2.2.2.2.2.2.1) 13 res.2.2.2.2.2.2.2.2.2.2.2.2.2.2.2.2.2.2.2.2.1) 14 res.2.2.2.2.2.2.2.2.2.2.2.2.2.2.2.2.2.2.2.2.2.1) 15 res.2.2.2.2.2.2.2.2.2.2.2.2.2.2.2.2.2.2.2.2.2.2.1) 16 res.2.2.2.2.2.2.2.2.2.2.2.2.2.2.2.2.2.2.2.2.2.2.2.1) 17 res.2.2.2.2.2.2.2.2.2.2.2.2.2.2.2.2.2.2.2.2.2.2.2.2.1) 27 res.2.2.2.2.2.2.2.2.2.2.2.2.2.2.2.2.2.2.2.2.2.2.2.2.2) L H → va_S (mA h0 ad) s.heap H locs → W p l e ({ frames := 4, cells := 0, slots := 0, locals := 87 } : Room) s m args below meth c H locs 0 0 Q (F0 m pc ls [.int res.1]) := by
    intro pc ls H locs hn hd hP hS
    rw [hQ]
    exact m_zret C hr hlocks hn hd hP hS
  clear hQ
  obtain ⟨H, hH⟩ : ∃ H, H = s.heap := ⟨_, rfl⟩
  obtain ⟨locs, hlo⟩ : ∃ locs : List Loc, locs = [] := ⟨_, rfl⟩
  have hP : mPw G h0 ad F A L H := by rw [hH]; exact hP
  have hS : va_S (mA h0 ad) s.heap H locs := by rw [hH, hlo]; exact hS
  suffices hZ : W p l e ({ frames := 4, cells := 0, slots := 0, locals := 87 } : Room) s m args below meth c H locs 0 0 Q (F0 m 0 ls []) by rw [hH, hlo] at hZ; exact hZ
  clear hH hlo
  unfold sM_item at hE
  refine lv_aload_n C.1 C.2.1 dX5_item_0 rfl (lv_at hl 0 rfl) ?_
  refine lv_iconst (v := 0) C.1 C.2.1 dX5_item_1 (by decide) ?_
  obtain ⟨r1, hr1, hE⟩ := it_b hE
  refine m_call (n := 1) (As := [.int 0]) (rest := []) C hP hS hml (metM_isWordAt l G h0 ad _ _ _ 0 r1 hr1) q1571 q1573 qs42 q1574 rfl rfl (by decide +kernel) ⟨Nat.le_of_ble_eq_true rfl, Nat.le_of_ble_eq_true rfl⟩ ⟨Nat.le_refl _, Nat.le_refl _⟩ rfl hl.1 rfl (Nat.le_of_ble_eq_true rfl) dX5_item_2 (fun H locs hP hS => ?_)
  obtain ⟨u3, hR, hE⟩ := it_b hE
  have hJ17u3 : u3 = true → ∀ (H : Heap) (locs : List Loc) (ls : Array Slot), mPw G h0 ad F A L H → va_S (mA h0 ad) s.heap H locs → lv_has ls 4 [(0, .ref h0)] → W p l e ({ frames := 4, cells := 0, slots := 0, locals := 87 } : Room) s m args below meth c H locs 0 0 Q (F0 m 17 ls []) := by
    intro hu H locs ls hP hS hl
    have hE := it_t hu hE
    refine lv_aload_n C.1 C.2.1 dX5_item_17 rfl (lv_at hl 0 rfl) ?_
    refine lv_aload_n C.1 C.2.1 dX5_item_18 rfl (lv_at hl 0 rfl) ?_
    refine mg_29 (v := (F 29)) C hP rfl dX5_item_19 ?_
    obtain ⟨r5, hr5, hE⟩ := it_b hE
    refine m_call (n := 1) (As := [.int (F 29)]) (rest := []) C hP hS hml (metM_wrong l G h0 ad _ _ _ (F 29) r5 hr5) q1575 q1577 qs43 q1578 rfl rfl (by decide +kernel) ⟨Nat.le_of_ble_eq_true rfl, Nat.le_of_ble_eq_true rfl⟩ ⟨Nat.le_refl _, Nat.le_refl _⟩ rfl hl.1 rfl (Nat.le_of_ble_eq_true rfl) dX5_item_22 (fun H locs hP hS => ?_)
    obtain ⟨g6, hE⟩ := it_g hE
    obtain rfl := Option.some.inj hE
    exact hret _ _ _ _ (nbz g6) dX5_item_25 hP hS
  have hJ26u3 : ¬ u3 = true → ∀ (H : Heap) (locs : List Loc) (ls : Array Slot), mPw G h0 ad F A L H → va_S (mA h0 ad) s.heap H locs → lv_has ls 4 [(0, .ref h0)] → W p l e ({ frames := 4, cells := 0, slots := 0, locals := 87 } : Room) s m args below meth c H locs 0 0 Q (F0 m 26 ls []) := by
    intro hu H locs ls hP hS hl
    have hE := it_f hu hE
    refine lv_aload_n C.1 C.2.1 dX5_item_26 rfl (lv_at hl 0 rfl) ?_
    obtain ⟨r7, hr7, hE⟩ := it_b hE
    refine m_call (n := 0) (As := []) (rest := []) C hP hS hml (metM_word l G h0 ad _ _ _ r7 hr7) q1579 q1581 qs44 q1582 rfl rfl (by decide +kernel) ⟨Nat.le_of_ble_eq_true rfl, Nat.le_of_ble_eq_true rfl⟩ ⟨Nat.le_refl _, Nat.le_refl _⟩ rfl hl.1 rfl (Nat.le_of_ble_eq_true rfl) dX5_item_27 (fun H locs hP hS => ?_)
    refine lv_istore_n (lv' := [(1, .int r7.1), (0, .ref h0)]) C.1 C.2.1 dX5_item_30 rfl hl (by decide) rfl (fun ls hl => ?_)
    refine lv_iload_n C.1 C.2.1 dX5_item_31 rfl (lv_at hl 0 rfl) ?_
    refine lv_iconst (v := (-1)) C.1 C.2.1 dX5_item_32 (by decide) ?_
    refine lv_icmp_ne (tgt := 38) C.1 C.2.1 dX5_item_33 (by decide) (fun c8 => ?_) (fun c8 => ?_)
    · have hE := it_f c8 hE
      refine lv_iconst (v := 0) C.1 C.2.1 dX5_item_38 (by decide) ?_
      refine lv_istore_n (lv' := [(2, .int 0), (1, .int r7.1), (0, .ref h0)]) C.1 C.2.1 dX5_item_39 rfl hl (by decide) rfl (fun ls hl => ?_)
      exact wM_item_h40 C hml F A L r7.1 (F 0) (F 1) (F 2) (F 3) (F 4) (F 5) (F 6) (F 7) (F 8) (F 35) (F 36) (F 37) (F 38) (F 39) (F 40) (A 12) (A 13) (A 14) (A 15) (A 16) (A 17) res 2000 0 r7.2.1 (F 31) r7.2.2 (A 27) H locs ls hE hP hS (lv_sub hl [2, 1, 0] rfl) hret
    · have hE := it_t c8 hE
      refine lv_iconst (v := 0) C.1 C.2.1 dX5_item_36 (by decide) ?_
      obtain rfl := Option.some.inj hE
      exact hret _ _ _ _ (nbz (Or.inl rfl)) dX5_item_37 hP hS
  have hE := hR
  refine lv_if_eq (tgt := 26) C.1 C.2.1 dX5_item_5 (by decide) (fun c2 => ?_) (fun c2 => ?_)
  · have hE := it_t c2 hE
    obtain rfl := Option.some.inj hE
    exact hJ26u3 (by decide) H locs ls hP hS (lv_sub hl [0] rfl)
  · have hE := it_f c2 hE
    refine lv_aload_n C.1 C.2.1 dX5_item_8 rfl (lv_at hl 0 rfl) ?_
    refine mg_0 (v := (F 0)) C hP rfl dX5_item_9 ?_
    refine lv_bipush (v := 8) C.1 C.2.1 dX5_item_12 (by decide) ?_
    refine lv_icmp_ne (tgt := 26) C.1 C.2.1 dX5_item_14 (by decide) (fun c4 => ?_) (fun c4 => ?_)
    · have hE := it_f c4 hE
      obtain rfl := Option.some.inj hE
      exact hJ26u3 (by decide) H locs ls hP hS (lv_sub hl [0] rfl)
    · have hE := it_t c4 hE
      obtain rfl := Option.some.inj hE
      exact hJ17u3 rfl H locs ls hP hS (lv_sub hl [0] rfl)
def sM_orders_0 (f_many : Int32) (f_weight : Int32) (f_fright : Int32) (f_age : Int32) (f_feed : Int32) (f_life : Int32) (f_low : Int32) (f_heft : Int32) (f_alarm : Int32) (f_old : Int32) (f_died : Int32) (f_ofWhat : Int32) (f_heavy : Int32) (f_fewest : Int32) (f_leanest : Int32) (a_kind : Nat → Int32) (a_part : Nat → Int32) (a_ill : Nat → Int32) (a_order : Nat → Int32) (a_best : Nat → Int32) (p1 : Int32) (p2 : Int32) (p3 : Int32) : Option (Int32 × Int32 × Int32 × Int32 × Int32 × Int32 × Int32 × Int32 × (Nat → Int32) × (Nat → Int32)) :=
  none
set_option maxHeartbeats 4000000 in
theorem metM_orders_0 (l : Launch) (G : kG) (h0 : Nat) (ad : Nat → Nat) (F : Nat → Int32) (A : Nat → Nat → Int32) (L : Nat → Nat → Int64) (p1 : Int32) (p2 : Int32) (p3 : Int32) (res : Int32 × Int32 × Int32 × Int32 × Int32 × Int32 × Int32 × Int32 × (Nat → Int32) × (Nat → Int32)) (hE : sM_orders_0 (F 0) (F 1) (F 2) (F 3) (F 5) (F 6) (F 7) (F 35) (F 36) (F 37) (F 38) (F 39) (F 40) (F 43) (F 44) (A 12) (A 13) (A 15) (A 41) (A 42) p1 p2 p3 = some res) : Met l yX5_orders (ws_ yX5_orders cX5_orders 5 none) ({ frames := 4, cells := 0, slots := 0, locals := 88 } : Room) (mPc G h0 ad F A L [.int p1, .int p2, .int p3]) (mQc G h0 ad (upd (upd (upd (upd (upd (upd (upd (upd F 35 res.1) 36 res.2.1) 37 res.2.2.1) 38 res.2.2.2.1) 39 res.2.2.2.2.1) 40 res.2.2.2.2.2.1) 43 res.2.2.2.2.2.2.1) 44 res.2.2.2.2.2.2.2.1) (va_up (va_up A 41 res.2.2.2.2.2.2.2.2.1) 42 res.2.2.2.2.2.2.2.2.2) L none) 0 0 (mA h0 ad) := by
  refine m_ofW (by decide) rfl (Nat.le_of_ble_eq_true rfl) ?_
  intro p e s m args below meth c ls C hml hP hS hl hr hlocks
  have hl : lv_has ls 5 [(0, .ref h0), (1, .int p1), (2, .int p2), (3, .int p3)] := hl
  obtain ⟨Q, hQ⟩ : ∃ Q, Q = MQ below (mQc G h0 ad (upd (upd (upd (upd (upd (upd (upd (upd F 35 res.1) 36 res.2.1) 37 res.2.2.1) 38 res.2.2.2.1) 39 res.2.2.2.2.1) 40 res.2.2.2.2.2.1) 43 res.2.2.2.2.2.2.1) 44 res.2.2.2.2.2.2.2.1) (va_up (va_up A 41 res.2.2.2.2.2.2.2.2.1) 42 res.2.2.2.2.2.2.2.2.2) L none) args s 0 0 (mA h0 ad) := ⟨_, rfl⟩
  rw [← hQ]
  have hret : ∀ (pc : Nat) (ls : Array Slot) (H : Heap) (locs : List Loc), decode cX5_orders pc = .ok (.return_, 1) → mPw G h0 ad (upd (upd (upd (upd (upd (upd (upd (upd F 35 res.1) 36 res.2.1) 37 res.2.2.1) 38 res.2.2.2.1) 39 res.2.2.2.2.1) 40 res.2.2.2.2.2.1) 43 res.2.2.2.2.2.2.1) 44 res.2.2.2.2.2.2.2.1) (va_up (va_up A 41 res.2.2.2.2.2.2.2.2.1) 42 res.2.2.2.2.2.2.2.2.2) L H → va_S (mA h0 ad) s.heap H locs → W p l e ({ frames := 4, cells := 0, slots := 0, locals := 88 } : Room) s m args below meth c H locs 0 0 Q (F0 m pc ls []) := by
    intro pc ls H locs hd hP hS
    rw [hQ]
    exact m_vret C hr hlocks hd hP hS
  clear hQ
  obtain ⟨H, hH⟩ : ∃ H, H = s.heap := ⟨_, rfl⟩
  obtain ⟨locs, hlo⟩ : ∃ locs : List Loc, locs = [] := ⟨_, rfl⟩
  have hP : mPw G h0 ad F A L H := by rw [hH]; exact hP
  have hS : va_S (mA h0 ad) s.heap H locs := by rw [hH, hlo]; exact hS
  suffices hZ : W p l e ({ frames := 4, cells := 0, slots := 0, locals := 88 } : Room) s m args below meth c H locs 0 0 Q (F0 m 0 ls []) by rw [hH, hlo] at hZ; exact hZ
  clear hH hlo
  unfold sM_orders_0 at hE
  exact it_n hE
def sM_orders_1_h13 (x1 : Int32) (x2 : Int32) (x3 : Int32) (f_many : Int32) (f_weight : Int32) (f_fright : Int32) (f_age : Int32) (f_feed : Int32) (f_life : Int32) (f_low : Int32) (a_kind : Nat → Int32) (a_part : Nat → Int32) (a_ill : Nat → Int32) : Nat → Int32 → Int32 → Int32 → Int32 → Int32 → Int32 → Int32 → Int32 → Int32 → (Nat → Int32) → (Nat → Int32) → Option (Int32 × Int32 × Int32 × Int32 × Int32 × Int32 × Int32 × Int32 × (Nat → Int32) × (Nat → Int32))
  | 0, _, _, _, _, _, _, _, _, _, _, _ => none
  | fuel + 1, x4, f_heft, f_alarm, f_old, f_died, f_ofWhat, f_heavy, f_fewest, f_leanest, a_order, a_best =>
    if x2 ≤ x4 then
      some (f_heft, f_alarm, f_old, f_died, f_ofWhat, f_heavy, f_fewest, f_leanest, a_order, a_best)
    else
      if x2 ≤ x1 then
        some (f_heft, f_alarm, f_old, f_died, f_ofWhat, f_heavy, f_fewest, f_leanest, a_order, a_best)
      else
        @Option.bind (Int32 × Int32 × Int32 × Int32 × Int32 × Int32 × Int32 × Int32 × (Nat → Int32) × (Nat → Int32)) _ (
          if ((x3 >>> (x4 &&& 31)) &&& 1) = 1 then
            some (f_heft, f_alarm, f_old, f_died, f_ofWhat, f_heavy, f_fewest, f_leanest, a_order, a_best)
          else
            (sM_mayAt f_many a_ill x4).bind fun r1405 =>
            if gi x1 6 then
            (sM_orders_0 f_many f_weight f_fright f_age f_feed f_life f_low f_heft f_alarm f_old f_died f_ofWhat f_heavy f_fewest f_leanest a_kind a_part a_ill (upd a_order (x1).toNatClampNeg r1405) a_best (x1 + 1) x2 (x3 ||| (1 <<< (x4 &&& 31)))).bind fun r1407 =>
            some (r1407.1, r1407.2.1, r1407.2.2.1, r1407.2.2.2.1, r1407.2.2.2.2.1, r1407.2.2.2.2.2.1, r1407.2.2.2.2.2.2.1, r1407.2.2.2.2.2.2.2.1, r1407.2.2.2.2.2.2.2.2.1, r1407.2.2.2.2.2.2.2.2.2)
            else none) fun u1404 =>
        sM_orders_1_h13 x1 x2 x3 f_many f_weight f_fright f_age f_feed f_life f_low a_kind a_part a_ill fuel (x4 + 1) u1404.1 u1404.2.1 u1404.2.2.1 u1404.2.2.2.1 u1404.2.2.2.2.1 u1404.2.2.2.2.2.1 u1404.2.2.2.2.2.2.1 u1404.2.2.2.2.2.2.2.1 u1404.2.2.2.2.2.2.2.2.1 u1404.2.2.2.2.2.2.2.2.2
def sM_orders_1 (f_many : Int32) (f_weight : Int32) (f_fright : Int32) (f_age : Int32) (f_feed : Int32) (f_life : Int32) (f_low : Int32) (f_heft : Int32) (f_alarm : Int32) (f_old : Int32) (f_died : Int32) (f_ofWhat : Int32) (f_heavy : Int32) (f_fewest : Int32) (f_leanest : Int32) (a_kind : Nat → Int32) (a_part : Nat → Int32) (a_ill : Nat → Int32) (a_order : Nat → Int32) (a_best : Nat → Int32) (p1 : Int32) (p2 : Int32) (p3 : Int32) : Option (Int32 × Int32 × Int32 × Int32 × Int32 × Int32 × Int32 × Int32 × (Nat → Int32) × (Nat → Int32)) :=
  @Option.bind (Int32 × Int32 × Int32 × Int32 × Int32 × Int32 × Int32 × Int32 × (Nat → Int32)) _ (
    if p1 = p2 then
      (sM_tries f_weight f_fright f_age f_feed f_life f_low f_heft f_alarm f_old f_died f_ofWhat f_heavy f_fewest f_leanest a_kind a_part a_order a_best p2).bind fun r3 =>
      some (r3.1, r3.2.1, r3.2.2.1, r3.2.2.2.1, r3.2.2.2.2.1, r3.2.2.2.2.2.1, r3.2.2.2.2.2.2.1, r3.2.2.2.2.2.2.2.1, r3.2.2.2.2.2.2.2.2)
    else
      some (f_heft, f_alarm, f_old, f_died, f_ofWhat, f_heavy, f_fewest, f_leanest, a_best)) fun u2 =>
  (sM_orders_1_h13 p1 p2 p3 f_many f_weight f_fright f_age f_feed f_life f_low a_kind a_part a_ill 2000 0 u2.1 u2.2.1 u2.2.2.1 u2.2.2.2.1 u2.2.2.2.2.1 u2.2.2.2.2.2.1 u2.2.2.2.2.2.2.1 u2.2.2.2.2.2.2.2.1 a_order u2.2.2.2.2.2.2.2.2).bind fun u4 =>
  some (u4.1, u4.2.1, u4.2.2.1, u4.2.2.2.1, u4.2.2.2.2.1, u4.2.2.2.2.2.1, u4.2.2.2.2.2.2.1, u4.2.2.2.2.2.2.2.1, u4.2.2.2.2.2.2.2.2.1, u4.2.2.2.2.2.2.2.2.2)
set_option maxHeartbeats 4000000 in
theorem wM_orders_1_h13 {p : Program} {l : Launch} {e : Env} {s : State} {m : MethodId} {args : Array Value} {below : List Frame} {meth : Method} {c : Code} {G : kG} {h0 : Nat} {ad : Nat → Nat} {Q : State → Prop} (C : mC p s m args c cX5_orders G h0 ad) (hml : c.maxLocals = 5) (F : Nat → Int32) (A : Nat → Nat → Int32) (L : Nat → Nat → Int64) (x1 : Int32) (x2 : Int32) (x3 : Int32) (res : Int32 × Int32 × Int32 × Int32 × Int32 × Int32 × Int32 × Int32 × (Nat → Int32) × (Nat → Int32)) :
    ∀ (fuel : Nat) (x4 : Int32) (f_heft : Int32) (f_alarm : Int32) (f_old : Int32) (f_died : Int32) (f_ofWhat : Int32) (f_heavy : Int32) (f_fewest : Int32) (f_leanest : Int32) (a_order : Nat → Int32) (a_best : Nat → Int32) (H : Heap) (locs : List Loc) (ls : Array Slot), sM_orders_1_h13 x1 x2 x3 (F 0) (F 1) (F 2) (F 3) (F 5) (F 6) (F 7) (A 12) (A 13) (A 15) fuel x4 f_heft f_alarm f_old f_died f_ofWhat f_heavy f_fewest f_leanest a_order a_best = some res → mPw G h0 ad (upd (upd (upd (upd (upd (upd (upd (upd F 35 f_heft) 36 f_alarm) 37 f_old) 38 f_died) 39 f_ofWhat) 40 f_heavy) 43 f_fewest) 44 f_leanest) (va_up (va_up A 41 a_order) 42 a_best) L H → va_S (mA h0 ad) s.heap H locs → lv_has ls 5 [(0, .ref h0), (1, .int x1), (2, .int x2), (3, .int x3), (4, .int x4)] → (∀ (H : Heap) (locs : List Loc) (ls : Array Slot), mPw G h0 ad (upd (upd (upd (upd (upd (upd (upd (upd F 35 res.1) 36 res.2.1) 37 res.2.2.1) 38 res.2.2.2.1) 39 res.2.2.2.2.1) 40 res.2.2.2.2.2.1) 43 res.2.2.2.2.2.2.1) 44 res.2.2.2.2.2.2.2.1) (va_up (va_up A 41 res.2.2.2.2.2.2.2.2.1) 42 res.2.2.2.2.2.2.2.2.2) L H → va_S (mA h0 ad) s.heap H locs → lv_has ls 5 [] → W p l e ({ frames := 5, cells := 0, slots := 0, locals := 112 } : Room) s m args below meth c H locs 0 0 Q (F0 m 69 ls [])) → W p l e ({ frames := 5, cells := 0, slots := 0, locals := 112 } : Room) s m args below meth c H locs 0 0 Q (F0 m 13 ls []) := by
  intro fuel
  induction fuel with
  | zero =>
    intro x4 f_heft f_alarm f_old f_died f_ofWhat f_heavy f_fewest f_leanest a_order a_best H locs ls hE
    exact it_n hE
  | succ fuel ih =>
    intro x4 f_heft f_alarm f_old f_died f_ofWhat f_heavy f_fewest f_leanest a_order a_best H locs ls hE hP hS hl hX
    rw [sM_orders_1_h13] at hE
    refine lv_iload C.1 C.2.1 dX5_orders_13 (lv_at hl 4 rfl) ?_
    refine lv_iload_n C.1 C.2.1 dX5_orders_15 rfl (lv_at hl 2 rfl) ?_
    refine lv_icmp_ge (tgt := 69) C.1 C.2.1 dX5_orders_16 (by decide) (fun c1401 => ?_) (fun c1401 => ?_)
    · have hE := it_t c1401 hE
      obtain rfl := Option.some.inj hE
      exact hX H locs ls hP hS (lv_sub hl [] rfl)
    · have hE := it_f c1401 hE
      refine lv_iload_n C.1 C.2.1 dX5_orders_19 rfl (lv_at hl 1 rfl) ?_
      refine lv_iload_n C.1 C.2.1 dX5_orders_20 rfl (lv_at hl 2 rfl) ?_
      refine lv_icmp_ge (tgt := 69) C.1 C.2.1 dX5_orders_21 (by decide) (fun c1402 => ?_) (fun c1402 => ?_)
      · have hE := it_t c1402 hE
        obtain rfl := Option.some.inj hE
        exact hX H locs ls hP hS (lv_sub hl [] rfl)
      · have hE := it_f c1402 hE
        refine lv_iload_n C.1 C.2.1 dX5_orders_24 rfl (lv_at hl 3 rfl) ?_
        refine lv_iload C.1 C.2.1 dX5_orders_25 (lv_at hl 4 rfl) ?_
        refine lv_ishr C.1 C.2.1 dX5_orders_27 ?_
        refine lv_iconst (v := 1) C.1 C.2.1 dX5_orders_28 (by decide) ?_
        refine lv_iand C.1 C.2.1 dX5_orders_29 ?_
        refine lv_iconst (v := 1) C.1 C.2.1 dX5_orders_30 (by decide) ?_
        obtain ⟨u1404, hR, hE⟩ := it_b hE
        have hJ63u1404 : ∀ (H : Heap) (locs : List Loc) (ls : Array Slot), mPw G h0 ad (upd (upd (upd (upd (upd (upd (upd (upd F 35 u1404.1) 36 u1404.2.1) 37 u1404.2.2.1) 38 u1404.2.2.2.1) 39 u1404.2.2.2.2.1) 40 u1404.2.2.2.2.2.1) 43 u1404.2.2.2.2.2.2.1) 44 u1404.2.2.2.2.2.2.2.1) (va_up (va_up A 41 u1404.2.2.2.2.2.2.2.2.1) 42 u1404.2.2.2.2.2.2.2.2.2) L H → va_S (mA h0 ad) s.heap H locs → lv_has ls 5 [(0, .ref h0), (1, .int x1), (2, .int x2), (3, .int x3), (4, .int x4)] → W p l e ({ frames := 5, cells := 0, slots := 0, locals := 112 } : Room) s m args below meth c H locs 0 0 Q (F0 m 63 ls []) := by
          intro H locs ls hP hS hl
          refine lv_iinc (v := (x4 + 1)) (lv' := [(4, .int (x4 + 1)), (0, .ref h0), (1, .int x1), (2, .int x2), (3, .int x3)]) C.1 C.2.1 dX5_orders_63 hl (k := 4) rfl rfl (by decide) rfl (fun ls hl => ?_)
          refine lv_goto (tgt := 13) C.1 C.2.1 dX5_orders_66 (by decide) ?_
          exact ih (x4 + 1) u1404.1 u1404.2.1 u1404.2.2.1 u1404.2.2.2.1 u1404.2.2.2.2.1 u1404.2.2.2.2.2.1 u1404.2.2.2.2.2.2.1 u1404.2.2.2.2.2.2.2.1 u1404.2.2.2.2.2.2.2.2.1 u1404.2.2.2.2.2.2.2.2.2 _ _ _ hE hP hS (lv_sub hl [1, 2, 3, 4, 0] rfl) hX
        have hE := hR
        refine lv_icmp_ne (tgt := 37) C.1 C.2.1 dX5_orders_31 (by decide) (fun c1403 => ?_) (fun c1403 => ?_)
        · have hE := it_f c1403 hE
          refine lv_aload_n C.1 C.2.1 dX5_orders_37 rfl (lv_at hl 0 rfl) ?_
          refine ma_41 C hP dX5_orders_38 ?_
          refine lv_iload_n C.1 C.2.1 dX5_orders_41 rfl (lv_at hl 1 rfl) ?_
          refine lv_aload_n C.1 C.2.1 dX5_orders_42 rfl (lv_at hl 0 rfl) ?_
          refine lv_iload C.1 C.2.1 dX5_orders_43 (lv_at hl 4 rfl) ?_
          obtain ⟨r1405, hr1405, hE⟩ := it_b hE
          refine m_call (n := 1) (As := [.int x4]) (rest := [.int x1, .ref (ad 41)]) C hP hS hml (metM_mayAt l G h0 ad _ _ _ x4 r1405 hr1405) q1695 q1697 qs67 q1698 rfl rfl (by decide +kernel) ⟨Nat.le_of_ble_eq_true rfl, Nat.le_of_ble_eq_true rfl⟩ ⟨Nat.le_refl _, Nat.le_refl _⟩ rfl hl.1 rfl (Nat.le_of_ble_eq_true rfl) dX5_orders_45 (fun H locs hP hS => ?_)
          obtain ⟨g1406, hE⟩ := it_g hE
          refine ms_41 (a := a_order) C hP hS (gi_in g1406) rfl dX5_orders_48 (fun H locs hP hS => ?_)
          refine lv_aload_n C.1 C.2.1 dX5_orders_49 rfl (lv_at hl 0 rfl) ?_
          refine lv_iload_n C.1 C.2.1 dX5_orders_50 rfl (lv_at hl 1 rfl) ?_
          refine lv_iconst (v := 1) C.1 C.2.1 dX5_orders_51 (by decide) ?_
          refine lv_iadd C.1 C.2.1 dX5_orders_52 ?_
          refine lv_iload_n C.1 C.2.1 dX5_orders_53 rfl (lv_at hl 2 rfl) ?_
          refine lv_iload_n C.1 C.2.1 dX5_orders_54 rfl (lv_at hl 3 rfl) ?_
          refine lv_iconst (v := 1) C.1 C.2.1 dX5_orders_55 (by decide) ?_
          refine lv_iload C.1 C.2.1 dX5_orders_56 (lv_at hl 4 rfl) ?_
          refine lv_ishl C.1 C.2.1 dX5_orders_58 ?_
          refine lv_ior C.1 C.2.1 dX5_orders_59 ?_
          obtain ⟨r1407, hr1407, hE⟩ := it_b hE
          refine m_call (n := 3) (As := [.int (x1 + 1), .int x2, .int (x3 ||| (1 <<< (x4 &&& 31)))]) (rest := []) C hP hS hml (metM_orders_0 l G h0 ad _ _ _ (x1 + 1) x2 (x3 ||| (1 <<< (x4 &&& 31))) r1407 hr1407) q1687 q1689 qs65 q1690 rfl rfl (by decide +kernel) ⟨Nat.le_of_ble_eq_true rfl, Nat.le_of_ble_eq_true rfl⟩ ⟨Nat.le_refl _, Nat.le_refl _⟩ rfl hl.1 rfl (Nat.le_of_ble_eq_true rfl) dX5_orders_60 (fun H locs hP hS => ?_)
          obtain rfl := Option.some.inj hE
          exact hJ63u1404 H locs ls hP hS (lv_sub hl [0, 1, 2, 3, 4] rfl)
        · have hE := it_t c1403 hE
          refine lv_goto (tgt := 63) C.1 C.2.1 dX5_orders_34 (by decide) ?_
          obtain rfl := Option.some.inj hE
          exact hJ63u1404 H locs ls hP hS (lv_sub hl [0, 1, 2, 3, 4] rfl)
set_option maxHeartbeats 4000000 in
theorem metM_orders_1 (l : Launch) (G : kG) (h0 : Nat) (ad : Nat → Nat) (F : Nat → Int32) (A : Nat → Nat → Int32) (L : Nat → Nat → Int64) (p1 : Int32) (p2 : Int32) (p3 : Int32) (res : Int32 × Int32 × Int32 × Int32 × Int32 × Int32 × Int32 × Int32 × (Nat → Int32) × (Nat → Int32)) (hE : sM_orders_1 (F 0) (F 1) (F 2) (F 3) (F 5) (F 6) (F 7) (F 35) (F 36) (F 37) (F 38) (F 39) (F 40) (F 43) (F 44) (A 12) (A 13) (A 15) (A 41) (A 42) p1 p2 p3 = some res) : Met l yX5_orders (ws_ yX5_orders cX5_orders 5 none) ({ frames := 5, cells := 0, slots := 0, locals := 112 } : Room) (mPc G h0 ad F A L [.int p1, .int p2, .int p3]) (mQc G h0 ad (upd (upd (upd (upd (upd (upd (upd (upd F 35 res.1) 36 res.2.1) 37 res.2.2.1) 38 res.2.2.2.1) 39 res.2.2.2.2.1) 40 res.2.2.2.2.2.1) 43 res.2.2.2.2.2.2.1) 44 res.2.2.2.2.2.2.2.1) (va_up (va_up A 41 res.2.2.2.2.2.2.2.2.1) 42 res.2.2.2.2.2.2.2.2.2) L none) 0 0 (mA h0 ad) := by
  refine m_ofW (by decide) rfl (Nat.le_of_ble_eq_true rfl) ?_
  intro p e s m args below meth c ls C hml hP hS hl hr hlocks
  have hl : lv_has ls 5 [(0, .ref h0), (1, .int p1), (2, .int p2), (3, .int p3)] := hl
  obtain ⟨Q, hQ⟩ : ∃ Q, Q = MQ below (mQc G h0 ad (upd (upd (upd (upd (upd (upd (upd (upd F 35 res.1) 36 res.2.1) 37 res.2.2.1) 38 res.2.2.2.1) 39 res.2.2.2.2.1) 40 res.2.2.2.2.2.1) 43 res.2.2.2.2.2.2.1) 44 res.2.2.2.2.2.2.2.1) (va_up (va_up A 41 res.2.2.2.2.2.2.2.2.1) 42 res.2.2.2.2.2.2.2.2.2) L none) args s 0 0 (mA h0 ad) := ⟨_, rfl⟩
  rw [← hQ]
  have hret : ∀ (pc : Nat) (ls : Array Slot) (H : Heap) (locs : List Loc), decode cX5_orders pc = .ok (.return_, 1) → mPw G h0 ad (upd (upd (upd (upd (upd (upd (upd (upd F 35 res.1) 36 res.2.1) 37 res.2.2.1) 38 res.2.2.2.1) 39 res.2.2.2.2.1) 40 res.2.2.2.2.2.1) 43 res.2.2.2.2.2.2.1) 44 res.2.2.2.2.2.2.2.1) (va_up (va_up A 41 res.2.2.2.2.2.2.2.2.1) 42 res.2.2.2.2.2.2.2.2.2) L H → va_S (mA h0 ad) s.heap H locs → W p l e ({ frames := 5, cells := 0, slots := 0, locals := 112 } : Room) s m args below meth c H locs 0 0 Q (F0 m pc ls []) := by
    intro pc ls H locs hd hP hS
    rw [hQ]
    exact m_vret C hr hlocks hd hP hS
  clear hQ
  obtain ⟨H, hH⟩ : ∃ H, H = s.heap := ⟨_, rfl⟩
  obtain ⟨locs, hlo⟩ : ∃ locs : List Loc, locs = [] := ⟨_, rfl⟩
  have hP : mPw G h0 ad F A L H := by rw [hH]; exact hP
  have hS : va_S (mA h0 ad) s.heap H locs := by rw [hH, hlo]; exact hS
  suffices hZ : W p l e ({ frames := 5, cells := 0, slots := 0, locals := 112 } : Room) s m args below meth c H locs 0 0 Q (F0 m 0 ls []) by rw [hH, hlo] at hZ; exact hZ
  clear hH hlo
  unfold sM_orders_1 at hE
  refine lv_iload_n C.1 C.2.1 dX5_orders_0 rfl (lv_at hl 1 rfl) ?_
  refine lv_iload_n C.1 C.2.1 dX5_orders_1 rfl (lv_at hl 2 rfl) ?_
  obtain ⟨u2, hR, hE⟩ := it_b hE
  have hJ10u2 : ∀ (H : Heap) (locs : List Loc) (ls : Array Slot), mPw G h0 ad (upd (upd (upd (upd (upd (upd (upd (upd F 35 u2.1) 36 u2.2.1) 37 u2.2.2.1) 38 u2.2.2.2.1) 39 u2.2.2.2.2.1) 40 u2.2.2.2.2.2.1) 43 u2.2.2.2.2.2.2.1) 44 u2.2.2.2.2.2.2.2.1) (va_up A 42 u2.2.2.2.2.2.2.2.2) L H → va_S (mA h0 ad) s.heap H locs → lv_has ls 5 [(0, .ref h0), (1, .int p1), (2, .int p2), (3, .int p3)] → W p l e ({ frames := 5, cells := 0, slots := 0, locals := 112 } : Room) s m args below meth c H locs 0 0 Q (F0 m 10 ls []) := by
    intro H locs ls hP hS hl
    refine lv_iconst (v := 0) C.1 C.2.1 dX5_orders_10 (by decide) ?_
    refine lv_istore (lv' := [(4, .int 0), (0, .ref h0), (1, .int p1), (2, .int p2), (3, .int p3)]) C.1 C.2.1 dX5_orders_11 hl (by decide) rfl (fun ls hl => ?_)
    obtain ⟨u4, hu4, hE⟩ := it_b hE
    refine wM_orders_1_h13 C hml F A L p1 p2 p3 u4 2000 0 u2.1 u2.2.1 u2.2.2.1 u2.2.2.2.1 u2.2.2.2.2.1 u2.2.2.2.2.2.1 u2.2.2.2.2.2.2.1 u2.2.2.2.2.2.2.2.1 (A 41) u2.2.2.2.2.2.2.2.2 H locs ls hu4 hP hS (lv_sub hl [1, 2, 3, 4, 0] rfl) (fun H locs ls hP hS hl => ?_)
    obtain rfl := Option.some.inj hE
    exact hret _ _ _ _ dX5_orders_69 hP hS
  have hE := hR
  refine lv_icmp_ne (tgt := 10) C.1 C.2.1 dX5_orders_2 (by decide) (fun c1 => ?_) (fun c1 => ?_)
  · have hE := it_f c1 hE
    obtain rfl := Option.some.inj hE
    exact hJ10u2 H locs ls hP hS (lv_sub hl [0, 1, 2, 3] rfl)
  · have hE := it_t c1 hE
    refine lv_aload_n C.1 C.2.1 dX5_orders_5 rfl (lv_at hl 0 rfl) ?_
    refine lv_iload_n C.1 C.2.1 dX5_orders_6 rfl (lv_at hl 2 rfl) ?_
    obtain ⟨r3, hr3, hE⟩ := it_b hE
    refine m_call (n := 1) (As := [.int p2]) (rest := []) C hP hS hml (metM_tries l G h0 ad _ _ _ p2 r3 hr3) q1691 q1693 qs66 q1694 rfl rfl (by decide +kernel) ⟨Nat.le_of_ble_eq_true rfl, Nat.le_of_ble_eq_true rfl⟩ ⟨Nat.le_refl _, Nat.le_refl _⟩ rfl hl.1 rfl (Nat.le_of_ble_eq_true rfl) dX5_orders_7 (fun H locs hP hS => ?_)
    obtain rfl := Option.some.inj hE
    exact hJ10u2 H locs ls hP hS (lv_sub hl [0, 1, 2, 3] rfl)
def sM_orders_2_h13 (x1 : Int32) (x2 : Int32) (x3 : Int32) (f_many : Int32) (f_weight : Int32) (f_fright : Int32) (f_age : Int32) (f_feed : Int32) (f_life : Int32) (f_low : Int32) (a_kind : Nat → Int32) (a_part : Nat → Int32) (a_ill : Nat → Int32) : Nat → Int32 → Int32 → Int32 → Int32 → Int32 → Int32 → Int32 → Int32 → Int32 → (Nat → Int32) → (Nat → Int32) → Option (Int32 × Int32 × Int32 × Int32 × Int32 × Int32 × Int32 × Int32 × (Nat → Int32) × (Nat → Int32))
  | 0, _, _, _, _, _, _, _, _, _, _, _ => none
  | fuel + 1, x4, f_heft, f_alarm, f_old, f_died, f_ofWhat, f_heavy, f_fewest, f_leanest, a_order, a_best =>
    if x2 ≤ x4 then
      some (f_heft, f_alarm, f_old, f_died, f_ofWhat, f_heavy, f_fewest, f_leanest, a_order, a_best)
    else
      if x2 ≤ x1 then
        some (f_heft, f_alarm, f_old, f_died, f_ofWhat, f_heavy, f_fewest, f_leanest, a_order, a_best)
      else
        @Option.bind (Int32 × Int32 × Int32 × Int32 × Int32 × Int32 × Int32 × Int32 × (Nat → Int32) × (Nat → Int32)) _ (
          if ((x3 >>> (x4 &&& 31)) &&& 1) = 1 then
            some (f_heft, f_alarm, f_old, f_died, f_ofWhat, f_heavy, f_fewest, f_leanest, a_order, a_best)
          else
            (sM_mayAt f_many a_ill x4).bind fun r1405 =>
            if gi x1 6 then
            (sM_orders_1 f_many f_weight f_fright f_age f_feed f_life f_low f_heft f_alarm f_old f_died f_ofWhat f_heavy f_fewest f_leanest a_kind a_part a_ill (upd a_order (x1).toNatClampNeg r1405) a_best (x1 + 1) x2 (x3 ||| (1 <<< (x4 &&& 31)))).bind fun r1407 =>
            some (r1407.1, r1407.2.1, r1407.2.2.1, r1407.2.2.2.1, r1407.2.2.2.2.1, r1407.2.2.2.2.2.1, r1407.2.2.2.2.2.2.1, r1407.2.2.2.2.2.2.2.1, r1407.2.2.2.2.2.2.2.2.1, r1407.2.2.2.2.2.2.2.2.2)
            else none) fun u1404 =>
        sM_orders_2_h13 x1 x2 x3 f_many f_weight f_fright f_age f_feed f_life f_low a_kind a_part a_ill fuel (x4 + 1) u1404.1 u1404.2.1 u1404.2.2.1 u1404.2.2.2.1 u1404.2.2.2.2.1 u1404.2.2.2.2.2.1 u1404.2.2.2.2.2.2.1 u1404.2.2.2.2.2.2.2.1 u1404.2.2.2.2.2.2.2.2.1 u1404.2.2.2.2.2.2.2.2.2
def sM_orders_2 (f_many : Int32) (f_weight : Int32) (f_fright : Int32) (f_age : Int32) (f_feed : Int32) (f_life : Int32) (f_low : Int32) (f_heft : Int32) (f_alarm : Int32) (f_old : Int32) (f_died : Int32) (f_ofWhat : Int32) (f_heavy : Int32) (f_fewest : Int32) (f_leanest : Int32) (a_kind : Nat → Int32) (a_part : Nat → Int32) (a_ill : Nat → Int32) (a_order : Nat → Int32) (a_best : Nat → Int32) (p1 : Int32) (p2 : Int32) (p3 : Int32) : Option (Int32 × Int32 × Int32 × Int32 × Int32 × Int32 × Int32 × Int32 × (Nat → Int32) × (Nat → Int32)) :=
  @Option.bind (Int32 × Int32 × Int32 × Int32 × Int32 × Int32 × Int32 × Int32 × (Nat → Int32)) _ (
    if p1 = p2 then
      (sM_tries f_weight f_fright f_age f_feed f_life f_low f_heft f_alarm f_old f_died f_ofWhat f_heavy f_fewest f_leanest a_kind a_part a_order a_best p2).bind fun r3 =>
      some (r3.1, r3.2.1, r3.2.2.1, r3.2.2.2.1, r3.2.2.2.2.1, r3.2.2.2.2.2.1, r3.2.2.2.2.2.2.1, r3.2.2.2.2.2.2.2.1, r3.2.2.2.2.2.2.2.2)
    else
      some (f_heft, f_alarm, f_old, f_died, f_ofWhat, f_heavy, f_fewest, f_leanest, a_best)) fun u2 =>
  (sM_orders_2_h13 p1 p2 p3 f_many f_weight f_fright f_age f_feed f_life f_low a_kind a_part a_ill 2000 0 u2.1 u2.2.1 u2.2.2.1 u2.2.2.2.1 u2.2.2.2.2.1 u2.2.2.2.2.2.1 u2.2.2.2.2.2.2.1 u2.2.2.2.2.2.2.2.1 a_order u2.2.2.2.2.2.2.2.2).bind fun u4 =>
  some (u4.1, u4.2.1, u4.2.2.1, u4.2.2.2.1, u4.2.2.2.2.1, u4.2.2.2.2.2.1, u4.2.2.2.2.2.2.1, u4.2.2.2.2.2.2.2.1, u4.2.2.2.2.2.2.2.2.1, u4.2.2.2.2.2.2.2.2.2)
set_option maxHeartbeats 4000000 in
theorem wM_orders_2_h13 {p : Program} {l : Launch} {e : Env} {s : State} {m : MethodId} {args : Array Value} {below : List Frame} {meth : Method} {c : Code} {G : kG} {h0 : Nat} {ad : Nat → Nat} {Q : State → Prop} (C : mC p s m args c cX5_orders G h0 ad) (hml : c.maxLocals = 5) (F : Nat → Int32) (A : Nat → Nat → Int32) (L : Nat → Nat → Int64) (x1 : Int32) (x2 : Int32) (x3 : Int32) (res : Int32 × Int32 × Int32 × Int32 × Int32 × Int32 × Int32 × Int32 × (Nat → Int32) × (Nat → Int32)) :
    ∀ (fuel : Nat) (x4 : Int32) (f_heft : Int32) (f_alarm : Int32) (f_old : Int32) (f_died : Int32) (f_ofWhat : Int32) (f_heavy : Int32) (f_fewest : Int32) (f_leanest : Int32) (a_order : Nat → Int32) (a_best : Nat → Int32) (H : Heap) (locs : List Loc) (ls : Array Slot), sM_orders_2_h13 x1 x2 x3 (F 0) (F 1) (F 2) (F 3) (F 5) (F 6) (F 7) (A 12) (A 13) (A 15) fuel x4 f_heft f_alarm f_old f_died f_ofWhat f_heavy f_fewest f_leanest a_order a_best = some res → mPw G h0 ad (upd (upd (upd (upd (upd (upd (upd (upd F 35 f_heft) 36 f_alarm) 37 f_old) 38 f_died) 39 f_ofWhat) 40 f_heavy) 43 f_fewest) 44 f_leanest) (va_up (va_up A 41 a_order) 42 a_best) L H → va_S (mA h0 ad) s.heap H locs → lv_has ls 5 [(0, .ref h0), (1, .int x1), (2, .int x2), (3, .int x3), (4, .int x4)] → (∀ (H : Heap) (locs : List Loc) (ls : Array Slot), mPw G h0 ad (upd (upd (upd (upd (upd (upd (upd (upd F 35 res.1) 36 res.2.1) 37 res.2.2.1) 38 res.2.2.2.1) 39 res.2.2.2.2.1) 40 res.2.2.2.2.2.1) 43 res.2.2.2.2.2.2.1) 44 res.2.2.2.2.2.2.2.1) (va_up (va_up A 41 res.2.2.2.2.2.2.2.2.1) 42 res.2.2.2.2.2.2.2.2.2) L H → va_S (mA h0 ad) s.heap H locs → lv_has ls 5 [] → W p l e ({ frames := 6, cells := 0, slots := 0, locals := 136 } : Room) s m args below meth c H locs 0 0 Q (F0 m 69 ls [])) → W p l e ({ frames := 6, cells := 0, slots := 0, locals := 136 } : Room) s m args below meth c H locs 0 0 Q (F0 m 13 ls []) := by
  intro fuel
  induction fuel with
  | zero =>
    intro x4 f_heft f_alarm f_old f_died f_ofWhat f_heavy f_fewest f_leanest a_order a_best H locs ls hE
    exact it_n hE
  | succ fuel ih =>
    intro x4 f_heft f_alarm f_old f_died f_ofWhat f_heavy f_fewest f_leanest a_order a_best H locs ls hE hP hS hl hX
    rw [sM_orders_2_h13] at hE
    refine lv_iload C.1 C.2.1 dX5_orders_13 (lv_at hl 4 rfl) ?_
    refine lv_iload_n C.1 C.2.1 dX5_orders_15 rfl (lv_at hl 2 rfl) ?_
    refine lv_icmp_ge (tgt := 69) C.1 C.2.1 dX5_orders_16 (by decide) (fun c1401 => ?_) (fun c1401 => ?_)
    · have hE := it_t c1401 hE
      obtain rfl := Option.some.inj hE
      exact hX H locs ls hP hS (lv_sub hl [] rfl)
    · have hE := it_f c1401 hE
      refine lv_iload_n C.1 C.2.1 dX5_orders_19 rfl (lv_at hl 1 rfl) ?_
      refine lv_iload_n C.1 C.2.1 dX5_orders_20 rfl (lv_at hl 2 rfl) ?_
      refine lv_icmp_ge (tgt := 69) C.1 C.2.1 dX5_orders_21 (by decide) (fun c1402 => ?_) (fun c1402 => ?_)
      · have hE := it_t c1402 hE
        obtain rfl := Option.some.inj hE
        exact hX H locs ls hP hS (lv_sub hl [] rfl)
      · have hE := it_f c1402 hE
        refine lv_iload_n C.1 C.2.1 dX5_orders_24 rfl (lv_at hl 3 rfl) ?_
        refine lv_iload C.1 C.2.1 dX5_orders_25 (lv_at hl 4 rfl) ?_
        refine lv_ishr C.1 C.2.1 dX5_orders_27 ?_
        refine lv_iconst (v := 1) C.1 C.2.1 dX5_orders_28 (by decide) ?_
        refine lv_iand C.1 C.2.1 dX5_orders_29 ?_
        refine lv_iconst (v := 1) C.1 C.2.1 dX5_orders_30 (by decide) ?_
        obtain ⟨u1404, hR, hE⟩ := it_b hE
        have hJ63u1404 : ∀ (H : Heap) (locs : List Loc) (ls : Array Slot), mPw G h0 ad (upd (upd (upd (upd (upd (upd (upd (upd F 35 u1404.1) 36 u1404.2.1) 37 u1404.2.2.1) 38 u1404.2.2.2.1) 39 u1404.2.2.2.2.1) 40 u1404.2.2.2.2.2.1) 43 u1404.2.2.2.2.2.2.1) 44 u1404.2.2.2.2.2.2.2.1) (va_up (va_up A 41 u1404.2.2.2.2.2.2.2.2.1) 42 u1404.2.2.2.2.2.2.2.2.2) L H → va_S (mA h0 ad) s.heap H locs → lv_has ls 5 [(0, .ref h0), (1, .int x1), (2, .int x2), (3, .int x3), (4, .int x4)] → W p l e ({ frames := 6, cells := 0, slots := 0, locals := 136 } : Room) s m args below meth c H locs 0 0 Q (F0 m 63 ls []) := by
          intro H locs ls hP hS hl
          refine lv_iinc (v := (x4 + 1)) (lv' := [(4, .int (x4 + 1)), (0, .ref h0), (1, .int x1), (2, .int x2), (3, .int x3)]) C.1 C.2.1 dX5_orders_63 hl (k := 4) rfl rfl (by decide) rfl (fun ls hl => ?_)
          refine lv_goto (tgt := 13) C.1 C.2.1 dX5_orders_66 (by decide) ?_
          exact ih (x4 + 1) u1404.1 u1404.2.1 u1404.2.2.1 u1404.2.2.2.1 u1404.2.2.2.2.1 u1404.2.2.2.2.2.1 u1404.2.2.2.2.2.2.1 u1404.2.2.2.2.2.2.2.1 u1404.2.2.2.2.2.2.2.2.1 u1404.2.2.2.2.2.2.2.2.2 _ _ _ hE hP hS (lv_sub hl [1, 2, 3, 4, 0] rfl) hX
        have hE := hR
        refine lv_icmp_ne (tgt := 37) C.1 C.2.1 dX5_orders_31 (by decide) (fun c1403 => ?_) (fun c1403 => ?_)
        · have hE := it_f c1403 hE
          refine lv_aload_n C.1 C.2.1 dX5_orders_37 rfl (lv_at hl 0 rfl) ?_
          refine ma_41 C hP dX5_orders_38 ?_
          refine lv_iload_n C.1 C.2.1 dX5_orders_41 rfl (lv_at hl 1 rfl) ?_
          refine lv_aload_n C.1 C.2.1 dX5_orders_42 rfl (lv_at hl 0 rfl) ?_
          refine lv_iload C.1 C.2.1 dX5_orders_43 (lv_at hl 4 rfl) ?_
          obtain ⟨r1405, hr1405, hE⟩ := it_b hE
          refine m_call (n := 1) (As := [.int x4]) (rest := [.int x1, .ref (ad 41)]) C hP hS hml (metM_mayAt l G h0 ad _ _ _ x4 r1405 hr1405) q1695 q1697 qs67 q1698 rfl rfl (by decide +kernel) ⟨Nat.le_of_ble_eq_true rfl, Nat.le_of_ble_eq_true rfl⟩ ⟨Nat.le_refl _, Nat.le_refl _⟩ rfl hl.1 rfl (Nat.le_of_ble_eq_true rfl) dX5_orders_45 (fun H locs hP hS => ?_)
          obtain ⟨g1406, hE⟩ := it_g hE
          refine ms_41 (a := a_order) C hP hS (gi_in g1406) rfl dX5_orders_48 (fun H locs hP hS => ?_)
          refine lv_aload_n C.1 C.2.1 dX5_orders_49 rfl (lv_at hl 0 rfl) ?_
          refine lv_iload_n C.1 C.2.1 dX5_orders_50 rfl (lv_at hl 1 rfl) ?_
          refine lv_iconst (v := 1) C.1 C.2.1 dX5_orders_51 (by decide) ?_
          refine lv_iadd C.1 C.2.1 dX5_orders_52 ?_
          refine lv_iload_n C.1 C.2.1 dX5_orders_53 rfl (lv_at hl 2 rfl) ?_
          refine lv_iload_n C.1 C.2.1 dX5_orders_54 rfl (lv_at hl 3 rfl) ?_
          refine lv_iconst (v := 1) C.1 C.2.1 dX5_orders_55 (by decide) ?_
          refine lv_iload C.1 C.2.1 dX5_orders_56 (lv_at hl 4 rfl) ?_
          refine lv_ishl C.1 C.2.1 dX5_orders_58 ?_
          refine lv_ior C.1 C.2.1 dX5_orders_59 ?_
          obtain ⟨r1407, hr1407, hE⟩ := it_b hE
          refine m_call (n := 3) (As := [.int (x1 + 1), .int x2, .int (x3 ||| (1 <<< (x4 &&& 31)))]) (rest := []) C hP hS hml (metM_orders_1 l G h0 ad _ _ _ (x1 + 1) x2 (x3 ||| (1 <<< (x4 &&& 31))) r1407 hr1407) q1687 q1689 qs65 q1690 rfl rfl (by decide +kernel) ⟨Nat.le_of_ble_eq_true rfl, Nat.le_of_ble_eq_true rfl⟩ ⟨Nat.le_refl _, Nat.le_refl _⟩ rfl hl.1 rfl (Nat.le_of_ble_eq_true rfl) dX5_orders_60 (fun H locs hP hS => ?_)
          obtain rfl := Option.some.inj hE
          exact hJ63u1404 H locs ls hP hS (lv_sub hl [0, 1, 2, 3, 4] rfl)
        · have hE := it_t c1403 hE
          refine lv_goto (tgt := 63) C.1 C.2.1 dX5_orders_34 (by decide) ?_
          obtain rfl := Option.some.inj hE
          exact hJ63u1404 H locs ls hP hS (lv_sub hl [0, 1, 2, 3, 4] rfl)
set_option maxHeartbeats 4000000 in
theorem metM_orders_2 (l : Launch) (G : kG) (h0 : Nat) (ad : Nat → Nat) (F : Nat → Int32) (A : Nat → Nat → Int32) (L : Nat → Nat → Int64) (p1 : Int32) (p2 : Int32) (p3 : Int32) (res : Int32 × Int32 × Int32 × Int32 × Int32 × Int32 × Int32 × Int32 × (Nat → Int32) × (Nat → Int32)) (hE : sM_orders_2 (F 0) (F 1) (F 2) (F 3) (F 5) (F 6) (F 7) (F 35) (F 36) (F 37) (F 38) (F 39) (F 40) (F 43) (F 44) (A 12) (A 13) (A 15) (A 41) (A 42) p1 p2 p3 = some res) : Met l yX5_orders (ws_ yX5_orders cX5_orders 5 none) ({ frames := 6, cells := 0, slots := 0, locals := 136 } : Room) (mPc G h0 ad F A L [.int p1, .int p2, .int p3]) (mQc G h0 ad (upd (upd (upd (upd (upd (upd (upd (upd F 35 res.1) 36 res.2.1) 37 res.2.2.1) 38 res.2.2.2.1) 39 res.2.2.2.2.1) 40 res.2.2.2.2.2.1) 43 res.2.2.2.2.2.2.1) 44 res.2.2.2.2.2.2.2.1) (va_up (va_up A 41 res.2.2.2.2.2.2.2.2.1) 42 res.2.2.2.2.2.2.2.2.2) L none) 0 0 (mA h0 ad) := by
  refine m_ofW (by decide) rfl (Nat.le_of_ble_eq_true rfl) ?_
  intro p e s m args below meth c ls C hml hP hS hl hr hlocks
  have hl : lv_has ls 5 [(0, .ref h0), (1, .int p1), (2, .int p2), (3, .int p3)] := hl
  obtain ⟨Q, hQ⟩ : ∃ Q, Q = MQ below (mQc G h0 ad (upd (upd (upd (upd (upd (upd (upd (upd F 35 res.1) 36 res.2.1) 37 res.2.2.1) 38 res.2.2.2.1) 39 res.2.2.2.2.1) 40 res.2.2.2.2.2.1) 43 res.2.2.2.2.2.2.1) 44 res.2.2.2.2.2.2.2.1) (va_up (va_up A 41 res.2.2.2.2.2.2.2.2.1) 42 res.2.2.2.2.2.2.2.2.2) L none) args s 0 0 (mA h0 ad) := ⟨_, rfl⟩
  rw [← hQ]
  have hret : ∀ (pc : Nat) (ls : Array Slot) (H : Heap) (locs : List Loc), decode cX5_orders pc = .ok (.return_, 1) → mPw G h0 ad (upd (upd (upd (upd (upd (upd (upd (upd F 35 res.1) 36 res.2.1) 37 res.2.2.1) 38 res.2.2.2.1) 39 res.2.2.2.2.1) 40 res.2.2.2.2.2.1) 43 res.2.2.2.2.2.2.1) 44 res.2.2.2.2.2.2.2.1) (va_up (va_up A 41 res.2.2.2.2.2.2.2.2.1) 42 res.2.2.2.2.2.2.2.2.2) L H → va_S (mA h0 ad) s.heap H locs → W p l e ({ frames := 6, cells := 0, slots := 0, locals := 136 } : Room) s m args below meth c H locs 0 0 Q (F0 m pc ls []) := by
    intro pc ls H locs hd hP hS
    rw [hQ]
    exact m_vret C hr hlocks hd hP hS
  clear hQ
  obtain ⟨H, hH⟩ : ∃ H, H = s.heap := ⟨_, rfl⟩
  obtain ⟨locs, hlo⟩ : ∃ locs : List Loc, locs = [] := ⟨_, rfl⟩
  have hP : mPw G h0 ad F A L H := by rw [hH]; exact hP
  have hS : va_S (mA h0 ad) s.heap H locs := by rw [hH, hlo]; exact hS
  suffices hZ : W p l e ({ frames := 6, cells := 0, slots := 0, locals := 136 } : Room) s m args below meth c H locs 0 0 Q (F0 m 0 ls []) by rw [hH, hlo] at hZ; exact hZ
  clear hH hlo
  unfold sM_orders_2 at hE
  refine lv_iload_n C.1 C.2.1 dX5_orders_0 rfl (lv_at hl 1 rfl) ?_
  refine lv_iload_n C.1 C.2.1 dX5_orders_1 rfl (lv_at hl 2 rfl) ?_
  obtain ⟨u2, hR, hE⟩ := it_b hE
  have hJ10u2 : ∀ (H : Heap) (locs : List Loc) (ls : Array Slot), mPw G h0 ad (upd (upd (upd (upd (upd (upd (upd (upd F 35 u2.1) 36 u2.2.1) 37 u2.2.2.1) 38 u2.2.2.2.1) 39 u2.2.2.2.2.1) 40 u2.2.2.2.2.2.1) 43 u2.2.2.2.2.2.2.1) 44 u2.2.2.2.2.2.2.2.1) (va_up A 42 u2.2.2.2.2.2.2.2.2) L H → va_S (mA h0 ad) s.heap H locs → lv_has ls 5 [(0, .ref h0), (1, .int p1), (2, .int p2), (3, .int p3)] → W p l e ({ frames := 6, cells := 0, slots := 0, locals := 136 } : Room) s m args below meth c H locs 0 0 Q (F0 m 10 ls []) := by
    intro H locs ls hP hS hl
    refine lv_iconst (v := 0) C.1 C.2.1 dX5_orders_10 (by decide) ?_
    refine lv_istore (lv' := [(4, .int 0), (0, .ref h0), (1, .int p1), (2, .int p2), (3, .int p3)]) C.1 C.2.1 dX5_orders_11 hl (by decide) rfl (fun ls hl => ?_)
    obtain ⟨u4, hu4, hE⟩ := it_b hE
    refine wM_orders_2_h13 C hml F A L p1 p2 p3 u4 2000 0 u2.1 u2.2.1 u2.2.2.1 u2.2.2.2.1 u2.2.2.2.2.1 u2.2.2.2.2.2.1 u2.2.2.2.2.2.2.1 u2.2.2.2.2.2.2.2.1 (A 41) u2.2.2.2.2.2.2.2.2 H locs ls hu4 hP hS (lv_sub hl [1, 2, 3, 4, 0] rfl) (fun H locs ls hP hS hl => ?_)
    obtain rfl := Option.some.inj hE
    exact hret _ _ _ _ dX5_orders_69 hP hS
  have hE := hR
  refine lv_icmp_ne (tgt := 10) C.1 C.2.1 dX5_orders_2 (by decide) (fun c1 => ?_) (fun c1 => ?_)
  · have hE := it_f c1 hE
    obtain rfl := Option.some.inj hE
    exact hJ10u2 H locs ls hP hS (lv_sub hl [0, 1, 2, 3] rfl)
  · have hE := it_t c1 hE
    refine lv_aload_n C.1 C.2.1 dX5_orders_5 rfl (lv_at hl 0 rfl) ?_
    refine lv_iload_n C.1 C.2.1 dX5_orders_6 rfl (lv_at hl 2 rfl) ?_
    obtain ⟨r3, hr3, hE⟩ := it_b hE
    refine m_call (n := 1) (As := [.int p2]) (rest := []) C hP hS hml (metM_tries l G h0 ad _ _ _ p2 r3 hr3) q1691 q1693 qs66 q1694 rfl rfl (by decide +kernel) ⟨Nat.le_of_ble_eq_true rfl, Nat.le_of_ble_eq_true rfl⟩ ⟨Nat.le_refl _, Nat.le_refl _⟩ rfl hl.1 rfl (Nat.le_of_ble_eq_true rfl) dX5_orders_7 (fun H locs hP hS => ?_)
    obtain rfl := Option.some.inj hE
    exact hJ10u2 H locs ls hP hS (lv_sub hl [0, 1, 2, 3] rfl)
def sM_orders_3_h13 (x1 : Int32) (x2 : Int32) (x3 : Int32) (f_many : Int32) (f_weight : Int32) (f_fright : Int32) (f_age : Int32) (f_feed : Int32) (f_life : Int32) (f_low : Int32) (a_kind : Nat → Int32) (a_part : Nat → Int32) (a_ill : Nat → Int32) : Nat → Int32 → Int32 → Int32 → Int32 → Int32 → Int32 → Int32 → Int32 → Int32 → (Nat → Int32) → (Nat → Int32) → Option (Int32 × Int32 × Int32 × Int32 × Int32 × Int32 × Int32 × Int32 × (Nat → Int32) × (Nat → Int32))
  | 0, _, _, _, _, _, _, _, _, _, _, _ => none
  | fuel + 1, x4, f_heft, f_alarm, f_old, f_died, f_ofWhat, f_heavy, f_fewest, f_leanest, a_order, a_best =>
    if x2 ≤ x4 then
      some (f_heft, f_alarm, f_old, f_died, f_ofWhat, f_heavy, f_fewest, f_leanest, a_order, a_best)
    else
      if x2 ≤ x1 then
        some (f_heft, f_alarm, f_old, f_died, f_ofWhat, f_heavy, f_fewest, f_leanest, a_order, a_best)
      else
        @Option.bind (Int32 × Int32 × Int32 × Int32 × Int32 × Int32 × Int32 × Int32 × (Nat → Int32) × (Nat → Int32)) _ (
          if ((x3 >>> (x4 &&& 31)) &&& 1) = 1 then
            some (f_heft, f_alarm, f_old, f_died, f_ofWhat, f_heavy, f_fewest, f_leanest, a_order, a_best)
          else
            (sM_mayAt f_many a_ill x4).bind fun r1405 =>
            if gi x1 6 then
            (sM_orders_2 f_many f_weight f_fright f_age f_feed f_life f_low f_heft f_alarm f_old f_died f_ofWhat f_heavy f_fewest f_leanest a_kind a_part a_ill (upd a_order (x1).toNatClampNeg r1405) a_best (x1 + 1) x2 (x3 ||| (1 <<< (x4 &&& 31)))).bind fun r1407 =>
            some (r1407.1, r1407.2.1, r1407.2.2.1, r1407.2.2.2.1, r1407.2.2.2.2.1, r1407.2.2.2.2.2.1, r1407.2.2.2.2.2.2.1, r1407.2.2.2.2.2.2.2.1, r1407.2.2.2.2.2.2.2.2.1, r1407.2.2.2.2.2.2.2.2.2)
            else none) fun u1404 =>
        sM_orders_3_h13 x1 x2 x3 f_many f_weight f_fright f_age f_feed f_life f_low a_kind a_part a_ill fuel (x4 + 1) u1404.1 u1404.2.1 u1404.2.2.1 u1404.2.2.2.1 u1404.2.2.2.2.1 u1404.2.2.2.2.2.1 u1404.2.2.2.2.2.2.1 u1404.2.2.2.2.2.2.2.1 u1404.2.2.2.2.2.2.2.2.1 u1404.2.2.2.2.2.2.2.2.2
def sM_orders_3 (f_many : Int32) (f_weight : Int32) (f_fright : Int32) (f_age : Int32) (f_feed : Int32) (f_life : Int32) (f_low : Int32) (f_heft : Int32) (f_alarm : Int32) (f_old : Int32) (f_died : Int32) (f_ofWhat : Int32) (f_heavy : Int32) (f_fewest : Int32) (f_leanest : Int32) (a_kind : Nat → Int32) (a_part : Nat → Int32) (a_ill : Nat → Int32) (a_order : Nat → Int32) (a_best : Nat → Int32) (p1 : Int32) (p2 : Int32) (p3 : Int32) : Option (Int32 × Int32 × Int32 × Int32 × Int32 × Int32 × Int32 × Int32 × (Nat → Int32) × (Nat → Int32)) :=
  @Option.bind (Int32 × Int32 × Int32 × Int32 × Int32 × Int32 × Int32 × Int32 × (Nat → Int32)) _ (
    if p1 = p2 then
      (sM_tries f_weight f_fright f_age f_feed f_life f_low f_heft f_alarm f_old f_died f_ofWhat f_heavy f_fewest f_leanest a_kind a_part a_order a_best p2).bind fun r3 =>
      some (r3.1, r3.2.1, r3.2.2.1, r3.2.2.2.1, r3.2.2.2.2.1, r3.2.2.2.2.2.1, r3.2.2.2.2.2.2.1, r3.2.2.2.2.2.2.2.1, r3.2.2.2.2.2.2.2.2)
    else
      some (f_heft, f_alarm, f_old, f_died, f_ofWhat, f_heavy, f_fewest, f_leanest, a_best)) fun u2 =>
  (sM_orders_3_h13 p1 p2 p3 f_many f_weight f_fright f_age f_feed f_life f_low a_kind a_part a_ill 2000 0 u2.1 u2.2.1 u2.2.2.1 u2.2.2.2.1 u2.2.2.2.2.1 u2.2.2.2.2.2.1 u2.2.2.2.2.2.2.1 u2.2.2.2.2.2.2.2.1 a_order u2.2.2.2.2.2.2.2.2).bind fun u4 =>
  some (u4.1, u4.2.1, u4.2.2.1, u4.2.2.2.1, u4.2.2.2.2.1, u4.2.2.2.2.2.1, u4.2.2.2.2.2.2.1, u4.2.2.2.2.2.2.2.1, u4.2.2.2.2.2.2.2.2.1, u4.2.2.2.2.2.2.2.2.2)
set_option maxHeartbeats 4000000 in
theorem wM_orders_3_h13 {p : Program} {l : Launch} {e : Env} {s : State} {m : MethodId} {args : Array Value} {below : List Frame} {meth : Method} {c : Code} {G : kG} {h0 : Nat} {ad : Nat → Nat} {Q : State → Prop} (C : mC p s m args c cX5_orders G h0 ad) (hml : c.maxLocals = 5) (F : Nat → Int32) (A : Nat → Nat → Int32) (L : Nat → Nat → Int64) (x1 : Int32) (x2 : Int32) (x3 : Int32) (res : Int32 × Int32 × Int32 × Int32 × Int32 × Int32 × Int32 × Int32 × (Nat → Int32) × (Nat → Int32)) :
    ∀ (fuel : Nat) (x4 : Int32) (f_heft : Int32) (f_alarm : Int32) (f_old : Int32) (f_died : Int32) (f_ofWhat : Int32) (f_heavy : Int32) (f_fewest : Int32) (f_leanest : Int32) (a_order : Nat → Int32) (a_best : Nat → Int32) (H : Heap) (locs : List Loc) (ls : Array Slot), sM_orders_3_h13 x1 x2 x3 (F 0) (F 1) (F 2) (F 3) (F 5) (F 6) (F 7) (A 12) (A 13) (A 15) fuel x4 f_heft f_alarm f_old f_died f_ofWhat f_heavy f_fewest f_leanest a_order a_best = some res → mPw G h0 ad (upd (upd (upd (upd (upd (upd (upd (upd F 35 f_heft) 36 f_alarm) 37 f_old) 38 f_died) 39 f_ofWhat) 40 f_heavy) 43 f_fewest) 44 f_leanest) (va_up (va_up A 41 a_order) 42 a_best) L H → va_S (mA h0 ad) s.heap H locs → lv_has ls 5 [(0, .ref h0), (1, .int x1), (2, .int x2), (3, .int x3), (4, .int x4)] → (∀ (H : Heap) (locs : List Loc) (ls : Array Slot), mPw G h0 ad (upd (upd (upd (upd (upd (upd (upd (upd F 35 res.1) 36 res.2.1) 37 res.2.2.1) 38 res.2.2.2.1) 39 res.2.2.2.2.1) 40 res.2.2.2.2.2.1) 43 res.2.2.2.2.2.2.1) 44 res.2.2.2.2.2.2.2.1) (va_up (va_up A 41 res.2.2.2.2.2.2.2.2.1) 42 res.2.2.2.2.2.2.2.2.2) L H → va_S (mA h0 ad) s.heap H locs → lv_has ls 5 [] → W p l e ({ frames := 7, cells := 0, slots := 0, locals := 160 } : Room) s m args below meth c H locs 0 0 Q (F0 m 69 ls [])) → W p l e ({ frames := 7, cells := 0, slots := 0, locals := 160 } : Room) s m args below meth c H locs 0 0 Q (F0 m 13 ls []) := by
  intro fuel
  induction fuel with
  | zero =>
    intro x4 f_heft f_alarm f_old f_died f_ofWhat f_heavy f_fewest f_leanest a_order a_best H locs ls hE
    exact it_n hE
  | succ fuel ih =>
    intro x4 f_heft f_alarm f_old f_died f_ofWhat f_heavy f_fewest f_leanest a_order a_best H locs ls hE hP hS hl hX
    rw [sM_orders_3_h13] at hE
    refine lv_iload C.1 C.2.1 dX5_orders_13 (lv_at hl 4 rfl) ?_
    refine lv_iload_n C.1 C.2.1 dX5_orders_15 rfl (lv_at hl 2 rfl) ?_
    refine lv_icmp_ge (tgt := 69) C.1 C.2.1 dX5_orders_16 (by decide) (fun c1401 => ?_) (fun c1401 => ?_)
    · have hE := it_t c1401 hE
      obtain rfl := Option.some.inj hE
      exact hX H locs ls hP hS (lv_sub hl [] rfl)
    · have hE := it_f c1401 hE
      refine lv_iload_n C.1 C.2.1 dX5_orders_19 rfl (lv_at hl 1 rfl) ?_
      refine lv_iload_n C.1 C.2.1 dX5_orders_20 rfl (lv_at hl 2 rfl) ?_
      refine lv_icmp_ge (tgt := 69) C.1 C.2.1 dX5_orders_21 (by decide) (fun c1402 => ?_) (fun c1402 => ?_)
      · have hE := it_t c1402 hE
        obtain rfl := Option.some.inj hE
        exact hX H locs ls hP hS (lv_sub hl [] rfl)
      · have hE := it_f c1402 hE
        refine lv_iload_n C.1 C.2.1 dX5_orders_24 rfl (lv_at hl 3 rfl) ?_
        refine lv_iload C.1 C.2.1 dX5_orders_25 (lv_at hl 4 rfl) ?_
        refine lv_ishr C.1 C.2.1 dX5_orders_27 ?_
        refine lv_iconst (v := 1) C.1 C.2.1 dX5_orders_28 (by decide) ?_
        refine lv_iand C.1 C.2.1 dX5_orders_29 ?_
        refine lv_iconst (v := 1) C.1 C.2.1 dX5_orders_30 (by decide) ?_
        obtain ⟨u1404, hR, hE⟩ := it_b hE
        have hJ63u1404 : ∀ (H : Heap) (locs : List Loc) (ls : Array Slot), mPw G h0 ad (upd (upd (upd (upd (upd (upd (upd (upd F 35 u1404.1) 36 u1404.2.1) 37 u1404.2.2.1) 38 u1404.2.2.2.1) 39 u1404.2.2.2.2.1) 40 u1404.2.2.2.2.2.1) 43 u1404.2.2.2.2.2.2.1) 44 u1404.2.2.2.2.2.2.2.1) (va_up (va_up A 41 u1404.2.2.2.2.2.2.2.2.1) 42 u1404.2.2.2.2.2.2.2.2.2) L H → va_S (mA h0 ad) s.heap H locs → lv_has ls 5 [(0, .ref h0), (1, .int x1), (2, .int x2), (3, .int x3), (4, .int x4)] → W p l e ({ frames := 7, cells := 0, slots := 0, locals := 160 } : Room) s m args below meth c H locs 0 0 Q (F0 m 63 ls []) := by
          intro H locs ls hP hS hl
          refine lv_iinc (v := (x4 + 1)) (lv' := [(4, .int (x4 + 1)), (0, .ref h0), (1, .int x1), (2, .int x2), (3, .int x3)]) C.1 C.2.1 dX5_orders_63 hl (k := 4) rfl rfl (by decide) rfl (fun ls hl => ?_)
          refine lv_goto (tgt := 13) C.1 C.2.1 dX5_orders_66 (by decide) ?_
          exact ih (x4 + 1) u1404.1 u1404.2.1 u1404.2.2.1 u1404.2.2.2.1 u1404.2.2.2.2.1 u1404.2.2.2.2.2.1 u1404.2.2.2.2.2.2.1 u1404.2.2.2.2.2.2.2.1 u1404.2.2.2.2.2.2.2.2.1 u1404.2.2.2.2.2.2.2.2.2 _ _ _ hE hP hS (lv_sub hl [1, 2, 3, 4, 0] rfl) hX
        have hE := hR
        refine lv_icmp_ne (tgt := 37) C.1 C.2.1 dX5_orders_31 (by decide) (fun c1403 => ?_) (fun c1403 => ?_)
        · have hE := it_f c1403 hE
          refine lv_aload_n C.1 C.2.1 dX5_orders_37 rfl (lv_at hl 0 rfl) ?_
          refine ma_41 C hP dX5_orders_38 ?_
          refine lv_iload_n C.1 C.2.1 dX5_orders_41 rfl (lv_at hl 1 rfl) ?_
          refine lv_aload_n C.1 C.2.1 dX5_orders_42 rfl (lv_at hl 0 rfl) ?_
          refine lv_iload C.1 C.2.1 dX5_orders_43 (lv_at hl 4 rfl) ?_
          obtain ⟨r1405, hr1405, hE⟩ := it_b hE
          refine m_call (n := 1) (As := [.int x4]) (rest := [.int x1, .ref (ad 41)]) C hP hS hml (metM_mayAt l G h0 ad _ _ _ x4 r1405 hr1405) q1695 q1697 qs67 q1698 rfl rfl (by decide +kernel) ⟨Nat.le_of_ble_eq_true rfl, Nat.le_of_ble_eq_true rfl⟩ ⟨Nat.le_refl _, Nat.le_refl _⟩ rfl hl.1 rfl (Nat.le_of_ble_eq_true rfl) dX5_orders_45 (fun H locs hP hS => ?_)
          obtain ⟨g1406, hE⟩ := it_g hE
          refine ms_41 (a := a_order) C hP hS (gi_in g1406) rfl dX5_orders_48 (fun H locs hP hS => ?_)
          refine lv_aload_n C.1 C.2.1 dX5_orders_49 rfl (lv_at hl 0 rfl) ?_
          refine lv_iload_n C.1 C.2.1 dX5_orders_50 rfl (lv_at hl 1 rfl) ?_
          refine lv_iconst (v := 1) C.1 C.2.1 dX5_orders_51 (by decide) ?_
          refine lv_iadd C.1 C.2.1 dX5_orders_52 ?_
          refine lv_iload_n C.1 C.2.1 dX5_orders_53 rfl (lv_at hl 2 rfl) ?_
          refine lv_iload_n C.1 C.2.1 dX5_orders_54 rfl (lv_at hl 3 rfl) ?_
          refine lv_iconst (v := 1) C.1 C.2.1 dX5_orders_55 (by decide) ?_
          refine lv_iload C.1 C.2.1 dX5_orders_56 (lv_at hl 4 rfl) ?_
          refine lv_ishl C.1 C.2.1 dX5_orders_58 ?_
          refine lv_ior C.1 C.2.1 dX5_orders_59 ?_
          obtain ⟨r1407, hr1407, hE⟩ := it_b hE
          refine m_call (n := 3) (As := [.int (x1 + 1), .int x2, .int (x3 ||| (1 <<< (x4 &&& 31)))]) (rest := []) C hP hS hml (metM_orders_2 l G h0 ad _ _ _ (x1 + 1) x2 (x3 ||| (1 <<< (x4 &&& 31))) r1407 hr1407) q1687 q1689 qs65 q1690 rfl rfl (by decide +kernel) ⟨Nat.le_of_ble_eq_true rfl, Nat.le_of_ble_eq_true rfl⟩ ⟨Nat.le_refl _, Nat.le_refl _⟩ rfl hl.1 rfl (Nat.le_of_ble_eq_true rfl) dX5_orders_60 (fun H locs hP hS => ?_)
          obtain rfl := Option.some.inj hE
          exact hJ63u1404 H locs ls hP hS (lv_sub hl [0, 1, 2, 3, 4] rfl)
        · have hE := it_t c1403 hE
          refine lv_goto (tgt := 63) C.1 C.2.1 dX5_orders_34 (by decide) ?_
          obtain rfl := Option.some.inj hE
          exact hJ63u1404 H locs ls hP hS (lv_sub hl [0, 1, 2, 3, 4] rfl)
set_option maxHeartbeats 4000000 in
theorem metM_orders_3 (l : Launch) (G : kG) (h0 : Nat) (ad : Nat → Nat) (F : Nat → Int32) (A : Nat → Nat → Int32) (L : Nat → Nat → Int64) (p1 : Int32) (p2 : Int32) (p3 : Int32) (res : Int32 × Int32 × Int32 × Int32 × Int32 × Int32 × Int32 × Int32 × (Nat → Int32) × (Nat → Int32)) (hE : sM_orders_3 (F 0) (F 1) (F 2) (F 3) (F 5) (F 6) (F 7) (F 35) (F 36) (F 37) (F 38) (F 39) (F 40) (F 43) (F 44) (A 12) (A 13) (A 15) (A 41) (A 42) p1 p2 p3 = some res) : Met l yX5_orders (ws_ yX5_orders cX5_orders 5 none) ({ frames := 7, cells := 0, slots := 0, locals := 160 } : Room) (mPc G h0 ad F A L [.int p1, .int p2, .int p3]) (mQc G h0 ad (upd (upd (upd (upd (upd (upd (upd (upd F 35 res.1) 36 res.2.1) 37 res.2.2.1) 38 res.2.2.2.1) 39 res.2.2.2.2.1) 40 res.2.2.2.2.2.1) 43 res.2.2.2.2.2.2.1) 44 res.2.2.2.2.2.2.2.1) (va_up (va_up A 41 res.2.2.2.2.2.2.2.2.1) 42 res.2.2.2.2.2.2.2.2.2) L none) 0 0 (mA h0 ad) := by
  refine m_ofW (by decide) rfl (Nat.le_of_ble_eq_true rfl) ?_
  intro p e s m args below meth c ls C hml hP hS hl hr hlocks
  have hl : lv_has ls 5 [(0, .ref h0), (1, .int p1), (2, .int p2), (3, .int p3)] := hl
  obtain ⟨Q, hQ⟩ : ∃ Q, Q = MQ below (mQc G h0 ad (upd (upd (upd (upd (upd (upd (upd (upd F 35 res.1) 36 res.2.1) 37 res.2.2.1) 38 res.2.2.2.1) 39 res.2.2.2.2.1) 40 res.2.2.2.2.2.1) 43 res.2.2.2.2.2.2.1) 44 res.2.2.2.2.2.2.2.1) (va_up (va_up A 41 res.2.2.2.2.2.2.2.2.1) 42 res.2.2.2.2.2.2.2.2.2) L none) args s 0 0 (mA h0 ad) := ⟨_, rfl⟩
  rw [← hQ]
  have hret : ∀ (pc : Nat) (ls : Array Slot) (H : Heap) (locs : List Loc), decode cX5_orders pc = .ok (.return_, 1) → mPw G h0 ad (upd (upd (upd (upd (upd (upd (upd (upd F 35 res.1) 36 res.2.1) 37 res.2.2.1) 38 res.2.2.2.1) 39 res.2.2.2.2.1) 40 res.2.2.2.2.2.1) 43 res.2.2.2.2.2.2.1) 44 res.2.2.2.2.2.2.2.1) (va_up (va_up A 41 res.2.2.2.2.2.2.2.2.1) 42 res.2.2.2.2.2.2.2.2.2) L H → va_S (mA h0 ad) s.heap H locs → W p l e ({ frames := 7, cells := 0, slots := 0, locals := 160 } : Room) s m args below meth c H locs 0 0 Q (F0 m pc ls []) := by
    intro pc ls H locs hd hP hS
    rw [hQ]
    exact m_vret C hr hlocks hd hP hS
  clear hQ
  obtain ⟨H, hH⟩ : ∃ H, H = s.heap := ⟨_, rfl⟩
  obtain ⟨locs, hlo⟩ : ∃ locs : List Loc, locs = [] := ⟨_, rfl⟩
  have hP : mPw G h0 ad F A L H := by rw [hH]; exact hP
  have hS : va_S (mA h0 ad) s.heap H locs := by rw [hH, hlo]; exact hS
  suffices hZ : W p l e ({ frames := 7, cells := 0, slots := 0, locals := 160 } : Room) s m args below meth c H locs 0 0 Q (F0 m 0 ls []) by rw [hH, hlo] at hZ; exact hZ
  clear hH hlo
  unfold sM_orders_3 at hE
  refine lv_iload_n C.1 C.2.1 dX5_orders_0 rfl (lv_at hl 1 rfl) ?_
  refine lv_iload_n C.1 C.2.1 dX5_orders_1 rfl (lv_at hl 2 rfl) ?_
  obtain ⟨u2, hR, hE⟩ := it_b hE
  have hJ10u2 : ∀ (H : Heap) (locs : List Loc) (ls : Array Slot), mPw G h0 ad (upd (upd (upd (upd (upd (upd (upd (upd F 35 u2.1) 36 u2.2.1) 37 u2.2.2.1) 38 u2.2.2.2.1) 39 u2.2.2.2.2.1) 40 u2.2.2.2.2.2.1) 43 u2.2.2.2.2.2.2.1) 44 u2.2.2.2.2.2.2.2.1) (va_up A 42 u2.2.2.2.2.2.2.2.2) L H → va_S (mA h0 ad) s.heap H locs → lv_has ls 5 [(0, .ref h0), (1, .int p1), (2, .int p2), (3, .int p3)] → W p l e ({ frames := 7, cells := 0, slots := 0, locals := 160 } : Room) s m args below meth c H locs 0 0 Q (F0 m 10 ls []) := by
    intro H locs ls hP hS hl
    refine lv_iconst (v := 0) C.1 C.2.1 dX5_orders_10 (by decide) ?_
    refine lv_istore (lv' := [(4, .int 0), (0, .ref h0), (1, .int p1), (2, .int p2), (3, .int p3)]) C.1 C.2.1 dX5_orders_11 hl (by decide) rfl (fun ls hl => ?_)
    obtain ⟨u4, hu4, hE⟩ := it_b hE
    refine wM_orders_3_h13 C hml F A L p1 p2 p3 u4 2000 0 u2.1 u2.2.1 u2.2.2.1 u2.2.2.2.1 u2.2.2.2.2.1 u2.2.2.2.2.2.1 u2.2.2.2.2.2.2.1 u2.2.2.2.2.2.2.2.1 (A 41) u2.2.2.2.2.2.2.2.2 H locs ls hu4 hP hS (lv_sub hl [1, 2, 3, 4, 0] rfl) (fun H locs ls hP hS hl => ?_)
    obtain rfl := Option.some.inj hE
    exact hret _ _ _ _ dX5_orders_69 hP hS
  have hE := hR
  refine lv_icmp_ne (tgt := 10) C.1 C.2.1 dX5_orders_2 (by decide) (fun c1 => ?_) (fun c1 => ?_)
  · have hE := it_f c1 hE
    obtain rfl := Option.some.inj hE
    exact hJ10u2 H locs ls hP hS (lv_sub hl [0, 1, 2, 3] rfl)
  · have hE := it_t c1 hE
    refine lv_aload_n C.1 C.2.1 dX5_orders_5 rfl (lv_at hl 0 rfl) ?_
    refine lv_iload_n C.1 C.2.1 dX5_orders_6 rfl (lv_at hl 2 rfl) ?_
    obtain ⟨r3, hr3, hE⟩ := it_b hE
    refine m_call (n := 1) (As := [.int p2]) (rest := []) C hP hS hml (metM_tries l G h0 ad _ _ _ p2 r3 hr3) q1691 q1693 qs66 q1694 rfl rfl (by decide +kernel) ⟨Nat.le_of_ble_eq_true rfl, Nat.le_of_ble_eq_true rfl⟩ ⟨Nat.le_refl _, Nat.le_refl _⟩ rfl hl.1 rfl (Nat.le_of_ble_eq_true rfl) dX5_orders_7 (fun H locs hP hS => ?_)
    obtain rfl := Option.some.inj hE
    exact hJ10u2 H locs ls hP hS (lv_sub hl [0, 1, 2, 3] rfl)
def sM_orders_4_h13 (x1 : Int32) (x2 : Int32) (x3 : Int32) (f_many : Int32) (f_weight : Int32) (f_fright : Int32) (f_age : Int32) (f_feed : Int32) (f_life : Int32) (f_low : Int32) (a_kind : Nat → Int32) (a_part : Nat → Int32) (a_ill : Nat → Int32) : Nat → Int32 → Int32 → Int32 → Int32 → Int32 → Int32 → Int32 → Int32 → Int32 → (Nat → Int32) → (Nat → Int32) → Option (Int32 × Int32 × Int32 × Int32 × Int32 × Int32 × Int32 × Int32 × (Nat → Int32) × (Nat → Int32))
  | 0, _, _, _, _, _, _, _, _, _, _, _ => none
  | fuel + 1, x4, f_heft, f_alarm, f_old, f_died, f_ofWhat, f_heavy, f_fewest, f_leanest, a_order, a_best =>
    if x2 ≤ x4 then
      some (f_heft, f_alarm, f_old, f_died, f_ofWhat, f_heavy, f_fewest, f_leanest, a_order, a_best)
    else
      if x2 ≤ x1 then
        some (f_heft, f_alarm, f_old, f_died, f_ofWhat, f_heavy, f_fewest, f_leanest, a_order, a_best)
      else
        @Option.bind (Int32 × Int32 × Int32 × Int32 × Int32 × Int32 × Int32 × Int32 × (Nat → Int32) × (Nat → Int32)) _ (
          if ((x3 >>> (x4 &&& 31)) &&& 1) = 1 then
            some (f_heft, f_alarm, f_old, f_died, f_ofWhat, f_heavy, f_fewest, f_leanest, a_order, a_best)
          else
            (sM_mayAt f_many a_ill x4).bind fun r1405 =>
            if gi x1 6 then
            (sM_orders_3 f_many f_weight f_fright f_age f_feed f_life f_low f_heft f_alarm f_old f_died f_ofWhat f_heavy f_fewest f_leanest a_kind a_part a_ill (upd a_order (x1).toNatClampNeg r1405) a_best (x1 + 1) x2 (x3 ||| (1 <<< (x4 &&& 31)))).bind fun r1407 =>
            some (r1407.1, r1407.2.1, r1407.2.2.1, r1407.2.2.2.1, r1407.2.2.2.2.1, r1407.2.2.2.2.2.1, r1407.2.2.2.2.2.2.1, r1407.2.2.2.2.2.2.2.1, r1407.2.2.2.2.2.2.2.2.1, r1407.2.2.2.2.2.2.2.2.2)
            else none) fun u1404 =>
        sM_orders_4_h13 x1 x2 x3 f_many f_weight f_fright f_age f_feed f_life f_low a_kind a_part a_ill fuel (x4 + 1) u1404.1 u1404.2.1 u1404.2.2.1 u1404.2.2.2.1 u1404.2.2.2.2.1 u1404.2.2.2.2.2.1 u1404.2.2.2.2.2.2.1 u1404.2.2.2.2.2.2.2.1 u1404.2.2.2.2.2.2.2.2.1 u1404.2.2.2.2.2.2.2.2.2
def sM_orders_4 (f_many : Int32) (f_weight : Int32) (f_fright : Int32) (f_age : Int32) (f_feed : Int32) (f_life : Int32) (f_low : Int32) (f_heft : Int32) (f_alarm : Int32) (f_old : Int32) (f_died : Int32) (f_ofWhat : Int32) (f_heavy : Int32) (f_fewest : Int32) (f_leanest : Int32) (a_kind : Nat → Int32) (a_part : Nat → Int32) (a_ill : Nat → Int32) (a_order : Nat → Int32) (a_best : Nat → Int32) (p1 : Int32) (p2 : Int32) (p3 : Int32) : Option (Int32 × Int32 × Int32 × Int32 × Int32 × Int32 × Int32 × Int32 × (Nat → Int32) × (Nat → Int32)) :=
  @Option.bind (Int32 × Int32 × Int32 × Int32 × Int32 × Int32 × Int32 × Int32 × (Nat → Int32)) _ (
    if p1 = p2 then
      (sM_tries f_weight f_fright f_age f_feed f_life f_low f_heft f_alarm f_old f_died f_ofWhat f_heavy f_fewest f_leanest a_kind a_part a_order a_best p2).bind fun r3 =>
      some (r3.1, r3.2.1, r3.2.2.1, r3.2.2.2.1, r3.2.2.2.2.1, r3.2.2.2.2.2.1, r3.2.2.2.2.2.2.1, r3.2.2.2.2.2.2.2.1, r3.2.2.2.2.2.2.2.2)
    else
      some (f_heft, f_alarm, f_old, f_died, f_ofWhat, f_heavy, f_fewest, f_leanest, a_best)) fun u2 =>
  (sM_orders_4_h13 p1 p2 p3 f_many f_weight f_fright f_age f_feed f_life f_low a_kind a_part a_ill 2000 0 u2.1 u2.2.1 u2.2.2.1 u2.2.2.2.1 u2.2.2.2.2.1 u2.2.2.2.2.2.1 u2.2.2.2.2.2.2.1 u2.2.2.2.2.2.2.2.1 a_order u2.2.2.2.2.2.2.2.2).bind fun u4 =>
  some (u4.1, u4.2.1, u4.2.2.1, u4.2.2.2.1, u4.2.2.2.2.1, u4.2.2.2.2.2.1, u4.2.2.2.2.2.2.1, u4.2.2.2.2.2.2.2.1, u4.2.2.2.2.2.2.2.2.1, u4.2.2.2.2.2.2.2.2.2)
set_option maxHeartbeats 4000000 in
theorem wM_orders_4_h13 {p : Program} {l : Launch} {e : Env} {s : State} {m : MethodId} {args : Array Value} {below : List Frame} {meth : Method} {c : Code} {G : kG} {h0 : Nat} {ad : Nat → Nat} {Q : State → Prop} (C : mC p s m args c cX5_orders G h0 ad) (hml : c.maxLocals = 5) (F : Nat → Int32) (A : Nat → Nat → Int32) (L : Nat → Nat → Int64) (x1 : Int32) (x2 : Int32) (x3 : Int32) (res : Int32 × Int32 × Int32 × Int32 × Int32 × Int32 × Int32 × Int32 × (Nat → Int32) × (Nat → Int32)) :
    ∀ (fuel : Nat) (x4 : Int32) (f_heft : Int32) (f_alarm : Int32) (f_old : Int32) (f_died : Int32) (f_ofWhat : Int32) (f_heavy : Int32) (f_fewest : Int32) (f_leanest : Int32) (a_order : Nat → Int32) (a_best : Nat → Int32) (H : Heap) (locs : List Loc) (ls : Array Slot), sM_orders_4_h13 x1 x2 x3 (F 0) (F 1) (F 2) (F 3) (F 5) (F 6) (F 7) (A 12) (A 13) (A 15) fuel x4 f_heft f_alarm f_old f_died f_ofWhat f_heavy f_fewest f_leanest a_order a_best = some res → mPw G h0 ad (upd (upd (upd (upd (upd (upd (upd (upd F 35 f_heft) 36 f_alarm) 37 f_old) 38 f_died) 39 f_ofWhat) 40 f_heavy) 43 f_fewest) 44 f_leanest) (va_up (va_up A 41 a_order) 42 a_best) L H → va_S (mA h0 ad) s.heap H locs → lv_has ls 5 [(0, .ref h0), (1, .int x1), (2, .int x2), (3, .int x3), (4, .int x4)] → (∀ (H : Heap) (locs : List Loc) (ls : Array Slot), mPw G h0 ad (upd (upd (upd (upd (upd (upd (upd (upd F 35 res.1) 36 res.2.1) 37 res.2.2.1) 38 res.2.2.2.1) 39 res.2.2.2.2.1) 40 res.2.2.2.2.2.1) 43 res.2.2.2.2.2.2.1) 44 res.2.2.2.2.2.2.2.1) (va_up (va_up A 41 res.2.2.2.2.2.2.2.2.1) 42 res.2.2.2.2.2.2.2.2.2) L H → va_S (mA h0 ad) s.heap H locs → lv_has ls 5 [] → W p l e ({ frames := 8, cells := 0, slots := 0, locals := 184 } : Room) s m args below meth c H locs 0 0 Q (F0 m 69 ls [])) → W p l e ({ frames := 8, cells := 0, slots := 0, locals := 184 } : Room) s m args below meth c H locs 0 0 Q (F0 m 13 ls []) := by
  intro fuel
  induction fuel with
  | zero =>
    intro x4 f_heft f_alarm f_old f_died f_ofWhat f_heavy f_fewest f_leanest a_order a_best H locs ls hE
    exact it_n hE
  | succ fuel ih =>
    intro x4 f_heft f_alarm f_old f_died f_ofWhat f_heavy f_fewest f_leanest a_order a_best H locs ls hE hP hS hl hX
    rw [sM_orders_4_h13] at hE
    refine lv_iload C.1 C.2.1 dX5_orders_13 (lv_at hl 4 rfl) ?_
    refine lv_iload_n C.1 C.2.1 dX5_orders_15 rfl (lv_at hl 2 rfl) ?_
    refine lv_icmp_ge (tgt := 69) C.1 C.2.1 dX5_orders_16 (by decide) (fun c1401 => ?_) (fun c1401 => ?_)
    · have hE := it_t c1401 hE
      obtain rfl := Option.some.inj hE
      exact hX H locs ls hP hS (lv_sub hl [] rfl)
    · have hE := it_f c1401 hE
      refine lv_iload_n C.1 C.2.1 dX5_orders_19 rfl (lv_at hl 1 rfl) ?_
      refine lv_iload_n C.1 C.2.1 dX5_orders_20 rfl (lv_at hl 2 rfl) ?_
      refine lv_icmp_ge (tgt := 69) C.1 C.2.1 dX5_orders_21 (by decide) (fun c1402 => ?_) (fun c1402 => ?_)
      · have hE := it_t c1402 hE
        obtain rfl := Option.some.inj hE
        exact hX H locs ls hP hS (lv_sub hl [] rfl)
      · have hE := it_f c1402 hE
        refine lv_iload_n C.1 C.2.1 dX5_orders_24 rfl (lv_at hl 3 rfl) ?_
        refine lv_iload C.1 C.2.1 dX5_orders_25 (lv_at hl 4 rfl) ?_
        refine lv_ishr C.1 C.2.1 dX5_orders_27 ?_
        refine lv_iconst (v := 1) C.1 C.2.1 dX5_orders_28 (by decide) ?_
        refine lv_iand C.1 C.2.1 dX5_orders_29 ?_
        refine lv_iconst (v := 1) C.1 C.2.1 dX5_orders_30 (by decide) ?_
        obtain ⟨u1404, hR, hE⟩ := it_b hE
        have hJ63u1404 : ∀ (H : Heap) (locs : List Loc) (ls : Array Slot), mPw G h0 ad (upd (upd (upd (upd (upd (upd (upd (upd F 35 u1404.1) 36 u1404.2.1) 37 u1404.2.2.1) 38 u1404.2.2.2.1) 39 u1404.2.2.2.2.1) 40 u1404.2.2.2.2.2.1) 43 u1404.2.2.2.2.2.2.1) 44 u1404.2.2.2.2.2.2.2.1) (va_up (va_up A 41 u1404.2.2.2.2.2.2.2.2.1) 42 u1404.2.2.2.2.2.2.2.2.2) L H → va_S (mA h0 ad) s.heap H locs → lv_has ls 5 [(0, .ref h0), (1, .int x1), (2, .int x2), (3, .int x3), (4, .int x4)] → W p l e ({ frames := 8, cells := 0, slots := 0, locals := 184 } : Room) s m args below meth c H locs 0 0 Q (F0 m 63 ls []) := by
          intro H locs ls hP hS hl
          refine lv_iinc (v := (x4 + 1)) (lv' := [(4, .int (x4 + 1)), (0, .ref h0), (1, .int x1), (2, .int x2), (3, .int x3)]) C.1 C.2.1 dX5_orders_63 hl (k := 4) rfl rfl (by decide) rfl (fun ls hl => ?_)
          refine lv_goto (tgt := 13) C.1 C.2.1 dX5_orders_66 (by decide) ?_
          exact ih (x4 + 1) u1404.1 u1404.2.1 u1404.2.2.1 u1404.2.2.2.1 u1404.2.2.2.2.1 u1404.2.2.2.2.2.1 u1404.2.2.2.2.2.2.1 u1404.2.2.2.2.2.2.2.1 u1404.2.2.2.2.2.2.2.2.1 u1404.2.2.2.2.2.2.2.2.2 _ _ _ hE hP hS (lv_sub hl [1, 2, 3, 4, 0] rfl) hX
        have hE := hR
        refine lv_icmp_ne (tgt := 37) C.1 C.2.1 dX5_orders_31 (by decide) (fun c1403 => ?_) (fun c1403 => ?_)
        · have hE := it_f c1403 hE
          refine lv_aload_n C.1 C.2.1 dX5_orders_37 rfl (lv_at hl 0 rfl) ?_
          refine ma_41 C hP dX5_orders_38 ?_
          refine lv_iload_n C.1 C.2.1 dX5_orders_41 rfl (lv_at hl 1 rfl) ?_
          refine lv_aload_n C.1 C.2.1 dX5_orders_42 rfl (lv_at hl 0 rfl) ?_
          refine lv_iload C.1 C.2.1 dX5_orders_43 (lv_at hl 4 rfl) ?_
          obtain ⟨r1405, hr1405, hE⟩ := it_b hE
          refine m_call (n := 1) (As := [.int x4]) (rest := [.int x1, .ref (ad 41)]) C hP hS hml (metM_mayAt l G h0 ad _ _ _ x4 r1405 hr1405) q1695 q1697 qs67 q1698 rfl rfl (by decide +kernel) ⟨Nat.le_of_ble_eq_true rfl, Nat.le_of_ble_eq_true rfl⟩ ⟨Nat.le_refl _, Nat.le_refl _⟩ rfl hl.1 rfl (Nat.le_of_ble_eq_true rfl) dX5_orders_45 (fun H locs hP hS => ?_)
          obtain ⟨g1406, hE⟩ := it_g hE
          refine ms_41 (a := a_order) C hP hS (gi_in g1406) rfl dX5_orders_48 (fun H locs hP hS => ?_)
          refine lv_aload_n C.1 C.2.1 dX5_orders_49 rfl (lv_at hl 0 rfl) ?_
          refine lv_iload_n C.1 C.2.1 dX5_orders_50 rfl (lv_at hl 1 rfl) ?_
          refine lv_iconst (v := 1) C.1 C.2.1 dX5_orders_51 (by decide) ?_
          refine lv_iadd C.1 C.2.1 dX5_orders_52 ?_
          refine lv_iload_n C.1 C.2.1 dX5_orders_53 rfl (lv_at hl 2 rfl) ?_
          refine lv_iload_n C.1 C.2.1 dX5_orders_54 rfl (lv_at hl 3 rfl) ?_
          refine lv_iconst (v := 1) C.1 C.2.1 dX5_orders_55 (by decide) ?_
          refine lv_iload C.1 C.2.1 dX5_orders_56 (lv_at hl 4 rfl) ?_
          refine lv_ishl C.1 C.2.1 dX5_orders_58 ?_
          refine lv_ior C.1 C.2.1 dX5_orders_59 ?_
          obtain ⟨r1407, hr1407, hE⟩ := it_b hE
          refine m_call (n := 3) (As := [.int (x1 + 1), .int x2, .int (x3 ||| (1 <<< (x4 &&& 31)))]) (rest := []) C hP hS hml (metM_orders_3 l G h0 ad _ _ _ (x1 + 1) x2 (x3 ||| (1 <<< (x4 &&& 31))) r1407 hr1407) q1687 q1689 qs65 q1690 rfl rfl (by decide +kernel) ⟨Nat.le_of_ble_eq_true rfl, Nat.le_of_ble_eq_true rfl⟩ ⟨Nat.le_refl _, Nat.le_refl _⟩ rfl hl.1 rfl (Nat.le_of_ble_eq_true rfl) dX5_orders_60 (fun H locs hP hS => ?_)
          obtain rfl := Option.some.inj hE
          exact hJ63u1404 H locs ls hP hS (lv_sub hl [0, 1, 2, 3, 4] rfl)
        · have hE := it_t c1403 hE
          refine lv_goto (tgt := 63) C.1 C.2.1 dX5_orders_34 (by decide) ?_
          obtain rfl := Option.some.inj hE
          exact hJ63u1404 H locs ls hP hS (lv_sub hl [0, 1, 2, 3, 4] rfl)
set_option maxHeartbeats 4000000 in
theorem metM_orders_4 (l : Launch) (G : kG) (h0 : Nat) (ad : Nat → Nat) (F : Nat → Int32) (A : Nat → Nat → Int32) (L : Nat → Nat → Int64) (p1 : Int32) (p2 : Int32) (p3 : Int32) (res : Int32 × Int32 × Int32 × Int32 × Int32 × Int32 × Int32 × Int32 × (Nat → Int32) × (Nat → Int32)) (hE : sM_orders_4 (F 0) (F 1) (F 2) (F 3) (F 5) (F 6) (F 7) (F 35) (F 36) (F 37) (F 38) (F 39) (F 40) (F 43) (F 44) (A 12) (A 13) (A 15) (A 41) (A 42) p1 p2 p3 = some res) : Met l yX5_orders (ws_ yX5_orders cX5_orders 5 none) ({ frames := 8, cells := 0, slots := 0, locals := 184 } : Room) (mPc G h0 ad F A L [.int p1, .int p2, .int p3]) (mQc G h0 ad (upd (upd (upd (upd (upd (upd (upd (upd F 35 res.1) 36 res.2.1) 37 res.2.2.1) 38 res.2.2.2.1) 39 res.2.2.2.2.1) 40 res.2.2.2.2.2.1) 43 res.2.2.2.2.2.2.1) 44 res.2.2.2.2.2.2.2.1) (va_up (va_up A 41 res.2.2.2.2.2.2.2.2.1) 42 res.2.2.2.2.2.2.2.2.2) L none) 0 0 (mA h0 ad) := by
  refine m_ofW (by decide) rfl (Nat.le_of_ble_eq_true rfl) ?_
  intro p e s m args below meth c ls C hml hP hS hl hr hlocks
  have hl : lv_has ls 5 [(0, .ref h0), (1, .int p1), (2, .int p2), (3, .int p3)] := hl
  obtain ⟨Q, hQ⟩ : ∃ Q, Q = MQ below (mQc G h0 ad (upd (upd (upd (upd (upd (upd (upd (upd F 35 res.1) 36 res.2.1) 37 res.2.2.1) 38 res.2.2.2.1) 39 res.2.2.2.2.1) 40 res.2.2.2.2.2.1) 43 res.2.2.2.2.2.2.1) 44 res.2.2.2.2.2.2.2.1) (va_up (va_up A 41 res.2.2.2.2.2.2.2.2.1) 42 res.2.2.2.2.2.2.2.2.2) L none) args s 0 0 (mA h0 ad) := ⟨_, rfl⟩
  rw [← hQ]
  have hret : ∀ (pc : Nat) (ls : Array Slot) (H : Heap) (locs : List Loc), decode cX5_orders pc = .ok (.return_, 1) → mPw G h0 ad (upd (upd (upd (upd (upd (upd (upd (upd F 35 res.1) 36 res.2.1) 37 res.2.2.1) 38 res.2.2.2.1) 39 res.2.2.2.2.1) 40 res.2.2.2.2.2.1) 43 res.2.2.2.2.2.2.1) 44 res.2.2.2.2.2.2.2.1) (va_up (va_up A 41 res.2.2.2.2.2.2.2.2.1) 42 res.2.2.2.2.2.2.2.2.2) L H → va_S (mA h0 ad) s.heap H locs → W p l e ({ frames := 8, cells := 0, slots := 0, locals := 184 } : Room) s m args below meth c H locs 0 0 Q (F0 m pc ls []) := by
    intro pc ls H locs hd hP hS
    rw [hQ]
    exact m_vret C hr hlocks hd hP hS
  clear hQ
  obtain ⟨H, hH⟩ : ∃ H, H = s.heap := ⟨_, rfl⟩
  obtain ⟨locs, hlo⟩ : ∃ locs : List Loc, locs = [] := ⟨_, rfl⟩
  have hP : mPw G h0 ad F A L H := by rw [hH]; exact hP
  have hS : va_S (mA h0 ad) s.heap H locs := by rw [hH, hlo]; exact hS
  suffices hZ : W p l e ({ frames := 8, cells := 0, slots := 0, locals := 184 } : Room) s m args below meth c H locs 0 0 Q (F0 m 0 ls []) by rw [hH, hlo] at hZ; exact hZ
  clear hH hlo
  unfold sM_orders_4 at hE
  refine lv_iload_n C.1 C.2.1 dX5_orders_0 rfl (lv_at hl 1 rfl) ?_
  refine lv_iload_n C.1 C.2.1 dX5_orders_1 rfl (lv_at hl 2 rfl) ?_
  obtain ⟨u2, hR, hE⟩ := it_b hE
  have hJ10u2 : ∀ (H : Heap) (locs : List Loc) (ls : Array Slot), mPw G h0 ad (upd (upd (upd (upd (upd (upd (upd (upd F 35 u2.1) 36 u2.2.1) 37 u2.2.2.1) 38 u2.2.2.2.1) 39 u2.2.2.2.2.1) 40 u2.2.2.2.2.2.1) 43 u2.2.2.2.2.2.2.1) 44 u2.2.2.2.2.2.2.2.1) (va_up A 42 u2.2.2.2.2.2.2.2.2) L H → va_S (mA h0 ad) s.heap H locs → lv_has ls 5 [(0, .ref h0), (1, .int p1), (2, .int p2), (3, .int p3)] → W p l e ({ frames := 8, cells := 0, slots := 0, locals := 184 } : Room) s m args below meth c H locs 0 0 Q (F0 m 10 ls []) := by
    intro H locs ls hP hS hl
    refine lv_iconst (v := 0) C.1 C.2.1 dX5_orders_10 (by decide) ?_
    refine lv_istore (lv' := [(4, .int 0), (0, .ref h0), (1, .int p1), (2, .int p2), (3, .int p3)]) C.1 C.2.1 dX5_orders_11 hl (by decide) rfl (fun ls hl => ?_)
    obtain ⟨u4, hu4, hE⟩ := it_b hE
    refine wM_orders_4_h13 C hml F A L p1 p2 p3 u4 2000 0 u2.1 u2.2.1 u2.2.2.1 u2.2.2.2.1 u2.2.2.2.2.1 u2.2.2.2.2.2.1 u2.2.2.2.2.2.2.1 u2.2.2.2.2.2.2.2.1 (A 41) u2.2.2.2.2.2.2.2.2 H locs ls hu4 hP hS (lv_sub hl [1, 2, 3, 4, 0] rfl) (fun H locs ls hP hS hl => ?_)
    obtain rfl := Option.some.inj hE
    exact hret _ _ _ _ dX5_orders_69 hP hS
  have hE := hR
  refine lv_icmp_ne (tgt := 10) C.1 C.2.1 dX5_orders_2 (by decide) (fun c1 => ?_) (fun c1 => ?_)
  · have hE := it_f c1 hE
    obtain rfl := Option.some.inj hE
    exact hJ10u2 H locs ls hP hS (lv_sub hl [0, 1, 2, 3] rfl)
  · have hE := it_t c1 hE
    refine lv_aload_n C.1 C.2.1 dX5_orders_5 rfl (lv_at hl 0 rfl) ?_
    refine lv_iload_n C.1 C.2.1 dX5_orders_6 rfl (lv_at hl 2 rfl) ?_
    obtain ⟨r3, hr3, hE⟩ := it_b hE
    refine m_call (n := 1) (As := [.int p2]) (rest := []) C hP hS hml (metM_tries l G h0 ad _ _ _ p2 r3 hr3) q1691 q1693 qs66 q1694 rfl rfl (by decide +kernel) ⟨Nat.le_of_ble_eq_true rfl, Nat.le_of_ble_eq_true rfl⟩ ⟨Nat.le_refl _, Nat.le_refl _⟩ rfl hl.1 rfl (Nat.le_of_ble_eq_true rfl) dX5_orders_7 (fun H locs hP hS => ?_)
    obtain rfl := Option.some.inj hE
    exact hJ10u2 H locs ls hP hS (lv_sub hl [0, 1, 2, 3] rfl)
def sM_orders_5_h13 (x1 : Int32) (x2 : Int32) (x3 : Int32) (f_many : Int32) (f_weight : Int32) (f_fright : Int32) (f_age : Int32) (f_feed : Int32) (f_life : Int32) (f_low : Int32) (a_kind : Nat → Int32) (a_part : Nat → Int32) (a_ill : Nat → Int32) : Nat → Int32 → Int32 → Int32 → Int32 → Int32 → Int32 → Int32 → Int32 → Int32 → (Nat → Int32) → (Nat → Int32) → Option (Int32 × Int32 × Int32 × Int32 × Int32 × Int32 × Int32 × Int32 × (Nat → Int32) × (Nat → Int32))
  | 0, _, _, _, _, _, _, _, _, _, _, _ => none
  | fuel + 1, x4, f_heft, f_alarm, f_old, f_died, f_ofWhat, f_heavy, f_fewest, f_leanest, a_order, a_best =>
    if x2 ≤ x4 then
      some (f_heft, f_alarm, f_old, f_died, f_ofWhat, f_heavy, f_fewest, f_leanest, a_order, a_best)
    else
      if x2 ≤ x1 then
        some (f_heft, f_alarm, f_old, f_died, f_ofWhat, f_heavy, f_fewest, f_leanest, a_order, a_best)
      else
        @Option.bind (Int32 × Int32 × Int32 × Int32 × Int32 × Int32 × Int32 × Int32 × (Nat → Int32) × (Nat → Int32)) _ (
          if ((x3 >>> (x4 &&& 31)) &&& 1) = 1 then
            some (f_heft, f_alarm, f_old, f_died, f_ofWhat, f_heavy, f_fewest, f_leanest, a_order, a_best)
          else
            (sM_mayAt f_many a_ill x4).bind fun r1405 =>
            if gi x1 6 then
            (sM_orders_4 f_many f_weight f_fright f_age f_feed f_life f_low f_heft f_alarm f_old f_died f_ofWhat f_heavy f_fewest f_leanest a_kind a_part a_ill (upd a_order (x1).toNatClampNeg r1405) a_best (x1 + 1) x2 (x3 ||| (1 <<< (x4 &&& 31)))).bind fun r1407 =>
            some (r1407.1, r1407.2.1, r1407.2.2.1, r1407.2.2.2.1, r1407.2.2.2.2.1, r1407.2.2.2.2.2.1, r1407.2.2.2.2.2.2.1, r1407.2.2.2.2.2.2.2.1, r1407.2.2.2.2.2.2.2.2.1, r1407.2.2.2.2.2.2.2.2.2)
            else none) fun u1404 =>
        sM_orders_5_h13 x1 x2 x3 f_many f_weight f_fright f_age f_feed f_life f_low a_kind a_part a_ill fuel (x4 + 1) u1404.1 u1404.2.1 u1404.2.2.1 u1404.2.2.2.1 u1404.2.2.2.2.1 u1404.2.2.2.2.2.1 u1404.2.2.2.2.2.2.1 u1404.2.2.2.2.2.2.2.1 u1404.2.2.2.2.2.2.2.2.1 u1404.2.2.2.2.2.2.2.2.2
def sM_orders_5 (f_many : Int32) (f_weight : Int32) (f_fright : Int32) (f_age : Int32) (f_feed : Int32) (f_life : Int32) (f_low : Int32) (f_heft : Int32) (f_alarm : Int32) (f_old : Int32) (f_died : Int32) (f_ofWhat : Int32) (f_heavy : Int32) (f_fewest : Int32) (f_leanest : Int32) (a_kind : Nat → Int32) (a_part : Nat → Int32) (a_ill : Nat → Int32) (a_order : Nat → Int32) (a_best : Nat → Int32) (p1 : Int32) (p2 : Int32) (p3 : Int32) : Option (Int32 × Int32 × Int32 × Int32 × Int32 × Int32 × Int32 × Int32 × (Nat → Int32) × (Nat → Int32)) :=
  @Option.bind (Int32 × Int32 × Int32 × Int32 × Int32 × Int32 × Int32 × Int32 × (Nat → Int32)) _ (
    if p1 = p2 then
      (sM_tries f_weight f_fright f_age f_feed f_life f_low f_heft f_alarm f_old f_died f_ofWhat f_heavy f_fewest f_leanest a_kind a_part a_order a_best p2).bind fun r3 =>
      some (r3.1, r3.2.1, r3.2.2.1, r3.2.2.2.1, r3.2.2.2.2.1, r3.2.2.2.2.2.1, r3.2.2.2.2.2.2.1, r3.2.2.2.2.2.2.2.1, r3.2.2.2.2.2.2.2.2)
    else
      some (f_heft, f_alarm, f_old, f_died, f_ofWhat, f_heavy, f_fewest, f_leanest, a_best)) fun u2 =>
  (sM_orders_5_h13 p1 p2 p3 f_many f_weight f_fright f_age f_feed f_life f_low a_kind a_part a_ill 2000 0 u2.1 u2.2.1 u2.2.2.1 u2.2.2.2.1 u2.2.2.2.2.1 u2.2.2.2.2.2.1 u2.2.2.2.2.2.2.1 u2.2.2.2.2.2.2.2.1 a_order u2.2.2.2.2.2.2.2.2).bind fun u4 =>
  some (u4.1, u4.2.1, u4.2.2.1, u4.2.2.2.1, u4.2.2.2.2.1, u4.2.2.2.2.2.1, u4.2.2.2.2.2.2.1, u4.2.2.2.2.2.2.2.1, u4.2.2.2.2.2.2.2.2.1, u4.2.2.2.2.2.2.2.2.2)
set_option maxHeartbeats 4000000 in
theorem wM_orders_5_h13 {p : Program} {l : Launch} {e : Env} {s : State} {m : MethodId} {args : Array Value} {below : List Frame} {meth : Method} {c : Code} {G : kG} {h0 : Nat} {ad : Nat → Nat} {Q : State → Prop} (C : mC p s m args c cX5_orders G h0 ad) (hml : c.maxLocals = 5) (F : Nat → Int32) (A : Nat → Nat → Int32) (L : Nat → Nat → Int64) (x1 : Int32) (x2 : Int32) (x3 : Int32) (res : Int32 × Int32 × Int32 × Int32 × Int32 × Int32 × Int32 × Int32 × (Nat → Int32) × (Nat → Int32)) :
    ∀ (fuel : Nat) (x4 : Int32) (f_heft : Int32) (f_alarm : Int32) (f_old : Int32) (f_died : Int32) (f_ofWhat : Int32) (f_heavy : Int32) (f_fewest : Int32) (f_leanest : Int32) (a_order : Nat → Int32) (a_best : Nat → Int32) (H : Heap) (locs : List Loc) (ls : Array Slot), sM_orders_5_h13 x1 x2 x3 (F 0) (F 1) (F 2) (F 3) (F 5) (F 6) (F 7) (A 12) (A 13) (A 15) fuel x4 f_heft f_alarm f_old f_died f_ofWhat f_heavy f_fewest f_leanest a_order a_best = some res → mPw G h0 ad (upd (upd (upd (upd (upd (upd (upd (upd F 35 f_heft) 36 f_alarm) 37 f_old) 38 f_died) 39 f_ofWhat) 40 f_heavy) 43 f_fewest) 44 f_leanest) (va_up (va_up A 41 a_order) 42 a_best) L H → va_S (mA h0 ad) s.heap H locs → lv_has ls 5 [(0, .ref h0), (1, .int x1), (2, .int x2), (3, .int x3), (4, .int x4)] → (∀ (H : Heap) (locs : List Loc) (ls : Array Slot), mPw G h0 ad (upd (upd (upd (upd (upd (upd (upd (upd F 35 res.1) 36 res.2.1) 37 res.2.2.1) 38 res.2.2.2.1) 39 res.2.2.2.2.1) 40 res.2.2.2.2.2.1) 43 res.2.2.2.2.2.2.1) 44 res.2.2.2.2.2.2.2.1) (va_up (va_up A 41 res.2.2.2.2.2.2.2.2.1) 42 res.2.2.2.2.2.2.2.2.2) L H → va_S (mA h0 ad) s.heap H locs → lv_has ls 5 [] → W p l e ({ frames := 9, cells := 0, slots := 0, locals := 208 } : Room) s m args below meth c H locs 0 0 Q (F0 m 69 ls [])) → W p l e ({ frames := 9, cells := 0, slots := 0, locals := 208 } : Room) s m args below meth c H locs 0 0 Q (F0 m 13 ls []) := by
  intro fuel
  induction fuel with
  | zero =>
    intro x4 f_heft f_alarm f_old f_died f_ofWhat f_heavy f_fewest f_leanest a_order a_best H locs ls hE
    exact it_n hE
  | succ fuel ih =>
    intro x4 f_heft f_alarm f_old f_died f_ofWhat f_heavy f_fewest f_leanest a_order a_best H locs ls hE hP hS hl hX
    rw [sM_orders_5_h13] at hE
    refine lv_iload C.1 C.2.1 dX5_orders_13 (lv_at hl 4 rfl) ?_
    refine lv_iload_n C.1 C.2.1 dX5_orders_15 rfl (lv_at hl 2 rfl) ?_
    refine lv_icmp_ge (tgt := 69) C.1 C.2.1 dX5_orders_16 (by decide) (fun c1401 => ?_) (fun c1401 => ?_)
    · have hE := it_t c1401 hE
      obtain rfl := Option.some.inj hE
      exact hX H locs ls hP hS (lv_sub hl [] rfl)
    · have hE := it_f c1401 hE
      refine lv_iload_n C.1 C.2.1 dX5_orders_19 rfl (lv_at hl 1 rfl) ?_
      refine lv_iload_n C.1 C.2.1 dX5_orders_20 rfl (lv_at hl 2 rfl) ?_
      refine lv_icmp_ge (tgt := 69) C.1 C.2.1 dX5_orders_21 (by decide) (fun c1402 => ?_) (fun c1402 => ?_)
      · have hE := it_t c1402 hE
        obtain rfl := Option.some.inj hE
        exact hX H locs ls hP hS (lv_sub hl [] rfl)
      · have hE := it_f c1402 hE
        refine lv_iload_n C.1 C.2.1 dX5_orders_24 rfl (lv_at hl 3 rfl) ?_
        refine lv_iload C.1 C.2.1 dX5_orders_25 (lv_at hl 4 rfl) ?_
        refine lv_ishr C.1 C.2.1 dX5_orders_27 ?_
        refine lv_iconst (v := 1) C.1 C.2.1 dX5_orders_28 (by decide) ?_
        refine lv_iand C.1 C.2.1 dX5_orders_29 ?_
        refine lv_iconst (v := 1) C.1 C.2.1 dX5_orders_30 (by decide) ?_
        obtain ⟨u1404, hR, hE⟩ := it_b hE
        have hJ63u1404 : ∀ (H : Heap) (locs : List Loc) (ls : Array Slot), mPw G h0 ad (upd (upd (upd (upd (upd (upd (upd (upd F 35 u1404.1) 36 u1404.2.1) 37 u1404.2.2.1) 38 u1404.2.2.2.1) 39 u1404.2.2.2.2.1) 40 u1404.2.2.2.2.2.1) 43 u1404.2.2.2.2.2.2.1) 44 u1404.2.2.2.2.2.2.2.1) (va_up (va_up A 41 u1404.2.2.2.2.2.2.2.2.1) 42 u1404.2.2.2.2.2.2.2.2.2) L H → va_S (mA h0 ad) s.heap H locs → lv_has ls 5 [(0, .ref h0), (1, .int x1), (2, .int x2), (3, .int x3), (4, .int x4)] → W p l e ({ frames := 9, cells := 0, slots := 0, locals := 208 } : Room) s m args below meth c H locs 0 0 Q (F0 m 63 ls []) := by
          intro H locs ls hP hS hl
          refine lv_iinc (v := (x4 + 1)) (lv' := [(4, .int (x4 + 1)), (0, .ref h0), (1, .int x1), (2, .int x2), (3, .int x3)]) C.1 C.2.1 dX5_orders_63 hl (k := 4) rfl rfl (by decide) rfl (fun ls hl => ?_)
          refine lv_goto (tgt := 13) C.1 C.2.1 dX5_orders_66 (by decide) ?_
          exact ih (x4 + 1) u1404.1 u1404.2.1 u1404.2.2.1 u1404.2.2.2.1 u1404.2.2.2.2.1 u1404.2.2.2.2.2.1 u1404.2.2.2.2.2.2.1 u1404.2.2.2.2.2.2.2.1 u1404.2.2.2.2.2.2.2.2.1 u1404.2.2.2.2.2.2.2.2.2 _ _ _ hE hP hS (lv_sub hl [1, 2, 3, 4, 0] rfl) hX
        have hE := hR
        refine lv_icmp_ne (tgt := 37) C.1 C.2.1 dX5_orders_31 (by decide) (fun c1403 => ?_) (fun c1403 => ?_)
        · have hE := it_f c1403 hE
          refine lv_aload_n C.1 C.2.1 dX5_orders_37 rfl (lv_at hl 0 rfl) ?_
          refine ma_41 C hP dX5_orders_38 ?_
          refine lv_iload_n C.1 C.2.1 dX5_orders_41 rfl (lv_at hl 1 rfl) ?_
          refine lv_aload_n C.1 C.2.1 dX5_orders_42 rfl (lv_at hl 0 rfl) ?_
          refine lv_iload C.1 C.2.1 dX5_orders_43 (lv_at hl 4 rfl) ?_
          obtain ⟨r1405, hr1405, hE⟩ := it_b hE
          refine m_call (n := 1) (As := [.int x4]) (rest := [.int x1, .ref (ad 41)]) C hP hS hml (metM_mayAt l G h0 ad _ _ _ x4 r1405 hr1405) q1695 q1697 qs67 q1698 rfl rfl (by decide +kernel) ⟨Nat.le_of_ble_eq_true rfl, Nat.le_of_ble_eq_true rfl⟩ ⟨Nat.le_refl _, Nat.le_refl _⟩ rfl hl.1 rfl (Nat.le_of_ble_eq_true rfl) dX5_orders_45 (fun H locs hP hS => ?_)
          obtain ⟨g1406, hE⟩ := it_g hE
          refine ms_41 (a := a_order) C hP hS (gi_in g1406) rfl dX5_orders_48 (fun H locs hP hS => ?_)
          refine lv_aload_n C.1 C.2.1 dX5_orders_49 rfl (lv_at hl 0 rfl) ?_
          refine lv_iload_n C.1 C.2.1 dX5_orders_50 rfl (lv_at hl 1 rfl) ?_
          refine lv_iconst (v := 1) C.1 C.2.1 dX5_orders_51 (by decide) ?_
          refine lv_iadd C.1 C.2.1 dX5_orders_52 ?_
          refine lv_iload_n C.1 C.2.1 dX5_orders_53 rfl (lv_at hl 2 rfl) ?_
          refine lv_iload_n C.1 C.2.1 dX5_orders_54 rfl (lv_at hl 3 rfl) ?_
          refine lv_iconst (v := 1) C.1 C.2.1 dX5_orders_55 (by decide) ?_
          refine lv_iload C.1 C.2.1 dX5_orders_56 (lv_at hl 4 rfl) ?_
          refine lv_ishl C.1 C.2.1 dX5_orders_58 ?_
          refine lv_ior C.1 C.2.1 dX5_orders_59 ?_
          obtain ⟨r1407, hr1407, hE⟩ := it_b hE
          refine m_call (n := 3) (As := [.int (x1 + 1), .int x2, .int (x3 ||| (1 <<< (x4 &&& 31)))]) (rest := []) C hP hS hml (metM_orders_4 l G h0 ad _ _ _ (x1 + 1) x2 (x3 ||| (1 <<< (x4 &&& 31))) r1407 hr1407) q1687 q1689 qs65 q1690 rfl rfl (by decide +kernel) ⟨Nat.le_of_ble_eq_true rfl, Nat.le_of_ble_eq_true rfl⟩ ⟨Nat.le_refl _, Nat.le_refl _⟩ rfl hl.1 rfl (Nat.le_of_ble_eq_true rfl) dX5_orders_60 (fun H locs hP hS => ?_)
          obtain rfl := Option.some.inj hE
          exact hJ63u1404 H locs ls hP hS (lv_sub hl [0, 1, 2, 3, 4] rfl)
        · have hE := it_t c1403 hE
          refine lv_goto (tgt := 63) C.1 C.2.1 dX5_orders_34 (by decide) ?_
          obtain rfl := Option.some.inj hE
          exact hJ63u1404 H locs ls hP hS (lv_sub hl [0, 1, 2, 3, 4] rfl)
set_option maxHeartbeats 4000000 in
theorem metM_orders_5 (l : Launch) (G : kG) (h0 : Nat) (ad : Nat → Nat) (F : Nat → Int32) (A : Nat → Nat → Int32) (L : Nat → Nat → Int64) (p1 : Int32) (p2 : Int32) (p3 : Int32) (res : Int32 × Int32 × Int32 × Int32 × Int32 × Int32 × Int32 × Int32 × (Nat → Int32) × (Nat → Int32)) (hE : sM_orders_5 (F 0) (F 1) (F 2) (F 3) (F 5) (F 6) (F 7) (F 35) (F 36) (F 37) (F 38) (F 39) (F 40) (F 43) (F 44) (A 12) (A 13) (A 15) (A 41) (A 42) p1 p2 p3 = some res) : Met l yX5_orders (ws_ yX5_orders cX5_orders 5 none) ({ frames := 9, cells := 0, slots := 0, locals := 208 } : Room) (mPc G h0 ad F A L [.int p1, .int p2, .int p3]) (mQc G h0 ad (upd (upd (upd (upd (upd (upd (upd (upd F 35 res.1) 36 res.2.1) 37 res.2.2.1) 38 res.2.2.2.1) 39 res.2.2.2.2.1) 40 res.2.2.2.2.2.1) 43 res.2.2.2.2.2.2.1) 44 res.2.2.2.2.2.2.2.1) (va_up (va_up A 41 res.2.2.2.2.2.2.2.2.1) 42 res.2.2.2.2.2.2.2.2.2) L none) 0 0 (mA h0 ad) := by
  refine m_ofW (by decide) rfl (Nat.le_of_ble_eq_true rfl) ?_
  intro p e s m args below meth c ls C hml hP hS hl hr hlocks
  have hl : lv_has ls 5 [(0, .ref h0), (1, .int p1), (2, .int p2), (3, .int p3)] := hl
  obtain ⟨Q, hQ⟩ : ∃ Q, Q = MQ below (mQc G h0 ad (upd (upd (upd (upd (upd (upd (upd (upd F 35 res.1) 36 res.2.1) 37 res.2.2.1) 38 res.2.2.2.1) 39 res.2.2.2.2.1) 40 res.2.2.2.2.2.1) 43 res.2.2.2.2.2.2.1) 44 res.2.2.2.2.2.2.2.1) (va_up (va_up A 41 res.2.2.2.2.2.2.2.2.1) 42 res.2.2.2.2.2.2.2.2.2) L none) args s 0 0 (mA h0 ad) := ⟨_, rfl⟩
  rw [← hQ]
  have hret : ∀ (pc : Nat) (ls : Array Slot) (H : Heap) (locs : List Loc), decode cX5_orders pc = .ok (.return_, 1) → mPw G h0 ad (upd (upd (upd (upd (upd (upd (upd (upd F 35 res.1) 36 res.2.1) 37 res.2.2.1) 38 res.2.2.2.1) 39 res.2.2.2.2.1) 40 res.2.2.2.2.2.1) 43 res.2.2.2.2.2.2.1) 44 res.2.2.2.2.2.2.2.1) (va_up (va_up A 41 res.2.2.2.2.2.2.2.2.1) 42 res.2.2.2.2.2.2.2.2.2) L H → va_S (mA h0 ad) s.heap H locs → W p l e ({ frames := 9, cells := 0, slots := 0, locals := 208 } : Room) s m args below meth c H locs 0 0 Q (F0 m pc ls []) := by
    intro pc ls H locs hd hP hS
    rw [hQ]
    exact m_vret C hr hlocks hd hP hS
  clear hQ
  obtain ⟨H, hH⟩ : ∃ H, H = s.heap := ⟨_, rfl⟩
  obtain ⟨locs, hlo⟩ : ∃ locs : List Loc, locs = [] := ⟨_, rfl⟩
  have hP : mPw G h0 ad F A L H := by rw [hH]; exact hP
  have hS : va_S (mA h0 ad) s.heap H locs := by rw [hH, hlo]; exact hS
  suffices hZ : W p l e ({ frames := 9, cells := 0, slots := 0, locals := 208 } : Room) s m args below meth c H locs 0 0 Q (F0 m 0 ls []) by rw [hH, hlo] at hZ; exact hZ
  clear hH hlo
  unfold sM_orders_5 at hE
  refine lv_iload_n C.1 C.2.1 dX5_orders_0 rfl (lv_at hl 1 rfl) ?_
  refine lv_iload_n C.1 C.2.1 dX5_orders_1 rfl (lv_at hl 2 rfl) ?_
  obtain ⟨u2, hR, hE⟩ := it_b hE
  have hJ10u2 : ∀ (H : Heap) (locs : List Loc) (ls : Array Slot), mPw G h0 ad (upd (upd (upd (upd (upd (upd (upd (upd F 35 u2.1) 36 u2.2.1) 37 u2.2.2.1) 38 u2.2.2.2.1) 39 u2.2.2.2.2.1) 40 u2.2.2.2.2.2.1) 43 u2.2.2.2.2.2.2.1) 44 u2.2.2.2.2.2.2.2.1) (va_up A 42 u2.2.2.2.2.2.2.2.2) L H → va_S (mA h0 ad) s.heap H locs → lv_has ls 5 [(0, .ref h0), (1, .int p1), (2, .int p2), (3, .int p3)] → W p l e ({ frames := 9, cells := 0, slots := 0, locals := 208 } : Room) s m args below meth c H locs 0 0 Q (F0 m 10 ls []) := by
    intro H locs ls hP hS hl
    refine lv_iconst (v := 0) C.1 C.2.1 dX5_orders_10 (by decide) ?_
    refine lv_istore (lv' := [(4, .int 0), (0, .ref h0), (1, .int p1), (2, .int p2), (3, .int p3)]) C.1 C.2.1 dX5_orders_11 hl (by decide) rfl (fun ls hl => ?_)
    obtain ⟨u4, hu4, hE⟩ := it_b hE
    refine wM_orders_5_h13 C hml F A L p1 p2 p3 u4 2000 0 u2.1 u2.2.1 u2.2.2.1 u2.2.2.2.1 u2.2.2.2.2.1 u2.2.2.2.2.2.1 u2.2.2.2.2.2.2.1 u2.2.2.2.2.2.2.2.1 (A 41) u2.2.2.2.2.2.2.2.2 H locs ls hu4 hP hS (lv_sub hl [1, 2, 3, 4, 0] rfl) (fun H locs ls hP hS hl => ?_)
    obtain rfl := Option.some.inj hE
    exact hret _ _ _ _ dX5_orders_69 hP hS
  have hE := hR
  refine lv_icmp_ne (tgt := 10) C.1 C.2.1 dX5_orders_2 (by decide) (fun c1 => ?_) (fun c1 => ?_)
  · have hE := it_f c1 hE
    obtain rfl := Option.some.inj hE
    exact hJ10u2 H locs ls hP hS (lv_sub hl [0, 1, 2, 3] rfl)
  · have hE := it_t c1 hE
    refine lv_aload_n C.1 C.2.1 dX5_orders_5 rfl (lv_at hl 0 rfl) ?_
    refine lv_iload_n C.1 C.2.1 dX5_orders_6 rfl (lv_at hl 2 rfl) ?_
    obtain ⟨r3, hr3, hE⟩ := it_b hE
    refine m_call (n := 1) (As := [.int p2]) (rest := []) C hP hS hml (metM_tries l G h0 ad _ _ _ p2 r3 hr3) q1691 q1693 qs66 q1694 rfl rfl (by decide +kernel) ⟨Nat.le_of_ble_eq_true rfl, Nat.le_of_ble_eq_true rfl⟩ ⟨Nat.le_refl _, Nat.le_refl _⟩ rfl hl.1 rfl (Nat.le_of_ble_eq_true rfl) dX5_orders_7 (fun H locs hP hS => ?_)
    obtain rfl := Option.some.inj hE
    exact hJ10u2 H locs ls hP hS (lv_sub hl [0, 1, 2, 3] rfl)
def sM_orders_6_h13 (x1 : Int32) (x2 : Int32) (x3 : Int32) (f_many : Int32) (f_weight : Int32) (f_fright : Int32) (f_age : Int32) (f_feed : Int32) (f_life : Int32) (f_low : Int32) (a_kind : Nat → Int32) (a_part : Nat → Int32) (a_ill : Nat → Int32) : Nat → Int32 → Int32 → Int32 → Int32 → Int32 → Int32 → Int32 → Int32 → Int32 → (Nat → Int32) → (Nat → Int32) → Option (Int32 × Int32 × Int32 × Int32 × Int32 × Int32 × Int32 × Int32 × (Nat → Int32) × (Nat → Int32))
  | 0, _, _, _, _, _, _, _, _, _, _, _ => none
  | fuel + 1, x4, f_heft, f_alarm, f_old, f_died, f_ofWhat, f_heavy, f_fewest, f_leanest, a_order, a_best =>
    if x2 ≤ x4 then
      some (f_heft, f_alarm, f_old, f_died, f_ofWhat, f_heavy, f_fewest, f_leanest, a_order, a_best)
    else
      if x2 ≤ x1 then
        some (f_heft, f_alarm, f_old, f_died, f_ofWhat, f_heavy, f_fewest, f_leanest, a_order, a_best)
      else
        @Option.bind (Int32 × Int32 × Int32 × Int32 × Int32 × Int32 × Int32 × Int32 × (Nat → Int32) × (Nat → Int32)) _ (
          if ((x3 >>> (x4 &&& 31)) &&& 1) = 1 then
            some (f_heft, f_alarm, f_old, f_died, f_ofWhat, f_heavy, f_fewest, f_leanest, a_order, a_best)
          else
            (sM_mayAt f_many a_ill x4).bind fun r1405 =>
            if gi x1 6 then
            (sM_orders_5 f_many f_weight f_fright f_age f_feed f_life f_low f_heft f_alarm f_old f_died f_ofWhat f_heavy f_fewest f_leanest a_kind a_part a_ill (upd a_order (x1).toNatClampNeg r1405) a_best (x1 + 1) x2 (x3 ||| (1 <<< (x4 &&& 31)))).bind fun r1407 =>
            some (r1407.1, r1407.2.1, r1407.2.2.1, r1407.2.2.2.1, r1407.2.2.2.2.1, r1407.2.2.2.2.2.1, r1407.2.2.2.2.2.2.1, r1407.2.2.2.2.2.2.2.1, r1407.2.2.2.2.2.2.2.2.1, r1407.2.2.2.2.2.2.2.2.2)
            else none) fun u1404 =>
        sM_orders_6_h13 x1 x2 x3 f_many f_weight f_fright f_age f_feed f_life f_low a_kind a_part a_ill fuel (x4 + 1) u1404.1 u1404.2.1 u1404.2.2.1 u1404.2.2.2.1 u1404.2.2.2.2.1 u1404.2.2.2.2.2.1 u1404.2.2.2.2.2.2.1 u1404.2.2.2.2.2.2.2.1 u1404.2.2.2.2.2.2.2.2.1 u1404.2.2.2.2.2.2.2.2.2
def sM_orders_6 (f_many : Int32) (f_weight : Int32) (f_fright : Int32) (f_age : Int32) (f_feed : Int32) (f_life : Int32) (f_low : Int32) (f_heft : Int32) (f_alarm : Int32) (f_old : Int32) (f_died : Int32) (f_ofWhat : Int32) (f_heavy : Int32) (f_fewest : Int32) (f_leanest : Int32) (a_kind : Nat → Int32) (a_part : Nat → Int32) (a_ill : Nat → Int32) (a_order : Nat → Int32) (a_best : Nat → Int32) (p1 : Int32) (p2 : Int32) (p3 : Int32) : Option (Int32 × Int32 × Int32 × Int32 × Int32 × Int32 × Int32 × Int32 × (Nat → Int32) × (Nat → Int32)) :=
  @Option.bind (Int32 × Int32 × Int32 × Int32 × Int32 × Int32 × Int32 × Int32 × (Nat → Int32)) _ (
    if p1 = p2 then
      (sM_tries f_weight f_fright f_age f_feed f_life f_low f_heft f_alarm f_old f_died f_ofWhat f_heavy f_fewest f_leanest a_kind a_part a_order a_best p2).bind fun r3 =>
      some (r3.1, r3.2.1, r3.2.2.1, r3.2.2.2.1, r3.2.2.2.2.1, r3.2.2.2.2.2.1, r3.2.2.2.2.2.2.1, r3.2.2.2.2.2.2.2.1, r3.2.2.2.2.2.2.2.2)
    else
      some (f_heft, f_alarm, f_old, f_died, f_ofWhat, f_heavy, f_fewest, f_leanest, a_best)) fun u2 =>
  (sM_orders_6_h13 p1 p2 p3 f_many f_weight f_fright f_age f_feed f_life f_low a_kind a_part a_ill 2000 0 u2.1 u2.2.1 u2.2.2.1 u2.2.2.2.1 u2.2.2.2.2.1 u2.2.2.2.2.2.1 u2.2.2.2.2.2.2.1 u2.2.2.2.2.2.2.2.1 a_order u2.2.2.2.2.2.2.2.2).bind fun u4 =>
  some (u4.1, u4.2.1, u4.2.2.1, u4.2.2.2.1, u4.2.2.2.2.1, u4.2.2.2.2.2.1, u4.2.2.2.2.2.2.1, u4.2.2.2.2.2.2.2.1, u4.2.2.2.2.2.2.2.2.1, u4.2.2.2.2.2.2.2.2.2)
set_option maxHeartbeats 4000000 in
theorem wM_orders_6_h13 {p : Program} {l : Launch} {e : Env} {s : State} {m : MethodId} {args : Array Value} {below : List Frame} {meth : Method} {c : Code} {G : kG} {h0 : Nat} {ad : Nat → Nat} {Q : State → Prop} (C : mC p s m args c cX5_orders G h0 ad) (hml : c.maxLocals = 5) (F : Nat → Int32) (A : Nat → Nat → Int32) (L : Nat → Nat → Int64) (x1 : Int32) (x2 : Int32) (x3 : Int32) (res : Int32 × Int32 × Int32 × Int32 × Int32 × Int32 × Int32 × Int32 × (Nat → Int32) × (Nat → Int32)) :
    ∀ (fuel : Nat) (x4 : Int32) (f_heft : Int32) (f_alarm : Int32) (f_old : Int32) (f_died : Int32) (f_ofWhat : Int32) (f_heavy : Int32) (f_fewest : Int32) (f_leanest : Int32) (a_order : Nat → Int32) (a_best : Nat → Int32) (H : Heap) (locs : List Loc) (ls : Array Slot), sM_orders_6_h13 x1 x2 x3 (F 0) (F 1) (F 2) (F 3) (F 5) (F 6) (F 7) (A 12) (A 13) (A 15) fuel x4 f_heft f_alarm f_old f_died f_ofWhat f_heavy f_fewest f_leanest a_order a_best = some res → mPw G h0 ad (upd (upd (upd (upd (upd (upd (upd (upd F 35 f_heft) 36 f_alarm) 37 f_old) 38 f_died) 39 f_ofWhat) 40 f_heavy) 43 f_fewest) 44 f_leanest) (va_up (va_up A 41 a_order) 42 a_best) L H → va_S (mA h0 ad) s.heap H locs → lv_has ls 5 [(0, .ref h0), (1, .int x1), (2, .int x2), (3, .int x3), (4, .int x4)] → (∀ (H : Heap) (locs : List Loc) (ls : Array Slot), mPw G h0 ad (upd (upd (upd (upd (upd (upd (upd (upd F 35 res.1) 36 res.2.1) 37 res.2.2.1) 38 res.2.2.2.1) 39 res.2.2.2.2.1) 40 res.2.2.2.2.2.1) 43 res.2.2.2.2.2.2.1) 44 res.2.2.2.2.2.2.2.1) (va_up (va_up A 41 res.2.2.2.2.2.2.2.2.1) 42 res.2.2.2.2.2.2.2.2.2) L H → va_S (mA h0 ad) s.heap H locs → lv_has ls 5 [] → W p l e ({ frames := 10, cells := 0, slots := 0, locals := 232 } : Room) s m args below meth c H locs 0 0 Q (F0 m 69 ls [])) → W p l e ({ frames := 10, cells := 0, slots := 0, locals := 232 } : Room) s m args below meth c H locs 0 0 Q (F0 m 13 ls []) := by
  intro fuel
  induction fuel with
  | zero =>
    intro x4 f_heft f_alarm f_old f_died f_ofWhat f_heavy f_fewest f_leanest a_order a_best H locs ls hE
    exact it_n hE
  | succ fuel ih =>
    intro x4 f_heft f_alarm f_old f_died f_ofWhat f_heavy f_fewest f_leanest a_order a_best H locs ls hE hP hS hl hX
    rw [sM_orders_6_h13] at hE
    refine lv_iload C.1 C.2.1 dX5_orders_13 (lv_at hl 4 rfl) ?_
    refine lv_iload_n C.1 C.2.1 dX5_orders_15 rfl (lv_at hl 2 rfl) ?_
    refine lv_icmp_ge (tgt := 69) C.1 C.2.1 dX5_orders_16 (by decide) (fun c1401 => ?_) (fun c1401 => ?_)
    · have hE := it_t c1401 hE
      obtain rfl := Option.some.inj hE
      exact hX H locs ls hP hS (lv_sub hl [] rfl)
    · have hE := it_f c1401 hE
      refine lv_iload_n C.1 C.2.1 dX5_orders_19 rfl (lv_at hl 1 rfl) ?_
      refine lv_iload_n C.1 C.2.1 dX5_orders_20 rfl (lv_at hl 2 rfl) ?_
      refine lv_icmp_ge (tgt := 69) C.1 C.2.1 dX5_orders_21 (by decide) (fun c1402 => ?_) (fun c1402 => ?_)
      · have hE := it_t c1402 hE
        obtain rfl := Option.some.inj hE
        exact hX H locs ls hP hS (lv_sub hl [] rfl)
      · have hE := it_f c1402 hE
        refine lv_iload_n C.1 C.2.1 dX5_orders_24 rfl (lv_at hl 3 rfl) ?_
        refine lv_iload C.1 C.2.1 dX5_orders_25 (lv_at hl 4 rfl) ?_
        refine lv_ishr C.1 C.2.1 dX5_orders_27 ?_
        refine lv_iconst (v := 1) C.1 C.2.1 dX5_orders_28 (by decide) ?_
        refine lv_iand C.1 C.2.1 dX5_orders_29 ?_
        refine lv_iconst (v := 1) C.1 C.2.1 dX5_orders_30 (by decide) ?_
        obtain ⟨u1404, hR, hE⟩ := it_b hE
        have hJ63u1404 : ∀ (H : Heap) (locs : List Loc) (ls : Array Slot), mPw G h0 ad (upd (upd (upd (upd (upd (upd (upd (upd F 35 u1404.1) 36 u1404.2.1) 37 u1404.2.2.1) 38 u1404.2.2.2.1) 39 u1404.2.2.2.2.1) 40 u1404.2.2.2.2.2.1) 43 u1404.2.2.2.2.2.2.1) 44 u1404.2.2.2.2.2.2.2.1) (va_up (va_up A 41 u1404.2.2.2.2.2.2.2.2.1) 42 u1404.2.2.2.2.2.2.2.2.2) L H → va_S (mA h0 ad) s.heap H locs → lv_has ls 5 [(0, .ref h0), (1, .int x1), (2, .int x2), (3, .int x3), (4, .int x4)] → W p l e ({ frames := 10, cells := 0, slots := 0, locals := 232 } : Room) s m args below meth c H locs 0 0 Q (F0 m 63 ls []) := by
          intro H locs ls hP hS hl
          refine lv_iinc (v := (x4 + 1)) (lv' := [(4, .int (x4 + 1)), (0, .ref h0), (1, .int x1), (2, .int x2), (3, .int x3)]) C.1 C.2.1 dX5_orders_63 hl (k := 4) rfl rfl (by decide) rfl (fun ls hl => ?_)
          refine lv_goto (tgt := 13) C.1 C.2.1 dX5_orders_66 (by decide) ?_
          exact ih (x4 + 1) u1404.1 u1404.2.1 u1404.2.2.1 u1404.2.2.2.1 u1404.2.2.2.2.1 u1404.2.2.2.2.2.1 u1404.2.2.2.2.2.2.1 u1404.2.2.2.2.2.2.2.1 u1404.2.2.2.2.2.2.2.2.1 u1404.2.2.2.2.2.2.2.2.2 _ _ _ hE hP hS (lv_sub hl [1, 2, 3, 4, 0] rfl) hX
        have hE := hR
        refine lv_icmp_ne (tgt := 37) C.1 C.2.1 dX5_orders_31 (by decide) (fun c1403 => ?_) (fun c1403 => ?_)
        · have hE := it_f c1403 hE
          refine lv_aload_n C.1 C.2.1 dX5_orders_37 rfl (lv_at hl 0 rfl) ?_
          refine ma_41 C hP dX5_orders_38 ?_
          refine lv_iload_n C.1 C.2.1 dX5_orders_41 rfl (lv_at hl 1 rfl) ?_
          refine lv_aload_n C.1 C.2.1 dX5_orders_42 rfl (lv_at hl 0 rfl) ?_
          refine lv_iload C.1 C.2.1 dX5_orders_43 (lv_at hl 4 rfl) ?_
          obtain ⟨r1405, hr1405, hE⟩ := it_b hE
          refine m_call (n := 1) (As := [.int x4]) (rest := [.int x1, .ref (ad 41)]) C hP hS hml (metM_mayAt l G h0 ad _ _ _ x4 r1405 hr1405) q1695 q1697 qs67 q1698 rfl rfl (by decide +kernel) ⟨Nat.le_of_ble_eq_true rfl, Nat.le_of_ble_eq_true rfl⟩ ⟨Nat.le_refl _, Nat.le_refl _⟩ rfl hl.1 rfl (Nat.le_of_ble_eq_true rfl) dX5_orders_45 (fun H locs hP hS => ?_)
          obtain ⟨g1406, hE⟩ := it_g hE
          refine ms_41 (a := a_order) C hP hS (gi_in g1406) rfl dX5_orders_48 (fun H locs hP hS => ?_)
          refine lv_aload_n C.1 C.2.1 dX5_orders_49 rfl (lv_at hl 0 rfl) ?_
          refine lv_iload_n C.1 C.2.1 dX5_orders_50 rfl (lv_at hl 1 rfl) ?_
          refine lv_iconst (v := 1) C.1 C.2.1 dX5_orders_51 (by decide) ?_
          refine lv_iadd C.1 C.2.1 dX5_orders_52 ?_
          refine lv_iload_n C.1 C.2.1 dX5_orders_53 rfl (lv_at hl 2 rfl) ?_
          refine lv_iload_n C.1 C.2.1 dX5_orders_54 rfl (lv_at hl 3 rfl) ?_
          refine lv_iconst (v := 1) C.1 C.2.1 dX5_orders_55 (by decide) ?_
          refine lv_iload C.1 C.2.1 dX5_orders_56 (lv_at hl 4 rfl) ?_
          refine lv_ishl C.1 C.2.1 dX5_orders_58 ?_
          refine lv_ior C.1 C.2.1 dX5_orders_59 ?_
          obtain ⟨r1407, hr1407, hE⟩ := it_b hE
          refine m_call (n := 3) (As := [.int (x1 + 1), .int x2, .int (x3 ||| (1 <<< (x4 &&& 31)))]) (rest := []) C hP hS hml (metM_orders_5 l G h0 ad _ _ _ (x1 + 1) x2 (x3 ||| (1 <<< (x4 &&& 31))) r1407 hr1407) q1687 q1689 qs65 q1690 rfl rfl (by decide +kernel) ⟨Nat.le_of_ble_eq_true rfl, Nat.le_of_ble_eq_true rfl⟩ ⟨Nat.le_refl _, Nat.le_refl _⟩ rfl hl.1 rfl (Nat.le_of_ble_eq_true rfl) dX5_orders_60 (fun H locs hP hS => ?_)
          obtain rfl := Option.some.inj hE
          exact hJ63u1404 H locs ls hP hS (lv_sub hl [0, 1, 2, 3, 4] rfl)
        · have hE := it_t c1403 hE
          refine lv_goto (tgt := 63) C.1 C.2.1 dX5_orders_34 (by decide) ?_
          obtain rfl := Option.some.inj hE
          exact hJ63u1404 H locs ls hP hS (lv_sub hl [0, 1, 2, 3, 4] rfl)
set_option maxHeartbeats 4000000 in
theorem metM_orders_6 (l : Launch) (G : kG) (h0 : Nat) (ad : Nat → Nat) (F : Nat → Int32) (A : Nat → Nat → Int32) (L : Nat → Nat → Int64) (p1 : Int32) (p2 : Int32) (p3 : Int32) (res : Int32 × Int32 × Int32 × Int32 × Int32 × Int32 × Int32 × Int32 × (Nat → Int32) × (Nat → Int32)) (hE : sM_orders_6 (F 0) (F 1) (F 2) (F 3) (F 5) (F 6) (F 7) (F 35) (F 36) (F 37) (F 38) (F 39) (F 40) (F 43) (F 44) (A 12) (A 13) (A 15) (A 41) (A 42) p1 p2 p3 = some res) : Met l yX5_orders (ws_ yX5_orders cX5_orders 5 none) ({ frames := 10, cells := 0, slots := 0, locals := 232 } : Room) (mPc G h0 ad F A L [.int p1, .int p2, .int p3]) (mQc G h0 ad (upd (upd (upd (upd (upd (upd (upd (upd F 35 res.1) 36 res.2.1) 37 res.2.2.1) 38 res.2.2.2.1) 39 res.2.2.2.2.1) 40 res.2.2.2.2.2.1) 43 res.2.2.2.2.2.2.1) 44 res.2.2.2.2.2.2.2.1) (va_up (va_up A 41 res.2.2.2.2.2.2.2.2.1) 42 res.2.2.2.2.2.2.2.2.2) L none) 0 0 (mA h0 ad) := by
  refine m_ofW (by decide) rfl (Nat.le_of_ble_eq_true rfl) ?_
  intro p e s m args below meth c ls C hml hP hS hl hr hlocks
  have hl : lv_has ls 5 [(0, .ref h0), (1, .int p1), (2, .int p2), (3, .int p3)] := hl
  obtain ⟨Q, hQ⟩ : ∃ Q, Q = MQ below (mQc G h0 ad (upd (upd (upd (upd (upd (upd (upd (upd F 35 res.1) 36 res.2.1) 37 res.2.2.1) 38 res.2.2.2.1) 39 res.2.2.2.2.1) 40 res.2.2.2.2.2.1) 43 res.2.2.2.2.2.2.1) 44 res.2.2.2.2.2.2.2.1) (va_up (va_up A 41 res.2.2.2.2.2.2.2.2.1) 42 res.2.2.2.2.2.2.2.2.2) L none) args s 0 0 (mA h0 ad) := ⟨_, rfl⟩
  rw [← hQ]
  have hret : ∀ (pc : Nat) (ls : Array Slot) (H : Heap) (locs : List Loc), decode cX5_orders pc = .ok (.return_, 1) → mPw G h0 ad (upd (upd (upd (upd (upd (upd (upd (upd F 35 res.1) 36 res.2.1) 37 res.2.2.1) 38 res.2.2.2.1) 39 res.2.2.2.2.1) 40 res.2.2.2.2.2.1) 43 res.2.2.2.2.2.2.1) 44 res.2.2.2.2.2.2.2.1) (va_up (va_up A 41 res.2.2.2.2.2.2.2.2.1) 42 res.2.2.2.2.2.2.2.2.2) L H → va_S (mA h0 ad) s.heap H locs → W p l e ({ frames := 10, cells := 0, slots := 0, locals := 232 } : Room) s m args below meth c H locs 0 0 Q (F0 m pc ls []) := by
    intro pc ls H locs hd hP hS
    rw [hQ]
    exact m_vret C hr hlocks hd hP hS
  clear hQ
  obtain ⟨H, hH⟩ : ∃ H, H = s.heap := ⟨_, rfl⟩
  obtain ⟨locs, hlo⟩ : ∃ locs : List Loc, locs = [] := ⟨_, rfl⟩
  have hP : mPw G h0 ad F A L H := by rw [hH]; exact hP
  have hS : va_S (mA h0 ad) s.heap H locs := by rw [hH, hlo]; exact hS
  suffices hZ : W p l e ({ frames := 10, cells := 0, slots := 0, locals := 232 } : Room) s m args below meth c H locs 0 0 Q (F0 m 0 ls []) by rw [hH, hlo] at hZ; exact hZ
  clear hH hlo
  unfold sM_orders_6 at hE
  refine lv_iload_n C.1 C.2.1 dX5_orders_0 rfl (lv_at hl 1 rfl) ?_
  refine lv_iload_n C.1 C.2.1 dX5_orders_1 rfl (lv_at hl 2 rfl) ?_
  obtain ⟨u2, hR, hE⟩ := it_b hE
  have hJ10u2 : ∀ (H : Heap) (locs : List Loc) (ls : Array Slot), mPw G h0 ad (upd (upd (upd (upd (upd (upd (upd (upd F 35 u2.1) 36 u2.2.1) 37 u2.2.2.1) 38 u2.2.2.2.1) 39 u2.2.2.2.2.1) 40 u2.2.2.2.2.2.1) 43 u2.2.2.2.2.2.2.1) 44 u2.2.2.2.2.2.2.2.1) (va_up A 42 u2.2.2.2.2.2.2.2.2) L H → va_S (mA h0 ad) s.heap H locs → lv_has ls 5 [(0, .ref h0), (1, .int p1), (2, .int p2), (3, .int p3)] → W p l e ({ frames := 10, cells := 0, slots := 0, locals := 232 } : Room) s m args below meth c H locs 0 0 Q (F0 m 10 ls []) := by
    intro H locs ls hP hS hl
    refine lv_iconst (v := 0) C.1 C.2.1 dX5_orders_10 (by decide) ?_
    refine lv_istore (lv' := [(4, .int 0), (0, .ref h0), (1, .int p1), (2, .int p2), (3, .int p3)]) C.1 C.2.1 dX5_orders_11 hl (by decide) rfl (fun ls hl => ?_)
    obtain ⟨u4, hu4, hE⟩ := it_b hE
    refine wM_orders_6_h13 C hml F A L p1 p2 p3 u4 2000 0 u2.1 u2.2.1 u2.2.2.1 u2.2.2.2.1 u2.2.2.2.2.1 u2.2.2.2.2.2.1 u2.2.2.2.2.2.2.1 u2.2.2.2.2.2.2.2.1 (A 41) u2.2.2.2.2.2.2.2.2 H locs ls hu4 hP hS (lv_sub hl [1, 2, 3, 4, 0] rfl) (fun H locs ls hP hS hl => ?_)
    obtain rfl := Option.some.inj hE
    exact hret _ _ _ _ dX5_orders_69 hP hS
  have hE := hR
  refine lv_icmp_ne (tgt := 10) C.1 C.2.1 dX5_orders_2 (by decide) (fun c1 => ?_) (fun c1 => ?_)
  · have hE := it_f c1 hE
    obtain rfl := Option.some.inj hE
    exact hJ10u2 H locs ls hP hS (lv_sub hl [0, 1, 2, 3] rfl)
  · have hE := it_t c1 hE
    refine lv_aload_n C.1 C.2.1 dX5_orders_5 rfl (lv_at hl 0 rfl) ?_
    refine lv_iload_n C.1 C.2.1 dX5_orders_6 rfl (lv_at hl 2 rfl) ?_
    obtain ⟨r3, hr3, hE⟩ := it_b hE
    refine m_call (n := 1) (As := [.int p2]) (rest := []) C hP hS hml (metM_tries l G h0 ad _ _ _ p2 r3 hr3) q1691 q1693 qs66 q1694 rfl rfl (by decide +kernel) ⟨Nat.le_of_ble_eq_true rfl, Nat.le_of_ble_eq_true rfl⟩ ⟨Nat.le_refl _, Nat.le_refl _⟩ rfl hl.1 rfl (Nat.le_of_ble_eq_true rfl) dX5_orders_7 (fun H locs hP hS => ?_)
    obtain rfl := Option.some.inj hE
    exact hJ10u2 H locs ls hP hS (lv_sub hl [0, 1, 2, 3] rfl)
def sM_orders_7_h13 (x1 : Int32) (x2 : Int32) (x3 : Int32) (f_many : Int32) (f_weight : Int32) (f_fright : Int32) (f_age : Int32) (f_feed : Int32) (f_life : Int32) (f_low : Int32) (a_kind : Nat → Int32) (a_part : Nat → Int32) (a_ill : Nat → Int32) : Nat → Int32 → Int32 → Int32 → Int32 → Int32 → Int32 → Int32 → Int32 → Int32 → (Nat → Int32) → (Nat → Int32) → Option (Int32 × Int32 × Int32 × Int32 × Int32 × Int32 × Int32 × Int32 × (Nat → Int32) × (Nat → Int32))
  | 0, _, _, _, _, _, _, _, _, _, _, _ => none
  | fuel + 1, x4, f_heft, f_alarm, f_old, f_died, f_ofWhat, f_heavy, f_fewest, f_leanest, a_order, a_best =>
    if x2 ≤ x4 then
      some (f_heft, f_alarm, f_old, f_died, f_ofWhat, f_heavy, f_fewest, f_leanest, a_order, a_best)
    else
      if x2 ≤ x1 then
        some (f_heft, f_alarm, f_old, f_died, f_ofWhat, f_heavy, f_fewest, f_leanest, a_order, a_best)
      else
        @Option.bind (Int32 × Int32 × Int32 × Int32 × Int32 × Int32 × Int32 × Int32 × (Nat → Int32) × (Nat → Int32)) _ (
          if ((x3 >>> (x4 &&& 31)) &&& 1) = 1 then
            some (f_heft, f_alarm, f_old, f_died, f_ofWhat, f_heavy, f_fewest, f_leanest, a_order, a_best)
          else
            (sM_mayAt f_many a_ill x4).bind fun r1405 =>
            if gi x1 6 then
            (sM_orders_6 f_many f_weight f_fright f_age f_feed f_life f_low f_heft f_alarm f_old f_died f_ofWhat f_heavy f_fewest f_leanest a_kind a_part a_ill (upd a_order (x1).toNatClampNeg r1405) a_best (x1 + 1) x2 (x3 ||| (1 <<< (x4 &&& 31)))).bind fun r1407 =>
            some (r1407.1, r1407.2.1, r1407.2.2.1, r1407.2.2.2.1, r1407.2.2.2.2.1, r1407.2.2.2.2.2.1, r1407.2.2.2.2.2.2.1, r1407.2.2.2.2.2.2.2.1, r1407.2.2.2.2.2.2.2.2.1, r1407.2.2.2.2.2.2.2.2.2)
            else none) fun u1404 =>
        sM_orders_7_h13 x1 x2 x3 f_many f_weight f_fright f_age f_feed f_life f_low a_kind a_part a_ill fuel (x4 + 1) u1404.1 u1404.2.1 u1404.2.2.1 u1404.2.2.2.1 u1404.2.2.2.2.1 u1404.2.2.2.2.2.1 u1404.2.2.2.2.2.2.1 u1404.2.2.2.2.2.2.2.1 u1404.2.2.2.2.2.2.2.2.1 u1404.2.2.2.2.2.2.2.2.2
def sM_orders_7 (f_many : Int32) (f_weight : Int32) (f_fright : Int32) (f_age : Int32) (f_feed : Int32) (f_life : Int32) (f_low : Int32) (f_heft : Int32) (f_alarm : Int32) (f_old : Int32) (f_died : Int32) (f_ofWhat : Int32) (f_heavy : Int32) (f_fewest : Int32) (f_leanest : Int32) (a_kind : Nat → Int32) (a_part : Nat → Int32) (a_ill : Nat → Int32) (a_order : Nat → Int32) (a_best : Nat → Int32) (p1 : Int32) (p2 : Int32) (p3 : Int32) : Option (Int32 × Int32 × Int32 × Int32 × Int32 × Int32 × Int32 × Int32 × (Nat → Int32) × (Nat → Int32)) :=
  @Option.bind (Int32 × Int32 × Int32 × Int32 × Int32 × Int32 × Int32 × Int32 × (Nat → Int32)) _ (
    if p1 = p2 then
      (sM_tries f_weight f_fright f_age f_feed f_life f_low f_heft f_alarm f_old f_died f_ofWhat f_heavy f_fewest f_leanest a_kind a_part a_order a_best p2).bind fun r3 =>
      some (r3.1, r3.2.1, r3.2.2.1, r3.2.2.2.1, r3.2.2.2.2.1, r3.2.2.2.2.2.1, r3.2.2.2.2.2.2.1, r3.2.2.2.2.2.2.2.1, r3.2.2.2.2.2.2.2.2)
    else
      some (f_heft, f_alarm, f_old, f_died, f_ofWhat, f_heavy, f_fewest, f_leanest, a_best)) fun u2 =>
  (sM_orders_7_h13 p1 p2 p3 f_many f_weight f_fright f_age f_feed f_life f_low a_kind a_part a_ill 2000 0 u2.1 u2.2.1 u2.2.2.1 u2.2.2.2.1 u2.2.2.2.2.1 u2.2.2.2.2.2.1 u2.2.2.2.2.2.2.1 u2.2.2.2.2.2.2.2.1 a_order u2.2.2.2.2.2.2.2.2).bind fun u4 =>
  some (u4.1, u4.2.1, u4.2.2.1, u4.2.2.2.1, u4.2.2.2.2.1, u4.2.2.2.2.2.1, u4.2.2.2.2.2.2.1, u4.2.2.2.2.2.2.2.1, u4.2.2.2.2.2.2.2.2.1, u4.2.2.2.2.2.2.2.2.2)
set_option maxHeartbeats 4000000 in
theorem wM_orders_7_h13 {p : Program} {l : Launch} {e : Env} {s : State} {m : MethodId} {args : Array Value} {below : List Frame} {meth : Method} {c : Code} {G : kG} {h0 : Nat} {ad : Nat → Nat} {Q : State → Prop} (C : mC p s m args c cX5_orders G h0 ad) (hml : c.maxLocals = 5) (F : Nat → Int32) (A : Nat → Nat → Int32) (L : Nat → Nat → Int64) (x1 : Int32) (x2 : Int32) (x3 : Int32) (res : Int32 × Int32 × Int32 × Int32 × Int32 × Int32 × Int32 × Int32 × (Nat → Int32) × (Nat → Int32)) :
    ∀ (fuel : Nat) (x4 : Int32) (f_heft : Int32) (f_alarm : Int32) (f_old : Int32) (f_died : Int32) (f_ofWhat : Int32) (f_heavy : Int32) (f_fewest : Int32) (f_leanest : Int32) (a_order : Nat → Int32) (a_best : Nat → Int32) (H : Heap) (locs : List Loc) (ls : Array Slot), sM_orders_7_h13 x1 x2 x3 (F 0) (F 1) (F 2) (F 3) (F 5) (F 6) (F 7) (A 12) (A 13) (A 15) fuel x4 f_heft f_alarm f_old f_died f_ofWhat f_heavy f_fewest f_leanest a_order a_best = some res → mPw G h0 ad (upd (upd (upd (upd (upd (upd (upd (upd F 35 f_heft) 36 f_alarm) 37 f_old) 38 f_died) 39 f_ofWhat) 40 f_heavy) 43 f_fewest) 44 f_leanest) (va_up (va_up A 41 a_order) 42 a_best) L H → va_S (mA h0 ad) s.heap H locs → lv_has ls 5 [(0, .ref h0), (1, .int x1), (2, .int x2), (3, .int x3), (4, .int x4)] → (∀ (H : Heap) (locs : List Loc) (ls : Array Slot), mPw G h0 ad (upd (upd (upd (upd (upd (upd (upd (upd F 35 res.1) 36 res.2.1) 37 res.2.2.1) 38 res.2.2.2.1) 39 res.2.2.2.2.1) 40 res.2.2.2.2.2.1) 43 res.2.2.2.2.2.2.1) 44 res.2.2.2.2.2.2.2.1) (va_up (va_up A 41 res.2.2.2.2.2.2.2.2.1) 42 res.2.2.2.2.2.2.2.2.2) L H → va_S (mA h0 ad) s.heap H locs → lv_has ls 5 [] → W p l e ({ frames := 11, cells := 0, slots := 0, locals := 256 } : Room) s m args below meth c H locs 0 0 Q (F0 m 69 ls [])) → W p l e ({ frames := 11, cells := 0, slots := 0, locals := 256 } : Room) s m args below meth c H locs 0 0 Q (F0 m 13 ls []) := by
  intro fuel
  induction fuel with
  | zero =>
    intro x4 f_heft f_alarm f_old f_died f_ofWhat f_heavy f_fewest f_leanest a_order a_best H locs ls hE
    exact it_n hE
  | succ fuel ih =>
    intro x4 f_heft f_alarm f_old f_died f_ofWhat f_heavy f_fewest f_leanest a_order a_best H locs ls hE hP hS hl hX
    rw [sM_orders_7_h13] at hE
    refine lv_iload C.1 C.2.1 dX5_orders_13 (lv_at hl 4 rfl) ?_
    refine lv_iload_n C.1 C.2.1 dX5_orders_15 rfl (lv_at hl 2 rfl) ?_
    refine lv_icmp_ge (tgt := 69) C.1 C.2.1 dX5_orders_16 (by decide) (fun c1401 => ?_) (fun c1401 => ?_)
    · have hE := it_t c1401 hE
      obtain rfl := Option.some.inj hE
      exact hX H locs ls hP hS (lv_sub hl [] rfl)
    · have hE := it_f c1401 hE
      refine lv_iload_n C.1 C.2.1 dX5_orders_19 rfl (lv_at hl 1 rfl) ?_
      refine lv_iload_n C.1 C.2.1 dX5_orders_20 rfl (lv_at hl 2 rfl) ?_
      refine lv_icmp_ge (tgt := 69) C.1 C.2.1 dX5_orders_21 (by decide) (fun c1402 => ?_) (fun c1402 => ?_)
      · have hE := it_t c1402 hE
        obtain rfl := Option.some.inj hE
        exact hX H locs ls hP hS (lv_sub hl [] rfl)
      · have hE := it_f c1402 hE
        refine lv_iload_n C.1 C.2.1 dX5_orders_24 rfl (lv_at hl 3 rfl) ?_
        refine lv_iload C.1 C.2.1 dX5_orders_25 (lv_at hl 4 rfl) ?_
        refine lv_ishr C.1 C.2.1 dX5_orders_27 ?_
        refine lv_iconst (v := 1) C.1 C.2.1 dX5_orders_28 (by decide) ?_
        refine lv_iand C.1 C.2.1 dX5_orders_29 ?_
        refine lv_iconst (v := 1) C.1 C.2.1 dX5_orders_30 (by decide) ?_
        obtain ⟨u1404, hR, hE⟩ := it_b hE
        have hJ63u1404 : ∀ (H : Heap) (locs : List Loc) (ls : Array Slot), mPw G h0 ad (upd (upd (upd (upd (upd (upd (upd (upd F 35 u1404.1) 36 u1404.2.1) 37 u1404.2.2.1) 38 u1404.2.2.2.1) 39 u1404.2.2.2.2.1) 40 u1404.2.2.2.2.2.1) 43 u1404.2.2.2.2.2.2.1) 44 u1404.2.2.2.2.2.2.2.1) (va_up (va_up A 41 u1404.2.2.2.2.2.2.2.2.1) 42 u1404.2.2.2.2.2.2.2.2.2) L H → va_S (mA h0 ad) s.heap H locs → lv_has ls 5 [(0, .ref h0), (1, .int x1), (2, .int x2), (3, .int x3), (4, .int x4)] → W p l e ({ frames := 11, cells := 0, slots := 0, locals := 256 } : Room) s m args below meth c H locs 0 0 Q (F0 m 63 ls []) := by
          intro H locs ls hP hS hl
          refine lv_iinc (v := (x4 + 1)) (lv' := [(4, .int (x4 + 1)), (0, .ref h0), (1, .int x1), (2, .int x2), (3, .int x3)]) C.1 C.2.1 dX5_orders_63 hl (k := 4) rfl rfl (by decide) rfl (fun ls hl => ?_)
          refine lv_goto (tgt := 13) C.1 C.2.1 dX5_orders_66 (by decide) ?_
          exact ih (x4 + 1) u1404.1 u1404.2.1 u1404.2.2.1 u1404.2.2.2.1 u1404.2.2.2.2.1 u1404.2.2.2.2.2.1 u1404.2.2.2.2.2.2.1 u1404.2.2.2.2.2.2.2.1 u1404.2.2.2.2.2.2.2.2.1 u1404.2.2.2.2.2.2.2.2.2 _ _ _ hE hP hS (lv_sub hl [1, 2, 3, 4, 0] rfl) hX
        have hE := hR
        refine lv_icmp_ne (tgt := 37) C.1 C.2.1 dX5_orders_31 (by decide) (fun c1403 => ?_) (fun c1403 => ?_)
        · have hE := it_f c1403 hE
          refine lv_aload_n C.1 C.2.1 dX5_orders_37 rfl (lv_at hl 0 rfl) ?_
          refine ma_41 C hP dX5_orders_38 ?_
          refine lv_iload_n C.1 C.2.1 dX5_orders_41 rfl (lv_at hl 1 rfl) ?_
          refine lv_aload_n C.1 C.2.1 dX5_orders_42 rfl (lv_at hl 0 rfl) ?_
          refine lv_iload C.1 C.2.1 dX5_orders_43 (lv_at hl 4 rfl) ?_
          obtain ⟨r1405, hr1405, hE⟩ := it_b hE
          refine m_call (n := 1) (As := [.int x4]) (rest := [.int x1, .ref (ad 41)]) C hP hS hml (metM_mayAt l G h0 ad _ _ _ x4 r1405 hr1405) q1695 q1697 qs67 q1698 rfl rfl (by decide +kernel) ⟨Nat.le_of_ble_eq_true rfl, Nat.le_of_ble_eq_true rfl⟩ ⟨Nat.le_refl _, Nat.le_refl _⟩ rfl hl.1 rfl (Nat.le_of_ble_eq_true rfl) dX5_orders_45 (fun H locs hP hS => ?_)
          obtain ⟨g1406, hE⟩ := it_g hE
          refine ms_41 (a := a_order) C hP hS (gi_in g1406) rfl dX5_orders_48 (fun H locs hP hS => ?_)
          refine lv_aload_n C.1 C.2.1 dX5_orders_49 rfl (lv_at hl 0 rfl) ?_
          refine lv_iload_n C.1 C.2.1 dX5_orders_50 rfl (lv_at hl 1 rfl) ?_
          refine lv_iconst (v := 1) C.1 C.2.1 dX5_orders_51 (by decide) ?_
          refine lv_iadd C.1 C.2.1 dX5_orders_52 ?_
          refine lv_iload_n C.1 C.2.1 dX5_orders_53 rfl (lv_at hl 2 rfl) ?_
          refine lv_iload_n C.1 C.2.1 dX5_orders_54 rfl (lv_at hl 3 rfl) ?_
          refine lv_iconst (v := 1) C.1 C.2.1 dX5_orders_55 (by decide) ?_
          refine lv_iload C.1 C.2.1 dX5_orders_56 (lv_at hl 4 rfl) ?_
          refine lv_ishl C.1 C.2.1 dX5_orders_58 ?_
          refine lv_ior C.1 C.2.1 dX5_orders_59 ?_
          obtain ⟨r1407, hr1407, hE⟩ := it_b hE
          refine m_call (n := 3) (As := [.int (x1 + 1), .int x2, .int (x3 ||| (1 <<< (x4 &&& 31)))]) (rest := []) C hP hS hml (metM_orders_6 l G h0 ad _ _ _ (x1 + 1) x2 (x3 ||| (1 <<< (x4 &&& 31))) r1407 hr1407) q1687 q1689 qs65 q1690 rfl rfl (by decide +kernel) ⟨Nat.le_of_ble_eq_true rfl, Nat.le_of_ble_eq_true rfl⟩ ⟨Nat.le_refl _, Nat.le_refl _⟩ rfl hl.1 rfl (Nat.le_of_ble_eq_true rfl) dX5_orders_60 (fun H locs hP hS => ?_)
          obtain rfl := Option.some.inj hE
          exact hJ63u1404 H locs ls hP hS (lv_sub hl [0, 1, 2, 3, 4] rfl)
        · have hE := it_t c1403 hE
          refine lv_goto (tgt := 63) C.1 C.2.1 dX5_orders_34 (by decide) ?_
          obtain rfl := Option.some.inj hE
          exact hJ63u1404 H locs ls hP hS (lv_sub hl [0, 1, 2, 3, 4] rfl)
set_option maxHeartbeats 4000000 in
theorem metM_orders_7 (l : Launch) (G : kG) (h0 : Nat) (ad : Nat → Nat) (F : Nat → Int32) (A : Nat → Nat → Int32) (L : Nat → Nat → Int64) (p1 : Int32) (p2 : Int32) (p3 : Int32) (res : Int32 × Int32 × Int32 × Int32 × Int32 × Int32 × Int32 × Int32 × (Nat → Int32) × (Nat → Int32)) (hE : sM_orders_7 (F 0) (F 1) (F 2) (F 3) (F 5) (F 6) (F 7) (F 35) (F 36) (F 37) (F 38) (F 39) (F 40) (F 43) (F 44) (A 12) (A 13) (A 15) (A 41) (A 42) p1 p2 p3 = some res) : Met l yX5_orders (ws_ yX5_orders cX5_orders 5 none) ({ frames := 11, cells := 0, slots := 0, locals := 256 } : Room) (mPc G h0 ad F A L [.int p1, .int p2, .int p3]) (mQc G h0 ad (upd (upd (upd (upd (upd (upd (upd (upd F 35 res.1) 36 res.2.1) 37 res.2.2.1) 38 res.2.2.2.1) 39 res.2.2.2.2.1) 40 res.2.2.2.2.2.1) 43 res.2.2.2.2.2.2.1) 44 res.2.2.2.2.2.2.2.1) (va_up (va_up A 41 res.2.2.2.2.2.2.2.2.1) 42 res.2.2.2.2.2.2.2.2.2) L none) 0 0 (mA h0 ad) := by
  refine m_ofW (by decide) rfl (Nat.le_of_ble_eq_true rfl) ?_
  intro p e s m args below meth c ls C hml hP hS hl hr hlocks
  have hl : lv_has ls 5 [(0, .ref h0), (1, .int p1), (2, .int p2), (3, .int p3)] := hl
  obtain ⟨Q, hQ⟩ : ∃ Q, Q = MQ below (mQc G h0 ad (upd (upd (upd (upd (upd (upd (upd (upd F 35 res.1) 36 res.2.1) 37 res.2.2.1) 38 res.2.2.2.1) 39 res.2.2.2.2.1) 40 res.2.2.2.2.2.1) 43 res.2.2.2.2.2.2.1) 44 res.2.2.2.2.2.2.2.1) (va_up (va_up A 41 res.2.2.2.2.2.2.2.2.1) 42 res.2.2.2.2.2.2.2.2.2) L none) args s 0 0 (mA h0 ad) := ⟨_, rfl⟩
  rw [← hQ]
  have hret : ∀ (pc : Nat) (ls : Array Slot) (H : Heap) (locs : List Loc), decode cX5_orders pc = .ok (.return_, 1) → mPw G h0 ad (upd (upd (upd (upd (upd (upd (upd (upd F 35 res.1) 36 res.2.1) 37 res.2.2.1) 38 res.2.2.2.1) 39 res.2.2.2.2.1) 40 res.2.2.2.2.2.1) 43 res.2.2.2.2.2.2.1) 44 res.2.2.2.2.2.2.2.1) (va_up (va_up A 41 res.2.2.2.2.2.2.2.2.1) 42 res.2.2.2.2.2.2.2.2.2) L H → va_S (mA h0 ad) s.heap H locs → W p l e ({ frames := 11, cells := 0, slots := 0, locals := 256 } : Room) s m args below meth c H locs 0 0 Q (F0 m pc ls []) := by
    intro pc ls H locs hd hP hS
    rw [hQ]
    exact m_vret C hr hlocks hd hP hS
  clear hQ
  obtain ⟨H, hH⟩ : ∃ H, H = s.heap := ⟨_, rfl⟩
  obtain ⟨locs, hlo⟩ : ∃ locs : List Loc, locs = [] := ⟨_, rfl⟩
  have hP : mPw G h0 ad F A L H := by rw [hH]; exact hP
  have hS : va_S (mA h0 ad) s.heap H locs := by rw [hH, hlo]; exact hS
  suffices hZ : W p l e ({ frames := 11, cells := 0, slots := 0, locals := 256 } : Room) s m args below meth c H locs 0 0 Q (F0 m 0 ls []) by rw [hH, hlo] at hZ; exact hZ
  clear hH hlo
  unfold sM_orders_7 at hE
  refine lv_iload_n C.1 C.2.1 dX5_orders_0 rfl (lv_at hl 1 rfl) ?_
  refine lv_iload_n C.1 C.2.1 dX5_orders_1 rfl (lv_at hl 2 rfl) ?_
  obtain ⟨u2, hR, hE⟩ := it_b hE
  have hJ10u2 : ∀ (H : Heap) (locs : List Loc) (ls : Array Slot), mPw G h0 ad (upd (upd (upd (upd (upd (upd (upd (upd F 35 u2.1) 36 u2.2.1) 37 u2.2.2.1) 38 u2.2.2.2.1) 39 u2.2.2.2.2.1) 40 u2.2.2.2.2.2.1) 43 u2.2.2.2.2.2.2.1) 44 u2.2.2.2.2.2.2.2.1) (va_up A 42 u2.2.2.2.2.2.2.2.2) L H → va_S (mA h0 ad) s.heap H locs → lv_has ls 5 [(0, .ref h0), (1, .int p1), (2, .int p2), (3, .int p3)] → W p l e ({ frames := 11, cells := 0, slots := 0, locals := 256 } : Room) s m args below meth c H locs 0 0 Q (F0 m 10 ls []) := by
    intro H locs ls hP hS hl
    refine lv_iconst (v := 0) C.1 C.2.1 dX5_orders_10 (by decide) ?_
    refine lv_istore (lv' := [(4, .int 0), (0, .ref h0), (1, .int p1), (2, .int p2), (3, .int p3)]) C.1 C.2.1 dX5_orders_11 hl (by decide) rfl (fun ls hl => ?_)
    obtain ⟨u4, hu4, hE⟩ := it_b hE
    refine wM_orders_7_h13 C hml F A L p1 p2 p3 u4 2000 0 u2.1 u2.2.1 u2.2.2.1 u2.2.2.2.1 u2.2.2.2.2.1 u2.2.2.2.2.2.1 u2.2.2.2.2.2.2.1 u2.2.2.2.2.2.2.2.1 (A 41) u2.2.2.2.2.2.2.2.2 H locs ls hu4 hP hS (lv_sub hl [1, 2, 3, 4, 0] rfl) (fun H locs ls hP hS hl => ?_)
    obtain rfl := Option.some.inj hE
    exact hret _ _ _ _ dX5_orders_69 hP hS
  have hE := hR
  refine lv_icmp_ne (tgt := 10) C.1 C.2.1 dX5_orders_2 (by decide) (fun c1 => ?_) (fun c1 => ?_)
  · have hE := it_f c1 hE
    obtain rfl := Option.some.inj hE
    exact hJ10u2 H locs ls hP hS (lv_sub hl [0, 1, 2, 3] rfl)
  · have hE := it_t c1 hE
    refine lv_aload_n C.1 C.2.1 dX5_orders_5 rfl (lv_at hl 0 rfl) ?_
    refine lv_iload_n C.1 C.2.1 dX5_orders_6 rfl (lv_at hl 2 rfl) ?_
    obtain ⟨r3, hr3, hE⟩ := it_b hE
    refine m_call (n := 1) (As := [.int p2]) (rest := []) C hP hS hml (metM_tries l G h0 ad _ _ _ p2 r3 hr3) q1691 q1693 qs66 q1694 rfl rfl (by decide +kernel) ⟨Nat.le_of_ble_eq_true rfl, Nat.le_of_ble_eq_true rfl⟩ ⟨Nat.le_refl _, Nat.le_refl _⟩ rfl hl.1 rfl (Nat.le_of_ble_eq_true rfl) dX5_orders_7 (fun H locs hP hS => ?_)
    obtain rfl := Option.some.inj hE
    exact hJ10u2 H locs ls hP hS (lv_sub hl [0, 1, 2, 3] rfl)
def sM_ordered (f_many : Int32) (f_weight : Int32) (f_fright : Int32) (f_age : Int32) (f_feed : Int32) (f_life : Int32) (f_low : Int32) (f_heft : Int32) (f_alarm : Int32) (f_old : Int32) (f_died : Int32) (f_ofWhat : Int32) (f_heavy : Int32) (f_fewest : Int32) (f_leanest : Int32) (a_kind : Nat → Int32) (a_part : Nat → Int32) (a_ill : Nat → Int32) (a_order : Nat → Int32) (a_best : Nat → Int32) : Option (Int32 × Int32 × Int32 × Int32 × Int32 × Int32 × Int32 × Int32 × Int32 × (Nat → Int32) × (Nat → Int32)) :=
  (sM_mays f_many a_ill).bind fun r1 =>
  (sM_orders_7 f_many f_weight f_fright f_age f_feed f_life f_low f_heft f_alarm f_old f_died f_ofWhat f_heavy (-1) 0 a_kind a_part a_ill a_order a_best 0 r1 0).bind fun r2 =>
  some (r1, r2.1, r2.2.1, r2.2.2.1, r2.2.2.2.1, r2.2.2.2.2.1, r2.2.2.2.2.2.1, r2.2.2.2.2.2.2.1, r2.2.2.2.2.2.2.2.1, r2.2.2.2.2.2.2.2.2.1, r2.2.2.2.2.2.2.2.2.2)
set_option maxHeartbeats 4000000 in
theorem metM_ordered (l : Launch) (G : kG) (h0 : Nat) (ad : Nat → Nat) (F : Nat → Int32) (A : Nat → Nat → Int32) (L : Nat → Nat → Int64)  (res : Int32 × Int32 × Int32 × Int32 × Int32 × Int32 × Int32 × Int32 × Int32 × (Nat → Int32) × (Nat → Int32)) (hE : sM_ordered (F 0) (F 1) (F 2) (F 3) (F 5) (F 6) (F 7) (F 35) (F 36) (F 37) (F 38) (F 39) (F 40) (F 43) (F 44) (A 12) (A 13) (A 15) (A 41) (A 42) = some res) : Met l yX5_ordered (ws_ yX5_ordered cX5_ordered 2 (some .int)) ({ frames := 12, cells := 0, slots := 0, locals := 280 } : Room) (mPc G h0 ad F A L []) (mQc G h0 ad (upd (upd (upd (upd (upd (upd (upd (upd F 35 res.2.1) 36 res.2.2.1) 37 res.2.2.2.1) 38 res.2.2.2.2.1) 39 res.2.2.2.2.2.1) 40 res.2.2.2.2.2.2.1) 43 res.2.2.2.2.2.2.2.1) 44 res.2.2.2.2.2.2.2.2.1) (va_up (va_up A 41 res.2.2.2.2.2.2.2.2.2.1) 42 res.2.2.2.2.2.2.2.2.2.2) L (some (.int res.1))) 0 0 (mA h0 ad) := by
  refine m_ofW (by decide) rfl (Nat.le_of_ble_eq_true rfl) ?_
  intro p e s m args below meth c ls C hml hP hS hl hr hlocks
  have hl : lv_has ls 2 [(0, .ref h0)] := hl
  obtain ⟨Q, hQ⟩ : ∃ Q, Q = MQ below (mQc G h0 ad (upd (upd (upd (upd (upd (upd (upd (upd F 35 res.2.1) 36 res.2.2.1) 37 res.2.2.2.1) 38 res.2.2.2.2.1) 39 res.2.2.2.2.2.1) 40 res.2.2.2.2.2.2.1) 43 res.2.2.2.2.2.2.2.1) 44 res.2.2.2.2.2.2.2.2.1) (va_up (va_up A 41 res.2.2.2.2.2.2.2.2.2.1) 42 res.2.2.2.2.2.2.2.2.2.2) L (some (.int res.1))) args s 0 0 (mA h0 ad) := ⟨_, rfl⟩
  rw [← hQ]
  have hret : ∀ (pc : Nat) (ls : Array Slot) (H : Heap) (locs : List Loc), decode cX5_ordered pc = .ok (.ireturn, 1) → mPw G h0 ad (upd (upd (upd (upd (upd (upd (upd (upd F 35 res.2.1) 36 res.2.2.1) 37 res.2.2.2.1) 38 res.2.2.2.2.1) 39 res.2.2.2.2.2.1) 40 res.2.2.2.2.2.2.1) 43 res.2.2.2.2.2.2.2.1) 44 res.2.2.2.2.2.2.2.2.1) (va_up (va_up A 41 res.2.2.2.2.2.2.2.2.2.1) 42 res.2.2.2.2.2.2.2.2.2.2) L H → va_S (mA h0 ad) s.heap H locs → W p l e ({ frames := 12, cells := 0, slots := 0, locals := 280 } : Room) s m args below meth c H locs 0 0 Q (F0 m pc ls [.int res.1]) := by
    intro pc ls H locs hd hP hS
    rw [hQ]
    exact m_iret C hr hlocks hd hP hS
  clear hQ
  obtain ⟨H, hH⟩ : ∃ H, H = s.heap := ⟨_, rfl⟩
  obtain ⟨locs, hlo⟩ : ∃ locs : List Loc, locs = [] := ⟨_, rfl⟩
  have hP : mPw G h0 ad F A L H := by rw [hH]; exact hP
  have hS : va_S (mA h0 ad) s.heap H locs := by rw [hH, hlo]; exact hS
  suffices hZ : W p l e ({ frames := 12, cells := 0, slots := 0, locals := 280 } : Room) s m args below meth c H locs 0 0 Q (F0 m 0 ls []) by rw [hH, hlo] at hZ; exact hZ
  clear hH hlo
  unfold sM_ordered at hE
  refine lv_aload_n C.1 C.2.1 dX5_ordered_0 rfl (lv_at hl 0 rfl) ?_
  refine lv_iconst (v := (-1)) C.1 C.2.1 dX5_ordered_1 (by decide) ?_
  refine mp_43 C hP hS dX5_ordered_2 (fun H locs hP hS => ?_)
  refine lv_aload_n C.1 C.2.1 dX5_ordered_5 rfl (lv_at hl 0 rfl) ?_
  refine lv_iconst (v := 0) C.1 C.2.1 dX5_ordered_6 (by decide) ?_
  refine mp_44 C hP hS dX5_ordered_7 (fun H locs hP hS => ?_)
  refine lv_aload_n C.1 C.2.1 dX5_ordered_10 rfl (lv_at hl 0 rfl) ?_
  obtain ⟨r1, hr1, hE⟩ := it_b hE
  refine m_call (n := 0) (As := []) (rest := []) C hP hS hml (metM_mays l G h0 ad _ _ _ r1 hr1) q1671 q1673 qs62 q1674 rfl rfl (by decide +kernel) ⟨Nat.le_of_ble_eq_true rfl, Nat.le_of_ble_eq_true rfl⟩ ⟨Nat.le_refl _, Nat.le_refl _⟩ rfl hl.1 rfl (Nat.le_of_ble_eq_true rfl) dX5_ordered_11 (fun H locs hP hS => ?_)
  refine lv_istore_n (lv' := [(1, .int r1), (0, .ref h0)]) C.1 C.2.1 dX5_ordered_14 rfl hl (by decide) rfl (fun ls hl => ?_)
  refine lv_aload_n C.1 C.2.1 dX5_ordered_15 rfl (lv_at hl 1 rfl) ?_
  refine lv_iconst (v := 0) C.1 C.2.1 dX5_ordered_16 (by decide) ?_
  refine lv_iload_n C.1 C.2.1 dX5_ordered_17 rfl (lv_at hl 0 rfl) ?_
  refine lv_iconst (v := 0) C.1 C.2.1 dX5_ordered_18 (by decide) ?_
  obtain ⟨r2, hr2, hE⟩ := it_b hE
  refine m_call (n := 3) (As := [.int 0, .int r1, .int 0]) (rest := []) C hP hS hml (metM_orders_7 l G h0 ad _ _ _ 0 r1 0 r2 hr2) q1687 q1689 qs65 q1690 rfl rfl (by decide +kernel) ⟨Nat.le_of_ble_eq_true rfl, Nat.le_of_ble_eq_true rfl⟩ ⟨Nat.le_refl _, Nat.le_refl _⟩ rfl hl.1 rfl (Nat.le_of_ble_eq_true rfl) dX5_ordered_19 (fun H locs hP hS => ?_)
  refine lv_iload_n C.1 C.2.1 dX5_ordered_22 rfl (lv_at hl 0 rfl) ?_
  obtain rfl := Option.some.inj hE
  exact hret _ _ _ _ dX5_ordered_23 hP hS
def sM_order (f_many : Int32) (f_weight : Int32) (f_fright : Int32) (f_age : Int32) (f_feed : Int32) (f_life : Int32) (f_low : Int32) (f_heft : Int32) (f_alarm : Int32) (f_old : Int32) (f_died : Int32) (f_ofWhat : Int32) (f_heavy : Int32) (f_fewest : Int32) (f_leanest : Int32) (a_refused : Nat → Int32) (a_kind : Nat → Int32) (a_part : Nat → Int32) (a_ill : Nat → Int32) (a_order : Nat → Int32) (a_best : Nat → Int32) (p1 : Int32) : Option (Int32 × Int32 × Int32 × Int32 × Int32 × Int32 × Int32 × Int32 × Int32 × (Nat → Int32) × (Nat → Int32) × (Nat → Int32)) :=
  if p1 < (-1) then
    (sM_no a_refused (-5)).bind fun r2 =>
    some (r2.1, f_heft, f_alarm, f_old, f_died, f_ofWhat, f_heavy, f_fewest, f_leanest, r2.2, a_order, a_best)
  else
    (sM_mays f_many a_ill).bind fun r3 =>
    if p1 < r3 then
      (sM_mays f_many a_ill).bind fun r5 =>
      if r5 ≤ 6 then
        (sM_ordered f_many f_weight f_fright f_age f_feed f_life f_low f_heft f_alarm f_old f_died f_ofWhat f_heavy f_fewest f_leanest a_kind a_part a_ill a_order a_best).bind fun r7 =>
        if p1 = (-1) then
          some (r7.2.2.2.2.2.2.2.1, r7.2.1, r7.2.2.1, r7.2.2.2.1, r7.2.2.2.2.1, r7.2.2.2.2.2.1, r7.2.2.2.2.2.2.1, r7.2.2.2.2.2.2.2.1, r7.2.2.2.2.2.2.2.2.1, a_refused, r7.2.2.2.2.2.2.2.2.2.1, r7.2.2.2.2.2.2.2.2.2.2)
        else
          if gi p1 6 then
          some ((r7.2.2.2.2.2.2.2.2.2.2 (p1).toNatClampNeg), r7.2.1, r7.2.2.1, r7.2.2.2.1, r7.2.2.2.2.1, r7.2.2.2.2.2.1, r7.2.2.2.2.2.2.1, r7.2.2.2.2.2.2.2.1, r7.2.2.2.2.2.2.2.2.1, a_refused, r7.2.2.2.2.2.2.2.2.2.1, r7.2.2.2.2.2.2.2.2.2.2)
          else none
      else
        (sM_no a_refused (-7)).bind fun r10 =>
        some (r10.1, f_heft, f_alarm, f_old, f_died, f_ofWhat, f_heavy, f_fewest, f_leanest, r10.2, a_order, a_best)
    else
      (sM_no a_refused (-5)).bind fun r11 =>
      some (r11.1, f_heft, f_alarm, f_old, f_died, f_ofWhat, f_heavy, f_fewest, f_leanest, r11.2, a_order, a_best)
set_option maxHeartbeats 4000000 in
theorem metM_order (l : Launch) (G : kG) (h0 : Nat) (ad : Nat → Nat) (F : Nat → Int32) (A : Nat → Nat → Int32) (L : Nat → Nat → Int64) (p1 : Int32) (res : Int32 × Int32 × Int32 × Int32 × Int32 × Int32 × Int32 × Int32 × Int32 × (Nat → Int32) × (Nat → Int32) × (Nat → Int32)) (hE : sM_order (F 0) (F 1) (F 2) (F 3) (F 5) (F 6) (F 7) (F 35) (F 36) (F 37) (F 38) (F 39) (F 40) (F 43) (F 44) (A 11) (A 12) (A 13) (A 15) (A 41) (A 42) p1 = some res) : Met l yX5_order (ws_ yX5_order cX5_order 2 (some .int)) ({ frames := 13, cells := 0, slots := 0, locals := 301 } : Room) (mPc G h0 ad F A L [.int p1]) (mQc G h0 ad (upd (upd (upd (upd (upd (upd (upd (upd F 35 res.2.1) 36 res.2.2.1) 37 res.2.2.2.1) 38 res.2.2.2.2.1) 39 res.2.2.2.2.2.1) 40 res.2.2.2.2.2.2.1) 43 res.2.2.2.2.2.2.2.1) 44 res.2.2.2.2.2.2.2.2.1) (va_up (va_up (va_up A 11 res.2.2.2.2.2.2.2.2.2.1) 41 res.2.2.2.2.2.2.2.2.2.2.1) 42 res.2.2.2.2.2.2.2.2.2.2.2) L (some (.int res.1))) 0 0 (mA h0 ad) := by
  refine m_ofW (by decide) rfl (Nat.le_of_ble_eq_true rfl) ?_
  intro p e s m args below meth c ls C hml hP hS hl hr hlocks
  have hl : lv_has ls 2 [(0, .ref h0), (1, .int p1)] := hl
  obtain ⟨Q, hQ⟩ : ∃ Q, Q = MQ below (mQc G h0 ad (upd (upd (upd (upd (upd (upd (upd (upd F 35 res.2.1) 36 res.2.2.1) 37 res.2.2.2.1) 38 res.2.2.2.2.1) 39 res.2.2.2.2.2.1) 40 res.2.2.2.2.2.2.1) 43 res.2.2.2.2.2.2.2.1) 44 res.2.2.2.2.2.2.2.2.1) (va_up (va_up (va_up A 11 res.2.2.2.2.2.2.2.2.2.1) 41 res.2.2.2.2.2.2.2.2.2.2.1) 42 res.2.2.2.2.2.2.2.2.2.2.2) L (some (.int res.1))) args s 0 0 (mA h0 ad) := ⟨_, rfl⟩
  rw [← hQ]
  have hret : ∀ (pc : Nat) (ls : Array Slot) (H : Heap) (locs : List Loc), decode cX5_order pc = .ok (.ireturn, 1) → mPw G h0 ad (upd (upd (upd (upd (upd (upd (upd (upd F 35 res.2.1) 36 res.2.2.1) 37 res.2.2.2.1) 38 res.2.2.2.2.1) 39 res.2.2.2.2.2.1) 40 res.2.2.2.2.2.2.1) 43 res.2.2.2.2.2.2.2.1) 44 res.2.2.2.2.2.2.2.2.1) (va_up (va_up (va_up A 11 res.2.2.2.2.2.2.2.2.2.1) 41 res.2.2.2.2.2.2.2.2.2.2.1) 42 res.2.2.2.2.2.2.2.2.2.2.2) L H → va_S (mA h0 ad) s.heap H locs → W p l e ({ frames := 13, cells := 0, slots := 0, locals := 301 } : Room) s m args below meth c H locs 0 0 Q (F0 m pc ls [.int res.1]) := by
    intro pc ls H locs hd hP hS
    rw [hQ]
    exact m_iret C hr hlocks hd hP hS
  clear hQ
  obtain ⟨H, hH⟩ : ∃ H, H = s.heap := ⟨_, rfl⟩
  obtain ⟨locs, hlo⟩ : ∃ locs : List Loc, locs = [] := ⟨_, rfl⟩
  have hP : mPw G h0 ad F A L H := by rw [hH]; exact hP
  have hS : va_S (mA h0 ad) s.heap H locs := by rw [hH, hlo]; exact hS
  suffices hZ : W p l e ({ frames := 13, cells := 0, slots := 0, locals := 301 } : Room) s m args below meth c H locs 0 0 Q (F0 m 0 ls []) by rw [hH, hlo] at hZ; exact hZ
  clear hH hlo
  unfold sM_order at hE
  refine lv_iload_n C.1 C.2.1 dX5_order_0 rfl (lv_at hl 1 rfl) ?_
  refine lv_iconst (v := (-1)) C.1 C.2.1 dX5_order_1 (by decide) ?_
  refine lv_icmp_lt (tgt := 13) C.1 C.2.1 dX5_order_2 (by decide) (fun c1 => ?_) (fun c1 => ?_)
  · have hE := it_t c1 hE
    refine lv_aload_n C.1 C.2.1 dX5_order_13 rfl (lv_at hl 0 rfl) ?_
    refine lv_bipush (v := (-5)) C.1 C.2.1 dX5_order_14 (by decide) ?_
    obtain ⟨r2, hr2, hE⟩ := it_b hE
    refine m_call (n := 1) (As := [.int (-5)]) (rest := []) C hP hS hml (metM_no l G h0 ad _ _ _ (-5) r2 hr2) q1483 q1485 qs32 q1486 rfl rfl (by decide +kernel) ⟨Nat.le_of_ble_eq_true rfl, Nat.le_of_ble_eq_true rfl⟩ ⟨Nat.le_refl _, Nat.le_refl _⟩ rfl hl.1 rfl (Nat.le_of_ble_eq_true rfl) dX5_order_16 (fun H locs hP hS => ?_)
    obtain rfl := Option.some.inj hE
    exact hret _ _ _ _ dX5_order_19 hP hS
  · have hE := it_f c1 hE
    refine lv_iload_n C.1 C.2.1 dX5_order_5 rfl (lv_at hl 1 rfl) ?_
    refine lv_aload_n C.1 C.2.1 dX5_order_6 rfl (lv_at hl 0 rfl) ?_
    obtain ⟨r3, hr3, hE⟩ := it_b hE
    refine m_call (n := 0) (As := []) (rest := [.int p1]) C hP hS hml (metM_mays l G h0 ad _ _ _ r3 hr3) q1671 q1673 qs62 q1674 rfl rfl (by decide +kernel) ⟨Nat.le_of_ble_eq_true rfl, Nat.le_of_ble_eq_true rfl⟩ ⟨Nat.le_refl _, Nat.le_refl _⟩ rfl hl.1 rfl (Nat.le_of_ble_eq_true rfl) dX5_order_7 (fun H locs hP hS => ?_)
    refine lv_icmp_lt (tgt := 20) C.1 C.2.1 dX5_order_10 (by decide) (fun c4 => ?_) (fun c4 => ?_)
    · have hE := it_t c4 hE
      refine lv_aload_n C.1 C.2.1 dX5_order_20 rfl (lv_at hl 0 rfl) ?_
      obtain ⟨r5, hr5, hE⟩ := it_b hE
      refine m_call (n := 0) (As := []) (rest := []) C hP hS hml (metM_mays l G h0 ad _ _ _ r5 hr5) q1671 q1673 qs62 q1674 rfl rfl (by decide +kernel) ⟨Nat.le_of_ble_eq_true rfl, Nat.le_of_ble_eq_true rfl⟩ ⟨Nat.le_refl _, Nat.le_refl _⟩ rfl hl.1 rfl (Nat.le_of_ble_eq_true rfl) dX5_order_21 (fun H locs hP hS => ?_)
      refine lv_bipush (v := 6) C.1 C.2.1 dX5_order_24 (by decide) ?_
      refine lv_icmp_le (tgt := 36) C.1 C.2.1 dX5_order_26 (by decide) (fun c6 => ?_) (fun c6 => ?_)
      · have hE := it_t c6 hE
        refine lv_aload_n C.1 C.2.1 dX5_order_36 rfl (lv_at hl 0 rfl) ?_
        obtain ⟨r7, hr7, hE⟩ := it_b hE
        refine m_call (n := 0) (As := []) (rest := []) C hP hS hml (metM_ordered l G h0 ad _ _ _ r7 hr7) q1683 q1685 qs64 q1686 rfl rfl (by decide +kernel) ⟨Nat.le_of_ble_eq_true rfl, Nat.le_of_ble_eq_true rfl⟩ ⟨Nat.le_refl _, Nat.le_refl _⟩ rfl hl.1 rfl (Nat.le_of_ble_eq_true rfl) dX5_order_37 (fun H locs hP hS => ?_)
        refine lv_pop C.1 C.2.1 dX5_order_40 rfl ?_
        refine lv_iload_n C.1 C.2.1 dX5_order_41 rfl (lv_at hl 1 rfl) ?_
        refine lv_iconst (v := (-1)) C.1 C.2.1 dX5_order_42 (by decide) ?_
        refine lv_icmp_ne (tgt := 53) C.1 C.2.1 dX5_order_43 (by decide) (fun c8 => ?_) (fun c8 => ?_)
        · have hE := it_f c8 hE
          refine lv_aload_n C.1 C.2.1 dX5_order_53 rfl (lv_at hl 0 rfl) ?_
          refine ma_42 C hP dX5_order_54 ?_
          refine lv_iload_n C.1 C.2.1 dX5_order_57 rfl (lv_at hl 1 rfl) ?_
          obtain ⟨g9, hE⟩ := it_g hE
          refine ml_42 (v := (r7.2.2.2.2.2.2.2.2.2.2 (p1).toNatClampNeg)) C hP (gi_in g9) rfl dX5_order_58 ?_
          obtain rfl := Option.some.inj hE
          exact hret _ _ _ _ dX5_order_59 hP hS
        · have hE := it_t c8 hE
          refine lv_aload_n C.1 C.2.1 dX5_order_46 rfl (lv_at hl 0 rfl) ?_
          refine mg_43 (v := r7.2.2.2.2.2.2.2.1) C hP rfl dX5_order_47 ?_
          refine lv_goto (tgt := 59) C.1 C.2.1 dX5_order_50 (by decide) ?_
          obtain rfl := Option.some.inj hE
          exact hret _ _ _ _ dX5_order_59 hP hS
      · have hE := it_f c6 hE
        refine lv_aload_n C.1 C.2.1 dX5_order_29 rfl (lv_at hl 0 rfl) ?_
        refine lv_bipush (v := (-7)) C.1 C.2.1 dX5_order_30 (by decide) ?_
        obtain ⟨r10, hr10, hE⟩ := it_b hE
        refine m_call (n := 1) (As := [.int (-7)]) (rest := []) C hP hS hml (metM_no l G h0 ad _ _ _ (-7) r10 hr10) q1483 q1485 qs32 q1486 rfl rfl (by decide +kernel) ⟨Nat.le_of_ble_eq_true rfl, Nat.le_of_ble_eq_true rfl⟩ ⟨Nat.le_refl _, Nat.le_refl _⟩ rfl hl.1 rfl (Nat.le_of_ble_eq_true rfl) dX5_order_32 (fun H locs hP hS => ?_)
        obtain rfl := Option.some.inj hE
        exact hret _ _ _ _ dX5_order_35 hP hS
    · have hE := it_f c4 hE
      refine lv_aload_n C.1 C.2.1 dX5_order_13 rfl (lv_at hl 0 rfl) ?_
      refine lv_bipush (v := (-5)) C.1 C.2.1 dX5_order_14 (by decide) ?_
      obtain ⟨r11, hr11, hE⟩ := it_b hE
      refine m_call (n := 1) (As := [.int (-5)]) (rest := []) C hP hS hml (metM_no l G h0 ad _ _ _ (-5) r11 hr11) q1483 q1485 qs32 q1486 rfl rfl (by decide +kernel) ⟨Nat.le_of_ble_eq_true rfl, Nat.le_of_ble_eq_true rfl⟩ ⟨Nat.le_refl _, Nat.le_refl _⟩ rfl hl.1 rfl (Nat.le_of_ble_eq_true rfl) dX5_order_16 (fun H locs hP hS => ?_)
      obtain rfl := Option.some.inj hE
      exact hret _ _ _ _ dX5_order_19 hP hS
def sM_least (f_many : Int32) (f_weight : Int32) (f_fright : Int32) (f_age : Int32) (f_feed : Int32) (f_life : Int32) (f_low : Int32) (f_heft : Int32) (f_alarm : Int32) (f_old : Int32) (f_died : Int32) (f_ofWhat : Int32) (f_heavy : Int32) (f_fewest : Int32) (f_leanest : Int32) (a_refused : Nat → Int32) (a_kind : Nat → Int32) (a_part : Nat → Int32) (a_ill : Nat → Int32) (a_order : Nat → Int32) (a_best : Nat → Int32) : Option (Int32 × Int32 × Int32 × Int32 × Int32 × Int32 × Int32 × Int32 × Int32 × (Nat → Int32) × (Nat → Int32) × (Nat → Int32)) :=
  (sM_mays f_many a_ill).bind fun r1 =>
  if r1 ≤ 6 then
    (sM_ordered f_many f_weight f_fright f_age f_feed f_life f_low f_heft f_alarm f_old f_died f_ofWhat f_heavy f_fewest f_leanest a_kind a_part a_ill a_order a_best).bind fun r3 =>
    some (r3.2.2.2.2.2.2.2.2.1, r3.2.1, r3.2.2.1, r3.2.2.2.1, r3.2.2.2.2.1, r3.2.2.2.2.2.1, r3.2.2.2.2.2.2.1, r3.2.2.2.2.2.2.2.1, r3.2.2.2.2.2.2.2.2.1, a_refused, r3.2.2.2.2.2.2.2.2.2.1, r3.2.2.2.2.2.2.2.2.2.2)
  else
    (sM_no a_refused (-7)).bind fun r4 =>
    some (r4.1, f_heft, f_alarm, f_old, f_died, f_ofWhat, f_heavy, f_fewest, f_leanest, r4.2, a_order, a_best)
set_option maxHeartbeats 4000000 in
theorem metM_least (l : Launch) (G : kG) (h0 : Nat) (ad : Nat → Nat) (F : Nat → Int32) (A : Nat → Nat → Int32) (L : Nat → Nat → Int64)  (res : Int32 × Int32 × Int32 × Int32 × Int32 × Int32 × Int32 × Int32 × Int32 × (Nat → Int32) × (Nat → Int32) × (Nat → Int32)) (hE : sM_least (F 0) (F 1) (F 2) (F 3) (F 5) (F 6) (F 7) (F 35) (F 36) (F 37) (F 38) (F 39) (F 40) (F 43) (F 44) (A 11) (A 12) (A 13) (A 15) (A 41) (A 42) = some res) : Met l yX5_least (ws_ yX5_least cX5_least 1 (some .int)) ({ frames := 13, cells := 0, slots := 0, locals := 301 } : Room) (mPc G h0 ad F A L []) (mQc G h0 ad (upd (upd (upd (upd (upd (upd (upd (upd F 35 res.2.1) 36 res.2.2.1) 37 res.2.2.2.1) 38 res.2.2.2.2.1) 39 res.2.2.2.2.2.1) 40 res.2.2.2.2.2.2.1) 43 res.2.2.2.2.2.2.2.1) 44 res.2.2.2.2.2.2.2.2.1) (va_up (va_up (va_up A 11 res.2.2.2.2.2.2.2.2.2.1) 41 res.2.2.2.2.2.2.2.2.2.2.1) 42 res.2.2.2.2.2.2.2.2.2.2.2) L (some (.int res.1))) 0 0 (mA h0 ad) := by
  refine m_ofW (by decide) rfl (Nat.le_of_ble_eq_true rfl) ?_
  intro p e s m args below meth c ls C hml hP hS hl hr hlocks
  have hl : lv_has ls 1 [(0, .ref h0)] := hl
  obtain ⟨Q, hQ⟩ : ∃ Q, Q = MQ below (mQc G h0 ad (upd (upd (upd (upd (upd (upd (upd (upd F 35 res.2.1) 36 res.2.2.1) 37 res.2.2.2.1) 38 res.2.2.2.2.1) 39 res.2.2.2.2.2.1) 40 res.2.2.2.2.2.2.1) 43 res.2.2.2.2.2.2.2.1) 44 res.2.2.2.2.2.2.2.2.1) (va_up (va_up (va_up A 11 res.2.2.2.2.2.2.2.2.2.1) 41 res.2.2.2.2.2.2.2.2.2.2.1) 42 res.2.2.2.2.2.2.2.2.2.2.2) L (some (.int res.1))) args s 0 0 (mA h0 ad) := ⟨_, rfl⟩
  rw [← hQ]
  have hret : ∀ (pc : Nat) (ls : Array Slot) (H : Heap) (locs : List Loc), decode cX5_least pc = .ok (.ireturn, 1) → mPw G h0 ad (upd (upd (upd (upd (upd (upd (upd (upd F 35 res.2.1) 36 res.2.2.1) 37 res.2.2.2.1) 38 res.2.2.2.2.1) 39 res.2.2.2.2.2.1) 40 res.2.2.2.2.2.2.1) 43 res.2.2.2.2.2.2.2.1) 44 res.2.2.2.2.2.2.2.2.1) (va_up (va_up (va_up A 11 res.2.2.2.2.2.2.2.2.2.1) 41 res.2.2.2.2.2.2.2.2.2.2.1) 42 res.2.2.2.2.2.2.2.2.2.2.2) L H → va_S (mA h0 ad) s.heap H locs → W p l e ({ frames := 13, cells := 0, slots := 0, locals := 301 } : Room) s m args below meth c H locs 0 0 Q (F0 m pc ls [.int res.1]) := by
    intro pc ls H locs hd hP hS
    rw [hQ]
    exact m_iret C hr hlocks hd hP hS
  clear hQ
  obtain ⟨H, hH⟩ : ∃ H, H = s.heap := ⟨_, rfl⟩
  obtain ⟨locs, hlo⟩ : ∃ locs : List Loc, locs = [] := ⟨_, rfl⟩
  have hP : mPw G h0 ad F A L H := by rw [hH]; exact hP
  have hS : va_S (mA h0 ad) s.heap H locs := by rw [hH, hlo]; exact hS
  suffices hZ : W p l e ({ frames := 13, cells := 0, slots := 0, locals := 301 } : Room) s m args below meth c H locs 0 0 Q (F0 m 0 ls []) by rw [hH, hlo] at hZ; exact hZ
  clear hH hlo
  unfold sM_least at hE
  refine lv_aload_n C.1 C.2.1 dX5_least_0 rfl (lv_at hl 0 rfl) ?_
  obtain ⟨r1, hr1, hE⟩ := it_b hE
  refine m_call (n := 0) (As := []) (rest := []) C hP hS hml (metM_mays l G h0 ad _ _ _ r1 hr1) q1671 q1673 qs62 q1674 rfl rfl (by decide +kernel) ⟨Nat.le_of_ble_eq_true rfl, Nat.le_of_ble_eq_true rfl⟩ ⟨Nat.le_refl _, Nat.le_refl _⟩ rfl hl.1 rfl (Nat.le_of_ble_eq_true rfl) dX5_least_1 (fun H locs hP hS => ?_)
  refine lv_bipush (v := 6) C.1 C.2.1 dX5_least_4 (by decide) ?_
  refine lv_icmp_le (tgt := 16) C.1 C.2.1 dX5_least_6 (by decide) (fun c2 => ?_) (fun c2 => ?_)
  · have hE := it_t c2 hE
    refine lv_aload_n C.1 C.2.1 dX5_least_16 rfl (lv_at hl 0 rfl) ?_
    obtain ⟨r3, hr3, hE⟩ := it_b hE
    refine m_call (n := 0) (As := []) (rest := []) C hP hS hml (metM_ordered l G h0 ad _ _ _ r3 hr3) q1683 q1685 qs64 q1686 rfl rfl (by decide +kernel) ⟨Nat.le_of_ble_eq_true rfl, Nat.le_of_ble_eq_true rfl⟩ ⟨Nat.le_refl _, Nat.le_refl _⟩ rfl hl.1 rfl (Nat.le_of_ble_eq_true rfl) dX5_least_17 (fun H locs hP hS => ?_)
    refine lv_pop C.1 C.2.1 dX5_least_20 rfl ?_
    refine lv_aload_n C.1 C.2.1 dX5_least_21 rfl (lv_at hl 0 rfl) ?_
    refine mg_44 (v := r3.2.2.2.2.2.2.2.2.1) C hP rfl dX5_least_22 ?_
    obtain rfl := Option.some.inj hE
    exact hret _ _ _ _ dX5_least_25 hP hS
  · have hE := it_f c2 hE
    refine lv_aload_n C.1 C.2.1 dX5_least_9 rfl (lv_at hl 0 rfl) ?_
    refine lv_bipush (v := (-7)) C.1 C.2.1 dX5_least_10 (by decide) ?_
    obtain ⟨r4, hr4, hE⟩ := it_b hE
    refine m_call (n := 1) (As := [.int (-7)]) (rest := []) C hP hS hml (metM_no l G h0 ad _ _ _ (-7) r4 hr4) q1483 q1485 qs32 q1486 rfl rfl (by decide +kernel) ⟨Nat.le_of_ble_eq_true rfl, Nat.le_of_ble_eq_true rfl⟩ ⟨Nat.le_refl _, Nat.le_refl _⟩ rfl hl.1 rfl (Nat.le_of_ble_eq_true rfl) dX5_least_12 (fun H locs hP hS => ?_)
    obtain rfl := Option.some.inj hE
    exact hret _ _ _ _ dX5_least_15 hP hS
def sM_status (f_many : Int32) (f_weight : Int32) (f_fright : Int32) (f_age : Int32) (f_pets : Int32) (f_feed : Int32) (f_life : Int32) (f_low : Int32) (f_last : Int32) (f_seed : Int32) (f_ran : Int32) (a_refused : Nat → Int32) (a_ill : Nat → Int32) (a_deaths : Nat → Int32) (p1 : Int32) : Option (Int32) :=
  if p1 < 11 then
    @Option.bind (Bool) _ (
      if p1 < 18 then
        some false
      else
        if 20 < p1 then
          some false
        else
          some true) fun u3 =>
    if u3 = true then
      if gi (p1 - 18) 3 then
      some (a_deaths ((p1 - 18)).toNatClampNeg)
      else none
    else
      if p1 = 0 then
        some f_many
      else
      if p1 = 1 then
        (sM_mays f_many a_ill).bind fun r8 =>
        some r8
      else
      if p1 = 8 then
        some f_pets
      else
      if p1 = 9 then
        some f_last
      else
      if p1 = 10 then
        some f_seed
      else
      if p1 = 21 then
        some f_ran
      else
      if p1 < 2 then
        some (-1)
      else
        if 7 < p1 then
          some (-1)
        else
          (sM_told f_weight f_fright f_age f_feed f_life f_low (p1 - 2)).bind fun r15 =>
          some r15
  else
    if 17 < p1 then
      @Option.bind (Bool) _ (
        if p1 < 18 then
          some false
        else
          if 20 < p1 then
            some false
          else
            some true) fun u18 =>
      if u18 = true then
        if gi (p1 - 18) 3 then
        some (a_deaths ((p1 - 18)).toNatClampNeg)
        else none
      else
        if p1 = 0 then
          some f_many
        else
        if p1 = 1 then
          (sM_mays f_many a_ill).bind fun r23 =>
          some r23
        else
        if p1 = 8 then
          some f_pets
        else
        if p1 = 9 then
          some f_last
        else
        if p1 = 10 then
          some f_seed
        else
        if p1 = 21 then
          some f_ran
        else
        if p1 < 2 then
          some (-1)
        else
          if 7 < p1 then
            some (-1)
          else
            (sM_told f_weight f_fright f_age f_feed f_life f_low (p1 - 2)).bind fun r30 =>
            some r30
    else
      if gi (p1 - 10) 8 then
      some (a_refused ((p1 - 10)).toNatClampNeg)
      else none
set_option maxHeartbeats 4000000 in
theorem metM_status (l : Launch) (G : kG) (h0 : Nat) (ad : Nat → Nat) (F : Nat → Int32) (A : Nat → Nat → Int32) (L : Nat → Nat → Int64) (p1 : Int32) (res : Int32) (hE : sM_status (F 0) (F 1) (F 2) (F 3) (F 4) (F 5) (F 6) (F 7) (F 8) (F 9) (F 47) (A 11) (A 15) (A 17) p1 = some res) : Met l yX5_status (ws_ yX5_status cX5_status 2 (some .int)) ({ frames := 3, cells := 0, slots := 0, locals := 64 } : Room) (mPc G h0 ad F A L [.int p1]) (mQc G h0 ad F A L (some (.int res))) 0 0 (mA h0 ad) := by
  refine m_ofW (by decide) rfl (Nat.le_of_ble_eq_true rfl) ?_
  intro p e s m args below meth c ls C hml hP hS hl hr hlocks
  have hl : lv_has ls 2 [(0, .ref h0), (1, .int p1)] := hl
  obtain ⟨Q, hQ⟩ : ∃ Q, Q = MQ below (mQc G h0 ad F A L (some (.int res))) args s 0 0 (mA h0 ad) := ⟨_, rfl⟩
  rw [← hQ]
  have hret : ∀ (pc : Nat) (ls : Array Slot) (H : Heap) (locs : List Loc), decode cX5_status pc = .ok (.ireturn, 1) → mPw G h0 ad F A L H → va_S (mA h0 ad) s.heap H locs → W p l e ({ frames := 3, cells := 0, slots := 0, locals := 64 } : Room) s m args below meth c H locs 0 0 Q (F0 m pc ls [.int res]) := by
    intro pc ls H locs hd hP hS
    rw [hQ]
    exact m_iret C hr hlocks hd hP hS
  clear hQ
  obtain ⟨H, hH⟩ : ∃ H, H = s.heap := ⟨_, rfl⟩
  obtain ⟨locs, hlo⟩ : ∃ locs : List Loc, locs = [] := ⟨_, rfl⟩
  have hP : mPw G h0 ad F A L H := by rw [hH]; exact hP
  have hS : va_S (mA h0 ad) s.heap H locs := by rw [hH, hlo]; exact hS
  suffices hZ : W p l e ({ frames := 3, cells := 0, slots := 0, locals := 64 } : Room) s m args below meth c H locs 0 0 Q (F0 m 0 ls []) by rw [hH, hlo] at hZ; exact hZ
  clear hH hlo
  unfold sM_status at hE
  refine lv_iload_n C.1 C.2.1 dX5_status_0 rfl (lv_at hl 1 rfl) ?_
  refine lv_bipush (v := 11) C.1 C.2.1 dX5_status_1 (by decide) ?_
  refine lv_icmp_lt (tgt := 22) C.1 C.2.1 dX5_status_3 (by decide) (fun c1 => ?_) (fun c1 => ?_)
  · have hE := it_t c1 hE
    refine lv_iload_n C.1 C.2.1 dX5_status_22 rfl (lv_at hl 1 rfl) ?_
    refine lv_bipush (v := 18) C.1 C.2.1 dX5_status_23 (by decide) ?_
    obtain ⟨u3, hR, hE⟩ := it_b hE
    have hJ34u3 : u3 = true → ∀ (H : Heap) (locs : List Loc) (ls : Array Slot), mPw G h0 ad F A L H → va_S (mA h0 ad) s.heap H locs → lv_has ls 2 [(0, .ref h0), (1, .int p1)] → W p l e ({ frames := 3, cells := 0, slots := 0, locals := 64 } : Room) s m args below meth c H locs 0 0 Q (F0 m 34 ls []) := by
      intro hu H locs ls hP hS hl
      have hE := it_t hu hE
      refine lv_aload_n C.1 C.2.1 dX5_status_34 rfl (lv_at hl 0 rfl) ?_
      refine ma_17 C hP dX5_status_35 ?_
      refine lv_iload_n C.1 C.2.1 dX5_status_38 rfl (lv_at hl 1 rfl) ?_
      refine lv_bipush (v := 18) C.1 C.2.1 dX5_status_39 (by decide) ?_
      refine lv_isub C.1 C.2.1 dX5_status_41 ?_
      obtain ⟨g5, hE⟩ := it_g hE
      refine ml_17 (v := ((A 17) ((p1 - 18)).toNatClampNeg)) C hP (gi_in g5) rfl dX5_status_42 ?_
      obtain rfl := Option.some.inj hE
      exact hret _ _ _ _ dX5_status_43 hP hS
    have hJ44u3 : ¬ u3 = true → ∀ (H : Heap) (locs : List Loc) (ls : Array Slot), mPw G h0 ad F A L H → va_S (mA h0 ad) s.heap H locs → lv_has ls 2 [(0, .ref h0), (1, .int p1)] → W p l e ({ frames := 3, cells := 0, slots := 0, locals := 64 } : Room) s m args below meth c H locs 0 0 Q (F0 m 44 ls []) := by
      intro hu H locs ls hP hS hl
      have hE := it_f hu hE
      refine lv_iload_n C.1 C.2.1 dX5_status_44 rfl (lv_at hl 1 rfl) ?_
      by_cases c6 : p1 = 0
      · have hE := it_t c6 hE
        refine lv_lookup (off := 59) (tgt := 104) C.1 C.2.1 dX5_status_45 (by decide) (by rw [c6]; rfl) (by decide) ?_
        refine lv_aload_n C.1 C.2.1 dX5_status_104 rfl (lv_at hl 0 rfl) ?_
        refine mg_0 (v := (F 0)) C hP rfl dX5_status_105 ?_
        obtain rfl := Option.some.inj hE
        exact hret _ _ _ _ dX5_status_108 hP hS
      have hE := it_f c6 hE
      by_cases c7 : p1 = 1
      · have hE := it_t c7 hE
        refine lv_lookup (off := 64) (tgt := 109) C.1 C.2.1 dX5_status_45 (by decide) (by rw [c7]; rfl) (by decide) ?_
        refine lv_aload_n C.1 C.2.1 dX5_status_109 rfl (lv_at hl 0 rfl) ?_
        obtain ⟨r8, hr8, hE⟩ := it_b hE
        refine m_call (n := 0) (As := []) (rest := []) C hP hS hml (metM_mays l G h0 ad _ _ _ r8 hr8) q1671 q1673 qs62 q1674 rfl rfl (by decide +kernel) ⟨Nat.le_of_ble_eq_true rfl, Nat.le_of_ble_eq_true rfl⟩ ⟨Nat.le_refl _, Nat.le_refl _⟩ rfl hl.1 rfl (Nat.le_of_ble_eq_true rfl) dX5_status_110 (fun H locs hP hS => ?_)
        obtain rfl := Option.some.inj hE
        exact hret _ _ _ _ dX5_status_113 hP hS
      have hE := it_f c7 hE
      by_cases c9 : p1 = 8
      · have hE := it_t c9 hE
        refine lv_lookup (off := 69) (tgt := 114) C.1 C.2.1 dX5_status_45 (by decide) (by rw [c9]; rfl) (by decide) ?_
        refine lv_aload_n C.1 C.2.1 dX5_status_114 rfl (lv_at hl 0 rfl) ?_
        refine mg_4 (v := (F 4)) C hP rfl dX5_status_115 ?_
        obtain rfl := Option.some.inj hE
        exact hret _ _ _ _ dX5_status_118 hP hS
      have hE := it_f c9 hE
      by_cases c10 : p1 = 9
      · have hE := it_t c10 hE
        refine lv_lookup (off := 74) (tgt := 119) C.1 C.2.1 dX5_status_45 (by decide) (by rw [c10]; rfl) (by decide) ?_
        refine lv_aload_n C.1 C.2.1 dX5_status_119 rfl (lv_at hl 0 rfl) ?_
        refine mg_8 (v := (F 8)) C hP rfl dX5_status_120 ?_
        obtain rfl := Option.some.inj hE
        exact hret _ _ _ _ dX5_status_123 hP hS
      have hE := it_f c10 hE
      by_cases c11 : p1 = 10
      · have hE := it_t c11 hE
        refine lv_lookup (off := 79) (tgt := 124) C.1 C.2.1 dX5_status_45 (by decide) (by rw [c11]; rfl) (by decide) ?_
        refine lv_aload_n C.1 C.2.1 dX5_status_124 rfl (lv_at hl 0 rfl) ?_
        refine mg_9 (v := (F 9)) C hP rfl dX5_status_125 ?_
        obtain rfl := Option.some.inj hE
        exact hret _ _ _ _ dX5_status_128 hP hS
      have hE := it_f c11 hE
      by_cases c12 : p1 = 21
      · have hE := it_t c12 hE
        refine lv_lookup (off := 84) (tgt := 129) C.1 C.2.1 dX5_status_45 (by decide) (by rw [c12]; rfl) (by decide) ?_
        refine lv_aload_n C.1 C.2.1 dX5_status_129 rfl (lv_at hl 0 rfl) ?_
        refine mg_47 (v := (F 47)) C hP rfl dX5_status_130 ?_
        obtain rfl := Option.some.inj hE
        exact hret _ _ _ _ dX5_status_133 hP hS
      have hE := it_f c12 hE
      refine lv_lookup (off := 89) (tgt := 134) C.1 C.2.1 dX5_status_45 (by decide) ((lv_osw c6 rfl).trans ((lv_osw c7 rfl).trans ((lv_osw c9 rfl).trans ((lv_osw c10 rfl).trans ((lv_osw c11 rfl).trans ((lv_osw c12 rfl).trans rfl)))))) (by decide) ?_
      refine lv_iload_n C.1 C.2.1 dX5_status_134 rfl (lv_at hl 1 rfl) ?_
      refine lv_iconst (v := 2) C.1 C.2.1 dX5_status_135 (by decide) ?_
      refine lv_icmp_lt (tgt := 155) C.1 C.2.1 dX5_status_136 (by decide) (fun c13 => ?_) (fun c13 => ?_)
      · have hE := it_t c13 hE
        refine lv_iconst (v := (-1)) C.1 C.2.1 dX5_status_155 (by decide) ?_
        obtain rfl := Option.some.inj hE
        exact hret _ _ _ _ dX5_status_156 hP hS
      · have hE := it_f c13 hE
        refine lv_iload_n C.1 C.2.1 dX5_status_139 rfl (lv_at hl 1 rfl) ?_
        refine lv_bipush (v := 7) C.1 C.2.1 dX5_status_140 (by decide) ?_
        refine lv_icmp_gt (tgt := 155) C.1 C.2.1 dX5_status_142 (by decide) (fun c14 => ?_) (fun c14 => ?_)
        · have hE := it_t c14 hE
          refine lv_iconst (v := (-1)) C.1 C.2.1 dX5_status_155 (by decide) ?_
          obtain rfl := Option.some.inj hE
          exact hret _ _ _ _ dX5_status_156 hP hS
        · have hE := it_f c14 hE
          refine lv_aload_n C.1 C.2.1 dX5_status_145 rfl (lv_at hl 0 rfl) ?_
          refine lv_iload_n C.1 C.2.1 dX5_status_146 rfl (lv_at hl 1 rfl) ?_
          refine lv_iconst (v := 2) C.1 C.2.1 dX5_status_147 (by decide) ?_
          refine lv_isub C.1 C.2.1 dX5_status_148 ?_
          obtain ⟨r15, hr15, hE⟩ := it_b hE
          refine m_call (n := 1) (As := [.int (p1 - 2)]) (rest := []) C hP hS hml (metM_told l G h0 ad _ _ _ (p1 - 2) r15 hr15) q1543 q1545 qs36 q1546 rfl rfl (by decide +kernel) ⟨Nat.le_of_ble_eq_true rfl, Nat.le_of_ble_eq_true rfl⟩ ⟨Nat.le_refl _, Nat.le_refl _⟩ rfl hl.1 rfl (Nat.le_of_ble_eq_true rfl) dX5_status_149 (fun H locs hP hS => ?_)
          refine lv_goto (tgt := 156) C.1 C.2.1 dX5_status_152 (by decide) ?_
          obtain rfl := Option.some.inj hE
          exact hret _ _ _ _ dX5_status_156 hP hS
    have hE := hR
    refine lv_icmp_lt (tgt := 44) C.1 C.2.1 dX5_status_25 (by decide) (fun c2 => ?_) (fun c2 => ?_)
    · have hE := it_t c2 hE
      obtain rfl := Option.some.inj hE
      exact hJ44u3 (by decide) H locs ls hP hS (lv_sub hl [0, 1] rfl)
    · have hE := it_f c2 hE
      refine lv_iload_n C.1 C.2.1 dX5_status_28 rfl (lv_at hl 1 rfl) ?_
      refine lv_bipush (v := 20) C.1 C.2.1 dX5_status_29 (by decide) ?_
      refine lv_icmp_gt (tgt := 44) C.1 C.2.1 dX5_status_31 (by decide) (fun c4 => ?_) (fun c4 => ?_)
      · have hE := it_t c4 hE
        obtain rfl := Option.some.inj hE
        exact hJ44u3 (by decide) H locs ls hP hS (lv_sub hl [0, 1] rfl)
      · have hE := it_f c4 hE
        obtain rfl := Option.some.inj hE
        exact hJ34u3 rfl H locs ls hP hS (lv_sub hl [0, 1] rfl)
  · have hE := it_f c1 hE
    refine lv_iload_n C.1 C.2.1 dX5_status_6 rfl (lv_at hl 1 rfl) ?_
    refine lv_bipush (v := 17) C.1 C.2.1 dX5_status_7 (by decide) ?_
    refine lv_icmp_gt (tgt := 22) C.1 C.2.1 dX5_status_9 (by decide) (fun c16 => ?_) (fun c16 => ?_)
    · have hE := it_t c16 hE
      refine lv_iload_n C.1 C.2.1 dX5_status_22 rfl (lv_at hl 1 rfl) ?_
      refine lv_bipush (v := 18) C.1 C.2.1 dX5_status_23 (by decide) ?_
      obtain ⟨u18, hR, hE⟩ := it_b hE
      have hJ34u18 : u18 = true → ∀ (H : Heap) (locs : List Loc) (ls : Array Slot), mPw G h0 ad F A L H → va_S (mA h0 ad) s.heap H locs → lv_has ls 2 [(0, .ref h0), (1, .int p1)] → W p l e ({ frames := 3, cells := 0, slots := 0, locals := 64 } : Room) s m args below meth c H locs 0 0 Q (F0 m 34 ls []) := by
        intro hu H locs ls hP hS hl
        have hE := it_t hu hE
        refine lv_aload_n C.1 C.2.1 dX5_status_34 rfl (lv_at hl 0 rfl) ?_
        refine ma_17 C hP dX5_status_35 ?_
        refine lv_iload_n C.1 C.2.1 dX5_status_38 rfl (lv_at hl 1 rfl) ?_
        refine lv_bipush (v := 18) C.1 C.2.1 dX5_status_39 (by decide) ?_
        refine lv_isub C.1 C.2.1 dX5_status_41 ?_
        obtain ⟨g20, hE⟩ := it_g hE
        refine ml_17 (v := ((A 17) ((p1 - 18)).toNatClampNeg)) C hP (gi_in g20) rfl dX5_status_42 ?_
        obtain rfl := Option.some.inj hE
        exact hret _ _ _ _ dX5_status_43 hP hS
      have hJ44u18 : ¬ u18 = true → ∀ (H : Heap) (locs : List Loc) (ls : Array Slot), mPw G h0 ad F A L H → va_S (mA h0 ad) s.heap H locs → lv_has ls 2 [(0, .ref h0), (1, .int p1)] → W p l e ({ frames := 3, cells := 0, slots := 0, locals := 64 } : Room) s m args below meth c H locs 0 0 Q (F0 m 44 ls []) := by
        intro hu H locs ls hP hS hl
        have hE := it_f hu hE
        refine lv_iload_n C.1 C.2.1 dX5_status_44 rfl (lv_at hl 1 rfl) ?_
        by_cases c21 : p1 = 0
        · have hE := it_t c21 hE
          refine lv_lookup (off := 59) (tgt := 104) C.1 C.2.1 dX5_status_45 (by decide) (by rw [c21]; rfl) (by decide) ?_
          refine lv_aload_n C.1 C.2.1 dX5_status_104 rfl (lv_at hl 0 rfl) ?_
          refine mg_0 (v := (F 0)) C hP rfl dX5_status_105 ?_
          obtain rfl := Option.some.inj hE
          exact hret _ _ _ _ dX5_status_108 hP hS
        have hE := it_f c21 hE
        by_cases c22 : p1 = 1
        · have hE := it_t c22 hE
          refine lv_lookup (off := 64) (tgt := 109) C.1 C.2.1 dX5_status_45 (by decide) (by rw [c22]; rfl) (by decide) ?_
          refine lv_aload_n C.1 C.2.1 dX5_status_109 rfl (lv_at hl 0 rfl) ?_
          obtain ⟨r23, hr23, hE⟩ := it_b hE
          refine m_call (n := 0) (As := []) (rest := []) C hP hS hml (metM_mays l G h0 ad _ _ _ r23 hr23) q1671 q1673 qs62 q1674 rfl rfl (by decide +kernel) ⟨Nat.le_of_ble_eq_true rfl, Nat.le_of_ble_eq_true rfl⟩ ⟨Nat.le_refl _, Nat.le_refl _⟩ rfl hl.1 rfl (Nat.le_of_ble_eq_true rfl) dX5_status_110 (fun H locs hP hS => ?_)
          obtain rfl := Option.some.inj hE
          exact hret _ _ _ _ dX5_status_113 hP hS
        have hE := it_f c22 hE
        by_cases c24 : p1 = 8
        · have hE := it_t c24 hE
          refine lv_lookup (off := 69) (tgt := 114) C.1 C.2.1 dX5_status_45 (by decide) (by rw [c24]; rfl) (by decide) ?_
          refine lv_aload_n C.1 C.2.1 dX5_status_114 rfl (lv_at hl 0 rfl) ?_
          refine mg_4 (v := (F 4)) C hP rfl dX5_status_115 ?_
          obtain rfl := Option.some.inj hE
          exact hret _ _ _ _ dX5_status_118 hP hS
        have hE := it_f c24 hE
        by_cases c25 : p1 = 9
        · have hE := it_t c25 hE
          refine lv_lookup (off := 74) (tgt := 119) C.1 C.2.1 dX5_status_45 (by decide) (by rw [c25]; rfl) (by decide) ?_
          refine lv_aload_n C.1 C.2.1 dX5_status_119 rfl (lv_at hl 0 rfl) ?_
          refine mg_8 (v := (F 8)) C hP rfl dX5_status_120 ?_
          obtain rfl := Option.some.inj hE
          exact hret _ _ _ _ dX5_status_123 hP hS
        have hE := it_f c25 hE
        by_cases c26 : p1 = 10
        · have hE := it_t c26 hE
          refine lv_lookup (off := 79) (tgt := 124) C.1 C.2.1 dX5_status_45 (by decide) (by rw [c26]; rfl) (by decide) ?_
          refine lv_aload_n C.1 C.2.1 dX5_status_124 rfl (lv_at hl 0 rfl) ?_
          refine mg_9 (v := (F 9)) C hP rfl dX5_status_125 ?_
          obtain rfl := Option.some.inj hE
          exact hret _ _ _ _ dX5_status_128 hP hS
        have hE := it_f c26 hE
        by_cases c27 : p1 = 21
        · have hE := it_t c27 hE
          refine lv_lookup (off := 84) (tgt := 129) C.1 C.2.1 dX5_status_45 (by decide) (by rw [c27]; rfl) (by decide) ?_
          refine lv_aload_n C.1 C.2.1 dX5_status_129 rfl (lv_at hl 0 rfl) ?_
          refine mg_47 (v := (F 47)) C hP rfl dX5_status_130 ?_
          obtain rfl := Option.some.inj hE
          exact hret _ _ _ _ dX5_status_133 hP hS
        have hE := it_f c27 hE
        refine lv_lookup (off := 89) (tgt := 134) C.1 C.2.1 dX5_status_45 (by decide) ((lv_osw c21 rfl).trans ((lv_osw c22 rfl).trans ((lv_osw c24 rfl).trans ((lv_osw c25 rfl).trans ((lv_osw c26 rfl).trans ((lv_osw c27 rfl).trans rfl)))))) (by decide) ?_
        refine lv_iload_n C.1 C.2.1 dX5_status_134 rfl (lv_at hl 1 rfl) ?_
        refine lv_iconst (v := 2) C.1 C.2.1 dX5_status_135 (by decide) ?_
        refine lv_icmp_lt (tgt := 155) C.1 C.2.1 dX5_status_136 (by decide) (fun c28 => ?_) (fun c28 => ?_)
        · have hE := it_t c28 hE
          refine lv_iconst (v := (-1)) C.1 C.2.1 dX5_status_155 (by decide) ?_
          obtain rfl := Option.some.inj hE
          exact hret _ _ _ _ dX5_status_156 hP hS
        · have hE := it_f c28 hE
          refine lv_iload_n C.1 C.2.1 dX5_status_139 rfl (lv_at hl 1 rfl) ?_
          refine lv_bipush (v := 7) C.1 C.2.1 dX5_status_140 (by decide) ?_
          refine lv_icmp_gt (tgt := 155) C.1 C.2.1 dX5_status_142 (by decide) (fun c29 => ?_) (fun c29 => ?_)
          · have hE := it_t c29 hE
            refine lv_iconst (v := (-1)) C.1 C.2.1 dX5_status_155 (by decide) ?_
            obtain rfl := Option.some.inj hE
            exact hret _ _ _ _ dX5_status_156 hP hS
          · have hE := it_f c29 hE
            refine lv_aload_n C.1 C.2.1 dX5_status_145 rfl (lv_at hl 0 rfl) ?_
            refine lv_iload_n C.1 C.2.1 dX5_status_146 rfl (lv_at hl 1 rfl) ?_
            refine lv_iconst (v := 2) C.1 C.2.1 dX5_status_147 (by decide) ?_
            refine lv_isub C.1 C.2.1 dX5_status_148 ?_
            obtain ⟨r30, hr30, hE⟩ := it_b hE
            refine m_call (n := 1) (As := [.int (p1 - 2)]) (rest := []) C hP hS hml (metM_told l G h0 ad _ _ _ (p1 - 2) r30 hr30) q1543 q1545 qs36 q1546 rfl rfl (by decide +kernel) ⟨Nat.le_of_ble_eq_true rfl, Nat.le_of_ble_eq_true rfl⟩ ⟨Nat.le_refl _, Nat.le_refl _⟩ rfl hl.1 rfl (Nat.le_of_ble_eq_true rfl) dX5_status_149 (fun H locs hP hS => ?_)
            refine lv_goto (tgt := 156) C.1 C.2.1 dX5_status_152 (by decide) ?_
            obtain rfl := Option.some.inj hE
            exact hret _ _ _ _ dX5_status_156 hP hS
      have hE := hR
      refine lv_icmp_lt (tgt := 44) C.1 C.2.1 dX5_status_25 (by decide) (fun c17 => ?_) (fun c17 => ?_)
      · have hE := it_t c17 hE
        obtain rfl := Option.some.inj hE
        exact hJ44u18 (by decide) H locs ls hP hS (lv_sub hl [0, 1] rfl)
      · have hE := it_f c17 hE
        refine lv_iload_n C.1 C.2.1 dX5_status_28 rfl (lv_at hl 1 rfl) ?_
        refine lv_bipush (v := 20) C.1 C.2.1 dX5_status_29 (by decide) ?_
        refine lv_icmp_gt (tgt := 44) C.1 C.2.1 dX5_status_31 (by decide) (fun c19 => ?_) (fun c19 => ?_)
        · have hE := it_t c19 hE
          obtain rfl := Option.some.inj hE
          exact hJ44u18 (by decide) H locs ls hP hS (lv_sub hl [0, 1] rfl)
        · have hE := it_f c19 hE
          obtain rfl := Option.some.inj hE
          exact hJ34u18 rfl H locs ls hP hS (lv_sub hl [0, 1] rfl)
    · have hE := it_f c16 hE
      refine lv_aload_n C.1 C.2.1 dX5_status_12 rfl (lv_at hl 0 rfl) ?_
      refine ma_11 C hP dX5_status_13 ?_
      refine lv_iload_n C.1 C.2.1 dX5_status_16 rfl (lv_at hl 1 rfl) ?_
      refine lv_bipush (v := 10) C.1 C.2.1 dX5_status_17 (by decide) ?_
      refine lv_isub C.1 C.2.1 dX5_status_19 ?_
      obtain ⟨g31, hE⟩ := it_g hE
      refine ml_11 (v := ((A 11) ((p1 - 10)).toNatClampNeg)) C hP (gi_in g31) rfl dX5_status_20 ?_
      obtain rfl := Option.some.inj hE
      exact hret _ _ _ _ dX5_status_21 hP hS
def sM_carries_12_34_h3 (x2 : Int32) (x4 : Int32) (x5 : Int32) : Nat → Int32 → (Nat → Int32) → (Nat → Int32) → Option ((Nat → Int32) × (Nat → Int32))
  | 0, _, _, _ => none
  | fuel + 1, x6, a_kind, a_kept =>
    if x2 ≤ x6 then
      some (a_kind, a_kept)
    else
      @Option.bind ((Nat → Int32) × (Nat → Int32)) _ (
        if x5 = 0 then
          if gi x6 8 then
          if gi (x4 + x6) 60 then
          some (a_kind, (upd a_kept ((x4 + x6)).toNatClampNeg (a_kind (x6).toNatClampNeg)))
          else none
          else none
        else
          if gi (x4 + x6) 60 then
          if gi x6 8 then
          some ((upd a_kind (x6).toNatClampNeg (a_kept ((x4 + x6)).toNatClampNeg)), a_kept)
          else none
          else none) fun u403 =>
      sM_carries_12_34_h3 x2 x4 x5 fuel (x6 + 1) u403.1 u403.2
def sM_carries_12_34 (a_kind : Nat → Int32) (a_kept : Nat → Int32) (p2 : Int32) (p4 : Int32) (p5 : Int32) : Option (Int32 × (Nat → Int32) × (Nat → Int32)) :=
  (sM_carries_12_34_h3 p2 p4 p5 2000 0 a_kind a_kept).bind fun u1 =>
  some ((p4 + p2), u1.1, u1.2)
set_option maxHeartbeats 4000000 in
theorem wM_carries_12_34_h3 {p : Program} {l : Launch} {e : Env} {s : State} {m : MethodId} {args : Array Value} {below : List Frame} {meth : Method} {c : Code} {G : kG} {h0 : Nat} {ad : Nat → Nat} {Q : State → Prop} (C : mC p s m args c cX5_carries G h0 ad) (hml : c.maxLocals = 7) (F : Nat → Int32) (A : Nat → Nat → Int32) (L : Nat → Nat → Int64) (x2 : Int32) (x4 : Int32) (x5 : Int32) (res : (Nat → Int32) × (Nat → Int32)) :
    ∀ (fuel : Nat) (x6 : Int32) (a_kind : Nat → Int32) (a_kept : Nat → Int32) (H : Heap) (locs : List Loc) (ls : Array Slot), sM_carries_12_34_h3 x2 x4 x5 fuel x6 a_kind a_kept = some res → mPw G h0 ad F (va_up (va_up A 12 a_kind) 34 a_kept) L H → va_S (mA h0 ad) s.heap H locs → lv_has ls 7 [(1, .ref (ad 12)), (2, .int x2), (3, .ref (ad 34)), (4, .int x4), (5, .int x5), (6, .int x6)] → (∀ (H : Heap) (locs : List Loc) (ls : Array Slot), mPw G h0 ad F (va_up (va_up A 12 res.1) 34 res.2) L H → va_S (mA h0 ad) s.heap H locs → lv_has ls 7 [(2, .int x2), (4, .int x4)] → W p l e ({ frames := 0, cells := 0, slots := 0, locals := 0 } : Room) s m args below meth c H locs 0 0 Q (F0 m 45 ls [])) → W p l e ({ frames := 0, cells := 0, slots := 0, locals := 0 } : Room) s m args below meth c H locs 0 0 Q (F0 m 3 ls []) := by
  intro fuel
  induction fuel with
  | zero =>
    intro x6 a_kind a_kept H locs ls hE
    exact it_n hE
  | succ fuel ih =>
    intro x6 a_kind a_kept H locs ls hE hP hS hl hX
    rw [sM_carries_12_34_h3] at hE
    refine lv_iload C.1 C.2.1 dX5_carries_3 (lv_at hl 5 rfl) ?_
    refine lv_iload_n C.1 C.2.1 dX5_carries_5 rfl (lv_at hl 1 rfl) ?_
    refine lv_icmp_ge (tgt := 45) C.1 C.2.1 dX5_carries_6 (by decide) (fun c401 => ?_) (fun c401 => ?_)
    · have hE := it_t c401 hE
      obtain rfl := Option.some.inj hE
      exact hX H locs ls hP hS (lv_sub hl [1, 3] rfl)
    · have hE := it_f c401 hE
      refine lv_iload C.1 C.2.1 dX5_carries_9 (lv_at hl 4 rfl) ?_
      obtain ⟨u403, hR, hE⟩ := it_b hE
      have hJ39u403 : ∀ (H : Heap) (locs : List Loc) (ls : Array Slot), mPw G h0 ad F (va_up (va_up A 12 u403.1) 34 u403.2) L H → va_S (mA h0 ad) s.heap H locs → lv_has ls 7 [(1, .ref (ad 12)), (2, .int x2), (3, .ref (ad 34)), (4, .int x4), (5, .int x5), (6, .int x6)] → W p l e ({ frames := 0, cells := 0, slots := 0, locals := 0 } : Room) s m args below meth c H locs 0 0 Q (F0 m 39 ls []) := by
        intro H locs ls hP hS hl
        refine lv_iinc (v := (x6 + 1)) (lv' := [(6, .int (x6 + 1)), (1, .ref (ad 12)), (2, .int x2), (3, .ref (ad 34)), (4, .int x4), (5, .int x5)]) C.1 C.2.1 dX5_carries_39 hl (k := 5) rfl rfl (by decide) rfl (fun ls hl => ?_)
        refine lv_goto (tgt := 3) C.1 C.2.1 dX5_carries_42 (by decide) ?_
        exact ih (x6 + 1) u403.1 u403.2 _ _ _ hE hP hS (lv_sub hl [1, 2, 3, 4, 5, 0] rfl) hX
      have hE := hR
      refine lv_if_eq (tgt := 28) C.1 C.2.1 dX5_carries_11 (by decide) (fun c402 => ?_) (fun c402 => ?_)
      · have hE := it_t c402 hE
        refine lv_aload_n C.1 C.2.1 dX5_carries_28 rfl (lv_at hl 2 rfl) ?_
        refine lv_iload C.1 C.2.1 dX5_carries_29 (lv_at hl 3 rfl) ?_
        refine lv_iload C.1 C.2.1 dX5_carries_31 (lv_at hl 5 rfl) ?_
        refine lv_iadd C.1 C.2.1 dX5_carries_33 ?_
        refine lv_aload_n C.1 C.2.1 dX5_carries_34 rfl (lv_at hl 0 rfl) ?_
        refine lv_iload C.1 C.2.1 dX5_carries_35 (lv_at hl 5 rfl) ?_
        obtain ⟨g404, hE⟩ := it_g hE
        refine ml_12 (v := (a_kind (x6).toNatClampNeg)) C hP (gi_in g404) rfl dX5_carries_37 ?_
        obtain ⟨g405, hE⟩ := it_g hE
        refine ms_34 (a := a_kept) C hP hS (gi_in g405) rfl dX5_carries_38 (fun H locs hP hS => ?_)
        obtain rfl := Option.some.inj hE
        exact hJ39u403 H locs ls hP hS (lv_sub hl [0, 1, 2, 3, 4, 5] rfl)
      · have hE := it_f c402 hE
        refine lv_aload_n C.1 C.2.1 dX5_carries_14 rfl (lv_at hl 0 rfl) ?_
        refine lv_iload C.1 C.2.1 dX5_carries_15 (lv_at hl 5 rfl) ?_
        refine lv_aload_n C.1 C.2.1 dX5_carries_17 rfl (lv_at hl 2 rfl) ?_
        refine lv_iload C.1 C.2.1 dX5_carries_18 (lv_at hl 3 rfl) ?_
        refine lv_iload C.1 C.2.1 dX5_carries_20 (lv_at hl 5 rfl) ?_
        refine lv_iadd C.1 C.2.1 dX5_carries_22 ?_
        obtain ⟨g406, hE⟩ := it_g hE
        refine ml_34 (v := (a_kept ((x4 + x6)).toNatClampNeg)) C hP (gi_in g406) rfl dX5_carries_23 ?_
        obtain ⟨g407, hE⟩ := it_g hE
        refine ms_12 (a := a_kind) C hP hS (gi_in g407) rfl dX5_carries_24 (fun H locs hP hS => ?_)
        refine lv_goto (tgt := 39) C.1 C.2.1 dX5_carries_25 (by decide) ?_
        obtain rfl := Option.some.inj hE
        exact hJ39u403 H locs ls hP hS (lv_sub hl [0, 1, 2, 3, 4, 5] rfl)
set_option maxHeartbeats 4000000 in
theorem metM_carries_12_34 (l : Launch) (G : kG) (h0 : Nat) (ad : Nat → Nat) (F : Nat → Int32) (A : Nat → Nat → Int32) (L : Nat → Nat → Int64) (p2 : Int32) (p4 : Int32) (p5 : Int32) (res : Int32 × (Nat → Int32) × (Nat → Int32)) (hE : sM_carries_12_34 (A 12) (A 34) p2 p4 p5 = some res) : Met l yX5_carries (ws_ yX5_carries cX5_carries 7 (some .int)) ({ frames := 0, cells := 0, slots := 0, locals := 0 } : Room) (mPc G h0 ad F A L [.ref (ad 12), .int p2, .ref (ad 34), .int p4, .int p5]) (mQc G h0 ad F (va_up (va_up A 12 res.2.1) 34 res.2.2) L (some (.int res.1))) 0 0 (mA h0 ad) := by
  refine m_ofW (by decide) rfl (Nat.le_of_ble_eq_true rfl) ?_
  intro p e s m args below meth c ls C hml hP hS hl hr hlocks
  have hl : lv_has ls 7 [(0, .ref h0), (1, .ref (ad 12)), (2, .int p2), (3, .ref (ad 34)), (4, .int p4), (5, .int p5)] := hl
  obtain ⟨Q, hQ⟩ : ∃ Q, Q = MQ below (mQc G h0 ad F (va_up (va_up A 12 res.2.1) 34 res.2.2) L (some (.int res.1))) args s 0 0 (mA h0 ad) := ⟨_, rfl⟩
  rw [← hQ]
  have hret : ∀ (pc : Nat) (ls : Array Slot) (H : Heap) (locs : List Loc), decode cX5_carries pc = .ok (.ireturn, 1) → mPw G h0 ad F (va_up (va_up A 12 res.2.1) 34 res.2.2) L H → va_S (mA h0 ad) s.heap H locs → W p l e ({ frames := 0, cells := 0, slots := 0, locals := 0 } : Room) s m args below meth c H locs 0 0 Q (F0 m pc ls [.int res.1]) := by
    intro pc ls H locs hd hP hS
    rw [hQ]
    exact m_iret C hr hlocks hd hP hS
  clear hQ
  obtain ⟨H, hH⟩ : ∃ H, H = s.heap := ⟨_, rfl⟩
  obtain ⟨locs, hlo⟩ : ∃ locs : List Loc, locs = [] := ⟨_, rfl⟩
  have hP : mPw G h0 ad F A L H := by rw [hH]; exact hP
  have hS : va_S (mA h0 ad) s.heap H locs := by rw [hH, hlo]; exact hS
  suffices hZ : W p l e ({ frames := 0, cells := 0, slots := 0, locals := 0 } : Room) s m args below meth c H locs 0 0 Q (F0 m 0 ls []) by rw [hH, hlo] at hZ; exact hZ
  clear hH hlo
  unfold sM_carries_12_34 at hE
  refine lv_iconst (v := 0) C.1 C.2.1 dX5_carries_0 (by decide) ?_
  refine lv_istore (lv' := [(6, .int 0), (0, .ref h0), (1, .ref (ad 12)), (2, .int p2), (3, .ref (ad 34)), (4, .int p4), (5, .int p5)]) C.1 C.2.1 dX5_carries_1 hl (by decide) rfl (fun ls hl => ?_)
  obtain ⟨u1, hu1, hE⟩ := it_b hE
  refine wM_carries_12_34_h3 C hml F A L p2 p4 p5 u1 2000 0 (A 12) (A 34) H locs ls hu1 hP hS (lv_sub hl [2, 3, 4, 5, 6, 0] rfl) (fun H locs ls hP hS hl => ?_)
  refine lv_iload C.1 C.2.1 dX5_carries_45 (lv_at hl 1 rfl) ?_
  refine lv_iload_n C.1 C.2.1 dX5_carries_47 rfl (lv_at hl 0 rfl) ?_
  refine lv_iadd C.1 C.2.1 dX5_carries_48 ?_
  obtain rfl := Option.some.inj hE
  exact hret _ _ _ _ dX5_carries_49 hP hS
def sM_carries_13_34_h3 (x2 : Int32) (x4 : Int32) (x5 : Int32) : Nat → Int32 → (Nat → Int32) → (Nat → Int32) → Option ((Nat → Int32) × (Nat → Int32))
  | 0, _, _, _ => none
  | fuel + 1, x6, a_part, a_kept =>
    if x2 ≤ x6 then
      some (a_part, a_kept)
    else
      @Option.bind ((Nat → Int32) × (Nat → Int32)) _ (
        if x5 = 0 then
          if gi x6 8 then
          if gi (x4 + x6) 60 then
          some (a_part, (upd a_kept ((x4 + x6)).toNatClampNeg (a_part (x6).toNatClampNeg)))
          else none
          else none
        else
          if gi (x4 + x6) 60 then
          if gi x6 8 then
          some ((upd a_part (x6).toNatClampNeg (a_kept ((x4 + x6)).toNatClampNeg)), a_kept)
          else none
          else none) fun u403 =>
      sM_carries_13_34_h3 x2 x4 x5 fuel (x6 + 1) u403.1 u403.2
def sM_carries_13_34 (a_part : Nat → Int32) (a_kept : Nat → Int32) (p2 : Int32) (p4 : Int32) (p5 : Int32) : Option (Int32 × (Nat → Int32) × (Nat → Int32)) :=
  (sM_carries_13_34_h3 p2 p4 p5 2000 0 a_part a_kept).bind fun u1 =>
  some ((p4 + p2), u1.1, u1.2)
set_option maxHeartbeats 4000000 in
theorem wM_carries_13_34_h3 {p : Program} {l : Launch} {e : Env} {s : State} {m : MethodId} {args : Array Value} {below : List Frame} {meth : Method} {c : Code} {G : kG} {h0 : Nat} {ad : Nat → Nat} {Q : State → Prop} (C : mC p s m args c cX5_carries G h0 ad) (hml : c.maxLocals = 7) (F : Nat → Int32) (A : Nat → Nat → Int32) (L : Nat → Nat → Int64) (x2 : Int32) (x4 : Int32) (x5 : Int32) (res : (Nat → Int32) × (Nat → Int32)) :
    ∀ (fuel : Nat) (x6 : Int32) (a_part : Nat → Int32) (a_kept : Nat → Int32) (H : Heap) (locs : List Loc) (ls : Array Slot), sM_carries_13_34_h3 x2 x4 x5 fuel x6 a_part a_kept = some res → mPw G h0 ad F (va_up (va_up A 13 a_part) 34 a_kept) L H → va_S (mA h0 ad) s.heap H locs → lv_has ls 7 [(1, .ref (ad 13)), (2, .int x2), (3, .ref (ad 34)), (4, .int x4), (5, .int x5), (6, .int x6)] → (∀ (H : Heap) (locs : List Loc) (ls : Array Slot), mPw G h0 ad F (va_up (va_up A 13 res.1) 34 res.2) L H → va_S (mA h0 ad) s.heap H locs → lv_has ls 7 [(2, .int x2), (4, .int x4)] → W p l e ({ frames := 0, cells := 0, slots := 0, locals := 0 } : Room) s m args below meth c H locs 0 0 Q (F0 m 45 ls [])) → W p l e ({ frames := 0, cells := 0, slots := 0, locals := 0 } : Room) s m args below meth c H locs 0 0 Q (F0 m 3 ls []) := by
  intro fuel
  induction fuel with
  | zero =>
    intro x6 a_part a_kept H locs ls hE
    exact it_n hE
  | succ fuel ih =>
    intro x6 a_part a_kept H locs ls hE hP hS hl hX
    rw [sM_carries_13_34_h3] at hE
    refine lv_iload C.1 C.2.1 dX5_carries_3 (lv_at hl 5 rfl) ?_
    refine lv_iload_n C.1 C.2.1 dX5_carries_5 rfl (lv_at hl 1 rfl) ?_
    refine lv_icmp_ge (tgt := 45) C.1 C.2.1 dX5_carries_6 (by decide) (fun c401 => ?_) (fun c401 => ?_)
    · have hE := it_t c401 hE
      obtain rfl := Option.some.inj hE
      exact hX H locs ls hP hS (lv_sub hl [1, 3] rfl)
    · have hE := it_f c401 hE
      refine lv_iload C.1 C.2.1 dX5_carries_9 (lv_at hl 4 rfl) ?_
      obtain ⟨u403, hR, hE⟩ := it_b hE
      have hJ39u403 : ∀ (H : Heap) (locs : List Loc) (ls : Array Slot), mPw G h0 ad F (va_up (va_up A 13 u403.1) 34 u403.2) L H → va_S (mA h0 ad) s.heap H locs → lv_has ls 7 [(1, .ref (ad 13)), (2, .int x2), (3, .ref (ad 34)), (4, .int x4), (5, .int x5), (6, .int x6)] → W p l e ({ frames := 0, cells := 0, slots := 0, locals := 0 } : Room) s m args below meth c H locs 0 0 Q (F0 m 39 ls []) := by
        intro H locs ls hP hS hl
        refine lv_iinc (v := (x6 + 1)) (lv' := [(6, .int (x6 + 1)), (1, .ref (ad 13)), (2, .int x2), (3, .ref (ad 34)), (4, .int x4), (5, .int x5)]) C.1 C.2.1 dX5_carries_39 hl (k := 5) rfl rfl (by decide) rfl (fun ls hl => ?_)
        refine lv_goto (tgt := 3) C.1 C.2.1 dX5_carries_42 (by decide) ?_
        exact ih (x6 + 1) u403.1 u403.2 _ _ _ hE hP hS (lv_sub hl [1, 2, 3, 4, 5, 0] rfl) hX
      have hE := hR
      refine lv_if_eq (tgt := 28) C.1 C.2.1 dX5_carries_11 (by decide) (fun c402 => ?_) (fun c402 => ?_)
      · have hE := it_t c402 hE
        refine lv_aload_n C.1 C.2.1 dX5_carries_28 rfl (lv_at hl 2 rfl) ?_
        refine lv_iload C.1 C.2.1 dX5_carries_29 (lv_at hl 3 rfl) ?_
        refine lv_iload C.1 C.2.1 dX5_carries_31 (lv_at hl 5 rfl) ?_
        refine lv_iadd C.1 C.2.1 dX5_carries_33 ?_
        refine lv_aload_n C.1 C.2.1 dX5_carries_34 rfl (lv_at hl 0 rfl) ?_
        refine lv_iload C.1 C.2.1 dX5_carries_35 (lv_at hl 5 rfl) ?_
        obtain ⟨g404, hE⟩ := it_g hE
        refine ml_13 (v := (a_part (x6).toNatClampNeg)) C hP (gi_in g404) rfl dX5_carries_37 ?_
        obtain ⟨g405, hE⟩ := it_g hE
        refine ms_34 (a := a_kept) C hP hS (gi_in g405) rfl dX5_carries_38 (fun H locs hP hS => ?_)
        obtain rfl := Option.some.inj hE
        exact hJ39u403 H locs ls hP hS (lv_sub hl [0, 1, 2, 3, 4, 5] rfl)
      · have hE := it_f c402 hE
        refine lv_aload_n C.1 C.2.1 dX5_carries_14 rfl (lv_at hl 0 rfl) ?_
        refine lv_iload C.1 C.2.1 dX5_carries_15 (lv_at hl 5 rfl) ?_
        refine lv_aload_n C.1 C.2.1 dX5_carries_17 rfl (lv_at hl 2 rfl) ?_
        refine lv_iload C.1 C.2.1 dX5_carries_18 (lv_at hl 3 rfl) ?_
        refine lv_iload C.1 C.2.1 dX5_carries_20 (lv_at hl 5 rfl) ?_
        refine lv_iadd C.1 C.2.1 dX5_carries_22 ?_
        obtain ⟨g406, hE⟩ := it_g hE
        refine ml_34 (v := (a_kept ((x4 + x6)).toNatClampNeg)) C hP (gi_in g406) rfl dX5_carries_23 ?_
        obtain ⟨g407, hE⟩ := it_g hE
        refine ms_13 (a := a_part) C hP hS (gi_in g407) rfl dX5_carries_24 (fun H locs hP hS => ?_)
        refine lv_goto (tgt := 39) C.1 C.2.1 dX5_carries_25 (by decide) ?_
        obtain rfl := Option.some.inj hE
        exact hJ39u403 H locs ls hP hS (lv_sub hl [0, 1, 2, 3, 4, 5] rfl)
set_option maxHeartbeats 4000000 in
theorem metM_carries_13_34 (l : Launch) (G : kG) (h0 : Nat) (ad : Nat → Nat) (F : Nat → Int32) (A : Nat → Nat → Int32) (L : Nat → Nat → Int64) (p2 : Int32) (p4 : Int32) (p5 : Int32) (res : Int32 × (Nat → Int32) × (Nat → Int32)) (hE : sM_carries_13_34 (A 13) (A 34) p2 p4 p5 = some res) : Met l yX5_carries (ws_ yX5_carries cX5_carries 7 (some .int)) ({ frames := 0, cells := 0, slots := 0, locals := 0 } : Room) (mPc G h0 ad F A L [.ref (ad 13), .int p2, .ref (ad 34), .int p4, .int p5]) (mQc G h0 ad F (va_up (va_up A 13 res.2.1) 34 res.2.2) L (some (.int res.1))) 0 0 (mA h0 ad) := by
  refine m_ofW (by decide) rfl (Nat.le_of_ble_eq_true rfl) ?_
  intro p e s m args below meth c ls C hml hP hS hl hr hlocks
  have hl : lv_has ls 7 [(0, .ref h0), (1, .ref (ad 13)), (2, .int p2), (3, .ref (ad 34)), (4, .int p4), (5, .int p5)] := hl
  obtain ⟨Q, hQ⟩ : ∃ Q, Q = MQ below (mQc G h0 ad F (va_up (va_up A 13 res.2.1) 34 res.2.2) L (some (.int res.1))) args s 0 0 (mA h0 ad) := ⟨_, rfl⟩
  rw [← hQ]
  have hret : ∀ (pc : Nat) (ls : Array Slot) (H : Heap) (locs : List Loc), decode cX5_carries pc = .ok (.ireturn, 1) → mPw G h0 ad F (va_up (va_up A 13 res.2.1) 34 res.2.2) L H → va_S (mA h0 ad) s.heap H locs → W p l e ({ frames := 0, cells := 0, slots := 0, locals := 0 } : Room) s m args below meth c H locs 0 0 Q (F0 m pc ls [.int res.1]) := by
    intro pc ls H locs hd hP hS
    rw [hQ]
    exact m_iret C hr hlocks hd hP hS
  clear hQ
  obtain ⟨H, hH⟩ : ∃ H, H = s.heap := ⟨_, rfl⟩
  obtain ⟨locs, hlo⟩ : ∃ locs : List Loc, locs = [] := ⟨_, rfl⟩
  have hP : mPw G h0 ad F A L H := by rw [hH]; exact hP
  have hS : va_S (mA h0 ad) s.heap H locs := by rw [hH, hlo]; exact hS
  suffices hZ : W p l e ({ frames := 0, cells := 0, slots := 0, locals := 0 } : Room) s m args below meth c H locs 0 0 Q (F0 m 0 ls []) by rw [hH, hlo] at hZ; exact hZ
  clear hH hlo
  unfold sM_carries_13_34 at hE
  refine lv_iconst (v := 0) C.1 C.2.1 dX5_carries_0 (by decide) ?_
  refine lv_istore (lv' := [(6, .int 0), (0, .ref h0), (1, .ref (ad 13)), (2, .int p2), (3, .ref (ad 34)), (4, .int p4), (5, .int p5)]) C.1 C.2.1 dX5_carries_1 hl (by decide) rfl (fun ls hl => ?_)
  obtain ⟨u1, hu1, hE⟩ := it_b hE
  refine wM_carries_13_34_h3 C hml F A L p2 p4 p5 u1 2000 0 (A 13) (A 34) H locs ls hu1 hP hS (lv_sub hl [2, 3, 4, 5, 6, 0] rfl) (fun H locs ls hP hS hl => ?_)
  refine lv_iload C.1 C.2.1 dX5_carries_45 (lv_at hl 1 rfl) ?_
  refine lv_iload_n C.1 C.2.1 dX5_carries_47 rfl (lv_at hl 0 rfl) ?_
  refine lv_iadd C.1 C.2.1 dX5_carries_48 ?_
  obtain rfl := Option.some.inj hE
  exact hret _ _ _ _ dX5_carries_49 hP hS
def sM_carries_14_34_h3 (x2 : Int32) (x4 : Int32) (x5 : Int32) : Nat → Int32 → (Nat → Int32) → (Nat → Int32) → Option ((Nat → Int32) × (Nat → Int32))
  | 0, _, _, _ => none
  | fuel + 1, x6, a_marks, a_kept =>
    if x2 ≤ x6 then
      some (a_marks, a_kept)
    else
      @Option.bind ((Nat → Int32) × (Nat → Int32)) _ (
        if x5 = 0 then
          if gi x6 8 then
          if gi (x4 + x6) 60 then
          some (a_marks, (upd a_kept ((x4 + x6)).toNatClampNeg (a_marks (x6).toNatClampNeg)))
          else none
          else none
        else
          if gi (x4 + x6) 60 then
          if gi x6 8 then
          some ((upd a_marks (x6).toNatClampNeg (a_kept ((x4 + x6)).toNatClampNeg)), a_kept)
          else none
          else none) fun u403 =>
      sM_carries_14_34_h3 x2 x4 x5 fuel (x6 + 1) u403.1 u403.2
def sM_carries_14_34 (a_marks : Nat → Int32) (a_kept : Nat → Int32) (p2 : Int32) (p4 : Int32) (p5 : Int32) : Option (Int32 × (Nat → Int32) × (Nat → Int32)) :=
  (sM_carries_14_34_h3 p2 p4 p5 2000 0 a_marks a_kept).bind fun u1 =>
  some ((p4 + p2), u1.1, u1.2)
set_option maxHeartbeats 4000000 in
theorem wM_carries_14_34_h3 {p : Program} {l : Launch} {e : Env} {s : State} {m : MethodId} {args : Array Value} {below : List Frame} {meth : Method} {c : Code} {G : kG} {h0 : Nat} {ad : Nat → Nat} {Q : State → Prop} (C : mC p s m args c cX5_carries G h0 ad) (hml : c.maxLocals = 7) (F : Nat → Int32) (A : Nat → Nat → Int32) (L : Nat → Nat → Int64) (x2 : Int32) (x4 : Int32) (x5 : Int32) (res : (Nat → Int32) × (Nat → Int32)) :
    ∀ (fuel : Nat) (x6 : Int32) (a_marks : Nat → Int32) (a_kept : Nat → Int32) (H : Heap) (locs : List Loc) (ls : Array Slot), sM_carries_14_34_h3 x2 x4 x5 fuel x6 a_marks a_kept = some res → mPw G h0 ad F (va_up (va_up A 14 a_marks) 34 a_kept) L H → va_S (mA h0 ad) s.heap H locs → lv_has ls 7 [(1, .ref (ad 14)), (2, .int x2), (3, .ref (ad 34)), (4, .int x4), (5, .int x5), (6, .int x6)] → (∀ (H : Heap) (locs : List Loc) (ls : Array Slot), mPw G h0 ad F (va_up (va_up A 14 res.1) 34 res.2) L H → va_S (mA h0 ad) s.heap H locs → lv_has ls 7 [(2, .int x2), (4, .int x4)] → W p l e ({ frames := 0, cells := 0, slots := 0, locals := 0 } : Room) s m args below meth c H locs 0 0 Q (F0 m 45 ls [])) → W p l e ({ frames := 0, cells := 0, slots := 0, locals := 0 } : Room) s m args below meth c H locs 0 0 Q (F0 m 3 ls []) := by
  intro fuel
  induction fuel with
  | zero =>
    intro x6 a_marks a_kept H locs ls hE
    exact it_n hE
  | succ fuel ih =>
    intro x6 a_marks a_kept H locs ls hE hP hS hl hX
    rw [sM_carries_14_34_h3] at hE
    refine lv_iload C.1 C.2.1 dX5_carries_3 (lv_at hl 5 rfl) ?_
    refine lv_iload_n C.1 C.2.1 dX5_carries_5 rfl (lv_at hl 1 rfl) ?_
    refine lv_icmp_ge (tgt := 45) C.1 C.2.1 dX5_carries_6 (by decide) (fun c401 => ?_) (fun c401 => ?_)
    · have hE := it_t c401 hE
      obtain rfl := Option.some.inj hE
      exact hX H locs ls hP hS (lv_sub hl [1, 3] rfl)
    · have hE := it_f c401 hE
      refine lv_iload C.1 C.2.1 dX5_carries_9 (lv_at hl 4 rfl) ?_
      obtain ⟨u403, hR, hE⟩ := it_b hE
      have hJ39u403 : ∀ (H : Heap) (locs : List Loc) (ls : Array Slot), mPw G h0 ad F (va_up (va_up A 14 u403.1) 34 u403.2) L H → va_S (mA h0 ad) s.heap H locs → lv_has ls 7 [(1, .ref (ad 14)), (2, .int x2), (3, .ref (ad 34)), (4, .int x4), (5, .int x5), (6, .int x6)] → W p l e ({ frames := 0, cells := 0, slots := 0, locals := 0 } : Room) s m args below meth c H locs 0 0 Q (F0 m 39 ls []) := by
        intro H locs ls hP hS hl
        refine lv_iinc (v := (x6 + 1)) (lv' := [(6, .int (x6 + 1)), (1, .ref (ad 14)), (2, .int x2), (3, .ref (ad 34)), (4, .int x4), (5, .int x5)]) C.1 C.2.1 dX5_carries_39 hl (k := 5) rfl rfl (by decide) rfl (fun ls hl => ?_)
        refine lv_goto (tgt := 3) C.1 C.2.1 dX5_carries_42 (by decide) ?_
        exact ih (x6 + 1) u403.1 u403.2 _ _ _ hE hP hS (lv_sub hl [1, 2, 3, 4, 5, 0] rfl) hX
      have hE := hR
      refine lv_if_eq (tgt := 28) C.1 C.2.1 dX5_carries_11 (by decide) (fun c402 => ?_) (fun c402 => ?_)
      · have hE := it_t c402 hE
        refine lv_aload_n C.1 C.2.1 dX5_carries_28 rfl (lv_at hl 2 rfl) ?_
        refine lv_iload C.1 C.2.1 dX5_carries_29 (lv_at hl 3 rfl) ?_
        refine lv_iload C.1 C.2.1 dX5_carries_31 (lv_at hl 5 rfl) ?_
        refine lv_iadd C.1 C.2.1 dX5_carries_33 ?_
        refine lv_aload_n C.1 C.2.1 dX5_carries_34 rfl (lv_at hl 0 rfl) ?_
        refine lv_iload C.1 C.2.1 dX5_carries_35 (lv_at hl 5 rfl) ?_
        obtain ⟨g404, hE⟩ := it_g hE
        refine ml_14 (v := (a_marks (x6).toNatClampNeg)) C hP (gi_in g404) rfl dX5_carries_37 ?_
        obtain ⟨g405, hE⟩ := it_g hE
        refine ms_34 (a := a_kept) C hP hS (gi_in g405) rfl dX5_carries_38 (fun H locs hP hS => ?_)
        obtain rfl := Option.some.inj hE
        exact hJ39u403 H locs ls hP hS (lv_sub hl [0, 1, 2, 3, 4, 5] rfl)
      · have hE := it_f c402 hE
        refine lv_aload_n C.1 C.2.1 dX5_carries_14 rfl (lv_at hl 0 rfl) ?_
        refine lv_iload C.1 C.2.1 dX5_carries_15 (lv_at hl 5 rfl) ?_
        refine lv_aload_n C.1 C.2.1 dX5_carries_17 rfl (lv_at hl 2 rfl) ?_
        refine lv_iload C.1 C.2.1 dX5_carries_18 (lv_at hl 3 rfl) ?_
        refine lv_iload C.1 C.2.1 dX5_carries_20 (lv_at hl 5 rfl) ?_
        refine lv_iadd C.1 C.2.1 dX5_carries_22 ?_
        obtain ⟨g406, hE⟩ := it_g hE
        refine ml_34 (v := (a_kept ((x4 + x6)).toNatClampNeg)) C hP (gi_in g406) rfl dX5_carries_23 ?_
        obtain ⟨g407, hE⟩ := it_g hE
        refine ms_14 (a := a_marks) C hP hS (gi_in g407) rfl dX5_carries_24 (fun H locs hP hS => ?_)
        refine lv_goto (tgt := 39) C.1 C.2.1 dX5_carries_25 (by decide) ?_
        obtain rfl := Option.some.inj hE
        exact hJ39u403 H locs ls hP hS (lv_sub hl [0, 1, 2, 3, 4, 5] rfl)
set_option maxHeartbeats 4000000 in
theorem metM_carries_14_34 (l : Launch) (G : kG) (h0 : Nat) (ad : Nat → Nat) (F : Nat → Int32) (A : Nat → Nat → Int32) (L : Nat → Nat → Int64) (p2 : Int32) (p4 : Int32) (p5 : Int32) (res : Int32 × (Nat → Int32) × (Nat → Int32)) (hE : sM_carries_14_34 (A 14) (A 34) p2 p4 p5 = some res) : Met l yX5_carries (ws_ yX5_carries cX5_carries 7 (some .int)) ({ frames := 0, cells := 0, slots := 0, locals := 0 } : Room) (mPc G h0 ad F A L [.ref (ad 14), .int p2, .ref (ad 34), .int p4, .int p5]) (mQc G h0 ad F (va_up (va_up A 14 res.2.1) 34 res.2.2) L (some (.int res.1))) 0 0 (mA h0 ad) := by
  refine m_ofW (by decide) rfl (Nat.le_of_ble_eq_true rfl) ?_
  intro p e s m args below meth c ls C hml hP hS hl hr hlocks
  have hl : lv_has ls 7 [(0, .ref h0), (1, .ref (ad 14)), (2, .int p2), (3, .ref (ad 34)), (4, .int p4), (5, .int p5)] := hl
  obtain ⟨Q, hQ⟩ : ∃ Q, Q = MQ below (mQc G h0 ad F (va_up (va_up A 14 res.2.1) 34 res.2.2) L (some (.int res.1))) args s 0 0 (mA h0 ad) := ⟨_, rfl⟩
  rw [← hQ]
  have hret : ∀ (pc : Nat) (ls : Array Slot) (H : Heap) (locs : List Loc), decode cX5_carries pc = .ok (.ireturn, 1) → mPw G h0 ad F (va_up (va_up A 14 res.2.1) 34 res.2.2) L H → va_S (mA h0 ad) s.heap H locs → W p l e ({ frames := 0, cells := 0, slots := 0, locals := 0 } : Room) s m args below meth c H locs 0 0 Q (F0 m pc ls [.int res.1]) := by
    intro pc ls H locs hd hP hS
    rw [hQ]
    exact m_iret C hr hlocks hd hP hS
  clear hQ
  obtain ⟨H, hH⟩ : ∃ H, H = s.heap := ⟨_, rfl⟩
  obtain ⟨locs, hlo⟩ : ∃ locs : List Loc, locs = [] := ⟨_, rfl⟩
  have hP : mPw G h0 ad F A L H := by rw [hH]; exact hP
  have hS : va_S (mA h0 ad) s.heap H locs := by rw [hH, hlo]; exact hS
  suffices hZ : W p l e ({ frames := 0, cells := 0, slots := 0, locals := 0 } : Room) s m args below meth c H locs 0 0 Q (F0 m 0 ls []) by rw [hH, hlo] at hZ; exact hZ
  clear hH hlo
  unfold sM_carries_14_34 at hE
  refine lv_iconst (v := 0) C.1 C.2.1 dX5_carries_0 (by decide) ?_
  refine lv_istore (lv' := [(6, .int 0), (0, .ref h0), (1, .ref (ad 14)), (2, .int p2), (3, .ref (ad 34)), (4, .int p4), (5, .int p5)]) C.1 C.2.1 dX5_carries_1 hl (by decide) rfl (fun ls hl => ?_)
  obtain ⟨u1, hu1, hE⟩ := it_b hE
  refine wM_carries_14_34_h3 C hml F A L p2 p4 p5 u1 2000 0 (A 14) (A 34) H locs ls hu1 hP hS (lv_sub hl [2, 3, 4, 5, 6, 0] rfl) (fun H locs ls hP hS hl => ?_)
  refine lv_iload C.1 C.2.1 dX5_carries_45 (lv_at hl 1 rfl) ?_
  refine lv_iload_n C.1 C.2.1 dX5_carries_47 rfl (lv_at hl 0 rfl) ?_
  refine lv_iadd C.1 C.2.1 dX5_carries_48 ?_
  obtain rfl := Option.some.inj hE
  exact hret _ _ _ _ dX5_carries_49 hP hS
def sM_carries_15_34_h3 (x2 : Int32) (x4 : Int32) (x5 : Int32) : Nat → Int32 → (Nat → Int32) → (Nat → Int32) → Option ((Nat → Int32) × (Nat → Int32))
  | 0, _, _, _ => none
  | fuel + 1, x6, a_ill, a_kept =>
    if x2 ≤ x6 then
      some (a_ill, a_kept)
    else
      @Option.bind ((Nat → Int32) × (Nat → Int32)) _ (
        if x5 = 0 then
          if gi x6 8 then
          if gi (x4 + x6) 60 then
          some (a_ill, (upd a_kept ((x4 + x6)).toNatClampNeg (a_ill (x6).toNatClampNeg)))
          else none
          else none
        else
          if gi (x4 + x6) 60 then
          if gi x6 8 then
          some ((upd a_ill (x6).toNatClampNeg (a_kept ((x4 + x6)).toNatClampNeg)), a_kept)
          else none
          else none) fun u403 =>
      sM_carries_15_34_h3 x2 x4 x5 fuel (x6 + 1) u403.1 u403.2
def sM_carries_15_34 (a_ill : Nat → Int32) (a_kept : Nat → Int32) (p2 : Int32) (p4 : Int32) (p5 : Int32) : Option (Int32 × (Nat → Int32) × (Nat → Int32)) :=
  (sM_carries_15_34_h3 p2 p4 p5 2000 0 a_ill a_kept).bind fun u1 =>
  some ((p4 + p2), u1.1, u1.2)
set_option maxHeartbeats 4000000 in
theorem wM_carries_15_34_h3 {p : Program} {l : Launch} {e : Env} {s : State} {m : MethodId} {args : Array Value} {below : List Frame} {meth : Method} {c : Code} {G : kG} {h0 : Nat} {ad : Nat → Nat} {Q : State → Prop} (C : mC p s m args c cX5_carries G h0 ad) (hml : c.maxLocals = 7) (F : Nat → Int32) (A : Nat → Nat → Int32) (L : Nat → Nat → Int64) (x2 : Int32) (x4 : Int32) (x5 : Int32) (res : (Nat → Int32) × (Nat → Int32)) :
    ∀ (fuel : Nat) (x6 : Int32) (a_ill : Nat → Int32) (a_kept : Nat → Int32) (H : Heap) (locs : List Loc) (ls : Array Slot), sM_carries_15_34_h3 x2 x4 x5 fuel x6 a_ill a_kept = some res → mPw G h0 ad F (va_up (va_up A 15 a_ill) 34 a_kept) L H → va_S (mA h0 ad) s.heap H locs → lv_has ls 7 [(1, .ref (ad 15)), (2, .int x2), (3, .ref (ad 34)), (4, .int x4), (5, .int x5), (6, .int x6)] → (∀ (H : Heap) (locs : List Loc) (ls : Array Slot), mPw G h0 ad F (va_up (va_up A 15 res.1) 34 res.2) L H → va_S (mA h0 ad) s.heap H locs → lv_has ls 7 [(2, .int x2), (4, .int x4)] → W p l e ({ frames := 0, cells := 0, slots := 0, locals := 0 } : Room) s m args below meth c H locs 0 0 Q (F0 m 45 ls [])) → W p l e ({ frames := 0, cells := 0, slots := 0, locals := 0 } : Room) s m args below meth c H locs 0 0 Q (F0 m 3 ls []) := by
  intro fuel
  induction fuel with
  | zero =>
    intro x6 a_ill a_kept H locs ls hE
    exact it_n hE
  | succ fuel ih =>
    intro x6 a_ill a_kept H locs ls hE hP hS hl hX
    rw [sM_carries_15_34_h3] at hE
    refine lv_iload C.1 C.2.1 dX5_carries_3 (lv_at hl 5 rfl) ?_
    refine lv_iload_n C.1 C.2.1 dX5_carries_5 rfl (lv_at hl 1 rfl) ?_
    refine lv_icmp_ge (tgt := 45) C.1 C.2.1 dX5_carries_6 (by decide) (fun c401 => ?_) (fun c401 => ?_)
    · have hE := it_t c401 hE
      obtain rfl := Option.some.inj hE
      exact hX H locs ls hP hS (lv_sub hl [1, 3] rfl)
    · have hE := it_f c401 hE
      refine lv_iload C.1 C.2.1 dX5_carries_9 (lv_at hl 4 rfl) ?_
      obtain ⟨u403, hR, hE⟩ := it_b hE
      have hJ39u403 : ∀ (H : Heap) (locs : List Loc) (ls : Array Slot), mPw G h0 ad F (va_up (va_up A 15 u403.1) 34 u403.2) L H → va_S (mA h0 ad) s.heap H locs → lv_has ls 7 [(1, .ref (ad 15)), (2, .int x2), (3, .ref (ad 34)), (4, .int x4), (5, .int x5), (6, .int x6)] → W p l e ({ frames := 0, cells := 0, slots := 0, locals := 0 } : Room) s m args below meth c H locs 0 0 Q (F0 m 39 ls []) := by
        intro H locs ls hP hS hl
        refine lv_iinc (v := (x6 + 1)) (lv' := [(6, .int (x6 + 1)), (1, .ref (ad 15)), (2, .int x2), (3, .ref (ad 34)), (4, .int x4), (5, .int x5)]) C.1 C.2.1 dX5_carries_39 hl (k := 5) rfl rfl (by decide) rfl (fun ls hl => ?_)
        refine lv_goto (tgt := 3) C.1 C.2.1 dX5_carries_42 (by decide) ?_
        exact ih (x6 + 1) u403.1 u403.2 _ _ _ hE hP hS (lv_sub hl [1, 2, 3, 4, 5, 0] rfl) hX
      have hE := hR
      refine lv_if_eq (tgt := 28) C.1 C.2.1 dX5_carries_11 (by decide) (fun c402 => ?_) (fun c402 => ?_)
      · have hE := it_t c402 hE
        refine lv_aload_n C.1 C.2.1 dX5_carries_28 rfl (lv_at hl 2 rfl) ?_
        refine lv_iload C.1 C.2.1 dX5_carries_29 (lv_at hl 3 rfl) ?_
        refine lv_iload C.1 C.2.1 dX5_carries_31 (lv_at hl 5 rfl) ?_
        refine lv_iadd C.1 C.2.1 dX5_carries_33 ?_
        refine lv_aload_n C.1 C.2.1 dX5_carries_34 rfl (lv_at hl 0 rfl) ?_
        refine lv_iload C.1 C.2.1 dX5_carries_35 (lv_at hl 5 rfl) ?_
        obtain ⟨g404, hE⟩ := it_g hE
        refine ml_15 (v := (a_ill (x6).toNatClampNeg)) C hP (gi_in g404) rfl dX5_carries_37 ?_
        obtain ⟨g405, hE⟩ := it_g hE
        refine ms_34 (a := a_kept) C hP hS (gi_in g405) rfl dX5_carries_38 (fun H locs hP hS => ?_)
        obtain rfl := Option.some.inj hE
        exact hJ39u403 H locs ls hP hS (lv_sub hl [0, 1, 2, 3, 4, 5] rfl)
      · have hE := it_f c402 hE
        refine lv_aload_n C.1 C.2.1 dX5_carries_14 rfl (lv_at hl 0 rfl) ?_
        refine lv_iload C.1 C.2.1 dX5_carries_15 (lv_at hl 5 rfl) ?_
        refine lv_aload_n C.1 C.2.1 dX5_carries_17 rfl (lv_at hl 2 rfl) ?_
        refine lv_iload C.1 C.2.1 dX5_carries_18 (lv_at hl 3 rfl) ?_
        refine lv_iload C.1 C.2.1 dX5_carries_20 (lv_at hl 5 rfl) ?_
        refine lv_iadd C.1 C.2.1 dX5_carries_22 ?_
        obtain ⟨g406, hE⟩ := it_g hE
        refine ml_34 (v := (a_kept ((x4 + x6)).toNatClampNeg)) C hP (gi_in g406) rfl dX5_carries_23 ?_
        obtain ⟨g407, hE⟩ := it_g hE
        refine ms_15 (a := a_ill) C hP hS (gi_in g407) rfl dX5_carries_24 (fun H locs hP hS => ?_)
        refine lv_goto (tgt := 39) C.1 C.2.1 dX5_carries_25 (by decide) ?_
        obtain rfl := Option.some.inj hE
        exact hJ39u403 H locs ls hP hS (lv_sub hl [0, 1, 2, 3, 4, 5] rfl)
set_option maxHeartbeats 4000000 in
theorem metM_carries_15_34 (l : Launch) (G : kG) (h0 : Nat) (ad : Nat → Nat) (F : Nat → Int32) (A : Nat → Nat → Int32) (L : Nat → Nat → Int64) (p2 : Int32) (p4 : Int32) (p5 : Int32) (res : Int32 × (Nat → Int32) × (Nat → Int32)) (hE : sM_carries_15_34 (A 15) (A 34) p2 p4 p5 = some res) : Met l yX5_carries (ws_ yX5_carries cX5_carries 7 (some .int)) ({ frames := 0, cells := 0, slots := 0, locals := 0 } : Room) (mPc G h0 ad F A L [.ref (ad 15), .int p2, .ref (ad 34), .int p4, .int p5]) (mQc G h0 ad F (va_up (va_up A 15 res.2.1) 34 res.2.2) L (some (.int res.1))) 0 0 (mA h0 ad) := by
  refine m_ofW (by decide) rfl (Nat.le_of_ble_eq_true rfl) ?_
  intro p e s m args below meth c ls C hml hP hS hl hr hlocks
  have hl : lv_has ls 7 [(0, .ref h0), (1, .ref (ad 15)), (2, .int p2), (3, .ref (ad 34)), (4, .int p4), (5, .int p5)] := hl
  obtain ⟨Q, hQ⟩ : ∃ Q, Q = MQ below (mQc G h0 ad F (va_up (va_up A 15 res.2.1) 34 res.2.2) L (some (.int res.1))) args s 0 0 (mA h0 ad) := ⟨_, rfl⟩
  rw [← hQ]
  have hret : ∀ (pc : Nat) (ls : Array Slot) (H : Heap) (locs : List Loc), decode cX5_carries pc = .ok (.ireturn, 1) → mPw G h0 ad F (va_up (va_up A 15 res.2.1) 34 res.2.2) L H → va_S (mA h0 ad) s.heap H locs → W p l e ({ frames := 0, cells := 0, slots := 0, locals := 0 } : Room) s m args below meth c H locs 0 0 Q (F0 m pc ls [.int res.1]) := by
    intro pc ls H locs hd hP hS
    rw [hQ]
    exact m_iret C hr hlocks hd hP hS
  clear hQ
  obtain ⟨H, hH⟩ : ∃ H, H = s.heap := ⟨_, rfl⟩
  obtain ⟨locs, hlo⟩ : ∃ locs : List Loc, locs = [] := ⟨_, rfl⟩
  have hP : mPw G h0 ad F A L H := by rw [hH]; exact hP
  have hS : va_S (mA h0 ad) s.heap H locs := by rw [hH, hlo]; exact hS
  suffices hZ : W p l e ({ frames := 0, cells := 0, slots := 0, locals := 0 } : Room) s m args below meth c H locs 0 0 Q (F0 m 0 ls []) by rw [hH, hlo] at hZ; exact hZ
  clear hH hlo
  unfold sM_carries_15_34 at hE
  refine lv_iconst (v := 0) C.1 C.2.1 dX5_carries_0 (by decide) ?_
  refine lv_istore (lv' := [(6, .int 0), (0, .ref h0), (1, .ref (ad 15)), (2, .int p2), (3, .ref (ad 34)), (4, .int p4), (5, .int p5)]) C.1 C.2.1 dX5_carries_1 hl (by decide) rfl (fun ls hl => ?_)
  obtain ⟨u1, hu1, hE⟩ := it_b hE
  refine wM_carries_15_34_h3 C hml F A L p2 p4 p5 u1 2000 0 (A 15) (A 34) H locs ls hu1 hP hS (lv_sub hl [2, 3, 4, 5, 6, 0] rfl) (fun H locs ls hP hS hl => ?_)
  refine lv_iload C.1 C.2.1 dX5_carries_45 (lv_at hl 1 rfl) ?_
  refine lv_iload_n C.1 C.2.1 dX5_carries_47 rfl (lv_at hl 0 rfl) ?_
  refine lv_iadd C.1 C.2.1 dX5_carries_48 ?_
  obtain rfl := Option.some.inj hE
  exact hret _ _ _ _ dX5_carries_49 hP hS
def sM_carries_16_34_h3 (x2 : Int32) (x4 : Int32) (x5 : Int32) : Nat → Int32 → (Nat → Int32) → (Nat → Int32) → Option ((Nat → Int32) × (Nat → Int32))
  | 0, _, _, _ => none
  | fuel + 1, x6, a_had, a_kept =>
    if x2 ≤ x6 then
      some (a_had, a_kept)
    else
      @Option.bind ((Nat → Int32) × (Nat → Int32)) _ (
        if x5 = 0 then
          if gi x6 8 then
          if gi (x4 + x6) 60 then
          some (a_had, (upd a_kept ((x4 + x6)).toNatClampNeg (a_had (x6).toNatClampNeg)))
          else none
          else none
        else
          if gi (x4 + x6) 60 then
          if gi x6 8 then
          some ((upd a_had (x6).toNatClampNeg (a_kept ((x4 + x6)).toNatClampNeg)), a_kept)
          else none
          else none) fun u403 =>
      sM_carries_16_34_h3 x2 x4 x5 fuel (x6 + 1) u403.1 u403.2
def sM_carries_16_34 (a_had : Nat → Int32) (a_kept : Nat → Int32) (p2 : Int32) (p4 : Int32) (p5 : Int32) : Option (Int32 × (Nat → Int32) × (Nat → Int32)) :=
  (sM_carries_16_34_h3 p2 p4 p5 2000 0 a_had a_kept).bind fun u1 =>
  some ((p4 + p2), u1.1, u1.2)
set_option maxHeartbeats 4000000 in
theorem wM_carries_16_34_h3 {p : Program} {l : Launch} {e : Env} {s : State} {m : MethodId} {args : Array Value} {below : List Frame} {meth : Method} {c : Code} {G : kG} {h0 : Nat} {ad : Nat → Nat} {Q : State → Prop} (C : mC p s m args c cX5_carries G h0 ad) (hml : c.maxLocals = 7) (F : Nat → Int32) (A : Nat → Nat → Int32) (L : Nat → Nat → Int64) (x2 : Int32) (x4 : Int32) (x5 : Int32) (res : (Nat → Int32) × (Nat → Int32)) :
    ∀ (fuel : Nat) (x6 : Int32) (a_had : Nat → Int32) (a_kept : Nat → Int32) (H : Heap) (locs : List Loc) (ls : Array Slot), sM_carries_16_34_h3 x2 x4 x5 fuel x6 a_had a_kept = some res → mPw G h0 ad F (va_up (va_up A 16 a_had) 34 a_kept) L H → va_S (mA h0 ad) s.heap H locs → lv_has ls 7 [(1, .ref (ad 16)), (2, .int x2), (3, .ref (ad 34)), (4, .int x4), (5, .int x5), (6, .int x6)] → (∀ (H : Heap) (locs : List Loc) (ls : Array Slot), mPw G h0 ad F (va_up (va_up A 16 res.1) 34 res.2) L H → va_S (mA h0 ad) s.heap H locs → lv_has ls 7 [(2, .int x2), (4, .int x4)] → W p l e ({ frames := 0, cells := 0, slots := 0, locals := 0 } : Room) s m args below meth c H locs 0 0 Q (F0 m 45 ls [])) → W p l e ({ frames := 0, cells := 0, slots := 0, locals := 0 } : Room) s m args below meth c H locs 0 0 Q (F0 m 3 ls []) := by
  intro fuel
  induction fuel with
  | zero =>
    intro x6 a_had a_kept H locs ls hE
    exact it_n hE
  | succ fuel ih =>
    intro x6 a_had a_kept H locs ls hE hP hS hl hX
    rw [sM_carries_16_34_h3] at hE
    refine lv_iload C.1 C.2.1 dX5_carries_3 (lv_at hl 5 rfl) ?_
    refine lv_iload_n C.1 C.2.1 dX5_carries_5 rfl (lv_at hl 1 rfl) ?_
    refine lv_icmp_ge (tgt := 45) C.1 C.2.1 dX5_carries_6 (by decide) (fun c401 => ?_) (fun c401 => ?_)
    · have hE := it_t c401 hE
      obtain rfl := Option.some.inj hE
      exact hX H locs ls hP hS (lv_sub hl [1, 3] rfl)
    · have hE := it_f c401 hE
      refine lv_iload C.1 C.2.1 dX5_carries_9 (lv_at hl 4 rfl) ?_
      obtain ⟨u403, hR, hE⟩ := it_b hE
      have hJ39u403 : ∀ (H : Heap) (locs : List Loc) (ls : Array Slot), mPw G h0 ad F (va_up (va_up A 16 u403.1) 34 u403.2) L H → va_S (mA h0 ad) s.heap H locs → lv_has ls 7 [(1, .ref (ad 16)), (2, .int x2), (3, .ref (ad 34)), (4, .int x4), (5, .int x5), (6, .int x6)] → W p l e ({ frames := 0, cells := 0, slots := 0, locals := 0 } : Room) s m args below meth c H locs 0 0 Q (F0 m 39 ls []) := by
        intro H locs ls hP hS hl
        refine lv_iinc (v := (x6 + 1)) (lv' := [(6, .int (x6 + 1)), (1, .ref (ad 16)), (2, .int x2), (3, .ref (ad 34)), (4, .int x4), (5, .int x5)]) C.1 C.2.1 dX5_carries_39 hl (k := 5) rfl rfl (by decide) rfl (fun ls hl => ?_)
        refine lv_goto (tgt := 3) C.1 C.2.1 dX5_carries_42 (by decide) ?_
        exact ih (x6 + 1) u403.1 u403.2 _ _ _ hE hP hS (lv_sub hl [1, 2, 3, 4, 5, 0] rfl) hX
      have hE := hR
      refine lv_if_eq (tgt := 28) C.1 C.2.1 dX5_carries_11 (by decide) (fun c402 => ?_) (fun c402 => ?_)
      · have hE := it_t c402 hE
        refine lv_aload_n C.1 C.2.1 dX5_carries_28 rfl (lv_at hl 2 rfl) ?_
        refine lv_iload C.1 C.2.1 dX5_carries_29 (lv_at hl 3 rfl) ?_
        refine lv_iload C.1 C.2.1 dX5_carries_31 (lv_at hl 5 rfl) ?_
        refine lv_iadd C.1 C.2.1 dX5_carries_33 ?_
        refine lv_aload_n C.1 C.2.1 dX5_carries_34 rfl (lv_at hl 0 rfl) ?_
        refine lv_iload C.1 C.2.1 dX5_carries_35 (lv_at hl 5 rfl) ?_
        obtain ⟨g404, hE⟩ := it_g hE
        refine ml_16 (v := (a_had (x6).toNatClampNeg)) C hP (gi_in g404) rfl dX5_carries_37 ?_
        obtain ⟨g405, hE⟩ := it_g hE
        refine ms_34 (a := a_kept) C hP hS (gi_in g405) rfl dX5_carries_38 (fun H locs hP hS => ?_)
        obtain rfl := Option.some.inj hE
        exact hJ39u403 H locs ls hP hS (lv_sub hl [0, 1, 2, 3, 4, 5] rfl)
      · have hE := it_f c402 hE
        refine lv_aload_n C.1 C.2.1 dX5_carries_14 rfl (lv_at hl 0 rfl) ?_
        refine lv_iload C.1 C.2.1 dX5_carries_15 (lv_at hl 5 rfl) ?_
        refine lv_aload_n C.1 C.2.1 dX5_carries_17 rfl (lv_at hl 2 rfl) ?_
        refine lv_iload C.1 C.2.1 dX5_carries_18 (lv_at hl 3 rfl) ?_
        refine lv_iload C.1 C.2.1 dX5_carries_20 (lv_at hl 5 rfl) ?_
        refine lv_iadd C.1 C.2.1 dX5_carries_22 ?_
        obtain ⟨g406, hE⟩ := it_g hE
        refine ml_34 (v := (a_kept ((x4 + x6)).toNatClampNeg)) C hP (gi_in g406) rfl dX5_carries_23 ?_
        obtain ⟨g407, hE⟩ := it_g hE
        refine ms_16 (a := a_had) C hP hS (gi_in g407) rfl dX5_carries_24 (fun H locs hP hS => ?_)
        refine lv_goto (tgt := 39) C.1 C.2.1 dX5_carries_25 (by decide) ?_
        obtain rfl := Option.some.inj hE
        exact hJ39u403 H locs ls hP hS (lv_sub hl [0, 1, 2, 3, 4, 5] rfl)
set_option maxHeartbeats 4000000 in
theorem metM_carries_16_34 (l : Launch) (G : kG) (h0 : Nat) (ad : Nat → Nat) (F : Nat → Int32) (A : Nat → Nat → Int32) (L : Nat → Nat → Int64) (p2 : Int32) (p4 : Int32) (p5 : Int32) (res : Int32 × (Nat → Int32) × (Nat → Int32)) (hE : sM_carries_16_34 (A 16) (A 34) p2 p4 p5 = some res) : Met l yX5_carries (ws_ yX5_carries cX5_carries 7 (some .int)) ({ frames := 0, cells := 0, slots := 0, locals := 0 } : Room) (mPc G h0 ad F A L [.ref (ad 16), .int p2, .ref (ad 34), .int p4, .int p5]) (mQc G h0 ad F (va_up (va_up A 16 res.2.1) 34 res.2.2) L (some (.int res.1))) 0 0 (mA h0 ad) := by
  refine m_ofW (by decide) rfl (Nat.le_of_ble_eq_true rfl) ?_
  intro p e s m args below meth c ls C hml hP hS hl hr hlocks
  have hl : lv_has ls 7 [(0, .ref h0), (1, .ref (ad 16)), (2, .int p2), (3, .ref (ad 34)), (4, .int p4), (5, .int p5)] := hl
  obtain ⟨Q, hQ⟩ : ∃ Q, Q = MQ below (mQc G h0 ad F (va_up (va_up A 16 res.2.1) 34 res.2.2) L (some (.int res.1))) args s 0 0 (mA h0 ad) := ⟨_, rfl⟩
  rw [← hQ]
  have hret : ∀ (pc : Nat) (ls : Array Slot) (H : Heap) (locs : List Loc), decode cX5_carries pc = .ok (.ireturn, 1) → mPw G h0 ad F (va_up (va_up A 16 res.2.1) 34 res.2.2) L H → va_S (mA h0 ad) s.heap H locs → W p l e ({ frames := 0, cells := 0, slots := 0, locals := 0 } : Room) s m args below meth c H locs 0 0 Q (F0 m pc ls [.int res.1]) := by
    intro pc ls H locs hd hP hS
    rw [hQ]
    exact m_iret C hr hlocks hd hP hS
  clear hQ
  obtain ⟨H, hH⟩ : ∃ H, H = s.heap := ⟨_, rfl⟩
  obtain ⟨locs, hlo⟩ : ∃ locs : List Loc, locs = [] := ⟨_, rfl⟩
  have hP : mPw G h0 ad F A L H := by rw [hH]; exact hP
  have hS : va_S (mA h0 ad) s.heap H locs := by rw [hH, hlo]; exact hS
  suffices hZ : W p l e ({ frames := 0, cells := 0, slots := 0, locals := 0 } : Room) s m args below meth c H locs 0 0 Q (F0 m 0 ls []) by rw [hH, hlo] at hZ; exact hZ
  clear hH hlo
  unfold sM_carries_16_34 at hE
  refine lv_iconst (v := 0) C.1 C.2.1 dX5_carries_0 (by decide) ?_
  refine lv_istore (lv' := [(6, .int 0), (0, .ref h0), (1, .ref (ad 16)), (2, .int p2), (3, .ref (ad 34)), (4, .int p4), (5, .int p5)]) C.1 C.2.1 dX5_carries_1 hl (by decide) rfl (fun ls hl => ?_)
  obtain ⟨u1, hu1, hE⟩ := it_b hE
  refine wM_carries_16_34_h3 C hml F A L p2 p4 p5 u1 2000 0 (A 16) (A 34) H locs ls hu1 hP hS (lv_sub hl [2, 3, 4, 5, 6, 0] rfl) (fun H locs ls hP hS hl => ?_)
  refine lv_iload C.1 C.2.1 dX5_carries_45 (lv_at hl 1 rfl) ?_
  refine lv_iload_n C.1 C.2.1 dX5_carries_47 rfl (lv_at hl 0 rfl) ?_
  refine lv_iadd C.1 C.2.1 dX5_carries_48 ?_
  obtain rfl := Option.some.inj hE
  exact hret _ _ _ _ dX5_carries_49 hP hS
def sM_carries_17_34_h3 (x2 : Int32) (x4 : Int32) (x5 : Int32) : Nat → Int32 → (Nat → Int32) → (Nat → Int32) → Option ((Nat → Int32) × (Nat → Int32))
  | 0, _, _, _ => none
  | fuel + 1, x6, a_deaths, a_kept =>
    if x2 ≤ x6 then
      some (a_deaths, a_kept)
    else
      @Option.bind ((Nat → Int32) × (Nat → Int32)) _ (
        if x5 = 0 then
          if gi x6 3 then
          if gi (x4 + x6) 60 then
          some (a_deaths, (upd a_kept ((x4 + x6)).toNatClampNeg (a_deaths (x6).toNatClampNeg)))
          else none
          else none
        else
          if gi (x4 + x6) 60 then
          if gi x6 3 then
          some ((upd a_deaths (x6).toNatClampNeg (a_kept ((x4 + x6)).toNatClampNeg)), a_kept)
          else none
          else none) fun u403 =>
      sM_carries_17_34_h3 x2 x4 x5 fuel (x6 + 1) u403.1 u403.2
def sM_carries_17_34 (a_deaths : Nat → Int32) (a_kept : Nat → Int32) (p2 : Int32) (p4 : Int32) (p5 : Int32) : Option (Int32 × (Nat → Int32) × (Nat → Int32)) :=
  (sM_carries_17_34_h3 p2 p4 p5 2000 0 a_deaths a_kept).bind fun u1 =>
  some ((p4 + p2), u1.1, u1.2)
set_option maxHeartbeats 4000000 in
theorem wM_carries_17_34_h3 {p : Program} {l : Launch} {e : Env} {s : State} {m : MethodId} {args : Array Value} {below : List Frame} {meth : Method} {c : Code} {G : kG} {h0 : Nat} {ad : Nat → Nat} {Q : State → Prop} (C : mC p s m args c cX5_carries G h0 ad) (hml : c.maxLocals = 7) (F : Nat → Int32) (A : Nat → Nat → Int32) (L : Nat → Nat → Int64) (x2 : Int32) (x4 : Int32) (x5 : Int32) (res : (Nat → Int32) × (Nat → Int32)) :
    ∀ (fuel : Nat) (x6 : Int32) (a_deaths : Nat → Int32) (a_kept : Nat → Int32) (H : Heap) (locs : List Loc) (ls : Array Slot), sM_carries_17_34_h3 x2 x4 x5 fuel x6 a_deaths a_kept = some res → mPw G h0 ad F (va_up (va_up A 17 a_deaths) 34 a_kept) L H → va_S (mA h0 ad) s.heap H locs → lv_has ls 7 [(1, .ref (ad 17)), (2, .int x2), (3, .ref (ad 34)), (4, .int x4), (5, .int x5), (6, .int x6)] → (∀ (H : Heap) (locs : List Loc) (ls : Array Slot), mPw G h0 ad F (va_up (va_up A 17 res.1) 34 res.2) L H → va_S (mA h0 ad) s.heap H locs → lv_has ls 7 [(2, .int x2), (4, .int x4)] → W p l e ({ frames := 0, cells := 0, slots := 0, locals := 0 } : Room) s m args below meth c H locs 0 0 Q (F0 m 45 ls [])) → W p l e ({ frames := 0, cells := 0, slots := 0, locals := 0 } : Room) s m args below meth c H locs 0 0 Q (F0 m 3 ls []) := by
  intro fuel
  induction fuel with
  | zero =>
    intro x6 a_deaths a_kept H locs ls hE
    exact it_n hE
  | succ fuel ih =>
    intro x6 a_deaths a_kept H locs ls hE hP hS hl hX
    rw [sM_carries_17_34_h3] at hE
    refine lv_iload C.1 C.2.1 dX5_carries_3 (lv_at hl 5 rfl) ?_
    refine lv_iload_n C.1 C.2.1 dX5_carries_5 rfl (lv_at hl 1 rfl) ?_
    refine lv_icmp_ge (tgt := 45) C.1 C.2.1 dX5_carries_6 (by decide) (fun c401 => ?_) (fun c401 => ?_)
    · have hE := it_t c401 hE
      obtain rfl := Option.some.inj hE
      exact hX H locs ls hP hS (lv_sub hl [1, 3] rfl)
    · have hE := it_f c401 hE
      refine lv_iload C.1 C.2.1 dX5_carries_9 (lv_at hl 4 rfl) ?_
      obtain ⟨u403, hR, hE⟩ := it_b hE
      have hJ39u403 : ∀ (H : Heap) (locs : List Loc) (ls : Array Slot), mPw G h0 ad F (va_up (va_up A 17 u403.1) 34 u403.2) L H → va_S (mA h0 ad) s.heap H locs → lv_has ls 7 [(1, .ref (ad 17)), (2, .int x2), (3, .ref (ad 34)), (4, .int x4), (5, .int x5), (6, .int x6)] → W p l e ({ frames := 0, cells := 0, slots := 0, locals := 0 } : Room) s m args below meth c H locs 0 0 Q (F0 m 39 ls []) := by
        intro H locs ls hP hS hl
        refine lv_iinc (v := (x6 + 1)) (lv' := [(6, .int (x6 + 1)), (1, .ref (ad 17)), (2, .int x2), (3, .ref (ad 34)), (4, .int x4), (5, .int x5)]) C.1 C.2.1 dX5_carries_39 hl (k := 5) rfl rfl (by decide) rfl (fun ls hl => ?_)
        refine lv_goto (tgt := 3) C.1 C.2.1 dX5_carries_42 (by decide) ?_
        exact ih (x6 + 1) u403.1 u403.2 _ _ _ hE hP hS (lv_sub hl [1, 2, 3, 4, 5, 0] rfl) hX
      have hE := hR
      refine lv_if_eq (tgt := 28) C.1 C.2.1 dX5_carries_11 (by decide) (fun c402 => ?_) (fun c402 => ?_)
      · have hE := it_t c402 hE
        refine lv_aload_n C.1 C.2.1 dX5_carries_28 rfl (lv_at hl 2 rfl) ?_
        refine lv_iload C.1 C.2.1 dX5_carries_29 (lv_at hl 3 rfl) ?_
        refine lv_iload C.1 C.2.1 dX5_carries_31 (lv_at hl 5 rfl) ?_
        refine lv_iadd C.1 C.2.1 dX5_carries_33 ?_
        refine lv_aload_n C.1 C.2.1 dX5_carries_34 rfl (lv_at hl 0 rfl) ?_
        refine lv_iload C.1 C.2.1 dX5_carries_35 (lv_at hl 5 rfl) ?_
        obtain ⟨g404, hE⟩ := it_g hE
        refine ml_17 (v := (a_deaths (x6).toNatClampNeg)) C hP (gi_in g404) rfl dX5_carries_37 ?_
        obtain ⟨g405, hE⟩ := it_g hE
        refine ms_34 (a := a_kept) C hP hS (gi_in g405) rfl dX5_carries_38 (fun H locs hP hS => ?_)
        obtain rfl := Option.some.inj hE
        exact hJ39u403 H locs ls hP hS (lv_sub hl [0, 1, 2, 3, 4, 5] rfl)
      · have hE := it_f c402 hE
        refine lv_aload_n C.1 C.2.1 dX5_carries_14 rfl (lv_at hl 0 rfl) ?_
        refine lv_iload C.1 C.2.1 dX5_carries_15 (lv_at hl 5 rfl) ?_
        refine lv_aload_n C.1 C.2.1 dX5_carries_17 rfl (lv_at hl 2 rfl) ?_
        refine lv_iload C.1 C.2.1 dX5_carries_18 (lv_at hl 3 rfl) ?_
        refine lv_iload C.1 C.2.1 dX5_carries_20 (lv_at hl 5 rfl) ?_
        refine lv_iadd C.1 C.2.1 dX5_carries_22 ?_
        obtain ⟨g406, hE⟩ := it_g hE
        refine ml_34 (v := (a_kept ((x4 + x6)).toNatClampNeg)) C hP (gi_in g406) rfl dX5_carries_23 ?_
        obtain ⟨g407, hE⟩ := it_g hE
        refine ms_17 (a := a_deaths) C hP hS (gi_in g407) rfl dX5_carries_24 (fun H locs hP hS => ?_)
        refine lv_goto (tgt := 39) C.1 C.2.1 dX5_carries_25 (by decide) ?_
        obtain rfl := Option.some.inj hE
        exact hJ39u403 H locs ls hP hS (lv_sub hl [0, 1, 2, 3, 4, 5] rfl)
set_option maxHeartbeats 4000000 in
theorem metM_carries_17_34 (l : Launch) (G : kG) (h0 : Nat) (ad : Nat → Nat) (F : Nat → Int32) (A : Nat → Nat → Int32) (L : Nat → Nat → Int64) (p2 : Int32) (p4 : Int32) (p5 : Int32) (res : Int32 × (Nat → Int32) × (Nat → Int32)) (hE : sM_carries_17_34 (A 17) (A 34) p2 p4 p5 = some res) : Met l yX5_carries (ws_ yX5_carries cX5_carries 7 (some .int)) ({ frames := 0, cells := 0, slots := 0, locals := 0 } : Room) (mPc G h0 ad F A L [.ref (ad 17), .int p2, .ref (ad 34), .int p4, .int p5]) (mQc G h0 ad F (va_up (va_up A 17 res.2.1) 34 res.2.2) L (some (.int res.1))) 0 0 (mA h0 ad) := by
  refine m_ofW (by decide) rfl (Nat.le_of_ble_eq_true rfl) ?_
  intro p e s m args below meth c ls C hml hP hS hl hr hlocks
  have hl : lv_has ls 7 [(0, .ref h0), (1, .ref (ad 17)), (2, .int p2), (3, .ref (ad 34)), (4, .int p4), (5, .int p5)] := hl
  obtain ⟨Q, hQ⟩ : ∃ Q, Q = MQ below (mQc G h0 ad F (va_up (va_up A 17 res.2.1) 34 res.2.2) L (some (.int res.1))) args s 0 0 (mA h0 ad) := ⟨_, rfl⟩
  rw [← hQ]
  have hret : ∀ (pc : Nat) (ls : Array Slot) (H : Heap) (locs : List Loc), decode cX5_carries pc = .ok (.ireturn, 1) → mPw G h0 ad F (va_up (va_up A 17 res.2.1) 34 res.2.2) L H → va_S (mA h0 ad) s.heap H locs → W p l e ({ frames := 0, cells := 0, slots := 0, locals := 0 } : Room) s m args below meth c H locs 0 0 Q (F0 m pc ls [.int res.1]) := by
    intro pc ls H locs hd hP hS
    rw [hQ]
    exact m_iret C hr hlocks hd hP hS
  clear hQ
  obtain ⟨H, hH⟩ : ∃ H, H = s.heap := ⟨_, rfl⟩
  obtain ⟨locs, hlo⟩ : ∃ locs : List Loc, locs = [] := ⟨_, rfl⟩
  have hP : mPw G h0 ad F A L H := by rw [hH]; exact hP
  have hS : va_S (mA h0 ad) s.heap H locs := by rw [hH, hlo]; exact hS
  suffices hZ : W p l e ({ frames := 0, cells := 0, slots := 0, locals := 0 } : Room) s m args below meth c H locs 0 0 Q (F0 m 0 ls []) by rw [hH, hlo] at hZ; exact hZ
  clear hH hlo
  unfold sM_carries_17_34 at hE
  refine lv_iconst (v := 0) C.1 C.2.1 dX5_carries_0 (by decide) ?_
  refine lv_istore (lv' := [(6, .int 0), (0, .ref h0), (1, .ref (ad 17)), (2, .int p2), (3, .ref (ad 34)), (4, .int p4), (5, .int p5)]) C.1 C.2.1 dX5_carries_1 hl (by decide) rfl (fun ls hl => ?_)
  obtain ⟨u1, hu1, hE⟩ := it_b hE
  refine wM_carries_17_34_h3 C hml F A L p2 p4 p5 u1 2000 0 (A 17) (A 34) H locs ls hu1 hP hS (lv_sub hl [2, 3, 4, 5, 6, 0] rfl) (fun H locs ls hP hS hl => ?_)
  refine lv_iload C.1 C.2.1 dX5_carries_45 (lv_at hl 1 rfl) ?_
  refine lv_iload_n C.1 C.2.1 dX5_carries_47 rfl (lv_at hl 0 rfl) ?_
  refine lv_iadd C.1 C.2.1 dX5_carries_48 ?_
  obtain rfl := Option.some.inj hE
  exact hret _ _ _ _ dX5_carries_49 hP hS
def sM_all_34_h86 (x2 : Int32) (x3 : Int32) : Nat → Int32 → Int32 → Int32 → Int32 → Int32 → Int32 → Int32 → (Nat → Int32) → Option (Int32 × Int32 × Int32 × Int32 × Int32 × Int32 × (Nat → Int32))
  | 0, _, _, _, _, _, _, _, _ => none
  | fuel + 1, x4, f_weight, f_fright, f_age, f_feed, f_life, f_low, a_kept =>
    if 6 ≤ x4 then
      some (f_weight, f_fright, f_age, f_feed, f_life, f_low, a_kept)
    else
      @Option.bind (Int32 × Int32 × Int32 × Int32 × Int32 × Int32 × (Nat → Int32)) _ (
        if x2 = 0 then
          (sM_told f_weight f_fright f_age f_feed f_life f_low x4).bind fun r8704 =>
          if gi (x3 + x4) 60 then
          some (f_weight, f_fright, f_age, f_feed, f_life, f_low, (upd a_kept ((x3 + x4)).toNatClampNeg r8704))
          else none
        else
          if gi (x3 + x4) 60 then
          (sM_tells f_weight f_fright f_age f_feed f_life f_low x4 (a_kept ((x3 + x4)).toNatClampNeg)).bind fun r8707 =>
          some (r8707.1, r8707.2.1, r8707.2.2.1, r8707.2.2.2.1, r8707.2.2.2.2.1, r8707.2.2.2.2.2, a_kept)
          else none) fun u8703 =>
      sM_all_34_h86 x2 x3 fuel (x4 + 1) u8703.1 u8703.2.1 u8703.2.2.1 u8703.2.2.2.1 u8703.2.2.2.2.1 u8703.2.2.2.2.2.1 u8703.2.2.2.2.2.2
def sM_all_34 (f_many : Int32) (f_weight : Int32) (f_fright : Int32) (f_age : Int32) (f_pets : Int32) (f_feed : Int32) (f_life : Int32) (f_low : Int32) (f_last : Int32) (f_seed : Int32) (a_kind : Nat → Int32) (a_part : Nat → Int32) (a_marks : Nat → Int32) (a_ill : Nat → Int32) (a_had : Nat → Int32) (a_deaths : Nat → Int32) (a_kept : Nat → Int32) (p2 : Int32) : Option (Int32 × Int32 × Int32 × Int32 × Int32 × Int32 × Int32 × Int32 × Int32 × Int32 × (Nat → Int32) × (Nat → Int32) × (Nat → Int32) × (Nat → Int32) × (Nat → Int32) × (Nat → Int32) × (Nat → Int32)) :=
  (sM_carries_12_34 a_kind a_kept 8 0 p2).bind fun r1 =>
  (sM_carries_13_34 a_part r1.2.2 8 r1.1 p2).bind fun r2 =>
  (sM_carries_14_34 a_marks r2.2.2 8 r2.1 p2).bind fun r3 =>
  (sM_carries_15_34 a_ill r3.2.2 8 r3.1 p2).bind fun r4 =>
  (sM_carries_16_34 a_had r4.2.2 8 r4.1 p2).bind fun r5 =>
  (sM_carries_17_34 a_deaths r5.2.2 3 r5.1 p2).bind fun r6 =>
  (sM_all_34_h86 p2 r6.1 2000 0 f_weight f_fright f_age f_feed f_life f_low r6.2.2).bind fun u7 =>
  if p2 = 0 then
    if gi (r6.1 + 6) 60 then
    if gi ((r6.1 + 6) + 1) 60 then
    if gi ((r6.1 + 6) + 2) 60 then
    if gi ((r6.1 + 6) + 3) 60 then
    some (f_many, u7.1, u7.2.1, u7.2.2.1, f_pets, u7.2.2.2.1, u7.2.2.2.2.1, u7.2.2.2.2.2.1, f_last, f_seed, r1.2.1, r2.2.1, r3.2.1, r4.2.1, r5.2.1, r6.2.1, (upd (upd (upd (upd u7.2.2.2.2.2.2 ((r6.1 + 6)).toNatClampNeg f_many) (((r6.1 + 6) + 1)).toNatClampNeg f_pets) (((r6.1 + 6) + 2)).toNatClampNeg f_last) (((r6.1 + 6) + 3)).toNatClampNeg f_seed))
    else none
    else none
    else none
    else none
  else
    if gi (r6.1 + 6) 60 then
    if gi ((r6.1 + 6) + 1) 60 then
    if gi ((r6.1 + 6) + 2) 60 then
    if gi ((r6.1 + 6) + 3) 60 then
    some ((u7.2.2.2.2.2.2 ((r6.1 + 6)).toNatClampNeg), u7.1, u7.2.1, u7.2.2.1, (u7.2.2.2.2.2.2 (((r6.1 + 6) + 1)).toNatClampNeg), u7.2.2.2.1, u7.2.2.2.2.1, u7.2.2.2.2.2.1, (u7.2.2.2.2.2.2 (((r6.1 + 6) + 2)).toNatClampNeg), (u7.2.2.2.2.2.2 (((r6.1 + 6) + 3)).toNatClampNeg), r1.2.1, r2.2.1, r3.2.1, r4.2.1, r5.2.1, r6.2.1, u7.2.2.2.2.2.2)
    else none
    else none
    else none
    else none
set_option maxHeartbeats 4000000 in
theorem wM_all_34_h86 {p : Program} {l : Launch} {e : Env} {s : State} {m : MethodId} {args : Array Value} {below : List Frame} {meth : Method} {c : Code} {G : kG} {h0 : Nat} {ad : Nat → Nat} {Q : State → Prop} (C : mC p s m args c cX5_all G h0 ad) (hml : c.maxLocals = 5) (F : Nat → Int32) (A : Nat → Nat → Int32) (L : Nat → Nat → Int64) (x2 : Int32) (x3 : Int32) (f_many : Int32) (f_pets : Int32) (f_last : Int32) (f_seed : Int32) (a_kind : Nat → Int32) (a_part : Nat → Int32) (a_marks : Nat → Int32) (a_ill : Nat → Int32) (a_had : Nat → Int32) (a_deaths : Nat → Int32) (res : Int32 × Int32 × Int32 × Int32 × Int32 × Int32 × (Nat → Int32)) :
    ∀ (fuel : Nat) (x4 : Int32) (f_weight : Int32) (f_fright : Int32) (f_age : Int32) (f_feed : Int32) (f_life : Int32) (f_low : Int32) (a_kept : Nat → Int32) (H : Heap) (locs : List Loc) (ls : Array Slot), sM_all_34_h86 x2 x3 fuel x4 f_weight f_fright f_age f_feed f_life f_low a_kept = some res → mPw G h0 ad (upd (upd (upd (upd (upd (upd (upd (upd (upd (upd F 0 f_many) 1 f_weight) 2 f_fright) 3 f_age) 4 f_pets) 5 f_feed) 6 f_life) 7 f_low) 8 f_last) 9 f_seed) (va_up (va_up (va_up (va_up (va_up (va_up (va_up A 12 a_kind) 13 a_part) 14 a_marks) 15 a_ill) 16 a_had) 17 a_deaths) 34 a_kept) L H → va_S (mA h0 ad) s.heap H locs → lv_has ls 5 [(0, .ref h0), (1, .ref (ad 34)), (2, .int x2), (3, .int x3), (4, .int x4)] → (∀ (H : Heap) (locs : List Loc) (ls : Array Slot), mPw G h0 ad (upd (upd (upd (upd (upd (upd (upd (upd (upd (upd F 0 f_many) 1 res.1) 2 res.2.1) 3 res.2.2.1) 4 f_pets) 5 res.2.2.2.1) 6 res.2.2.2.2.1) 7 res.2.2.2.2.2.1) 8 f_last) 9 f_seed) (va_up (va_up (va_up (va_up (va_up (va_up (va_up A 12 a_kind) 13 a_part) 14 a_marks) 15 a_ill) 16 a_had) 17 a_deaths) 34 res.2.2.2.2.2.2) L H → va_S (mA h0 ad) s.heap H locs → lv_has ls 5 [(0, .ref h0), (1, .ref (ad 34)), (2, .int x2), (3, .int x3)] → W p l e ({ frames := 1, cells := 0, slots := 0, locals := 26 } : Room) s m args below meth c H locs 0 0 Q (F0 m 130 ls [])) → W p l e ({ frames := 1, cells := 0, slots := 0, locals := 26 } : Room) s m args below meth c H locs 0 0 Q (F0 m 86 ls []) := by
  intro fuel
  induction fuel with
  | zero =>
    intro x4 f_weight f_fright f_age f_feed f_life f_low a_kept H locs ls hE
    exact it_n hE
  | succ fuel ih =>
    intro x4 f_weight f_fright f_age f_feed f_life f_low a_kept H locs ls hE hP hS hl hX
    rw [sM_all_34_h86] at hE
    refine lv_iload C.1 C.2.1 dX5_all_86 (lv_at hl 4 rfl) ?_
    refine lv_bipush (v := 6) C.1 C.2.1 dX5_all_88 (by decide) ?_
    refine lv_icmp_ge (tgt := 130) C.1 C.2.1 dX5_all_90 (by decide) (fun c8701 => ?_) (fun c8701 => ?_)
    · have hE := it_t c8701 hE
      obtain rfl := Option.some.inj hE
      exact hX H locs ls hP hS (lv_sub hl [0, 1, 2, 3] rfl)
    · have hE := it_f c8701 hE
      refine lv_iload_n C.1 C.2.1 dX5_all_93 rfl (lv_at hl 2 rfl) ?_
      obtain ⟨u8703, hR, hE⟩ := it_b hE
      have hJ124u8703 : ∀ (H : Heap) (locs : List Loc) (ls : Array Slot), mPw G h0 ad (upd (upd (upd (upd (upd (upd (upd (upd (upd (upd F 0 f_many) 1 u8703.1) 2 u8703.2.1) 3 u8703.2.2.1) 4 f_pets) 5 u8703.2.2.2.1) 6 u8703.2.2.2.2.1) 7 u8703.2.2.2.2.2.1) 8 f_last) 9 f_seed) (va_up (va_up (va_up (va_up (va_up (va_up (va_up A 12 a_kind) 13 a_part) 14 a_marks) 15 a_ill) 16 a_had) 17 a_deaths) 34 u8703.2.2.2.2.2.2) L H → va_S (mA h0 ad) s.heap H locs → lv_has ls 5 [(0, .ref h0), (1, .ref (ad 34)), (2, .int x2), (3, .int x3), (4, .int x4)] → W p l e ({ frames := 1, cells := 0, slots := 0, locals := 26 } : Room) s m args below meth c H locs 0 0 Q (F0 m 124 ls []) := by
        intro H locs ls hP hS hl
        refine lv_iinc (v := (x4 + 1)) (lv' := [(4, .int (x4 + 1)), (0, .ref h0), (1, .ref (ad 34)), (2, .int x2), (3, .int x3)]) C.1 C.2.1 dX5_all_124 hl (k := 4) rfl rfl (by decide) rfl (fun ls hl => ?_)
        refine lv_goto (tgt := 86) C.1 C.2.1 dX5_all_127 (by decide) ?_
        exact ih (x4 + 1) u8703.1 u8703.2.1 u8703.2.2.1 u8703.2.2.2.1 u8703.2.2.2.2.1 u8703.2.2.2.2.2.1 u8703.2.2.2.2.2.2 _ _ _ hE hP hS (lv_sub hl [1, 2, 3, 4, 0] rfl) hX
      have hE := hR
      refine lv_if_eq (tgt := 112) C.1 C.2.1 dX5_all_94 (by decide) (fun c8702 => ?_) (fun c8702 => ?_)
      · have hE := it_t c8702 hE
        refine lv_aload_n C.1 C.2.1 dX5_all_112 rfl (lv_at hl 1 rfl) ?_
        refine lv_iload_n C.1 C.2.1 dX5_all_113 rfl (lv_at hl 3 rfl) ?_
        refine lv_iload C.1 C.2.1 dX5_all_114 (lv_at hl 4 rfl) ?_
        refine lv_iadd C.1 C.2.1 dX5_all_116 ?_
        refine lv_aload_n C.1 C.2.1 dX5_all_117 rfl (lv_at hl 0 rfl) ?_
        refine lv_iload C.1 C.2.1 dX5_all_118 (lv_at hl 4 rfl) ?_
        obtain ⟨r8704, hr8704, hE⟩ := it_b hE
        refine m_call (n := 1) (As := [.int x4]) (rest := [.int (x3 + x4), .ref (ad 34)]) C hP hS hml (metM_told l G h0 ad _ _ _ x4 r8704 hr8704) q1543 q1545 qs36 q1546 rfl rfl (by decide +kernel) ⟨Nat.le_of_ble_eq_true rfl, Nat.le_of_ble_eq_true rfl⟩ ⟨Nat.le_refl _, Nat.le_refl _⟩ rfl hl.1 rfl (Nat.le_of_ble_eq_true rfl) dX5_all_120 (fun H locs hP hS => ?_)
        obtain ⟨g8705, hE⟩ := it_g hE
        refine ms_34 (a := a_kept) C hP hS (gi_in g8705) rfl dX5_all_123 (fun H locs hP hS => ?_)
        obtain rfl := Option.some.inj hE
        exact hJ124u8703 H locs ls hP hS (lv_sub hl [0, 1, 2, 3, 4] rfl)
      · have hE := it_f c8702 hE
        refine lv_aload_n C.1 C.2.1 dX5_all_97 rfl (lv_at hl 0 rfl) ?_
        refine lv_iload C.1 C.2.1 dX5_all_98 (lv_at hl 4 rfl) ?_
        refine lv_aload_n C.1 C.2.1 dX5_all_100 rfl (lv_at hl 1 rfl) ?_
        refine lv_iload_n C.1 C.2.1 dX5_all_101 rfl (lv_at hl 3 rfl) ?_
        refine lv_iload C.1 C.2.1 dX5_all_102 (lv_at hl 4 rfl) ?_
        refine lv_iadd C.1 C.2.1 dX5_all_104 ?_
        obtain ⟨g8706, hE⟩ := it_g hE
        refine ml_34 (v := (a_kept ((x3 + x4)).toNatClampNeg)) C hP (gi_in g8706) rfl dX5_all_105 ?_
        obtain ⟨r8707, hr8707, hE⟩ := it_b hE
        refine m_call (n := 2) (As := [.int x4, .int (a_kept ((x3 + x4)).toNatClampNeg)]) (rest := []) C hP hS hml (metM_tells l G h0 ad _ _ _ x4 (a_kept ((x3 + x4)).toNatClampNeg) r8707 hr8707) q1547 q1549 qs37 q1550 rfl rfl (by decide +kernel) ⟨Nat.le_of_ble_eq_true rfl, Nat.le_of_ble_eq_true rfl⟩ ⟨Nat.le_refl _, Nat.le_refl _⟩ rfl hl.1 rfl (Nat.le_of_ble_eq_true rfl) dX5_all_106 (fun H locs hP hS => ?_)
        refine lv_goto (tgt := 124) C.1 C.2.1 dX5_all_109 (by decide) ?_
        obtain rfl := Option.some.inj hE
        exact hJ124u8703 H locs ls hP hS (lv_sub hl [0, 1, 2, 3, 4] rfl)
set_option maxHeartbeats 4000000 in
theorem metM_all_34 (l : Launch) (G : kG) (h0 : Nat) (ad : Nat → Nat) (F : Nat → Int32) (A : Nat → Nat → Int32) (L : Nat → Nat → Int64) (p2 : Int32) (res : Int32 × Int32 × Int32 × Int32 × Int32 × Int32 × Int32 × Int32 × Int32 × Int32 × (Nat → Int32) × (Nat → Int32) × (Nat → Int32) × (Nat → Int32) × (Nat → Int32) × (Nat → Int32) × (Nat → Int32)) (hE : sM_all_34 (F 0) (F 1) (F 2) (F 3) (F 4) (F 5) (F 6) (F 7) (F 8) (F 9) (A 12) (A 13) (A 14) (A 15) (A 16) (A 17) (A 34) p2 = some res) : Met l yX5_all (ws_ yX5_all cX5_all 5 none) ({ frames := 1, cells := 0, slots := 0, locals := 26 } : Room) (mPc G h0 ad F A L [.ref (ad 34), .int p2]) (mQc G h0 ad (upd (upd (upd (upd (upd (upd (upd (upd (upd (upd F 0 res.1) 1 res.2.1) 2 res.2.2.1) 3 res.2.2.2.1) 4 res.2.2.2.2.1) 5 res.2.2.2.2.2.1) 6 res.2.2.2.2.2.2.1) 7 res.2.2.2.2.2.2.2.1) 8 res.2.2.2.2.2.2.2.2.1) 9 res.2.2.2.2.2.2.2.2.2.1) (va_up (va_up (va_up (va_up (va_up (va_up (va_up A 12 res.2.2.2.2.2.2.2.2.2.2.1) 13 res.2.2.2.2.2.2.2.2.2.2.2.1) 14 res.2.2.2.2.2.2.2.2.2.2.2.2.1) 15 res.2.2.2.2.2.2.2.2.2.2.2.2.2.1) 16 res.2.2.2.2.2.2.2.2.2.2.2.2.2.2.1) 17 res.2.2.2.2.2.2.2.2.2.2.2.2.2.2.2.1) 34 res.2.2.2.2.2.2.2.2.2.2.2.2.2.2.2.2) L none) 0 0 (mA h0 ad) := by
  refine m_ofW (by decide) rfl (Nat.le_of_ble_eq_true rfl) ?_
  intro p e s m args below meth c ls C hml hP hS hl hr hlocks
  have hl : lv_has ls 5 [(0, .ref h0), (1, .ref (ad 34)), (2, .int p2)] := hl
  obtain ⟨Q, hQ⟩ : ∃ Q, Q = MQ below (mQc G h0 ad (upd (upd (upd (upd (upd (upd (upd (upd (upd (upd F 0 res.1) 1 res.2.1) 2 res.2.2.1) 3 res.2.2.2.1) 4 res.2.2.2.2.1) 5 res.2.2.2.2.2.1) 6 res.2.2.2.2.2.2.1) 7 res.2.2.2.2.2.2.2.1) 8 res.2.2.2.2.2.2.2.2.1) 9 res.2.2.2.2.2.2.2.2.2.1) (va_up (va_up (va_up (va_up (va_up (va_up (va_up A 12 res.2.2.2.2.2.2.2.2.2.2.1) 13 res.2.2.2.2.2.2.2.2.2.2.2.1) 14 res.2.2.2.2.2.2.2.2.2.2.2.2.1) 15 res.2.2.2.2.2.2.2.2.2.2.2.2.2.1) 16 res.2.2.2.2.2.2.2.2.2.2.2.2.2.2.1) 17 res.2.2.2.2.2.2.2.2.2.2.2.2.2.2.2.1) 34 res.2.2.2.2.2.2.2.2.2.2.2.2.2.2.2.2) L none) args s 0 0 (mA h0 ad) := ⟨_, rfl⟩
  rw [← hQ]
  have hret : ∀ (pc : Nat) (ls : Array Slot) (H : Heap) (locs : List Loc), decode cX5_all pc = .ok (.return_, 1) → mPw G h0 ad (upd (upd (upd (upd (upd (upd (upd (upd (upd (upd F 0 res.1) 1 res.2.1) 2 res.2.2.1) 3 res.2.2.2.1) 4 res.2.2.2.2.1) 5 res.2.2.2.2.2.1) 6 res.2.2.2.2.2.2.1) 7 res.2.2.2.2.2.2.2.1) 8 res.2.2.2.2.2.2.2.2.1) 9 res.2.2.2.2.2.2.2.2.2.1) (va_up (va_up (va_up (va_up (va_up (va_up (va_up A 12 res.2.2.2.2.2.2.2.2.2.2.1) 13 res.2.2.2.2.2.2.2.2.2.2.2.1) 14 res.2.2.2.2.2.2.2.2.2.2.2.2.1) 15 res.2.2.2.2.2.2.2.2.2.2.2.2.2.1) 16 res.2.2.2.2.2.2.2.2.2.2.2.2.2.2.1) 17 res.2.2.2.2.2.2.2.2.2.2.2.2.2.2.2.1) 34 res.2.2.2.2.2.2.2.2.2.2.2.2.2.2.2.2) L H → va_S (mA h0 ad) s.heap H locs → W p l e ({ frames := 1, cells := 0, slots := 0, locals := 26 } : Room) s m args below meth c H locs 0 0 Q (F0 m pc ls []) := by
    intro pc ls H locs hd hP hS
    rw [hQ]
    exact m_vret C hr hlocks hd hP hS
  clear hQ
  obtain ⟨H, hH⟩ : ∃ H, H = s.heap := ⟨_, rfl⟩
  obtain ⟨locs, hlo⟩ : ∃ locs : List Loc, locs = [] := ⟨_, rfl⟩
  have hP : mPw G h0 ad F A L H := by rw [hH]; exact hP
  have hS : va_S (mA h0 ad) s.heap H locs := by rw [hH, hlo]; exact hS
  suffices hZ : W p l e ({ frames := 1, cells := 0, slots := 0, locals := 26 } : Room) s m args below meth c H locs 0 0 Q (F0 m 0 ls []) by rw [hH, hlo] at hZ; exact hZ
  clear hH hlo
  unfold sM_all_34 at hE
  refine lv_aload_n C.1 C.2.1 dX5_all_0 rfl (lv_at hl 0 rfl) ?_
  refine lv_aload_n C.1 C.2.1 dX5_all_1 rfl (lv_at hl 0 rfl) ?_
  refine ma_12 C hP dX5_all_2 ?_
  refine lv_bipush (v := 8) C.1 C.2.1 dX5_all_5 (by decide) ?_
  refine lv_aload_n C.1 C.2.1 dX5_all_7 rfl (lv_at hl 1 rfl) ?_
  refine lv_iconst (v := 0) C.1 C.2.1 dX5_all_8 (by decide) ?_
  refine lv_iload_n C.1 C.2.1 dX5_all_9 rfl (lv_at hl 2 rfl) ?_
  obtain ⟨r1, hr1, hE⟩ := it_b hE
  refine m_call (n := 5) (As := [.ref (ad 12), .int 8, .ref (ad 34), .int 0, .int p2]) (rest := []) C hP hS hml (metM_carries_12_34 l G h0 ad _ _ _ 8 0 p2 r1 hr1) q1563 q1565 qs40 q1566 rfl rfl (by decide +kernel) ⟨Nat.le_of_ble_eq_true rfl, Nat.le_of_ble_eq_true rfl⟩ ⟨Nat.le_refl _, Nat.le_refl _⟩ rfl hl.1 rfl (Nat.le_of_ble_eq_true rfl) dX5_all_10 (fun H locs hP hS => ?_)
  refine lv_istore_n (lv' := [(3, .int r1.1), (0, .ref h0), (1, .ref (ad 34)), (2, .int p2)]) C.1 C.2.1 dX5_all_13 rfl hl (by decide) rfl (fun ls hl => ?_)
  refine lv_aload_n C.1 C.2.1 dX5_all_14 rfl (lv_at hl 1 rfl) ?_
  refine lv_aload_n C.1 C.2.1 dX5_all_15 rfl (lv_at hl 1 rfl) ?_
  refine ma_13 C hP dX5_all_16 ?_
  refine lv_bipush (v := 8) C.1 C.2.1 dX5_all_19 (by decide) ?_
  refine lv_aload_n C.1 C.2.1 dX5_all_21 rfl (lv_at hl 2 rfl) ?_
  refine lv_iload_n C.1 C.2.1 dX5_all_22 rfl (lv_at hl 0 rfl) ?_
  refine lv_iload_n C.1 C.2.1 dX5_all_23 rfl (lv_at hl 3 rfl) ?_
  obtain ⟨r2, hr2, hE⟩ := it_b hE
  refine m_call (n := 5) (As := [.ref (ad 13), .int 8, .ref (ad 34), .int r1.1, .int p2]) (rest := []) C hP hS hml (metM_carries_13_34 l G h0 ad _ _ _ 8 r1.1 p2 r2 hr2) q1563 q1565 qs40 q1566 rfl rfl (by decide +kernel) ⟨Nat.le_of_ble_eq_true rfl, Nat.le_of_ble_eq_true rfl⟩ ⟨Nat.le_refl _, Nat.le_refl _⟩ rfl hl.1 rfl (Nat.le_of_ble_eq_true rfl) dX5_all_24 (fun H locs hP hS => ?_)
  refine lv_istore_n (lv' := [(3, .int r2.1), (0, .ref h0), (1, .ref (ad 34)), (2, .int p2)]) C.1 C.2.1 dX5_all_27 rfl hl (by decide) rfl (fun ls hl => ?_)
  refine lv_aload_n C.1 C.2.1 dX5_all_28 rfl (lv_at hl 1 rfl) ?_
  refine lv_aload_n C.1 C.2.1 dX5_all_29 rfl (lv_at hl 1 rfl) ?_
  refine ma_14 C hP dX5_all_30 ?_
  refine lv_bipush (v := 8) C.1 C.2.1 dX5_all_33 (by decide) ?_
  refine lv_aload_n C.1 C.2.1 dX5_all_35 rfl (lv_at hl 2 rfl) ?_
  refine lv_iload_n C.1 C.2.1 dX5_all_36 rfl (lv_at hl 0 rfl) ?_
  refine lv_iload_n C.1 C.2.1 dX5_all_37 rfl (lv_at hl 3 rfl) ?_
  obtain ⟨r3, hr3, hE⟩ := it_b hE
  refine m_call (n := 5) (As := [.ref (ad 14), .int 8, .ref (ad 34), .int r2.1, .int p2]) (rest := []) C hP hS hml (metM_carries_14_34 l G h0 ad _ _ _ 8 r2.1 p2 r3 hr3) q1563 q1565 qs40 q1566 rfl rfl (by decide +kernel) ⟨Nat.le_of_ble_eq_true rfl, Nat.le_of_ble_eq_true rfl⟩ ⟨Nat.le_refl _, Nat.le_refl _⟩ rfl hl.1 rfl (Nat.le_of_ble_eq_true rfl) dX5_all_38 (fun H locs hP hS => ?_)
  refine lv_istore_n (lv' := [(3, .int r3.1), (0, .ref h0), (1, .ref (ad 34)), (2, .int p2)]) C.1 C.2.1 dX5_all_41 rfl hl (by decide) rfl (fun ls hl => ?_)
  refine lv_aload_n C.1 C.2.1 dX5_all_42 rfl (lv_at hl 1 rfl) ?_
  refine lv_aload_n C.1 C.2.1 dX5_all_43 rfl (lv_at hl 1 rfl) ?_
  refine ma_15 C hP dX5_all_44 ?_
  refine lv_bipush (v := 8) C.1 C.2.1 dX5_all_47 (by decide) ?_
  refine lv_aload_n C.1 C.2.1 dX5_all_49 rfl (lv_at hl 2 rfl) ?_
  refine lv_iload_n C.1 C.2.1 dX5_all_50 rfl (lv_at hl 0 rfl) ?_
  refine lv_iload_n C.1 C.2.1 dX5_all_51 rfl (lv_at hl 3 rfl) ?_
  obtain ⟨r4, hr4, hE⟩ := it_b hE
  refine m_call (n := 5) (As := [.ref (ad 15), .int 8, .ref (ad 34), .int r3.1, .int p2]) (rest := []) C hP hS hml (metM_carries_15_34 l G h0 ad _ _ _ 8 r3.1 p2 r4 hr4) q1563 q1565 qs40 q1566 rfl rfl (by decide +kernel) ⟨Nat.le_of_ble_eq_true rfl, Nat.le_of_ble_eq_true rfl⟩ ⟨Nat.le_refl _, Nat.le_refl _⟩ rfl hl.1 rfl (Nat.le_of_ble_eq_true rfl) dX5_all_52 (fun H locs hP hS => ?_)
  refine lv_istore_n (lv' := [(3, .int r4.1), (0, .ref h0), (1, .ref (ad 34)), (2, .int p2)]) C.1 C.2.1 dX5_all_55 rfl hl (by decide) rfl (fun ls hl => ?_)
  refine lv_aload_n C.1 C.2.1 dX5_all_56 rfl (lv_at hl 1 rfl) ?_
  refine lv_aload_n C.1 C.2.1 dX5_all_57 rfl (lv_at hl 1 rfl) ?_
  refine ma_16 C hP dX5_all_58 ?_
  refine lv_bipush (v := 8) C.1 C.2.1 dX5_all_61 (by decide) ?_
  refine lv_aload_n C.1 C.2.1 dX5_all_63 rfl (lv_at hl 2 rfl) ?_
  refine lv_iload_n C.1 C.2.1 dX5_all_64 rfl (lv_at hl 0 rfl) ?_
  refine lv_iload_n C.1 C.2.1 dX5_all_65 rfl (lv_at hl 3 rfl) ?_
  obtain ⟨r5, hr5, hE⟩ := it_b hE
  refine m_call (n := 5) (As := [.ref (ad 16), .int 8, .ref (ad 34), .int r4.1, .int p2]) (rest := []) C hP hS hml (metM_carries_16_34 l G h0 ad _ _ _ 8 r4.1 p2 r5 hr5) q1563 q1565 qs40 q1566 rfl rfl (by decide +kernel) ⟨Nat.le_of_ble_eq_true rfl, Nat.le_of_ble_eq_true rfl⟩ ⟨Nat.le_refl _, Nat.le_refl _⟩ rfl hl.1 rfl (Nat.le_of_ble_eq_true rfl) dX5_all_66 (fun H locs hP hS => ?_)
  refine lv_istore_n (lv' := [(3, .int r5.1), (0, .ref h0), (1, .ref (ad 34)), (2, .int p2)]) C.1 C.2.1 dX5_all_69 rfl hl (by decide) rfl (fun ls hl => ?_)
  refine lv_aload_n C.1 C.2.1 dX5_all_70 rfl (lv_at hl 1 rfl) ?_
  refine lv_aload_n C.1 C.2.1 dX5_all_71 rfl (lv_at hl 1 rfl) ?_
  refine ma_17 C hP dX5_all_72 ?_
  refine lv_iconst (v := 3) C.1 C.2.1 dX5_all_75 (by decide) ?_
  refine lv_aload_n C.1 C.2.1 dX5_all_76 rfl (lv_at hl 2 rfl) ?_
  refine lv_iload_n C.1 C.2.1 dX5_all_77 rfl (lv_at hl 0 rfl) ?_
  refine lv_iload_n C.1 C.2.1 dX5_all_78 rfl (lv_at hl 3 rfl) ?_
  obtain ⟨r6, hr6, hE⟩ := it_b hE
  refine m_call (n := 5) (As := [.ref (ad 17), .int 3, .ref (ad 34), .int r5.1, .int p2]) (rest := []) C hP hS hml (metM_carries_17_34 l G h0 ad _ _ _ 3 r5.1 p2 r6 hr6) q1563 q1565 qs40 q1566 rfl rfl (by decide +kernel) ⟨Nat.le_of_ble_eq_true rfl, Nat.le_of_ble_eq_true rfl⟩ ⟨Nat.le_refl _, Nat.le_refl _⟩ rfl hl.1 rfl (Nat.le_of_ble_eq_true rfl) dX5_all_79 (fun H locs hP hS => ?_)
  refine lv_istore_n (lv' := [(3, .int r6.1), (0, .ref h0), (1, .ref (ad 34)), (2, .int p2)]) C.1 C.2.1 dX5_all_82 rfl hl (by decide) rfl (fun ls hl => ?_)
  refine lv_iconst (v := 0) C.1 C.2.1 dX5_all_83 (by decide) ?_
  refine lv_istore (lv' := [(4, .int 0), (3, .int r6.1), (0, .ref h0), (1, .ref (ad 34)), (2, .int p2)]) C.1 C.2.1 dX5_all_84 hl (by decide) rfl (fun ls hl => ?_)
  obtain ⟨u7, hu7, hE⟩ := it_b hE
  refine wM_all_34_h86 C hml F A L p2 r6.1 (F 0) (F 4) (F 8) (F 9) r1.2.1 r2.2.1 r3.2.1 r4.2.1 r5.2.1 r6.2.1 u7 2000 0 (F 1) (F 2) (F 3) (F 5) (F 6) (F 7) r6.2.2 H locs ls hu7 hP hS (lv_sub hl [2, 3, 4, 1, 0] rfl) (fun H locs ls hP hS hl => ?_)
  refine lv_iinc (v := (r6.1 + 6)) (lv' := [(3, .int (r6.1 + 6)), (0, .ref h0), (1, .ref (ad 34)), (2, .int p2)]) C.1 C.2.1 dX5_all_130 hl (k := 3) rfl rfl (by decide) rfl (fun ls hl => ?_)
  refine lv_iload_n C.1 C.2.1 dX5_all_133 rfl (lv_at hl 3 rfl) ?_
  refine lv_if_eq (tgt := 174) C.1 C.2.1 dX5_all_134 (by decide) (fun c8 => ?_) (fun c8 => ?_)
  · have hE := it_t c8 hE
    refine lv_aload_n C.1 C.2.1 dX5_all_174 rfl (lv_at hl 2 rfl) ?_
    refine lv_iload_n C.1 C.2.1 dX5_all_175 rfl (lv_at hl 0 rfl) ?_
    refine lv_aload_n C.1 C.2.1 dX5_all_176 rfl (lv_at hl 1 rfl) ?_
    refine mg_0 (v := (F 0)) C hP rfl dX5_all_177 ?_
    obtain ⟨g9, hE⟩ := it_g hE
    refine ms_34 (a := u7.2.2.2.2.2.2) C hP hS (gi_in g9) rfl dX5_all_180 (fun H locs hP hS => ?_)
    refine lv_aload_n C.1 C.2.1 dX5_all_181 rfl (lv_at hl 2 rfl) ?_
    refine lv_iload_n C.1 C.2.1 dX5_all_182 rfl (lv_at hl 0 rfl) ?_
    refine lv_iconst (v := 1) C.1 C.2.1 dX5_all_183 (by decide) ?_
    refine lv_iadd C.1 C.2.1 dX5_all_184 ?_
    refine lv_aload_n C.1 C.2.1 dX5_all_185 rfl (lv_at hl 1 rfl) ?_
    refine mg_4 (v := (F 4)) C hP rfl dX5_all_186 ?_
    obtain ⟨g10, hE⟩ := it_g hE
    refine ms_34 (a := (upd u7.2.2.2.2.2.2 ((r6.1 + 6)).toNatClampNeg (F 0))) C hP hS (gi_in g10) rfl dX5_all_189 (fun H locs hP hS => ?_)
    refine lv_aload_n C.1 C.2.1 dX5_all_190 rfl (lv_at hl 2 rfl) ?_
    refine lv_iload_n C.1 C.2.1 dX5_all_191 rfl (lv_at hl 0 rfl) ?_
    refine lv_iconst (v := 2) C.1 C.2.1 dX5_all_192 (by decide) ?_
    refine lv_iadd C.1 C.2.1 dX5_all_193 ?_
    refine lv_aload_n C.1 C.2.1 dX5_all_194 rfl (lv_at hl 1 rfl) ?_
    refine mg_8 (v := (F 8)) C hP rfl dX5_all_195 ?_
    obtain ⟨g11, hE⟩ := it_g hE
    refine ms_34 (a := (upd (upd u7.2.2.2.2.2.2 ((r6.1 + 6)).toNatClampNeg (F 0)) (((r6.1 + 6) + 1)).toNatClampNeg (F 4))) C hP hS (gi_in g11) rfl dX5_all_198 (fun H locs hP hS => ?_)
    refine lv_aload_n C.1 C.2.1 dX5_all_199 rfl (lv_at hl 2 rfl) ?_
    refine lv_iload_n C.1 C.2.1 dX5_all_200 rfl (lv_at hl 0 rfl) ?_
    refine lv_iconst (v := 3) C.1 C.2.1 dX5_all_201 (by decide) ?_
    refine lv_iadd C.1 C.2.1 dX5_all_202 ?_
    refine lv_aload_n C.1 C.2.1 dX5_all_203 rfl (lv_at hl 1 rfl) ?_
    refine mg_9 (v := (F 9)) C hP rfl dX5_all_204 ?_
    obtain ⟨g12, hE⟩ := it_g hE
    refine ms_34 (a := (upd (upd (upd u7.2.2.2.2.2.2 ((r6.1 + 6)).toNatClampNeg (F 0)) (((r6.1 + 6) + 1)).toNatClampNeg (F 4)) (((r6.1 + 6) + 2)).toNatClampNeg (F 8))) C hP hS (gi_in g12) rfl dX5_all_207 (fun H locs hP hS => ?_)
    obtain rfl := Option.some.inj hE
    exact hret _ _ _ _ dX5_all_208 hP hS
  · have hE := it_f c8 hE
    refine lv_aload_n C.1 C.2.1 dX5_all_137 rfl (lv_at hl 1 rfl) ?_
    refine lv_aload_n C.1 C.2.1 dX5_all_138 rfl (lv_at hl 2 rfl) ?_
    refine lv_iload_n C.1 C.2.1 dX5_all_139 rfl (lv_at hl 0 rfl) ?_
    obtain ⟨g13, hE⟩ := it_g hE
    refine ml_34 (v := (u7.2.2.2.2.2.2 ((r6.1 + 6)).toNatClampNeg)) C hP (gi_in g13) rfl dX5_all_140 ?_
    refine mp_0 C hP hS dX5_all_141 (fun H locs hP hS => ?_)
    refine lv_aload_n C.1 C.2.1 dX5_all_144 rfl (lv_at hl 1 rfl) ?_
    refine lv_aload_n C.1 C.2.1 dX5_all_145 rfl (lv_at hl 2 rfl) ?_
    refine lv_iload_n C.1 C.2.1 dX5_all_146 rfl (lv_at hl 0 rfl) ?_
    refine lv_iconst (v := 1) C.1 C.2.1 dX5_all_147 (by decide) ?_
    refine lv_iadd C.1 C.2.1 dX5_all_148 ?_
    obtain ⟨g14, hE⟩ := it_g hE
    refine ml_34 (v := (u7.2.2.2.2.2.2 (((r6.1 + 6) + 1)).toNatClampNeg)) C hP (gi_in g14) rfl dX5_all_149 ?_
    refine mp_4 C hP hS dX5_all_150 (fun H locs hP hS => ?_)
    refine lv_aload_n C.1 C.2.1 dX5_all_153 rfl (lv_at hl 1 rfl) ?_
    refine lv_aload_n C.1 C.2.1 dX5_all_154 rfl (lv_at hl 2 rfl) ?_
    refine lv_iload_n C.1 C.2.1 dX5_all_155 rfl (lv_at hl 0 rfl) ?_
    refine lv_iconst (v := 2) C.1 C.2.1 dX5_all_156 (by decide) ?_
    refine lv_iadd C.1 C.2.1 dX5_all_157 ?_
    obtain ⟨g15, hE⟩ := it_g hE
    refine ml_34 (v := (u7.2.2.2.2.2.2 (((r6.1 + 6) + 2)).toNatClampNeg)) C hP (gi_in g15) rfl dX5_all_158 ?_
    refine mp_8 C hP hS dX5_all_159 (fun H locs hP hS => ?_)
    refine lv_aload_n C.1 C.2.1 dX5_all_162 rfl (lv_at hl 1 rfl) ?_
    refine lv_aload_n C.1 C.2.1 dX5_all_163 rfl (lv_at hl 2 rfl) ?_
    refine lv_iload_n C.1 C.2.1 dX5_all_164 rfl (lv_at hl 0 rfl) ?_
    refine lv_iconst (v := 3) C.1 C.2.1 dX5_all_165 (by decide) ?_
    refine lv_iadd C.1 C.2.1 dX5_all_166 ?_
    obtain ⟨g16, hE⟩ := it_g hE
    refine ml_34 (v := (u7.2.2.2.2.2.2 (((r6.1 + 6) + 3)).toNatClampNeg)) C hP (gi_in g16) rfl dX5_all_167 ?_
    refine mp_9 C hP hS dX5_all_168 (fun H locs hP hS => ?_)
    refine lv_goto (tgt := 208) C.1 C.2.1 dX5_all_171 (by decide) ?_
    obtain rfl := Option.some.inj hE
    exact hret _ _ _ _ dX5_all_208 hP hS
def sM_image (f_many : Int32) (f_weight : Int32) (f_fright : Int32) (f_age : Int32) (f_pets : Int32) (f_feed : Int32) (f_life : Int32) (f_low : Int32) (f_last : Int32) (f_seed : Int32) (f_isKept : Int32) (a_kind : Nat → Int32) (a_part : Nat → Int32) (a_marks : Nat → Int32) (a_ill : Nat → Int32) (a_had : Nat → Int32) (a_deaths : Nat → Int32) (a_kept : Nat → Int32) : Option (Int32 × Int32 × Int32 × Int32 × Int32 × Int32 × Int32 × Int32 × Int32 × Int32 × Int32 × Int32 × (Nat → Int32) × (Nat → Int32) × (Nat → Int32) × (Nat → Int32) × (Nat → Int32) × (Nat → Int32) × (Nat → Int32)) :=
  (sM_all_34 f_many f_weight f_fright f_age f_pets f_feed f_life f_low f_last f_seed a_kind a_part a_marks a_ill a_had a_deaths a_kept 0).bind fun r1 =>
  some (r1.1, r1.1, r1.2.1, r1.2.2.1, r1.2.2.2.1, r1.2.2.2.2.1, r1.2.2.2.2.2.1, r1.2.2.2.2.2.2.1, r1.2.2.2.2.2.2.2.1, r1.2.2.2.2.2.2.2.2.1, r1.2.2.2.2.2.2.2.2.2.1, 1, r1.2.2.2.2.2.2.2.2.2.2.1, r1.2.2.2.2.2.2.2.2.2.2.2.1, r1.2.2.2.2.2.2.2.2.2.2.2.2.1, r1.2.2.2.2.2.2.2.2.2.2.2.2.2.1, r1.2.2.2.2.2.2.2.2.2.2.2.2.2.2.1, r1.2.2.2.2.2.2.2.2.2.2.2.2.2.2.2.1, r1.2.2.2.2.2.2.2.2.2.2.2.2.2.2.2.2)
set_option maxHeartbeats 4000000 in
theorem metM_image (l : Launch) (G : kG) (h0 : Nat) (ad : Nat → Nat) (F : Nat → Int32) (A : Nat → Nat → Int32) (L : Nat → Nat → Int64)  (res : Int32 × Int32 × Int32 × Int32 × Int32 × Int32 × Int32 × Int32 × Int32 × Int32 × Int32 × Int32 × (Nat → Int32) × (Nat → Int32) × (Nat → Int32) × (Nat → Int32) × (Nat → Int32) × (Nat → Int32) × (Nat → Int32)) (hE : sM_image (F 0) (F 1) (F 2) (F 3) (F 4) (F 5) (F 6) (F 7) (F 8) (F 9) (F 48) (A 12) (A 13) (A 14) (A 15) (A 16) (A 17) (A 34) = some res) : Met l yX5_image (ws_ yX5_image cX5_image 1 (some .int)) ({ frames := 2, cells := 0, slots := 0, locals := 50 } : Room) (mPc G h0 ad F A L []) (mQc G h0 ad (upd (upd (upd (upd (upd (upd (upd (upd (upd (upd (upd F 0 res.2.1) 1 res.2.2.1) 2 res.2.2.2.1) 3 res.2.2.2.2.1) 4 res.2.2.2.2.2.1) 5 res.2.2.2.2.2.2.1) 6 res.2.2.2.2.2.2.2.1) 7 res.2.2.2.2.2.2.2.2.1) 8 res.2.2.2.2.2.2.2.2.2.1) 9 res.2.2.2.2.2.2.2.2.2.2.1) 48 res.2.2.2.2.2.2.2.2.2.2.2.1) (va_up (va_up (va_up (va_up (va_up (va_up (va_up A 12 res.2.2.2.2.2.2.2.2.2.2.2.2.1) 13 res.2.2.2.2.2.2.2.2.2.2.2.2.2.1) 14 res.2.2.2.2.2.2.2.2.2.2.2.2.2.2.1) 15 res.2.2.2.2.2.2.2.2.2.2.2.2.2.2.2.1) 16 res.2.2.2.2.2.2.2.2.2.2.2.2.2.2.2.2.1) 17 res.2.2.2.2.2.2.2.2.2.2.2.2.2.2.2.2.2.1) 34 res.2.2.2.2.2.2.2.2.2.2.2.2.2.2.2.2.2.2) L (some (.int res.1))) 0 0 (mA h0 ad) := by
  refine m_ofW (by decide) rfl (Nat.le_of_ble_eq_true rfl) ?_
  intro p e s m args below meth c ls C hml hP hS hl hr hlocks
  have hl : lv_has ls 1 [(0, .ref h0)] := hl
  obtain ⟨Q, hQ⟩ : ∃ Q, Q = MQ below (mQc G h0 ad (upd (upd (upd (upd (upd (upd (upd (upd (upd (upd (upd F 0 res.2.1) 1 res.2.2.1) 2 res.2.2.2.1) 3 res.2.2.2.2.1) 4 res.2.2.2.2.2.1) 5 res.2.2.2.2.2.2.1) 6 res.2.2.2.2.2.2.2.1) 7 res.2.2.2.2.2.2.2.2.1) 8 res.2.2.2.2.2.2.2.2.2.1) 9 res.2.2.2.2.2.2.2.2.2.2.1) 48 res.2.2.2.2.2.2.2.2.2.2.2.1) (va_up (va_up (va_up (va_up (va_up (va_up (va_up A 12 res.2.2.2.2.2.2.2.2.2.2.2.2.1) 13 res.2.2.2.2.2.2.2.2.2.2.2.2.2.1) 14 res.2.2.2.2.2.2.2.2.2.2.2.2.2.2.1) 15 res.2.2.2.2.2.2.2.2.2.2.2.2.2.2.2.1) 16 res.2.2.2.2.2.2.2.2.2.2.2.2.2.2.2.2.1) 17 res.2.2.2.2.2.2.2.2.2.2.2.2.2.2.2.2.2.1) 34 res.2.2.2.2.2.2.2.2.2.2.2.2.2.2.2.2.2.2) L (some (.int res.1))) args s 0 0 (mA h0 ad) := ⟨_, rfl⟩
  rw [← hQ]
  have hret : ∀ (pc : Nat) (ls : Array Slot) (H : Heap) (locs : List Loc), decode cX5_image pc = .ok (.ireturn, 1) → mPw G h0 ad (upd (upd (upd (upd (upd (upd (upd (upd (upd (upd (upd F 0 res.2.1) 1 res.2.2.1) 2 res.2.2.2.1) 3 res.2.2.2.2.1) 4 res.2.2.2.2.2.1) 5 res.2.2.2.2.2.2.1) 6 res.2.2.2.2.2.2.2.1) 7 res.2.2.2.2.2.2.2.2.1) 8 res.2.2.2.2.2.2.2.2.2.1) 9 res.2.2.2.2.2.2.2.2.2.2.1) 48 res.2.2.2.2.2.2.2.2.2.2.2.1) (va_up (va_up (va_up (va_up (va_up (va_up (va_up A 12 res.2.2.2.2.2.2.2.2.2.2.2.2.1) 13 res.2.2.2.2.2.2.2.2.2.2.2.2.2.1) 14 res.2.2.2.2.2.2.2.2.2.2.2.2.2.2.1) 15 res.2.2.2.2.2.2.2.2.2.2.2.2.2.2.2.1) 16 res.2.2.2.2.2.2.2.2.2.2.2.2.2.2.2.2.1) 17 res.2.2.2.2.2.2.2.2.2.2.2.2.2.2.2.2.2.1) 34 res.2.2.2.2.2.2.2.2.2.2.2.2.2.2.2.2.2.2) L H → va_S (mA h0 ad) s.heap H locs → W p l e ({ frames := 2, cells := 0, slots := 0, locals := 50 } : Room) s m args below meth c H locs 0 0 Q (F0 m pc ls [.int res.1]) := by
    intro pc ls H locs hd hP hS
    rw [hQ]
    exact m_iret C hr hlocks hd hP hS
  clear hQ
  obtain ⟨H, hH⟩ : ∃ H, H = s.heap := ⟨_, rfl⟩
  obtain ⟨locs, hlo⟩ : ∃ locs : List Loc, locs = [] := ⟨_, rfl⟩
  have hP : mPw G h0 ad F A L H := by rw [hH]; exact hP
  have hS : va_S (mA h0 ad) s.heap H locs := by rw [hH, hlo]; exact hS
  suffices hZ : W p l e ({ frames := 2, cells := 0, slots := 0, locals := 50 } : Room) s m args below meth c H locs 0 0 Q (F0 m 0 ls []) by rw [hH, hlo] at hZ; exact hZ
  clear hH hlo
  unfold sM_image at hE
  refine lv_aload_n C.1 C.2.1 dX5_image_0 rfl (lv_at hl 0 rfl) ?_
  refine lv_iconst (v := 1) C.1 C.2.1 dX5_image_1 (by decide) ?_
  refine mp_48 C hP hS rfl rfl dX5_image_2 (fun H locs hP hS => ?_)
  refine lv_aload_n C.1 C.2.1 dX5_image_5 rfl (lv_at hl 0 rfl) ?_
  refine lv_aload_n C.1 C.2.1 dX5_image_6 rfl (lv_at hl 0 rfl) ?_
  refine ma_34 C hP dX5_image_7 ?_
  refine lv_iconst (v := 0) C.1 C.2.1 dX5_image_10 (by decide) ?_
  obtain ⟨r1, hr1, hE⟩ := it_b hE
  refine m_call (n := 2) (As := [.ref (ad 34), .int 0]) (rest := []) C hP hS hml (metM_all_34 l G h0 ad _ _ _ 0 r1 hr1) q1559 q1561 qs39 q1562 rfl rfl (by decide +kernel) ⟨Nat.le_of_ble_eq_true rfl, Nat.le_of_ble_eq_true rfl⟩ ⟨Nat.le_refl _, Nat.le_refl _⟩ rfl hl.1 rfl (Nat.le_of_ble_eq_true rfl) dX5_image_11 (fun H locs hP hS => ?_)
  refine lv_aload_n C.1 C.2.1 dX5_image_14 rfl (lv_at hl 0 rfl) ?_
  refine mg_0 (v := r1.1) C hP rfl dX5_image_15 ?_
  obtain rfl := Option.some.inj hE
  exact hret _ _ _ _ dX5_image_18 hP hS
def sM_restore_h25 (f_many : Int32) (a_shown : Nat → Int32) : Nat → Int32 → (Nat → Int32) → Option ((Nat → Int32))
  | 0, _, _ => none
  | fuel + 1, x1, a_held =>
    if 8 ≤ x1 then
      some a_held
    else
      if gi x1 8 then
      @Option.bind ((Nat → Int32)) _ (
        if (a_held (x1).toNatClampNeg) = 2 then
          if gi x1 8 then
          if (a_shown (x1).toNatClampNeg) < f_many then
            some a_held
          else
            if gi x1 8 then
            some (upd a_held (x1).toNatClampNeg 0)
            else none
          else none
        else
          some a_held) fun u2604 =>
      sM_restore_h25 f_many a_shown fuel (x1 + 1) u2604
      else none
def sM_restore (f_many : Int32) (f_weight : Int32) (f_fright : Int32) (f_age : Int32) (f_pets : Int32) (f_feed : Int32) (f_life : Int32) (f_low : Int32) (f_last : Int32) (f_seed : Int32) (f_isKept : Int32) (a_refused : Nat → Int32) (a_kind : Nat → Int32) (a_part : Nat → Int32) (a_marks : Nat → Int32) (a_ill : Nat → Int32) (a_had : Nat → Int32) (a_deaths : Nat → Int32) (a_held : Nat → Int32) (a_shown : Nat → Int32) (a_kept : Nat → Int32) : Option (Int32 × Int32 × Int32 × Int32 × Int32 × Int32 × Int32 × Int32 × Int32 × Int32 × Int32 × (Nat → Int32) × (Nat → Int32) × (Nat → Int32) × (Nat → Int32) × (Nat → Int32) × (Nat → Int32) × (Nat → Int32) × (Nat → Int32) × (Nat → Int32)) :=
  if f_isKept = 0 then
    (sM_no a_refused (-6)).bind fun r4 =>
    some (r4.1, f_many, f_weight, f_fright, f_age, f_pets, f_feed, f_life, f_low, f_last, f_seed, r4.2, a_kind, a_part, a_marks, a_ill, a_had, a_deaths, a_held, a_kept)
  else
    (sM_all_34 f_many f_weight f_fright f_age f_pets f_feed f_life f_low f_last f_seed a_kind a_part a_marks a_ill a_had a_deaths a_kept 1).bind fun r2 =>
    (sM_restore_h25 r2.1 a_shown 2000 0 a_held).bind fun u3 =>
    some (r2.1, r2.1, r2.2.1, r2.2.2.1, r2.2.2.2.1, r2.2.2.2.2.1, r2.2.2.2.2.2.1, r2.2.2.2.2.2.2.1, r2.2.2.2.2.2.2.2.1, r2.2.2.2.2.2.2.2.2.1, r2.2.2.2.2.2.2.2.2.2.1, a_refused, r2.2.2.2.2.2.2.2.2.2.2.1, r2.2.2.2.2.2.2.2.2.2.2.2.1, r2.2.2.2.2.2.2.2.2.2.2.2.2.1, r2.2.2.2.2.2.2.2.2.2.2.2.2.2.1, r2.2.2.2.2.2.2.2.2.2.2.2.2.2.2.1, r2.2.2.2.2.2.2.2.2.2.2.2.2.2.2.2.1, u3, r2.2.2.2.2.2.2.2.2.2.2.2.2.2.2.2.2)
set_option maxHeartbeats 4000000 in
theorem wM_restore_h25 {p : Program} {l : Launch} {e : Env} {s : State} {m : MethodId} {args : Array Value} {below : List Frame} {meth : Method} {c : Code} {G : kG} {h0 : Nat} {ad : Nat → Nat} {Q : State → Prop} (C : mC p s m args c cX5_restore G h0 ad) (hml : c.maxLocals = 2) (F : Nat → Int32) (A : Nat → Nat → Int32) (L : Nat → Nat → Int64) (f_many : Int32) (f_weight : Int32) (f_fright : Int32) (f_age : Int32) (f_pets : Int32) (f_feed : Int32) (f_life : Int32) (f_low : Int32) (f_last : Int32) (f_seed : Int32) (a_refused : Nat → Int32) (a_kind : Nat → Int32) (a_part : Nat → Int32) (a_marks : Nat → Int32) (a_ill : Nat → Int32) (a_had : Nat → Int32) (a_deaths : Nat → Int32) (a_kept : Nat → Int32) (res : (Nat → Int32)) :
    ∀ (fuel : Nat) (x1 : Int32) (a_held : Nat → Int32) (H : Heap) (locs : List Loc) (ls : Array Slot), sM_restore_h25 f_many (A 21) fuel x1 a_held = some res → mPw G h0 ad (upd (upd (upd (upd (upd (upd (upd (upd (upd (upd F 0 f_many) 1 f_weight) 2 f_fright) 3 f_age) 4 f_pets) 5 f_feed) 6 f_life) 7 f_low) 8 f_last) 9 f_seed) (va_up (va_up (va_up (va_up (va_up (va_up (va_up (va_up (va_up A 11 a_refused) 12 a_kind) 13 a_part) 14 a_marks) 15 a_ill) 16 a_had) 17 a_deaths) 18 a_held) 34 a_kept) L H → va_S (mA h0 ad) s.heap H locs → lv_has ls 2 [(0, .ref h0), (1, .int x1)] → (∀ (H : Heap) (locs : List Loc) (ls : Array Slot), mPw G h0 ad (upd (upd (upd (upd (upd (upd (upd (upd (upd (upd F 0 f_many) 1 f_weight) 2 f_fright) 3 f_age) 4 f_pets) 5 f_feed) 6 f_life) 7 f_low) 8 f_last) 9 f_seed) (va_up (va_up (va_up (va_up (va_up (va_up (va_up (va_up (va_up A 11 a_refused) 12 a_kind) 13 a_part) 14 a_marks) 15 a_ill) 16 a_had) 17 a_deaths) 18 res) 34 a_kept) L H → va_S (mA h0 ad) s.heap H locs → lv_has ls 2 [(0, .ref h0)] → W p l e ({ frames := 2, cells := 0, slots := 0, locals := 50 } : Room) s m args below meth c H locs 0 0 Q (F0 m 67 ls [])) → W p l e ({ frames := 2, cells := 0, slots := 0, locals := 50 } : Room) s m args below meth c H locs 0 0 Q (F0 m 25 ls []) := by
  intro fuel
  induction fuel with
  | zero =>
    intro x1 a_held H locs ls hE
    exact it_n hE
  | succ fuel ih =>
    intro x1 a_held H locs ls hE hP hS hl hX
    rw [sM_restore_h25] at hE
    refine lv_iload_n C.1 C.2.1 dX5_restore_25 rfl (lv_at hl 1 rfl) ?_
    refine lv_bipush (v := 8) C.1 C.2.1 dX5_restore_26 (by decide) ?_
    refine lv_icmp_ge (tgt := 67) C.1 C.2.1 dX5_restore_28 (by decide) (fun c2601 => ?_) (fun c2601 => ?_)
    · have hE := it_t c2601 hE
      obtain rfl := Option.some.inj hE
      exact hX H locs ls hP hS (lv_sub hl [0] rfl)
    · have hE := it_f c2601 hE
      refine lv_aload_n C.1 C.2.1 dX5_restore_31 rfl (lv_at hl 0 rfl) ?_
      refine ma_18 C hP dX5_restore_32 ?_
      refine lv_iload_n C.1 C.2.1 dX5_restore_35 rfl (lv_at hl 1 rfl) ?_
      obtain ⟨g2602, hE⟩ := it_g hE
      refine ml_18 (v := (a_held (x1).toNatClampNeg)) C hP (gi_in g2602) rfl dX5_restore_36 ?_
      refine lv_iconst (v := 2) C.1 C.2.1 dX5_restore_37 (by decide) ?_
      obtain ⟨u2604, hR, hE⟩ := it_b hE
      have hJ61u2604 : ∀ (H : Heap) (locs : List Loc) (ls : Array Slot), mPw G h0 ad (upd (upd (upd (upd (upd (upd (upd (upd (upd (upd F 0 f_many) 1 f_weight) 2 f_fright) 3 f_age) 4 f_pets) 5 f_feed) 6 f_life) 7 f_low) 8 f_last) 9 f_seed) (va_up (va_up (va_up (va_up (va_up (va_up (va_up (va_up (va_up A 11 a_refused) 12 a_kind) 13 a_part) 14 a_marks) 15 a_ill) 16 a_had) 17 a_deaths) 18 u2604) 34 a_kept) L H → va_S (mA h0 ad) s.heap H locs → lv_has ls 2 [(0, .ref h0), (1, .int x1)] → W p l e ({ frames := 2, cells := 0, slots := 0, locals := 50 } : Room) s m args below meth c H locs 0 0 Q (F0 m 61 ls []) := by
        intro H locs ls hP hS hl
        refine lv_iinc (v := (x1 + 1)) (lv' := [(1, .int (x1 + 1)), (0, .ref h0)]) C.1 C.2.1 dX5_restore_61 hl (k := 1) rfl rfl (by decide) rfl (fun ls hl => ?_)
        refine lv_goto (tgt := 25) C.1 C.2.1 dX5_restore_64 (by decide) ?_
        exact ih (x1 + 1) u2604 _ _ _ hE hP hS (lv_sub hl [1, 0] rfl) hX
      have hE := hR
      refine lv_icmp_ne (tgt := 61) C.1 C.2.1 dX5_restore_38 (by decide) (fun c2603 => ?_) (fun c2603 => ?_)
      · have hE := it_f c2603 hE
        obtain rfl := Option.some.inj hE
        exact hJ61u2604 H locs ls hP hS (lv_sub hl [0, 1] rfl)
      · have hE := it_t c2603 hE
        refine lv_aload_n C.1 C.2.1 dX5_restore_41 rfl (lv_at hl 0 rfl) ?_
        refine ma_21 C hP dX5_restore_42 ?_
        refine lv_iload_n C.1 C.2.1 dX5_restore_45 rfl (lv_at hl 1 rfl) ?_
        obtain ⟨g2605, hE⟩ := it_g hE
        refine ml_21 (v := ((A 21) (x1).toNatClampNeg)) C hP (gi_in g2605) rfl dX5_restore_46 ?_
        refine lv_aload_n C.1 C.2.1 dX5_restore_47 rfl (lv_at hl 0 rfl) ?_
        refine mg_0 (v := f_many) C hP rfl dX5_restore_48 ?_
        refine lv_icmp_lt (tgt := 61) C.1 C.2.1 dX5_restore_51 (by decide) (fun c2606 => ?_) (fun c2606 => ?_)
        · have hE := it_t c2606 hE
          obtain rfl := Option.some.inj hE
          exact hJ61u2604 H locs ls hP hS (lv_sub hl [0, 1] rfl)
        · have hE := it_f c2606 hE
          refine lv_aload_n C.1 C.2.1 dX5_restore_54 rfl (lv_at hl 0 rfl) ?_
          refine ma_18 C hP dX5_restore_55 ?_
          refine lv_iload_n C.1 C.2.1 dX5_restore_58 rfl (lv_at hl 1 rfl) ?_
          refine lv_iconst (v := 0) C.1 C.2.1 dX5_restore_59 (by decide) ?_
          obtain ⟨g2607, hE⟩ := it_g hE
          refine ms_18 (a := a_held) C hP hS (gi_in g2607) rfl dX5_restore_60 (fun H locs hP hS => ?_)
          obtain rfl := Option.some.inj hE
          exact hJ61u2604 H locs ls hP hS (lv_sub hl [0, 1] rfl)
set_option maxHeartbeats 4000000 in
theorem metM_restore (l : Launch) (G : kG) (h0 : Nat) (ad : Nat → Nat) (F : Nat → Int32) (A : Nat → Nat → Int32) (L : Nat → Nat → Int64)  (res : Int32 × Int32 × Int32 × Int32 × Int32 × Int32 × Int32 × Int32 × Int32 × Int32 × Int32 × (Nat → Int32) × (Nat → Int32) × (Nat → Int32) × (Nat → Int32) × (Nat → Int32) × (Nat → Int32) × (Nat → Int32) × (Nat → Int32) × (Nat → Int32)) (hE : sM_restore (F 0) (F 1) (F 2) (F 3) (F 4) (F 5) (F 6) (F 7) (F 8) (F 9) (F 48) (A 11) (A 12) (A 13) (A 14) (A 15) (A 16) (A 17) (A 18) (A 21) (A 34) = some res) : Met l yX5_restore (ws_ yX5_restore cX5_restore 2 (some .int)) ({ frames := 2, cells := 0, slots := 0, locals := 50 } : Room) (mPc G h0 ad F A L []) (mQc G h0 ad (upd (upd (upd (upd (upd (upd (upd (upd (upd (upd F 0 res.2.1) 1 res.2.2.1) 2 res.2.2.2.1) 3 res.2.2.2.2.1) 4 res.2.2.2.2.2.1) 5 res.2.2.2.2.2.2.1) 6 res.2.2.2.2.2.2.2.1) 7 res.2.2.2.2.2.2.2.2.1) 8 res.2.2.2.2.2.2.2.2.2.1) 9 res.2.2.2.2.2.2.2.2.2.2.1) (va_up (va_up (va_up (va_up (va_up (va_up (va_up (va_up (va_up A 11 res.2.2.2.2.2.2.2.2.2.2.2.1) 12 res.2.2.2.2.2.2.2.2.2.2.2.2.1) 13 res.2.2.2.2.2.2.2.2.2.2.2.2.2.1) 14 res.2.2.2.2.2.2.2.2.2.2.2.2.2.2.1) 15 res.2.2.2.2.2.2.2.2.2.2.2.2.2.2.2.1) 16 res.2.2.2.2.2.2.2.2.2.2.2.2.2.2.2.2.1) 17 res.2.2.2.2.2.2.2.2.2.2.2.2.2.2.2.2.2.1) 18 res.2.2.2.2.2.2.2.2.2.2.2.2.2.2.2.2.2.2.1) 34 res.2.2.2.2.2.2.2.2.2.2.2.2.2.2.2.2.2.2.2) L (some (.int res.1))) 0 0 (mA h0 ad) := by
  refine m_ofW (by decide) rfl (Nat.le_of_ble_eq_true rfl) ?_
  intro p e s m args below meth c ls C hml hP hS hl hr hlocks
  have hl : lv_has ls 2 [(0, .ref h0)] := hl
  obtain ⟨Q, hQ⟩ : ∃ Q, Q = MQ below (mQc G h0 ad (upd (upd (upd (upd (upd (upd (upd (upd (upd (upd F 0 res.2.1) 1 res.2.2.1) 2 res.2.2.2.1) 3 res.2.2.2.2.1) 4 res.2.2.2.2.2.1) 5 res.2.2.2.2.2.2.1) 6 res.2.2.2.2.2.2.2.1) 7 res.2.2.2.2.2.2.2.2.1) 8 res.2.2.2.2.2.2.2.2.2.1) 9 res.2.2.2.2.2.2.2.2.2.2.1) (va_up (va_up (va_up (va_up (va_up (va_up (va_up (va_up (va_up A 11 res.2.2.2.2.2.2.2.2.2.2.2.1) 12 res.2.2.2.2.2.2.2.2.2.2.2.2.1) 13 res.2.2.2.2.2.2.2.2.2.2.2.2.2.1) 14 res.2.2.2.2.2.2.2.2.2.2.2.2.2.2.1) 15 res.2.2.2.2.2.2.2.2.2.2.2.2.2.2.2.1) 16 res.2.2.2.2.2.2.2.2.2.2.2.2.2.2.2.2.1) 17 res.2.2.2.2.2.2.2.2.2.2.2.2.2.2.2.2.2.1) 18 res.2.2.2.2.2.2.2.2.2.2.2.2.2.2.2.2.2.2.1) 34 res.2.2.2.2.2.2.2.2.2.2.2.2.2.2.2.2.2.2.2) L (some (.int res.1))) args s 0 0 (mA h0 ad) := ⟨_, rfl⟩
  rw [← hQ]
  have hret : ∀ (pc : Nat) (ls : Array Slot) (H : Heap) (locs : List Loc), decode cX5_restore pc = .ok (.ireturn, 1) → mPw G h0 ad (upd (upd (upd (upd (upd (upd (upd (upd (upd (upd F 0 res.2.1) 1 res.2.2.1) 2 res.2.2.2.1) 3 res.2.2.2.2.1) 4 res.2.2.2.2.2.1) 5 res.2.2.2.2.2.2.1) 6 res.2.2.2.2.2.2.2.1) 7 res.2.2.2.2.2.2.2.2.1) 8 res.2.2.2.2.2.2.2.2.2.1) 9 res.2.2.2.2.2.2.2.2.2.2.1) (va_up (va_up (va_up (va_up (va_up (va_up (va_up (va_up (va_up A 11 res.2.2.2.2.2.2.2.2.2.2.2.1) 12 res.2.2.2.2.2.2.2.2.2.2.2.2.1) 13 res.2.2.2.2.2.2.2.2.2.2.2.2.2.1) 14 res.2.2.2.2.2.2.2.2.2.2.2.2.2.2.1) 15 res.2.2.2.2.2.2.2.2.2.2.2.2.2.2.2.1) 16 res.2.2.2.2.2.2.2.2.2.2.2.2.2.2.2.2.1) 17 res.2.2.2.2.2.2.2.2.2.2.2.2.2.2.2.2.2.1) 18 res.2.2.2.2.2.2.2.2.2.2.2.2.2.2.2.2.2.2.1) 34 res.2.2.2.2.2.2.2.2.2.2.2.2.2.2.2.2.2.2.2) L H → va_S (mA h0 ad) s.heap H locs → W p l e ({ frames := 2, cells := 0, slots := 0, locals := 50 } : Room) s m args below meth c H locs 0 0 Q (F0 m pc ls [.int res.1]) := by
    intro pc ls H locs hd hP hS
    rw [hQ]
    exact m_iret C hr hlocks hd hP hS
  clear hQ
  obtain ⟨H, hH⟩ : ∃ H, H = s.heap := ⟨_, rfl⟩
  obtain ⟨locs, hlo⟩ : ∃ locs : List Loc, locs = [] := ⟨_, rfl⟩
  have hP : mPw G h0 ad F A L H := by rw [hH]; exact hP
  have hS : va_S (mA h0 ad) s.heap H locs := by rw [hH, hlo]; exact hS
  suffices hZ : W p l e ({ frames := 2, cells := 0, slots := 0, locals := 50 } : Room) s m args below meth c H locs 0 0 Q (F0 m 0 ls []) by rw [hH, hlo] at hZ; exact hZ
  clear hH hlo
  unfold sM_restore at hE
  refine lv_aload_n C.1 C.2.1 dX5_restore_0 rfl (lv_at hl 0 rfl) ?_
  refine mg_48 (v := (F 48)) C hP rfl dX5_restore_1 ?_
  refine lv_if_ne (tgt := 14) C.1 C.2.1 dX5_restore_4 (by decide) (fun c1 => ?_) (fun c1 => ?_)
  · have hE := it_f c1 hE
    refine lv_aload_n C.1 C.2.1 dX5_restore_14 rfl (lv_at hl 0 rfl) ?_
    refine lv_aload_n C.1 C.2.1 dX5_restore_15 rfl (lv_at hl 0 rfl) ?_
    refine ma_34 C hP dX5_restore_16 ?_
    refine lv_iconst (v := 1) C.1 C.2.1 dX5_restore_19 (by decide) ?_
    obtain ⟨r2, hr2, hE⟩ := it_b hE
    refine m_call (n := 2) (As := [.ref (ad 34), .int 1]) (rest := []) C hP hS hml (metM_all_34 l G h0 ad _ _ _ 1 r2 hr2) q1559 q1561 qs39 q1562 rfl rfl (by decide +kernel) ⟨Nat.le_of_ble_eq_true rfl, Nat.le_of_ble_eq_true rfl⟩ ⟨Nat.le_refl _, Nat.le_refl _⟩ rfl hl.1 rfl (Nat.le_of_ble_eq_true rfl) dX5_restore_20 (fun H locs hP hS => ?_)
    refine lv_iconst (v := 0) C.1 C.2.1 dX5_restore_23 (by decide) ?_
    refine lv_istore_n (lv' := [(1, .int 0), (0, .ref h0)]) C.1 C.2.1 dX5_restore_24 rfl hl (by decide) rfl (fun ls hl => ?_)
    obtain ⟨u3, hu3, hE⟩ := it_b hE
    refine wM_restore_h25 C hml F A L r2.1 r2.2.1 r2.2.2.1 r2.2.2.2.1 r2.2.2.2.2.1 r2.2.2.2.2.2.1 r2.2.2.2.2.2.2.1 r2.2.2.2.2.2.2.2.1 r2.2.2.2.2.2.2.2.2.1 r2.2.2.2.2.2.2.2.2.2.1 (A 11) r2.2.2.2.2.2.2.2.2.2.2.1 r2.2.2.2.2.2.2.2.2.2.2.2.1 r2.2.2.2.2.2.2.2.2.2.2.2.2.1 r2.2.2.2.2.2.2.2.2.2.2.2.2.2.1 r2.2.2.2.2.2.2.2.2.2.2.2.2.2.2.1 r2.2.2.2.2.2.2.2.2.2.2.2.2.2.2.2.1 r2.2.2.2.2.2.2.2.2.2.2.2.2.2.2.2.2 u3 2000 0 (A 18) H locs ls hu3 hP hS (lv_sub hl [1, 0] rfl) (fun H locs ls hP hS hl => ?_)
    refine lv_aload_n C.1 C.2.1 dX5_restore_67 rfl (lv_at hl 0 rfl) ?_
    refine mg_0 (v := r2.1) C hP rfl dX5_restore_68 ?_
    obtain rfl := Option.some.inj hE
    exact hret _ _ _ _ dX5_restore_71 hP hS
  · have hE := it_t c1 hE
    refine lv_aload_n C.1 C.2.1 dX5_restore_7 rfl (lv_at hl 0 rfl) ?_
    refine lv_bipush (v := (-6)) C.1 C.2.1 dX5_restore_8 (by decide) ?_
    obtain ⟨r4, hr4, hE⟩ := it_b hE
    refine m_call (n := 1) (As := [.int (-6)]) (rest := []) C hP hS hml (metM_no l G h0 ad _ _ _ (-6) r4 hr4) q1483 q1485 qs32 q1486 rfl rfl (by decide +kernel) ⟨Nat.le_of_ble_eq_true rfl, Nat.le_of_ble_eq_true rfl⟩ ⟨Nat.le_refl _, Nat.le_refl _⟩ rfl hl.1 rfl (Nat.le_of_ble_eq_true rfl) dX5_restore_10 (fun H locs hP hS => ?_)
    obtain rfl := Option.some.inj hE
    exact hret _ _ _ _ dX5_restore_13 hP hS
def sM_carries_12_33_h3 (x2 : Int32) (x4 : Int32) (x5 : Int32) : Nat → Int32 → (Nat → Int32) → (Nat → Int32) → Option ((Nat → Int32) × (Nat → Int32))
  | 0, _, _, _ => none
  | fuel + 1, x6, a_kind, a_was =>
    if x2 ≤ x6 then
      some (a_kind, a_was)
    else
      @Option.bind ((Nat → Int32) × (Nat → Int32)) _ (
        if x5 = 0 then
          if gi x6 8 then
          if gi (x4 + x6) 60 then
          some (a_kind, (upd a_was ((x4 + x6)).toNatClampNeg (a_kind (x6).toNatClampNeg)))
          else none
          else none
        else
          if gi (x4 + x6) 60 then
          if gi x6 8 then
          some ((upd a_kind (x6).toNatClampNeg (a_was ((x4 + x6)).toNatClampNeg)), a_was)
          else none
          else none) fun u403 =>
      sM_carries_12_33_h3 x2 x4 x5 fuel (x6 + 1) u403.1 u403.2
def sM_carries_12_33 (a_kind : Nat → Int32) (a_was : Nat → Int32) (p2 : Int32) (p4 : Int32) (p5 : Int32) : Option (Int32 × (Nat → Int32) × (Nat → Int32)) :=
  (sM_carries_12_33_h3 p2 p4 p5 2000 0 a_kind a_was).bind fun u1 =>
  some ((p4 + p2), u1.1, u1.2)
set_option maxHeartbeats 4000000 in
theorem wM_carries_12_33_h3 {p : Program} {l : Launch} {e : Env} {s : State} {m : MethodId} {args : Array Value} {below : List Frame} {meth : Method} {c : Code} {G : kG} {h0 : Nat} {ad : Nat → Nat} {Q : State → Prop} (C : mC p s m args c cX5_carries G h0 ad) (hml : c.maxLocals = 7) (F : Nat → Int32) (A : Nat → Nat → Int32) (L : Nat → Nat → Int64) (x2 : Int32) (x4 : Int32) (x5 : Int32) (res : (Nat → Int32) × (Nat → Int32)) :
    ∀ (fuel : Nat) (x6 : Int32) (a_kind : Nat → Int32) (a_was : Nat → Int32) (H : Heap) (locs : List Loc) (ls : Array Slot), sM_carries_12_33_h3 x2 x4 x5 fuel x6 a_kind a_was = some res → mPw G h0 ad F (va_up (va_up A 12 a_kind) 33 a_was) L H → va_S (mA h0 ad) s.heap H locs → lv_has ls 7 [(1, .ref (ad 12)), (2, .int x2), (3, .ref (ad 33)), (4, .int x4), (5, .int x5), (6, .int x6)] → (∀ (H : Heap) (locs : List Loc) (ls : Array Slot), mPw G h0 ad F (va_up (va_up A 12 res.1) 33 res.2) L H → va_S (mA h0 ad) s.heap H locs → lv_has ls 7 [(2, .int x2), (4, .int x4)] → W p l e ({ frames := 0, cells := 0, slots := 0, locals := 0 } : Room) s m args below meth c H locs 0 0 Q (F0 m 45 ls [])) → W p l e ({ frames := 0, cells := 0, slots := 0, locals := 0 } : Room) s m args below meth c H locs 0 0 Q (F0 m 3 ls []) := by
  intro fuel
  induction fuel with
  | zero =>
    intro x6 a_kind a_was H locs ls hE
    exact it_n hE
  | succ fuel ih =>
    intro x6 a_kind a_was H locs ls hE hP hS hl hX
    rw [sM_carries_12_33_h3] at hE
    refine lv_iload C.1 C.2.1 dX5_carries_3 (lv_at hl 5 rfl) ?_
    refine lv_iload_n C.1 C.2.1 dX5_carries_5 rfl (lv_at hl 1 rfl) ?_
    refine lv_icmp_ge (tgt := 45) C.1 C.2.1 dX5_carries_6 (by decide) (fun c401 => ?_) (fun c401 => ?_)
    · have hE := it_t c401 hE
      obtain rfl := Option.some.inj hE
      exact hX H locs ls hP hS (lv_sub hl [1, 3] rfl)
    · have hE := it_f c401 hE
      refine lv_iload C.1 C.2.1 dX5_carries_9 (lv_at hl 4 rfl) ?_
      obtain ⟨u403, hR, hE⟩ := it_b hE
      have hJ39u403 : ∀ (H : Heap) (locs : List Loc) (ls : Array Slot), mPw G h0 ad F (va_up (va_up A 12 u403.1) 33 u403.2) L H → va_S (mA h0 ad) s.heap H locs → lv_has ls 7 [(1, .ref (ad 12)), (2, .int x2), (3, .ref (ad 33)), (4, .int x4), (5, .int x5), (6, .int x6)] → W p l e ({ frames := 0, cells := 0, slots := 0, locals := 0 } : Room) s m args below meth c H locs 0 0 Q (F0 m 39 ls []) := by
        intro H locs ls hP hS hl
        refine lv_iinc (v := (x6 + 1)) (lv' := [(6, .int (x6 + 1)), (1, .ref (ad 12)), (2, .int x2), (3, .ref (ad 33)), (4, .int x4), (5, .int x5)]) C.1 C.2.1 dX5_carries_39 hl (k := 5) rfl rfl (by decide) rfl (fun ls hl => ?_)
        refine lv_goto (tgt := 3) C.1 C.2.1 dX5_carries_42 (by decide) ?_
        exact ih (x6 + 1) u403.1 u403.2 _ _ _ hE hP hS (lv_sub hl [1, 2, 3, 4, 5, 0] rfl) hX
      have hE := hR
      refine lv_if_eq (tgt := 28) C.1 C.2.1 dX5_carries_11 (by decide) (fun c402 => ?_) (fun c402 => ?_)
      · have hE := it_t c402 hE
        refine lv_aload_n C.1 C.2.1 dX5_carries_28 rfl (lv_at hl 2 rfl) ?_
        refine lv_iload C.1 C.2.1 dX5_carries_29 (lv_at hl 3 rfl) ?_
        refine lv_iload C.1 C.2.1 dX5_carries_31 (lv_at hl 5 rfl) ?_
        refine lv_iadd C.1 C.2.1 dX5_carries_33 ?_
        refine lv_aload_n C.1 C.2.1 dX5_carries_34 rfl (lv_at hl 0 rfl) ?_
        refine lv_iload C.1 C.2.1 dX5_carries_35 (lv_at hl 5 rfl) ?_
        obtain ⟨g404, hE⟩ := it_g hE
        refine ml_12 (v := (a_kind (x6).toNatClampNeg)) C hP (gi_in g404) rfl dX5_carries_37 ?_
        obtain ⟨g405, hE⟩ := it_g hE
        refine ms_33 (a := a_was) C hP hS (gi_in g405) rfl dX5_carries_38 (fun H locs hP hS => ?_)
        obtain rfl := Option.some.inj hE
        exact hJ39u403 H locs ls hP hS (lv_sub hl [0, 1, 2, 3, 4, 5] rfl)
      · have hE := it_f c402 hE
        refine lv_aload_n C.1 C.2.1 dX5_carries_14 rfl (lv_at hl 0 rfl) ?_
        refine lv_iload C.1 C.2.1 dX5_carries_15 (lv_at hl 5 rfl) ?_
        refine lv_aload_n C.1 C.2.1 dX5_carries_17 rfl (lv_at hl 2 rfl) ?_
        refine lv_iload C.1 C.2.1 dX5_carries_18 (lv_at hl 3 rfl) ?_
        refine lv_iload C.1 C.2.1 dX5_carries_20 (lv_at hl 5 rfl) ?_
        refine lv_iadd C.1 C.2.1 dX5_carries_22 ?_
        obtain ⟨g406, hE⟩ := it_g hE
        refine ml_33 (v := (a_was ((x4 + x6)).toNatClampNeg)) C hP (gi_in g406) rfl dX5_carries_23 ?_
        obtain ⟨g407, hE⟩ := it_g hE
        refine ms_12 (a := a_kind) C hP hS (gi_in g407) rfl dX5_carries_24 (fun H locs hP hS => ?_)
        refine lv_goto (tgt := 39) C.1 C.2.1 dX5_carries_25 (by decide) ?_
        obtain rfl := Option.some.inj hE
        exact hJ39u403 H locs ls hP hS (lv_sub hl [0, 1, 2, 3, 4, 5] rfl)
set_option maxHeartbeats 4000000 in
theorem metM_carries_12_33 (l : Launch) (G : kG) (h0 : Nat) (ad : Nat → Nat) (F : Nat → Int32) (A : Nat → Nat → Int32) (L : Nat → Nat → Int64) (p2 : Int32) (p4 : Int32) (p5 : Int32) (res : Int32 × (Nat → Int32) × (Nat → Int32)) (hE : sM_carries_12_33 (A 12) (A 33) p2 p4 p5 = some res) : Met l yX5_carries (ws_ yX5_carries cX5_carries 7 (some .int)) ({ frames := 0, cells := 0, slots := 0, locals := 0 } : Room) (mPc G h0 ad F A L [.ref (ad 12), .int p2, .ref (ad 33), .int p4, .int p5]) (mQc G h0 ad F (va_up (va_up A 12 res.2.1) 33 res.2.2) L (some (.int res.1))) 0 0 (mA h0 ad) := by
  refine m_ofW (by decide) rfl (Nat.le_of_ble_eq_true rfl) ?_
  intro p e s m args below meth c ls C hml hP hS hl hr hlocks
  have hl : lv_has ls 7 [(0, .ref h0), (1, .ref (ad 12)), (2, .int p2), (3, .ref (ad 33)), (4, .int p4), (5, .int p5)] := hl
  obtain ⟨Q, hQ⟩ : ∃ Q, Q = MQ below (mQc G h0 ad F (va_up (va_up A 12 res.2.1) 33 res.2.2) L (some (.int res.1))) args s 0 0 (mA h0 ad) := ⟨_, rfl⟩
  rw [← hQ]
  have hret : ∀ (pc : Nat) (ls : Array Slot) (H : Heap) (locs : List Loc), decode cX5_carries pc = .ok (.ireturn, 1) → mPw G h0 ad F (va_up (va_up A 12 res.2.1) 33 res.2.2) L H → va_S (mA h0 ad) s.heap H locs → W p l e ({ frames := 0, cells := 0, slots := 0, locals := 0 } : Room) s m args below meth c H locs 0 0 Q (F0 m pc ls [.int res.1]) := by
    intro pc ls H locs hd hP hS
    rw [hQ]
    exact m_iret C hr hlocks hd hP hS
  clear hQ
  obtain ⟨H, hH⟩ : ∃ H, H = s.heap := ⟨_, rfl⟩
  obtain ⟨locs, hlo⟩ : ∃ locs : List Loc, locs = [] := ⟨_, rfl⟩
  have hP : mPw G h0 ad F A L H := by rw [hH]; exact hP
  have hS : va_S (mA h0 ad) s.heap H locs := by rw [hH, hlo]; exact hS
  suffices hZ : W p l e ({ frames := 0, cells := 0, slots := 0, locals := 0 } : Room) s m args below meth c H locs 0 0 Q (F0 m 0 ls []) by rw [hH, hlo] at hZ; exact hZ
  clear hH hlo
  unfold sM_carries_12_33 at hE
  refine lv_iconst (v := 0) C.1 C.2.1 dX5_carries_0 (by decide) ?_
  refine lv_istore (lv' := [(6, .int 0), (0, .ref h0), (1, .ref (ad 12)), (2, .int p2), (3, .ref (ad 33)), (4, .int p4), (5, .int p5)]) C.1 C.2.1 dX5_carries_1 hl (by decide) rfl (fun ls hl => ?_)
  obtain ⟨u1, hu1, hE⟩ := it_b hE
  refine wM_carries_12_33_h3 C hml F A L p2 p4 p5 u1 2000 0 (A 12) (A 33) H locs ls hu1 hP hS (lv_sub hl [2, 3, 4, 5, 6, 0] rfl) (fun H locs ls hP hS hl => ?_)
  refine lv_iload C.1 C.2.1 dX5_carries_45 (lv_at hl 1 rfl) ?_
  refine lv_iload_n C.1 C.2.1 dX5_carries_47 rfl (lv_at hl 0 rfl) ?_
  refine lv_iadd C.1 C.2.1 dX5_carries_48 ?_
  obtain rfl := Option.some.inj hE
  exact hret _ _ _ _ dX5_carries_49 hP hS
def sM_carries_13_33_h3 (x2 : Int32) (x4 : Int32) (x5 : Int32) : Nat → Int32 → (Nat → Int32) → (Nat → Int32) → Option ((Nat → Int32) × (Nat → Int32))
  | 0, _, _, _ => none
  | fuel + 1, x6, a_part, a_was =>
    if x2 ≤ x6 then
      some (a_part, a_was)
    else
      @Option.bind ((Nat → Int32) × (Nat → Int32)) _ (
        if x5 = 0 then
          if gi x6 8 then
          if gi (x4 + x6) 60 then
          some (a_part, (upd a_was ((x4 + x6)).toNatClampNeg (a_part (x6).toNatClampNeg)))
          else none
          else none
        else
          if gi (x4 + x6) 60 then
          if gi x6 8 then
          some ((upd a_part (x6).toNatClampNeg (a_was ((x4 + x6)).toNatClampNeg)), a_was)
          else none
          else none) fun u403 =>
      sM_carries_13_33_h3 x2 x4 x5 fuel (x6 + 1) u403.1 u403.2
def sM_carries_13_33 (a_part : Nat → Int32) (a_was : Nat → Int32) (p2 : Int32) (p4 : Int32) (p5 : Int32) : Option (Int32 × (Nat → Int32) × (Nat → Int32)) :=
  (sM_carries_13_33_h3 p2 p4 p5 2000 0 a_part a_was).bind fun u1 =>
  some ((p4 + p2), u1.1, u1.2)
set_option maxHeartbeats 4000000 in
theorem wM_carries_13_33_h3 {p : Program} {l : Launch} {e : Env} {s : State} {m : MethodId} {args : Array Value} {below : List Frame} {meth : Method} {c : Code} {G : kG} {h0 : Nat} {ad : Nat → Nat} {Q : State → Prop} (C : mC p s m args c cX5_carries G h0 ad) (hml : c.maxLocals = 7) (F : Nat → Int32) (A : Nat → Nat → Int32) (L : Nat → Nat → Int64) (x2 : Int32) (x4 : Int32) (x5 : Int32) (res : (Nat → Int32) × (Nat → Int32)) :
    ∀ (fuel : Nat) (x6 : Int32) (a_part : Nat → Int32) (a_was : Nat → Int32) (H : Heap) (locs : List Loc) (ls : Array Slot), sM_carries_13_33_h3 x2 x4 x5 fuel x6 a_part a_was = some res → mPw G h0 ad F (va_up (va_up A 13 a_part) 33 a_was) L H → va_S (mA h0 ad) s.heap H locs → lv_has ls 7 [(1, .ref (ad 13)), (2, .int x2), (3, .ref (ad 33)), (4, .int x4), (5, .int x5), (6, .int x6)] → (∀ (H : Heap) (locs : List Loc) (ls : Array Slot), mPw G h0 ad F (va_up (va_up A 13 res.1) 33 res.2) L H → va_S (mA h0 ad) s.heap H locs → lv_has ls 7 [(2, .int x2), (4, .int x4)] → W p l e ({ frames := 0, cells := 0, slots := 0, locals := 0 } : Room) s m args below meth c H locs 0 0 Q (F0 m 45 ls [])) → W p l e ({ frames := 0, cells := 0, slots := 0, locals := 0 } : Room) s m args below meth c H locs 0 0 Q (F0 m 3 ls []) := by
  intro fuel
  induction fuel with
  | zero =>
    intro x6 a_part a_was H locs ls hE
    exact it_n hE
  | succ fuel ih =>
    intro x6 a_part a_was H locs ls hE hP hS hl hX
    rw [sM_carries_13_33_h3] at hE
    refine lv_iload C.1 C.2.1 dX5_carries_3 (lv_at hl 5 rfl) ?_
    refine lv_iload_n C.1 C.2.1 dX5_carries_5 rfl (lv_at hl 1 rfl) ?_
    refine lv_icmp_ge (tgt := 45) C.1 C.2.1 dX5_carries_6 (by decide) (fun c401 => ?_) (fun c401 => ?_)
    · have hE := it_t c401 hE
      obtain rfl := Option.some.inj hE
      exact hX H locs ls hP hS (lv_sub hl [1, 3] rfl)
    · have hE := it_f c401 hE
      refine lv_iload C.1 C.2.1 dX5_carries_9 (lv_at hl 4 rfl) ?_
      obtain ⟨u403, hR, hE⟩ := it_b hE
      have hJ39u403 : ∀ (H : Heap) (locs : List Loc) (ls : Array Slot), mPw G h0 ad F (va_up (va_up A 13 u403.1) 33 u403.2) L H → va_S (mA h0 ad) s.heap H locs → lv_has ls 7 [(1, .ref (ad 13)), (2, .int x2), (3, .ref (ad 33)), (4, .int x4), (5, .int x5), (6, .int x6)] → W p l e ({ frames := 0, cells := 0, slots := 0, locals := 0 } : Room) s m args below meth c H locs 0 0 Q (F0 m 39 ls []) := by
        intro H locs ls hP hS hl
        refine lv_iinc (v := (x6 + 1)) (lv' := [(6, .int (x6 + 1)), (1, .ref (ad 13)), (2, .int x2), (3, .ref (ad 33)), (4, .int x4), (5, .int x5)]) C.1 C.2.1 dX5_carries_39 hl (k := 5) rfl rfl (by decide) rfl (fun ls hl => ?_)
        refine lv_goto (tgt := 3) C.1 C.2.1 dX5_carries_42 (by decide) ?_
        exact ih (x6 + 1) u403.1 u403.2 _ _ _ hE hP hS (lv_sub hl [1, 2, 3, 4, 5, 0] rfl) hX
      have hE := hR
      refine lv_if_eq (tgt := 28) C.1 C.2.1 dX5_carries_11 (by decide) (fun c402 => ?_) (fun c402 => ?_)
      · have hE := it_t c402 hE
        refine lv_aload_n C.1 C.2.1 dX5_carries_28 rfl (lv_at hl 2 rfl) ?_
        refine lv_iload C.1 C.2.1 dX5_carries_29 (lv_at hl 3 rfl) ?_
        refine lv_iload C.1 C.2.1 dX5_carries_31 (lv_at hl 5 rfl) ?_
        refine lv_iadd C.1 C.2.1 dX5_carries_33 ?_
        refine lv_aload_n C.1 C.2.1 dX5_carries_34 rfl (lv_at hl 0 rfl) ?_
        refine lv_iload C.1 C.2.1 dX5_carries_35 (lv_at hl 5 rfl) ?_
        obtain ⟨g404, hE⟩ := it_g hE
        refine ml_13 (v := (a_part (x6).toNatClampNeg)) C hP (gi_in g404) rfl dX5_carries_37 ?_
        obtain ⟨g405, hE⟩ := it_g hE
        refine ms_33 (a := a_was) C hP hS (gi_in g405) rfl dX5_carries_38 (fun H locs hP hS => ?_)
        obtain rfl := Option.some.inj hE
        exact hJ39u403 H locs ls hP hS (lv_sub hl [0, 1, 2, 3, 4, 5] rfl)
      · have hE := it_f c402 hE
        refine lv_aload_n C.1 C.2.1 dX5_carries_14 rfl (lv_at hl 0 rfl) ?_
        refine lv_iload C.1 C.2.1 dX5_carries_15 (lv_at hl 5 rfl) ?_
        refine lv_aload_n C.1 C.2.1 dX5_carries_17 rfl (lv_at hl 2 rfl) ?_
        refine lv_iload C.1 C.2.1 dX5_carries_18 (lv_at hl 3 rfl) ?_
        refine lv_iload C.1 C.2.1 dX5_carries_20 (lv_at hl 5 rfl) ?_
        refine lv_iadd C.1 C.2.1 dX5_carries_22 ?_
        obtain ⟨g406, hE⟩ := it_g hE
        refine ml_33 (v := (a_was ((x4 + x6)).toNatClampNeg)) C hP (gi_in g406) rfl dX5_carries_23 ?_
        obtain ⟨g407, hE⟩ := it_g hE
        refine ms_13 (a := a_part) C hP hS (gi_in g407) rfl dX5_carries_24 (fun H locs hP hS => ?_)
        refine lv_goto (tgt := 39) C.1 C.2.1 dX5_carries_25 (by decide) ?_
        obtain rfl := Option.some.inj hE
        exact hJ39u403 H locs ls hP hS (lv_sub hl [0, 1, 2, 3, 4, 5] rfl)
set_option maxHeartbeats 4000000 in
theorem metM_carries_13_33 (l : Launch) (G : kG) (h0 : Nat) (ad : Nat → Nat) (F : Nat → Int32) (A : Nat → Nat → Int32) (L : Nat → Nat → Int64) (p2 : Int32) (p4 : Int32) (p5 : Int32) (res : Int32 × (Nat → Int32) × (Nat → Int32)) (hE : sM_carries_13_33 (A 13) (A 33) p2 p4 p5 = some res) : Met l yX5_carries (ws_ yX5_carries cX5_carries 7 (some .int)) ({ frames := 0, cells := 0, slots := 0, locals := 0 } : Room) (mPc G h0 ad F A L [.ref (ad 13), .int p2, .ref (ad 33), .int p4, .int p5]) (mQc G h0 ad F (va_up (va_up A 13 res.2.1) 33 res.2.2) L (some (.int res.1))) 0 0 (mA h0 ad) := by
  refine m_ofW (by decide) rfl (Nat.le_of_ble_eq_true rfl) ?_
  intro p e s m args below meth c ls C hml hP hS hl hr hlocks
  have hl : lv_has ls 7 [(0, .ref h0), (1, .ref (ad 13)), (2, .int p2), (3, .ref (ad 33)), (4, .int p4), (5, .int p5)] := hl
  obtain ⟨Q, hQ⟩ : ∃ Q, Q = MQ below (mQc G h0 ad F (va_up (va_up A 13 res.2.1) 33 res.2.2) L (some (.int res.1))) args s 0 0 (mA h0 ad) := ⟨_, rfl⟩
  rw [← hQ]
  have hret : ∀ (pc : Nat) (ls : Array Slot) (H : Heap) (locs : List Loc), decode cX5_carries pc = .ok (.ireturn, 1) → mPw G h0 ad F (va_up (va_up A 13 res.2.1) 33 res.2.2) L H → va_S (mA h0 ad) s.heap H locs → W p l e ({ frames := 0, cells := 0, slots := 0, locals := 0 } : Room) s m args below meth c H locs 0 0 Q (F0 m pc ls [.int res.1]) := by
    intro pc ls H locs hd hP hS
    rw [hQ]
    exact m_iret C hr hlocks hd hP hS
  clear hQ
  obtain ⟨H, hH⟩ : ∃ H, H = s.heap := ⟨_, rfl⟩
  obtain ⟨locs, hlo⟩ : ∃ locs : List Loc, locs = [] := ⟨_, rfl⟩
  have hP : mPw G h0 ad F A L H := by rw [hH]; exact hP
  have hS : va_S (mA h0 ad) s.heap H locs := by rw [hH, hlo]; exact hS
  suffices hZ : W p l e ({ frames := 0, cells := 0, slots := 0, locals := 0 } : Room) s m args below meth c H locs 0 0 Q (F0 m 0 ls []) by rw [hH, hlo] at hZ; exact hZ
  clear hH hlo
  unfold sM_carries_13_33 at hE
  refine lv_iconst (v := 0) C.1 C.2.1 dX5_carries_0 (by decide) ?_
  refine lv_istore (lv' := [(6, .int 0), (0, .ref h0), (1, .ref (ad 13)), (2, .int p2), (3, .ref (ad 33)), (4, .int p4), (5, .int p5)]) C.1 C.2.1 dX5_carries_1 hl (by decide) rfl (fun ls hl => ?_)
  obtain ⟨u1, hu1, hE⟩ := it_b hE
  refine wM_carries_13_33_h3 C hml F A L p2 p4 p5 u1 2000 0 (A 13) (A 33) H locs ls hu1 hP hS (lv_sub hl [2, 3, 4, 5, 6, 0] rfl) (fun H locs ls hP hS hl => ?_)
  refine lv_iload C.1 C.2.1 dX5_carries_45 (lv_at hl 1 rfl) ?_
  refine lv_iload_n C.1 C.2.1 dX5_carries_47 rfl (lv_at hl 0 rfl) ?_
  refine lv_iadd C.1 C.2.1 dX5_carries_48 ?_
  obtain rfl := Option.some.inj hE
  exact hret _ _ _ _ dX5_carries_49 hP hS
def sM_carries_14_33_h3 (x2 : Int32) (x4 : Int32) (x5 : Int32) : Nat → Int32 → (Nat → Int32) → (Nat → Int32) → Option ((Nat → Int32) × (Nat → Int32))
  | 0, _, _, _ => none
  | fuel + 1, x6, a_marks, a_was =>
    if x2 ≤ x6 then
      some (a_marks, a_was)
    else
      @Option.bind ((Nat → Int32) × (Nat → Int32)) _ (
        if x5 = 0 then
          if gi x6 8 then
          if gi (x4 + x6) 60 then
          some (a_marks, (upd a_was ((x4 + x6)).toNatClampNeg (a_marks (x6).toNatClampNeg)))
          else none
          else none
        else
          if gi (x4 + x6) 60 then
          if gi x6 8 then
          some ((upd a_marks (x6).toNatClampNeg (a_was ((x4 + x6)).toNatClampNeg)), a_was)
          else none
          else none) fun u403 =>
      sM_carries_14_33_h3 x2 x4 x5 fuel (x6 + 1) u403.1 u403.2
def sM_carries_14_33 (a_marks : Nat → Int32) (a_was : Nat → Int32) (p2 : Int32) (p4 : Int32) (p5 : Int32) : Option (Int32 × (Nat → Int32) × (Nat → Int32)) :=
  (sM_carries_14_33_h3 p2 p4 p5 2000 0 a_marks a_was).bind fun u1 =>
  some ((p4 + p2), u1.1, u1.2)
set_option maxHeartbeats 4000000 in
theorem wM_carries_14_33_h3 {p : Program} {l : Launch} {e : Env} {s : State} {m : MethodId} {args : Array Value} {below : List Frame} {meth : Method} {c : Code} {G : kG} {h0 : Nat} {ad : Nat → Nat} {Q : State → Prop} (C : mC p s m args c cX5_carries G h0 ad) (hml : c.maxLocals = 7) (F : Nat → Int32) (A : Nat → Nat → Int32) (L : Nat → Nat → Int64) (x2 : Int32) (x4 : Int32) (x5 : Int32) (res : (Nat → Int32) × (Nat → Int32)) :
    ∀ (fuel : Nat) (x6 : Int32) (a_marks : Nat → Int32) (a_was : Nat → Int32) (H : Heap) (locs : List Loc) (ls : Array Slot), sM_carries_14_33_h3 x2 x4 x5 fuel x6 a_marks a_was = some res → mPw G h0 ad F (va_up (va_up A 14 a_marks) 33 a_was) L H → va_S (mA h0 ad) s.heap H locs → lv_has ls 7 [(1, .ref (ad 14)), (2, .int x2), (3, .ref (ad 33)), (4, .int x4), (5, .int x5), (6, .int x6)] → (∀ (H : Heap) (locs : List Loc) (ls : Array Slot), mPw G h0 ad F (va_up (va_up A 14 res.1) 33 res.2) L H → va_S (mA h0 ad) s.heap H locs → lv_has ls 7 [(2, .int x2), (4, .int x4)] → W p l e ({ frames := 0, cells := 0, slots := 0, locals := 0 } : Room) s m args below meth c H locs 0 0 Q (F0 m 45 ls [])) → W p l e ({ frames := 0, cells := 0, slots := 0, locals := 0 } : Room) s m args below meth c H locs 0 0 Q (F0 m 3 ls []) := by
  intro fuel
  induction fuel with
  | zero =>
    intro x6 a_marks a_was H locs ls hE
    exact it_n hE
  | succ fuel ih =>
    intro x6 a_marks a_was H locs ls hE hP hS hl hX
    rw [sM_carries_14_33_h3] at hE
    refine lv_iload C.1 C.2.1 dX5_carries_3 (lv_at hl 5 rfl) ?_
    refine lv_iload_n C.1 C.2.1 dX5_carries_5 rfl (lv_at hl 1 rfl) ?_
    refine lv_icmp_ge (tgt := 45) C.1 C.2.1 dX5_carries_6 (by decide) (fun c401 => ?_) (fun c401 => ?_)
    · have hE := it_t c401 hE
      obtain rfl := Option.some.inj hE
      exact hX H locs ls hP hS (lv_sub hl [1, 3] rfl)
    · have hE := it_f c401 hE
      refine lv_iload C.1 C.2.1 dX5_carries_9 (lv_at hl 4 rfl) ?_
      obtain ⟨u403, hR, hE⟩ := it_b hE
      have hJ39u403 : ∀ (H : Heap) (locs : List Loc) (ls : Array Slot), mPw G h0 ad F (va_up (va_up A 14 u403.1) 33 u403.2) L H → va_S (mA h0 ad) s.heap H locs → lv_has ls 7 [(1, .ref (ad 14)), (2, .int x2), (3, .ref (ad 33)), (4, .int x4), (5, .int x5), (6, .int x6)] → W p l e ({ frames := 0, cells := 0, slots := 0, locals := 0 } : Room) s m args below meth c H locs 0 0 Q (F0 m 39 ls []) := by
        intro H locs ls hP hS hl
        refine lv_iinc (v := (x6 + 1)) (lv' := [(6, .int (x6 + 1)), (1, .ref (ad 14)), (2, .int x2), (3, .ref (ad 33)), (4, .int x4), (5, .int x5)]) C.1 C.2.1 dX5_carries_39 hl (k := 5) rfl rfl (by decide) rfl (fun ls hl => ?_)
        refine lv_goto (tgt := 3) C.1 C.2.1 dX5_carries_42 (by decide) ?_
        exact ih (x6 + 1) u403.1 u403.2 _ _ _ hE hP hS (lv_sub hl [1, 2, 3, 4, 5, 0] rfl) hX
      have hE := hR
      refine lv_if_eq (tgt := 28) C.1 C.2.1 dX5_carries_11 (by decide) (fun c402 => ?_) (fun c402 => ?_)
      · have hE := it_t c402 hE
        refine lv_aload_n C.1 C.2.1 dX5_carries_28 rfl (lv_at hl 2 rfl) ?_
        refine lv_iload C.1 C.2.1 dX5_carries_29 (lv_at hl 3 rfl) ?_
        refine lv_iload C.1 C.2.1 dX5_carries_31 (lv_at hl 5 rfl) ?_
        refine lv_iadd C.1 C.2.1 dX5_carries_33 ?_
        refine lv_aload_n C.1 C.2.1 dX5_carries_34 rfl (lv_at hl 0 rfl) ?_
        refine lv_iload C.1 C.2.1 dX5_carries_35 (lv_at hl 5 rfl) ?_
        obtain ⟨g404, hE⟩ := it_g hE
        refine ml_14 (v := (a_marks (x6).toNatClampNeg)) C hP (gi_in g404) rfl dX5_carries_37 ?_
        obtain ⟨g405, hE⟩ := it_g hE
        refine ms_33 (a := a_was) C hP hS (gi_in g405) rfl dX5_carries_38 (fun H locs hP hS => ?_)
        obtain rfl := Option.some.inj hE
        exact hJ39u403 H locs ls hP hS (lv_sub hl [0, 1, 2, 3, 4, 5] rfl)
      · have hE := it_f c402 hE
        refine lv_aload_n C.1 C.2.1 dX5_carries_14 rfl (lv_at hl 0 rfl) ?_
        refine lv_iload C.1 C.2.1 dX5_carries_15 (lv_at hl 5 rfl) ?_
        refine lv_aload_n C.1 C.2.1 dX5_carries_17 rfl (lv_at hl 2 rfl) ?_
        refine lv_iload C.1 C.2.1 dX5_carries_18 (lv_at hl 3 rfl) ?_
        refine lv_iload C.1 C.2.1 dX5_carries_20 (lv_at hl 5 rfl) ?_
        refine lv_iadd C.1 C.2.1 dX5_carries_22 ?_
        obtain ⟨g406, hE⟩ := it_g hE
        refine ml_33 (v := (a_was ((x4 + x6)).toNatClampNeg)) C hP (gi_in g406) rfl dX5_carries_23 ?_
        obtain ⟨g407, hE⟩ := it_g hE
        refine ms_14 (a := a_marks) C hP hS (gi_in g407) rfl dX5_carries_24 (fun H locs hP hS => ?_)
        refine lv_goto (tgt := 39) C.1 C.2.1 dX5_carries_25 (by decide) ?_
        obtain rfl := Option.some.inj hE
        exact hJ39u403 H locs ls hP hS (lv_sub hl [0, 1, 2, 3, 4, 5] rfl)
set_option maxHeartbeats 4000000 in
theorem metM_carries_14_33 (l : Launch) (G : kG) (h0 : Nat) (ad : Nat → Nat) (F : Nat → Int32) (A : Nat → Nat → Int32) (L : Nat → Nat → Int64) (p2 : Int32) (p4 : Int32) (p5 : Int32) (res : Int32 × (Nat → Int32) × (Nat → Int32)) (hE : sM_carries_14_33 (A 14) (A 33) p2 p4 p5 = some res) : Met l yX5_carries (ws_ yX5_carries cX5_carries 7 (some .int)) ({ frames := 0, cells := 0, slots := 0, locals := 0 } : Room) (mPc G h0 ad F A L [.ref (ad 14), .int p2, .ref (ad 33), .int p4, .int p5]) (mQc G h0 ad F (va_up (va_up A 14 res.2.1) 33 res.2.2) L (some (.int res.1))) 0 0 (mA h0 ad) := by
  refine m_ofW (by decide) rfl (Nat.le_of_ble_eq_true rfl) ?_
  intro p e s m args below meth c ls C hml hP hS hl hr hlocks
  have hl : lv_has ls 7 [(0, .ref h0), (1, .ref (ad 14)), (2, .int p2), (3, .ref (ad 33)), (4, .int p4), (5, .int p5)] := hl
  obtain ⟨Q, hQ⟩ : ∃ Q, Q = MQ below (mQc G h0 ad F (va_up (va_up A 14 res.2.1) 33 res.2.2) L (some (.int res.1))) args s 0 0 (mA h0 ad) := ⟨_, rfl⟩
  rw [← hQ]
  have hret : ∀ (pc : Nat) (ls : Array Slot) (H : Heap) (locs : List Loc), decode cX5_carries pc = .ok (.ireturn, 1) → mPw G h0 ad F (va_up (va_up A 14 res.2.1) 33 res.2.2) L H → va_S (mA h0 ad) s.heap H locs → W p l e ({ frames := 0, cells := 0, slots := 0, locals := 0 } : Room) s m args below meth c H locs 0 0 Q (F0 m pc ls [.int res.1]) := by
    intro pc ls H locs hd hP hS
    rw [hQ]
    exact m_iret C hr hlocks hd hP hS
  clear hQ
  obtain ⟨H, hH⟩ : ∃ H, H = s.heap := ⟨_, rfl⟩
  obtain ⟨locs, hlo⟩ : ∃ locs : List Loc, locs = [] := ⟨_, rfl⟩
  have hP : mPw G h0 ad F A L H := by rw [hH]; exact hP
  have hS : va_S (mA h0 ad) s.heap H locs := by rw [hH, hlo]; exact hS
  suffices hZ : W p l e ({ frames := 0, cells := 0, slots := 0, locals := 0 } : Room) s m args below meth c H locs 0 0 Q (F0 m 0 ls []) by rw [hH, hlo] at hZ; exact hZ
  clear hH hlo
  unfold sM_carries_14_33 at hE
  refine lv_iconst (v := 0) C.1 C.2.1 dX5_carries_0 (by decide) ?_
  refine lv_istore (lv' := [(6, .int 0), (0, .ref h0), (1, .ref (ad 14)), (2, .int p2), (3, .ref (ad 33)), (4, .int p4), (5, .int p5)]) C.1 C.2.1 dX5_carries_1 hl (by decide) rfl (fun ls hl => ?_)
  obtain ⟨u1, hu1, hE⟩ := it_b hE
  refine wM_carries_14_33_h3 C hml F A L p2 p4 p5 u1 2000 0 (A 14) (A 33) H locs ls hu1 hP hS (lv_sub hl [2, 3, 4, 5, 6, 0] rfl) (fun H locs ls hP hS hl => ?_)
  refine lv_iload C.1 C.2.1 dX5_carries_45 (lv_at hl 1 rfl) ?_
  refine lv_iload_n C.1 C.2.1 dX5_carries_47 rfl (lv_at hl 0 rfl) ?_
  refine lv_iadd C.1 C.2.1 dX5_carries_48 ?_
  obtain rfl := Option.some.inj hE
  exact hret _ _ _ _ dX5_carries_49 hP hS
def sM_carries_15_33_h3 (x2 : Int32) (x4 : Int32) (x5 : Int32) : Nat → Int32 → (Nat → Int32) → (Nat → Int32) → Option ((Nat → Int32) × (Nat → Int32))
  | 0, _, _, _ => none
  | fuel + 1, x6, a_ill, a_was =>
    if x2 ≤ x6 then
      some (a_ill, a_was)
    else
      @Option.bind ((Nat → Int32) × (Nat → Int32)) _ (
        if x5 = 0 then
          if gi x6 8 then
          if gi (x4 + x6) 60 then
          some (a_ill, (upd a_was ((x4 + x6)).toNatClampNeg (a_ill (x6).toNatClampNeg)))
          else none
          else none
        else
          if gi (x4 + x6) 60 then
          if gi x6 8 then
          some ((upd a_ill (x6).toNatClampNeg (a_was ((x4 + x6)).toNatClampNeg)), a_was)
          else none
          else none) fun u403 =>
      sM_carries_15_33_h3 x2 x4 x5 fuel (x6 + 1) u403.1 u403.2
def sM_carries_15_33 (a_ill : Nat → Int32) (a_was : Nat → Int32) (p2 : Int32) (p4 : Int32) (p5 : Int32) : Option (Int32 × (Nat → Int32) × (Nat → Int32)) :=
  (sM_carries_15_33_h3 p2 p4 p5 2000 0 a_ill a_was).bind fun u1 =>
  some ((p4 + p2), u1.1, u1.2)
set_option maxHeartbeats 4000000 in
theorem wM_carries_15_33_h3 {p : Program} {l : Launch} {e : Env} {s : State} {m : MethodId} {args : Array Value} {below : List Frame} {meth : Method} {c : Code} {G : kG} {h0 : Nat} {ad : Nat → Nat} {Q : State → Prop} (C : mC p s m args c cX5_carries G h0 ad) (hml : c.maxLocals = 7) (F : Nat → Int32) (A : Nat → Nat → Int32) (L : Nat → Nat → Int64) (x2 : Int32) (x4 : Int32) (x5 : Int32) (res : (Nat → Int32) × (Nat → Int32)) :
    ∀ (fuel : Nat) (x6 : Int32) (a_ill : Nat → Int32) (a_was : Nat → Int32) (H : Heap) (locs : List Loc) (ls : Array Slot), sM_carries_15_33_h3 x2 x4 x5 fuel x6 a_ill a_was = some res → mPw G h0 ad F (va_up (va_up A 15 a_ill) 33 a_was) L H → va_S (mA h0 ad) s.heap H locs → lv_has ls 7 [(1, .ref (ad 15)), (2, .int x2), (3, .ref (ad 33)), (4, .int x4), (5, .int x5), (6, .int x6)] → (∀ (H : Heap) (locs : List Loc) (ls : Array Slot), mPw G h0 ad F (va_up (va_up A 15 res.1) 33 res.2) L H → va_S (mA h0 ad) s.heap H locs → lv_has ls 7 [(2, .int x2), (4, .int x4)] → W p l e ({ frames := 0, cells := 0, slots := 0, locals := 0 } : Room) s m args below meth c H locs 0 0 Q (F0 m 45 ls [])) → W p l e ({ frames := 0, cells := 0, slots := 0, locals := 0 } : Room) s m args below meth c H locs 0 0 Q (F0 m 3 ls []) := by
  intro fuel
  induction fuel with
  | zero =>
    intro x6 a_ill a_was H locs ls hE
    exact it_n hE
  | succ fuel ih =>
    intro x6 a_ill a_was H locs ls hE hP hS hl hX
    rw [sM_carries_15_33_h3] at hE
    refine lv_iload C.1 C.2.1 dX5_carries_3 (lv_at hl 5 rfl) ?_
    refine lv_iload_n C.1 C.2.1 dX5_carries_5 rfl (lv_at hl 1 rfl) ?_
    refine lv_icmp_ge (tgt := 45) C.1 C.2.1 dX5_carries_6 (by decide) (fun c401 => ?_) (fun c401 => ?_)
    · have hE := it_t c401 hE
      obtain rfl := Option.some.inj hE
      exact hX H locs ls hP hS (lv_sub hl [1, 3] rfl)
    · have hE := it_f c401 hE
      refine lv_iload C.1 C.2.1 dX5_carries_9 (lv_at hl 4 rfl) ?_
      obtain ⟨u403, hR, hE⟩ := it_b hE
      have hJ39u403 : ∀ (H : Heap) (locs : List Loc) (ls : Array Slot), mPw G h0 ad F (va_up (va_up A 15 u403.1) 33 u403.2) L H → va_S (mA h0 ad) s.heap H locs → lv_has ls 7 [(1, .ref (ad 15)), (2, .int x2), (3, .ref (ad 33)), (4, .int x4), (5, .int x5), (6, .int x6)] → W p l e ({ frames := 0, cells := 0, slots := 0, locals := 0 } : Room) s m args below meth c H locs 0 0 Q (F0 m 39 ls []) := by
        intro H locs ls hP hS hl
        refine lv_iinc (v := (x6 + 1)) (lv' := [(6, .int (x6 + 1)), (1, .ref (ad 15)), (2, .int x2), (3, .ref (ad 33)), (4, .int x4), (5, .int x5)]) C.1 C.2.1 dX5_carries_39 hl (k := 5) rfl rfl (by decide) rfl (fun ls hl => ?_)
        refine lv_goto (tgt := 3) C.1 C.2.1 dX5_carries_42 (by decide) ?_
        exact ih (x6 + 1) u403.1 u403.2 _ _ _ hE hP hS (lv_sub hl [1, 2, 3, 4, 5, 0] rfl) hX
      have hE := hR
      refine lv_if_eq (tgt := 28) C.1 C.2.1 dX5_carries_11 (by decide) (fun c402 => ?_) (fun c402 => ?_)
      · have hE := it_t c402 hE
        refine lv_aload_n C.1 C.2.1 dX5_carries_28 rfl (lv_at hl 2 rfl) ?_
        refine lv_iload C.1 C.2.1 dX5_carries_29 (lv_at hl 3 rfl) ?_
        refine lv_iload C.1 C.2.1 dX5_carries_31 (lv_at hl 5 rfl) ?_
        refine lv_iadd C.1 C.2.1 dX5_carries_33 ?_
        refine lv_aload_n C.1 C.2.1 dX5_carries_34 rfl (lv_at hl 0 rfl) ?_
        refine lv_iload C.1 C.2.1 dX5_carries_35 (lv_at hl 5 rfl) ?_
        obtain ⟨g404, hE⟩ := it_g hE
        refine ml_15 (v := (a_ill (x6).toNatClampNeg)) C hP (gi_in g404) rfl dX5_carries_37 ?_
        obtain ⟨g405, hE⟩ := it_g hE
        refine ms_33 (a := a_was) C hP hS (gi_in g405) rfl dX5_carries_38 (fun H locs hP hS => ?_)
        obtain rfl := Option.some.inj hE
        exact hJ39u403 H locs ls hP hS (lv_sub hl [0, 1, 2, 3, 4, 5] rfl)
      · have hE := it_f c402 hE
        refine lv_aload_n C.1 C.2.1 dX5_carries_14 rfl (lv_at hl 0 rfl) ?_
        refine lv_iload C.1 C.2.1 dX5_carries_15 (lv_at hl 5 rfl) ?_
        refine lv_aload_n C.1 C.2.1 dX5_carries_17 rfl (lv_at hl 2 rfl) ?_
        refine lv_iload C.1 C.2.1 dX5_carries_18 (lv_at hl 3 rfl) ?_
        refine lv_iload C.1 C.2.1 dX5_carries_20 (lv_at hl 5 rfl) ?_
        refine lv_iadd C.1 C.2.1 dX5_carries_22 ?_
        obtain ⟨g406, hE⟩ := it_g hE
        refine ml_33 (v := (a_was ((x4 + x6)).toNatClampNeg)) C hP (gi_in g406) rfl dX5_carries_23 ?_
        obtain ⟨g407, hE⟩ := it_g hE
        refine ms_15 (a := a_ill) C hP hS (gi_in g407) rfl dX5_carries_24 (fun H locs hP hS => ?_)
        refine lv_goto (tgt := 39) C.1 C.2.1 dX5_carries_25 (by decide) ?_
        obtain rfl := Option.some.inj hE
        exact hJ39u403 H locs ls hP hS (lv_sub hl [0, 1, 2, 3, 4, 5] rfl)
set_option maxHeartbeats 4000000 in
theorem metM_carries_15_33 (l : Launch) (G : kG) (h0 : Nat) (ad : Nat → Nat) (F : Nat → Int32) (A : Nat → Nat → Int32) (L : Nat → Nat → Int64) (p2 : Int32) (p4 : Int32) (p5 : Int32) (res : Int32 × (Nat → Int32) × (Nat → Int32)) (hE : sM_carries_15_33 (A 15) (A 33) p2 p4 p5 = some res) : Met l yX5_carries (ws_ yX5_carries cX5_carries 7 (some .int)) ({ frames := 0, cells := 0, slots := 0, locals := 0 } : Room) (mPc G h0 ad F A L [.ref (ad 15), .int p2, .ref (ad 33), .int p4, .int p5]) (mQc G h0 ad F (va_up (va_up A 15 res.2.1) 33 res.2.2) L (some (.int res.1))) 0 0 (mA h0 ad) := by
  refine m_ofW (by decide) rfl (Nat.le_of_ble_eq_true rfl) ?_
  intro p e s m args below meth c ls C hml hP hS hl hr hlocks
  have hl : lv_has ls 7 [(0, .ref h0), (1, .ref (ad 15)), (2, .int p2), (3, .ref (ad 33)), (4, .int p4), (5, .int p5)] := hl
  obtain ⟨Q, hQ⟩ : ∃ Q, Q = MQ below (mQc G h0 ad F (va_up (va_up A 15 res.2.1) 33 res.2.2) L (some (.int res.1))) args s 0 0 (mA h0 ad) := ⟨_, rfl⟩
  rw [← hQ]
  have hret : ∀ (pc : Nat) (ls : Array Slot) (H : Heap) (locs : List Loc), decode cX5_carries pc = .ok (.ireturn, 1) → mPw G h0 ad F (va_up (va_up A 15 res.2.1) 33 res.2.2) L H → va_S (mA h0 ad) s.heap H locs → W p l e ({ frames := 0, cells := 0, slots := 0, locals := 0 } : Room) s m args below meth c H locs 0 0 Q (F0 m pc ls [.int res.1]) := by
    intro pc ls H locs hd hP hS
    rw [hQ]
    exact m_iret C hr hlocks hd hP hS
  clear hQ
  obtain ⟨H, hH⟩ : ∃ H, H = s.heap := ⟨_, rfl⟩
  obtain ⟨locs, hlo⟩ : ∃ locs : List Loc, locs = [] := ⟨_, rfl⟩
  have hP : mPw G h0 ad F A L H := by rw [hH]; exact hP
  have hS : va_S (mA h0 ad) s.heap H locs := by rw [hH, hlo]; exact hS
  suffices hZ : W p l e ({ frames := 0, cells := 0, slots := 0, locals := 0 } : Room) s m args below meth c H locs 0 0 Q (F0 m 0 ls []) by rw [hH, hlo] at hZ; exact hZ
  clear hH hlo
  unfold sM_carries_15_33 at hE
  refine lv_iconst (v := 0) C.1 C.2.1 dX5_carries_0 (by decide) ?_
  refine lv_istore (lv' := [(6, .int 0), (0, .ref h0), (1, .ref (ad 15)), (2, .int p2), (3, .ref (ad 33)), (4, .int p4), (5, .int p5)]) C.1 C.2.1 dX5_carries_1 hl (by decide) rfl (fun ls hl => ?_)
  obtain ⟨u1, hu1, hE⟩ := it_b hE
  refine wM_carries_15_33_h3 C hml F A L p2 p4 p5 u1 2000 0 (A 15) (A 33) H locs ls hu1 hP hS (lv_sub hl [2, 3, 4, 5, 6, 0] rfl) (fun H locs ls hP hS hl => ?_)
  refine lv_iload C.1 C.2.1 dX5_carries_45 (lv_at hl 1 rfl) ?_
  refine lv_iload_n C.1 C.2.1 dX5_carries_47 rfl (lv_at hl 0 rfl) ?_
  refine lv_iadd C.1 C.2.1 dX5_carries_48 ?_
  obtain rfl := Option.some.inj hE
  exact hret _ _ _ _ dX5_carries_49 hP hS
def sM_carries_16_33_h3 (x2 : Int32) (x4 : Int32) (x5 : Int32) : Nat → Int32 → (Nat → Int32) → (Nat → Int32) → Option ((Nat → Int32) × (Nat → Int32))
  | 0, _, _, _ => none
  | fuel + 1, x6, a_had, a_was =>
    if x2 ≤ x6 then
      some (a_had, a_was)
    else
      @Option.bind ((Nat → Int32) × (Nat → Int32)) _ (
        if x5 = 0 then
          if gi x6 8 then
          if gi (x4 + x6) 60 then
          some (a_had, (upd a_was ((x4 + x6)).toNatClampNeg (a_had (x6).toNatClampNeg)))
          else none
          else none
        else
          if gi (x4 + x6) 60 then
          if gi x6 8 then
          some ((upd a_had (x6).toNatClampNeg (a_was ((x4 + x6)).toNatClampNeg)), a_was)
          else none
          else none) fun u403 =>
      sM_carries_16_33_h3 x2 x4 x5 fuel (x6 + 1) u403.1 u403.2
def sM_carries_16_33 (a_had : Nat → Int32) (a_was : Nat → Int32) (p2 : Int32) (p4 : Int32) (p5 : Int32) : Option (Int32 × (Nat → Int32) × (Nat → Int32)) :=
  (sM_carries_16_33_h3 p2 p4 p5 2000 0 a_had a_was).bind fun u1 =>
  some ((p4 + p2), u1.1, u1.2)
set_option maxHeartbeats 4000000 in
theorem wM_carries_16_33_h3 {p : Program} {l : Launch} {e : Env} {s : State} {m : MethodId} {args : Array Value} {below : List Frame} {meth : Method} {c : Code} {G : kG} {h0 : Nat} {ad : Nat → Nat} {Q : State → Prop} (C : mC p s m args c cX5_carries G h0 ad) (hml : c.maxLocals = 7) (F : Nat → Int32) (A : Nat → Nat → Int32) (L : Nat → Nat → Int64) (x2 : Int32) (x4 : Int32) (x5 : Int32) (res : (Nat → Int32) × (Nat → Int32)) :
    ∀ (fuel : Nat) (x6 : Int32) (a_had : Nat → Int32) (a_was : Nat → Int32) (H : Heap) (locs : List Loc) (ls : Array Slot), sM_carries_16_33_h3 x2 x4 x5 fuel x6 a_had a_was = some res → mPw G h0 ad F (va_up (va_up A 16 a_had) 33 a_was) L H → va_S (mA h0 ad) s.heap H locs → lv_has ls 7 [(1, .ref (ad 16)), (2, .int x2), (3, .ref (ad 33)), (4, .int x4), (5, .int x5), (6, .int x6)] → (∀ (H : Heap) (locs : List Loc) (ls : Array Slot), mPw G h0 ad F (va_up (va_up A 16 res.1) 33 res.2) L H → va_S (mA h0 ad) s.heap H locs → lv_has ls 7 [(2, .int x2), (4, .int x4)] → W p l e ({ frames := 0, cells := 0, slots := 0, locals := 0 } : Room) s m args below meth c H locs 0 0 Q (F0 m 45 ls [])) → W p l e ({ frames := 0, cells := 0, slots := 0, locals := 0 } : Room) s m args below meth c H locs 0 0 Q (F0 m 3 ls []) := by
  intro fuel
  induction fuel with
  | zero =>
    intro x6 a_had a_was H locs ls hE
    exact it_n hE
  | succ fuel ih =>
    intro x6 a_had a_was H locs ls hE hP hS hl hX
    rw [sM_carries_16_33_h3] at hE
    refine lv_iload C.1 C.2.1 dX5_carries_3 (lv_at hl 5 rfl) ?_
    refine lv_iload_n C.1 C.2.1 dX5_carries_5 rfl (lv_at hl 1 rfl) ?_
    refine lv_icmp_ge (tgt := 45) C.1 C.2.1 dX5_carries_6 (by decide) (fun c401 => ?_) (fun c401 => ?_)
    · have hE := it_t c401 hE
      obtain rfl := Option.some.inj hE
      exact hX H locs ls hP hS (lv_sub hl [1, 3] rfl)
    · have hE := it_f c401 hE
      refine lv_iload C.1 C.2.1 dX5_carries_9 (lv_at hl 4 rfl) ?_
      obtain ⟨u403, hR, hE⟩ := it_b hE
      have hJ39u403 : ∀ (H : Heap) (locs : List Loc) (ls : Array Slot), mPw G h0 ad F (va_up (va_up A 16 u403.1) 33 u403.2) L H → va_S (mA h0 ad) s.heap H locs → lv_has ls 7 [(1, .ref (ad 16)), (2, .int x2), (3, .ref (ad 33)), (4, .int x4), (5, .int x5), (6, .int x6)] → W p l e ({ frames := 0, cells := 0, slots := 0, locals := 0 } : Room) s m args below meth c H locs 0 0 Q (F0 m 39 ls []) := by
        intro H locs ls hP hS hl
        refine lv_iinc (v := (x6 + 1)) (lv' := [(6, .int (x6 + 1)), (1, .ref (ad 16)), (2, .int x2), (3, .ref (ad 33)), (4, .int x4), (5, .int x5)]) C.1 C.2.1 dX5_carries_39 hl (k := 5) rfl rfl (by decide) rfl (fun ls hl => ?_)
        refine lv_goto (tgt := 3) C.1 C.2.1 dX5_carries_42 (by decide) ?_
        exact ih (x6 + 1) u403.1 u403.2 _ _ _ hE hP hS (lv_sub hl [1, 2, 3, 4, 5, 0] rfl) hX
      have hE := hR
      refine lv_if_eq (tgt := 28) C.1 C.2.1 dX5_carries_11 (by decide) (fun c402 => ?_) (fun c402 => ?_)
      · have hE := it_t c402 hE
        refine lv_aload_n C.1 C.2.1 dX5_carries_28 rfl (lv_at hl 2 rfl) ?_
        refine lv_iload C.1 C.2.1 dX5_carries_29 (lv_at hl 3 rfl) ?_
        refine lv_iload C.1 C.2.1 dX5_carries_31 (lv_at hl 5 rfl) ?_
        refine lv_iadd C.1 C.2.1 dX5_carries_33 ?_
        refine lv_aload_n C.1 C.2.1 dX5_carries_34 rfl (lv_at hl 0 rfl) ?_
        refine lv_iload C.1 C.2.1 dX5_carries_35 (lv_at hl 5 rfl) ?_
        obtain ⟨g404, hE⟩ := it_g hE
        refine ml_16 (v := (a_had (x6).toNatClampNeg)) C hP (gi_in g404) rfl dX5_carries_37 ?_
        obtain ⟨g405, hE⟩ := it_g hE
        refine ms_33 (a := a_was) C hP hS (gi_in g405) rfl dX5_carries_38 (fun H locs hP hS => ?_)
        obtain rfl := Option.some.inj hE
        exact hJ39u403 H locs ls hP hS (lv_sub hl [0, 1, 2, 3, 4, 5] rfl)
      · have hE := it_f c402 hE
        refine lv_aload_n C.1 C.2.1 dX5_carries_14 rfl (lv_at hl 0 rfl) ?_
        refine lv_iload C.1 C.2.1 dX5_carries_15 (lv_at hl 5 rfl) ?_
        refine lv_aload_n C.1 C.2.1 dX5_carries_17 rfl (lv_at hl 2 rfl) ?_
        refine lv_iload C.1 C.2.1 dX5_carries_18 (lv_at hl 3 rfl) ?_
        refine lv_iload C.1 C.2.1 dX5_carries_20 (lv_at hl 5 rfl) ?_
        refine lv_iadd C.1 C.2.1 dX5_carries_22 ?_
        obtain ⟨g406, hE⟩ := it_g hE
        refine ml_33 (v := (a_was ((x4 + x6)).toNatClampNeg)) C hP (gi_in g406) rfl dX5_carries_23 ?_
        obtain ⟨g407, hE⟩ := it_g hE
        refine ms_16 (a := a_had) C hP hS (gi_in g407) rfl dX5_carries_24 (fun H locs hP hS => ?_)
        refine lv_goto (tgt := 39) C.1 C.2.1 dX5_carries_25 (by decide) ?_
        obtain rfl := Option.some.inj hE
        exact hJ39u403 H locs ls hP hS (lv_sub hl [0, 1, 2, 3, 4, 5] rfl)
set_option maxHeartbeats 4000000 in
theorem metM_carries_16_33 (l : Launch) (G : kG) (h0 : Nat) (ad : Nat → Nat) (F : Nat → Int32) (A : Nat → Nat → Int32) (L : Nat → Nat → Int64) (p2 : Int32) (p4 : Int32) (p5 : Int32) (res : Int32 × (Nat → Int32) × (Nat → Int32)) (hE : sM_carries_16_33 (A 16) (A 33) p2 p4 p5 = some res) : Met l yX5_carries (ws_ yX5_carries cX5_carries 7 (some .int)) ({ frames := 0, cells := 0, slots := 0, locals := 0 } : Room) (mPc G h0 ad F A L [.ref (ad 16), .int p2, .ref (ad 33), .int p4, .int p5]) (mQc G h0 ad F (va_up (va_up A 16 res.2.1) 33 res.2.2) L (some (.int res.1))) 0 0 (mA h0 ad) := by
  refine m_ofW (by decide) rfl (Nat.le_of_ble_eq_true rfl) ?_
  intro p e s m args below meth c ls C hml hP hS hl hr hlocks
  have hl : lv_has ls 7 [(0, .ref h0), (1, .ref (ad 16)), (2, .int p2), (3, .ref (ad 33)), (4, .int p4), (5, .int p5)] := hl
  obtain ⟨Q, hQ⟩ : ∃ Q, Q = MQ below (mQc G h0 ad F (va_up (va_up A 16 res.2.1) 33 res.2.2) L (some (.int res.1))) args s 0 0 (mA h0 ad) := ⟨_, rfl⟩
  rw [← hQ]
  have hret : ∀ (pc : Nat) (ls : Array Slot) (H : Heap) (locs : List Loc), decode cX5_carries pc = .ok (.ireturn, 1) → mPw G h0 ad F (va_up (va_up A 16 res.2.1) 33 res.2.2) L H → va_S (mA h0 ad) s.heap H locs → W p l e ({ frames := 0, cells := 0, slots := 0, locals := 0 } : Room) s m args below meth c H locs 0 0 Q (F0 m pc ls [.int res.1]) := by
    intro pc ls H locs hd hP hS
    rw [hQ]
    exact m_iret C hr hlocks hd hP hS
  clear hQ
  obtain ⟨H, hH⟩ : ∃ H, H = s.heap := ⟨_, rfl⟩
  obtain ⟨locs, hlo⟩ : ∃ locs : List Loc, locs = [] := ⟨_, rfl⟩
  have hP : mPw G h0 ad F A L H := by rw [hH]; exact hP
  have hS : va_S (mA h0 ad) s.heap H locs := by rw [hH, hlo]; exact hS
  suffices hZ : W p l e ({ frames := 0, cells := 0, slots := 0, locals := 0 } : Room) s m args below meth c H locs 0 0 Q (F0 m 0 ls []) by rw [hH, hlo] at hZ; exact hZ
  clear hH hlo
  unfold sM_carries_16_33 at hE
  refine lv_iconst (v := 0) C.1 C.2.1 dX5_carries_0 (by decide) ?_
  refine lv_istore (lv' := [(6, .int 0), (0, .ref h0), (1, .ref (ad 16)), (2, .int p2), (3, .ref (ad 33)), (4, .int p4), (5, .int p5)]) C.1 C.2.1 dX5_carries_1 hl (by decide) rfl (fun ls hl => ?_)
  obtain ⟨u1, hu1, hE⟩ := it_b hE
  refine wM_carries_16_33_h3 C hml F A L p2 p4 p5 u1 2000 0 (A 16) (A 33) H locs ls hu1 hP hS (lv_sub hl [2, 3, 4, 5, 6, 0] rfl) (fun H locs ls hP hS hl => ?_)
  refine lv_iload C.1 C.2.1 dX5_carries_45 (lv_at hl 1 rfl) ?_
  refine lv_iload_n C.1 C.2.1 dX5_carries_47 rfl (lv_at hl 0 rfl) ?_
  refine lv_iadd C.1 C.2.1 dX5_carries_48 ?_
  obtain rfl := Option.some.inj hE
  exact hret _ _ _ _ dX5_carries_49 hP hS
def sM_carries_17_33_h3 (x2 : Int32) (x4 : Int32) (x5 : Int32) : Nat → Int32 → (Nat → Int32) → (Nat → Int32) → Option ((Nat → Int32) × (Nat → Int32))
  | 0, _, _, _ => none
  | fuel + 1, x6, a_deaths, a_was =>
    if x2 ≤ x6 then
      some (a_deaths, a_was)
    else
      @Option.bind ((Nat → Int32) × (Nat → Int32)) _ (
        if x5 = 0 then
          if gi x6 3 then
          if gi (x4 + x6) 60 then
          some (a_deaths, (upd a_was ((x4 + x6)).toNatClampNeg (a_deaths (x6).toNatClampNeg)))
          else none
          else none
        else
          if gi (x4 + x6) 60 then
          if gi x6 3 then
          some ((upd a_deaths (x6).toNatClampNeg (a_was ((x4 + x6)).toNatClampNeg)), a_was)
          else none
          else none) fun u403 =>
      sM_carries_17_33_h3 x2 x4 x5 fuel (x6 + 1) u403.1 u403.2
def sM_carries_17_33 (a_deaths : Nat → Int32) (a_was : Nat → Int32) (p2 : Int32) (p4 : Int32) (p5 : Int32) : Option (Int32 × (Nat → Int32) × (Nat → Int32)) :=
  (sM_carries_17_33_h3 p2 p4 p5 2000 0 a_deaths a_was).bind fun u1 =>
  some ((p4 + p2), u1.1, u1.2)
set_option maxHeartbeats 4000000 in
theorem wM_carries_17_33_h3 {p : Program} {l : Launch} {e : Env} {s : State} {m : MethodId} {args : Array Value} {below : List Frame} {meth : Method} {c : Code} {G : kG} {h0 : Nat} {ad : Nat → Nat} {Q : State → Prop} (C : mC p s m args c cX5_carries G h0 ad) (hml : c.maxLocals = 7) (F : Nat → Int32) (A : Nat → Nat → Int32) (L : Nat → Nat → Int64) (x2 : Int32) (x4 : Int32) (x5 : Int32) (res : (Nat → Int32) × (Nat → Int32)) :
    ∀ (fuel : Nat) (x6 : Int32) (a_deaths : Nat → Int32) (a_was : Nat → Int32) (H : Heap) (locs : List Loc) (ls : Array Slot), sM_carries_17_33_h3 x2 x4 x5 fuel x6 a_deaths a_was = some res → mPw G h0 ad F (va_up (va_up A 17 a_deaths) 33 a_was) L H → va_S (mA h0 ad) s.heap H locs → lv_has ls 7 [(1, .ref (ad 17)), (2, .int x2), (3, .ref (ad 33)), (4, .int x4), (5, .int x5), (6, .int x6)] → (∀ (H : Heap) (locs : List Loc) (ls : Array Slot), mPw G h0 ad F (va_up (va_up A 17 res.1) 33 res.2) L H → va_S (mA h0 ad) s.heap H locs → lv_has ls 7 [(2, .int x2), (4, .int x4)] → W p l e ({ frames := 0, cells := 0, slots := 0, locals := 0 } : Room) s m args below meth c H locs 0 0 Q (F0 m 45 ls [])) → W p l e ({ frames := 0, cells := 0, slots := 0, locals := 0 } : Room) s m args below meth c H locs 0 0 Q (F0 m 3 ls []) := by
  intro fuel
  induction fuel with
  | zero =>
    intro x6 a_deaths a_was H locs ls hE
    exact it_n hE
  | succ fuel ih =>
    intro x6 a_deaths a_was H locs ls hE hP hS hl hX
    rw [sM_carries_17_33_h3] at hE
    refine lv_iload C.1 C.2.1 dX5_carries_3 (lv_at hl 5 rfl) ?_
    refine lv_iload_n C.1 C.2.1 dX5_carries_5 rfl (lv_at hl 1 rfl) ?_
    refine lv_icmp_ge (tgt := 45) C.1 C.2.1 dX5_carries_6 (by decide) (fun c401 => ?_) (fun c401 => ?_)
    · have hE := it_t c401 hE
      obtain rfl := Option.some.inj hE
      exact hX H locs ls hP hS (lv_sub hl [1, 3] rfl)
    · have hE := it_f c401 hE
      refine lv_iload C.1 C.2.1 dX5_carries_9 (lv_at hl 4 rfl) ?_
      obtain ⟨u403, hR, hE⟩ := it_b hE
      have hJ39u403 : ∀ (H : Heap) (locs : List Loc) (ls : Array Slot), mPw G h0 ad F (va_up (va_up A 17 u403.1) 33 u403.2) L H → va_S (mA h0 ad) s.heap H locs → lv_has ls 7 [(1, .ref (ad 17)), (2, .int x2), (3, .ref (ad 33)), (4, .int x4), (5, .int x5), (6, .int x6)] → W p l e ({ frames := 0, cells := 0, slots := 0, locals := 0 } : Room) s m args below meth c H locs 0 0 Q (F0 m 39 ls []) := by
        intro H locs ls hP hS hl
        refine lv_iinc (v := (x6 + 1)) (lv' := [(6, .int (x6 + 1)), (1, .ref (ad 17)), (2, .int x2), (3, .ref (ad 33)), (4, .int x4), (5, .int x5)]) C.1 C.2.1 dX5_carries_39 hl (k := 5) rfl rfl (by decide) rfl (fun ls hl => ?_)
        refine lv_goto (tgt := 3) C.1 C.2.1 dX5_carries_42 (by decide) ?_
        exact ih (x6 + 1) u403.1 u403.2 _ _ _ hE hP hS (lv_sub hl [1, 2, 3, 4, 5, 0] rfl) hX
      have hE := hR
      refine lv_if_eq (tgt := 28) C.1 C.2.1 dX5_carries_11 (by decide) (fun c402 => ?_) (fun c402 => ?_)
      · have hE := it_t c402 hE
        refine lv_aload_n C.1 C.2.1 dX5_carries_28 rfl (lv_at hl 2 rfl) ?_
        refine lv_iload C.1 C.2.1 dX5_carries_29 (lv_at hl 3 rfl) ?_
        refine lv_iload C.1 C.2.1 dX5_carries_31 (lv_at hl 5 rfl) ?_
        refine lv_iadd C.1 C.2.1 dX5_carries_33 ?_
        refine lv_aload_n C.1 C.2.1 dX5_carries_34 rfl (lv_at hl 0 rfl) ?_
        refine lv_iload C.1 C.2.1 dX5_carries_35 (lv_at hl 5 rfl) ?_
        obtain ⟨g404, hE⟩ := it_g hE
        refine ml_17 (v := (a_deaths (x6).toNatClampNeg)) C hP (gi_in g404) rfl dX5_carries_37 ?_
        obtain ⟨g405, hE⟩ := it_g hE
        refine ms_33 (a := a_was) C hP hS (gi_in g405) rfl dX5_carries_38 (fun H locs hP hS => ?_)
        obtain rfl := Option.some.inj hE
        exact hJ39u403 H locs ls hP hS (lv_sub hl [0, 1, 2, 3, 4, 5] rfl)
      · have hE := it_f c402 hE
        refine lv_aload_n C.1 C.2.1 dX5_carries_14 rfl (lv_at hl 0 rfl) ?_
        refine lv_iload C.1 C.2.1 dX5_carries_15 (lv_at hl 5 rfl) ?_
        refine lv_aload_n C.1 C.2.1 dX5_carries_17 rfl (lv_at hl 2 rfl) ?_
        refine lv_iload C.1 C.2.1 dX5_carries_18 (lv_at hl 3 rfl) ?_
        refine lv_iload C.1 C.2.1 dX5_carries_20 (lv_at hl 5 rfl) ?_
        refine lv_iadd C.1 C.2.1 dX5_carries_22 ?_
        obtain ⟨g406, hE⟩ := it_g hE
        refine ml_33 (v := (a_was ((x4 + x6)).toNatClampNeg)) C hP (gi_in g406) rfl dX5_carries_23 ?_
        obtain ⟨g407, hE⟩ := it_g hE
        refine ms_17 (a := a_deaths) C hP hS (gi_in g407) rfl dX5_carries_24 (fun H locs hP hS => ?_)
        refine lv_goto (tgt := 39) C.1 C.2.1 dX5_carries_25 (by decide) ?_
        obtain rfl := Option.some.inj hE
        exact hJ39u403 H locs ls hP hS (lv_sub hl [0, 1, 2, 3, 4, 5] rfl)
set_option maxHeartbeats 4000000 in
theorem metM_carries_17_33 (l : Launch) (G : kG) (h0 : Nat) (ad : Nat → Nat) (F : Nat → Int32) (A : Nat → Nat → Int32) (L : Nat → Nat → Int64) (p2 : Int32) (p4 : Int32) (p5 : Int32) (res : Int32 × (Nat → Int32) × (Nat → Int32)) (hE : sM_carries_17_33 (A 17) (A 33) p2 p4 p5 = some res) : Met l yX5_carries (ws_ yX5_carries cX5_carries 7 (some .int)) ({ frames := 0, cells := 0, slots := 0, locals := 0 } : Room) (mPc G h0 ad F A L [.ref (ad 17), .int p2, .ref (ad 33), .int p4, .int p5]) (mQc G h0 ad F (va_up (va_up A 17 res.2.1) 33 res.2.2) L (some (.int res.1))) 0 0 (mA h0 ad) := by
  refine m_ofW (by decide) rfl (Nat.le_of_ble_eq_true rfl) ?_
  intro p e s m args below meth c ls C hml hP hS hl hr hlocks
  have hl : lv_has ls 7 [(0, .ref h0), (1, .ref (ad 17)), (2, .int p2), (3, .ref (ad 33)), (4, .int p4), (5, .int p5)] := hl
  obtain ⟨Q, hQ⟩ : ∃ Q, Q = MQ below (mQc G h0 ad F (va_up (va_up A 17 res.2.1) 33 res.2.2) L (some (.int res.1))) args s 0 0 (mA h0 ad) := ⟨_, rfl⟩
  rw [← hQ]
  have hret : ∀ (pc : Nat) (ls : Array Slot) (H : Heap) (locs : List Loc), decode cX5_carries pc = .ok (.ireturn, 1) → mPw G h0 ad F (va_up (va_up A 17 res.2.1) 33 res.2.2) L H → va_S (mA h0 ad) s.heap H locs → W p l e ({ frames := 0, cells := 0, slots := 0, locals := 0 } : Room) s m args below meth c H locs 0 0 Q (F0 m pc ls [.int res.1]) := by
    intro pc ls H locs hd hP hS
    rw [hQ]
    exact m_iret C hr hlocks hd hP hS
  clear hQ
  obtain ⟨H, hH⟩ : ∃ H, H = s.heap := ⟨_, rfl⟩
  obtain ⟨locs, hlo⟩ : ∃ locs : List Loc, locs = [] := ⟨_, rfl⟩
  have hP : mPw G h0 ad F A L H := by rw [hH]; exact hP
  have hS : va_S (mA h0 ad) s.heap H locs := by rw [hH, hlo]; exact hS
  suffices hZ : W p l e ({ frames := 0, cells := 0, slots := 0, locals := 0 } : Room) s m args below meth c H locs 0 0 Q (F0 m 0 ls []) by rw [hH, hlo] at hZ; exact hZ
  clear hH hlo
  unfold sM_carries_17_33 at hE
  refine lv_iconst (v := 0) C.1 C.2.1 dX5_carries_0 (by decide) ?_
  refine lv_istore (lv' := [(6, .int 0), (0, .ref h0), (1, .ref (ad 17)), (2, .int p2), (3, .ref (ad 33)), (4, .int p4), (5, .int p5)]) C.1 C.2.1 dX5_carries_1 hl (by decide) rfl (fun ls hl => ?_)
  obtain ⟨u1, hu1, hE⟩ := it_b hE
  refine wM_carries_17_33_h3 C hml F A L p2 p4 p5 u1 2000 0 (A 17) (A 33) H locs ls hu1 hP hS (lv_sub hl [2, 3, 4, 5, 6, 0] rfl) (fun H locs ls hP hS hl => ?_)
  refine lv_iload C.1 C.2.1 dX5_carries_45 (lv_at hl 1 rfl) ?_
  refine lv_iload_n C.1 C.2.1 dX5_carries_47 rfl (lv_at hl 0 rfl) ?_
  refine lv_iadd C.1 C.2.1 dX5_carries_48 ?_
  obtain rfl := Option.some.inj hE
  exact hret _ _ _ _ dX5_carries_49 hP hS
def sM_all_33_h86 (x2 : Int32) (x3 : Int32) : Nat → Int32 → Int32 → Int32 → Int32 → Int32 → Int32 → Int32 → (Nat → Int32) → Option (Int32 × Int32 × Int32 × Int32 × Int32 × Int32 × (Nat → Int32))
  | 0, _, _, _, _, _, _, _, _ => none
  | fuel + 1, x4, f_weight, f_fright, f_age, f_feed, f_life, f_low, a_was =>
    if 6 ≤ x4 then
      some (f_weight, f_fright, f_age, f_feed, f_life, f_low, a_was)
    else
      @Option.bind (Int32 × Int32 × Int32 × Int32 × Int32 × Int32 × (Nat → Int32)) _ (
        if x2 = 0 then
          (sM_told f_weight f_fright f_age f_feed f_life f_low x4).bind fun r8704 =>
          if gi (x3 + x4) 60 then
          some (f_weight, f_fright, f_age, f_feed, f_life, f_low, (upd a_was ((x3 + x4)).toNatClampNeg r8704))
          else none
        else
          if gi (x3 + x4) 60 then
          (sM_tells f_weight f_fright f_age f_feed f_life f_low x4 (a_was ((x3 + x4)).toNatClampNeg)).bind fun r8707 =>
          some (r8707.1, r8707.2.1, r8707.2.2.1, r8707.2.2.2.1, r8707.2.2.2.2.1, r8707.2.2.2.2.2, a_was)
          else none) fun u8703 =>
      sM_all_33_h86 x2 x3 fuel (x4 + 1) u8703.1 u8703.2.1 u8703.2.2.1 u8703.2.2.2.1 u8703.2.2.2.2.1 u8703.2.2.2.2.2.1 u8703.2.2.2.2.2.2
def sM_all_33 (f_many : Int32) (f_weight : Int32) (f_fright : Int32) (f_age : Int32) (f_pets : Int32) (f_feed : Int32) (f_life : Int32) (f_low : Int32) (f_last : Int32) (f_seed : Int32) (a_kind : Nat → Int32) (a_part : Nat → Int32) (a_marks : Nat → Int32) (a_ill : Nat → Int32) (a_had : Nat → Int32) (a_deaths : Nat → Int32) (a_was : Nat → Int32) (p2 : Int32) : Option (Int32 × Int32 × Int32 × Int32 × Int32 × Int32 × Int32 × Int32 × Int32 × Int32 × (Nat → Int32) × (Nat → Int32) × (Nat → Int32) × (Nat → Int32) × (Nat → Int32) × (Nat → Int32) × (Nat → Int32)) :=
  (sM_carries_12_33 a_kind a_was 8 0 p2).bind fun r1 =>
  (sM_carries_13_33 a_part r1.2.2 8 r1.1 p2).bind fun r2 =>
  (sM_carries_14_33 a_marks r2.2.2 8 r2.1 p2).bind fun r3 =>
  (sM_carries_15_33 a_ill r3.2.2 8 r3.1 p2).bind fun r4 =>
  (sM_carries_16_33 a_had r4.2.2 8 r4.1 p2).bind fun r5 =>
  (sM_carries_17_33 a_deaths r5.2.2 3 r5.1 p2).bind fun r6 =>
  (sM_all_33_h86 p2 r6.1 2000 0 f_weight f_fright f_age f_feed f_life f_low r6.2.2).bind fun u7 =>
  if p2 = 0 then
    if gi (r6.1 + 6) 60 then
    if gi ((r6.1 + 6) + 1) 60 then
    if gi ((r6.1 + 6) + 2) 60 then
    if gi ((r6.1 + 6) + 3) 60 then
    some (f_many, u7.1, u7.2.1, u7.2.2.1, f_pets, u7.2.2.2.1, u7.2.2.2.2.1, u7.2.2.2.2.2.1, f_last, f_seed, r1.2.1, r2.2.1, r3.2.1, r4.2.1, r5.2.1, r6.2.1, (upd (upd (upd (upd u7.2.2.2.2.2.2 ((r6.1 + 6)).toNatClampNeg f_many) (((r6.1 + 6) + 1)).toNatClampNeg f_pets) (((r6.1 + 6) + 2)).toNatClampNeg f_last) (((r6.1 + 6) + 3)).toNatClampNeg f_seed))
    else none
    else none
    else none
    else none
  else
    if gi (r6.1 + 6) 60 then
    if gi ((r6.1 + 6) + 1) 60 then
    if gi ((r6.1 + 6) + 2) 60 then
    if gi ((r6.1 + 6) + 3) 60 then
    some ((u7.2.2.2.2.2.2 ((r6.1 + 6)).toNatClampNeg), u7.1, u7.2.1, u7.2.2.1, (u7.2.2.2.2.2.2 (((r6.1 + 6) + 1)).toNatClampNeg), u7.2.2.2.1, u7.2.2.2.2.1, u7.2.2.2.2.2.1, (u7.2.2.2.2.2.2 (((r6.1 + 6) + 2)).toNatClampNeg), (u7.2.2.2.2.2.2 (((r6.1 + 6) + 3)).toNatClampNeg), r1.2.1, r2.2.1, r3.2.1, r4.2.1, r5.2.1, r6.2.1, u7.2.2.2.2.2.2)
    else none
    else none
    else none
    else none
set_option maxHeartbeats 4000000 in
theorem wM_all_33_h86 {p : Program} {l : Launch} {e : Env} {s : State} {m : MethodId} {args : Array Value} {below : List Frame} {meth : Method} {c : Code} {G : kG} {h0 : Nat} {ad : Nat → Nat} {Q : State → Prop} (C : mC p s m args c cX5_all G h0 ad) (hml : c.maxLocals = 5) (F : Nat → Int32) (A : Nat → Nat → Int32) (L : Nat → Nat → Int64) (x2 : Int32) (x3 : Int32) (f_many : Int32) (f_pets : Int32) (f_last : Int32) (f_seed : Int32) (a_kind : Nat → Int32) (a_part : Nat → Int32) (a_marks : Nat → Int32) (a_ill : Nat → Int32) (a_had : Nat → Int32) (a_deaths : Nat → Int32) (res : Int32 × Int32 × Int32 × Int32 × Int32 × Int32 × (Nat → Int32)) :
    ∀ (fuel : Nat) (x4 : Int32) (f_weight : Int32) (f_fright : Int32) (f_age : Int32) (f_feed : Int32) (f_life : Int32) (f_low : Int32) (a_was : Nat → Int32) (H : Heap) (locs : List Loc) (ls : Array Slot), sM_all_33_h86 x2 x3 fuel x4 f_weight f_fright f_age f_feed f_life f_low a_was = some res → mPw G h0 ad (upd (upd (upd (upd (upd (upd (upd (upd (upd (upd F 0 f_many) 1 f_weight) 2 f_fright) 3 f_age) 4 f_pets) 5 f_feed) 6 f_life) 7 f_low) 8 f_last) 9 f_seed) (va_up (va_up (va_up (va_up (va_up (va_up (va_up A 12 a_kind) 13 a_part) 14 a_marks) 15 a_ill) 16 a_had) 17 a_deaths) 33 a_was) L H → va_S (mA h0 ad) s.heap H locs → lv_has ls 5 [(0, .ref h0), (1, .ref (ad 33)), (2, .int x2), (3, .int x3), (4, .int x4)] → (∀ (H : Heap) (locs : List Loc) (ls : Array Slot), mPw G h0 ad (upd (upd (upd (upd (upd (upd (upd (upd (upd (upd F 0 f_many) 1 res.1) 2 res.2.1) 3 res.2.2.1) 4 f_pets) 5 res.2.2.2.1) 6 res.2.2.2.2.1) 7 res.2.2.2.2.2.1) 8 f_last) 9 f_seed) (va_up (va_up (va_up (va_up (va_up (va_up (va_up A 12 a_kind) 13 a_part) 14 a_marks) 15 a_ill) 16 a_had) 17 a_deaths) 33 res.2.2.2.2.2.2) L H → va_S (mA h0 ad) s.heap H locs → lv_has ls 5 [(0, .ref h0), (1, .ref (ad 33)), (2, .int x2), (3, .int x3)] → W p l e ({ frames := 1, cells := 0, slots := 0, locals := 26 } : Room) s m args below meth c H locs 0 0 Q (F0 m 130 ls [])) → W p l e ({ frames := 1, cells := 0, slots := 0, locals := 26 } : Room) s m args below meth c H locs 0 0 Q (F0 m 86 ls []) := by
  intro fuel
  induction fuel with
  | zero =>
    intro x4 f_weight f_fright f_age f_feed f_life f_low a_was H locs ls hE
    exact it_n hE
  | succ fuel ih =>
    intro x4 f_weight f_fright f_age f_feed f_life f_low a_was H locs ls hE hP hS hl hX
    rw [sM_all_33_h86] at hE
    refine lv_iload C.1 C.2.1 dX5_all_86 (lv_at hl 4 rfl) ?_
    refine lv_bipush (v := 6) C.1 C.2.1 dX5_all_88 (by decide) ?_
    refine lv_icmp_ge (tgt := 130) C.1 C.2.1 dX5_all_90 (by decide) (fun c8701 => ?_) (fun c8701 => ?_)
    · have hE := it_t c8701 hE
      obtain rfl := Option.some.inj hE
      exact hX H locs ls hP hS (lv_sub hl [0, 1, 2, 3] rfl)
    · have hE := it_f c8701 hE
      refine lv_iload_n C.1 C.2.1 dX5_all_93 rfl (lv_at hl 2 rfl) ?_
      obtain ⟨u8703, hR, hE⟩ := it_b hE
      have hJ124u8703 : ∀ (H : Heap) (locs : List Loc) (ls : Array Slot), mPw G h0 ad (upd (upd (upd (upd (upd (upd (upd (upd (upd (upd F 0 f_many) 1 u8703.1) 2 u8703.2.1) 3 u8703.2.2.1) 4 f_pets) 5 u8703.2.2.2.1) 6 u8703.2.2.2.2.1) 7 u8703.2.2.2.2.2.1) 8 f_last) 9 f_seed) (va_up (va_up (va_up (va_up (va_up (va_up (va_up A 12 a_kind) 13 a_part) 14 a_marks) 15 a_ill) 16 a_had) 17 a_deaths) 33 u8703.2.2.2.2.2.2) L H → va_S (mA h0 ad) s.heap H locs → lv_has ls 5 [(0, .ref h0), (1, .ref (ad 33)), (2, .int x2), (3, .int x3), (4, .int x4)] → W p l e ({ frames := 1, cells := 0, slots := 0, locals := 26 } : Room) s m args below meth c H locs 0 0 Q (F0 m 124 ls []) := by
        intro H locs ls hP hS hl
        refine lv_iinc (v := (x4 + 1)) (lv' := [(4, .int (x4 + 1)), (0, .ref h0), (1, .ref (ad 33)), (2, .int x2), (3, .int x3)]) C.1 C.2.1 dX5_all_124 hl (k := 4) rfl rfl (by decide) rfl (fun ls hl => ?_)
        refine lv_goto (tgt := 86) C.1 C.2.1 dX5_all_127 (by decide) ?_
        exact ih (x4 + 1) u8703.1 u8703.2.1 u8703.2.2.1 u8703.2.2.2.1 u8703.2.2.2.2.1 u8703.2.2.2.2.2.1 u8703.2.2.2.2.2.2 _ _ _ hE hP hS (lv_sub hl [1, 2, 3, 4, 0] rfl) hX
      have hE := hR
      refine lv_if_eq (tgt := 112) C.1 C.2.1 dX5_all_94 (by decide) (fun c8702 => ?_) (fun c8702 => ?_)
      · have hE := it_t c8702 hE
        refine lv_aload_n C.1 C.2.1 dX5_all_112 rfl (lv_at hl 1 rfl) ?_
        refine lv_iload_n C.1 C.2.1 dX5_all_113 rfl (lv_at hl 3 rfl) ?_
        refine lv_iload C.1 C.2.1 dX5_all_114 (lv_at hl 4 rfl) ?_
        refine lv_iadd C.1 C.2.1 dX5_all_116 ?_
        refine lv_aload_n C.1 C.2.1 dX5_all_117 rfl (lv_at hl 0 rfl) ?_
        refine lv_iload C.1 C.2.1 dX5_all_118 (lv_at hl 4 rfl) ?_
        obtain ⟨r8704, hr8704, hE⟩ := it_b hE
        refine m_call (n := 1) (As := [.int x4]) (rest := [.int (x3 + x4), .ref (ad 33)]) C hP hS hml (metM_told l G h0 ad _ _ _ x4 r8704 hr8704) q1543 q1545 qs36 q1546 rfl rfl (by decide +kernel) ⟨Nat.le_of_ble_eq_true rfl, Nat.le_of_ble_eq_true rfl⟩ ⟨Nat.le_refl _, Nat.le_refl _⟩ rfl hl.1 rfl (Nat.le_of_ble_eq_true rfl) dX5_all_120 (fun H locs hP hS => ?_)
        obtain ⟨g8705, hE⟩ := it_g hE
        refine ms_33 (a := a_was) C hP hS (gi_in g8705) rfl dX5_all_123 (fun H locs hP hS => ?_)
        obtain rfl := Option.some.inj hE
        exact hJ124u8703 H locs ls hP hS (lv_sub hl [0, 1, 2, 3, 4] rfl)
      · have hE := it_f c8702 hE
        refine lv_aload_n C.1 C.2.1 dX5_all_97 rfl (lv_at hl 0 rfl) ?_
        refine lv_iload C.1 C.2.1 dX5_all_98 (lv_at hl 4 rfl) ?_
        refine lv_aload_n C.1 C.2.1 dX5_all_100 rfl (lv_at hl 1 rfl) ?_
        refine lv_iload_n C.1 C.2.1 dX5_all_101 rfl (lv_at hl 3 rfl) ?_
        refine lv_iload C.1 C.2.1 dX5_all_102 (lv_at hl 4 rfl) ?_
        refine lv_iadd C.1 C.2.1 dX5_all_104 ?_
        obtain ⟨g8706, hE⟩ := it_g hE
        refine ml_33 (v := (a_was ((x3 + x4)).toNatClampNeg)) C hP (gi_in g8706) rfl dX5_all_105 ?_
        obtain ⟨r8707, hr8707, hE⟩ := it_b hE
        refine m_call (n := 2) (As := [.int x4, .int (a_was ((x3 + x4)).toNatClampNeg)]) (rest := []) C hP hS hml (metM_tells l G h0 ad _ _ _ x4 (a_was ((x3 + x4)).toNatClampNeg) r8707 hr8707) q1547 q1549 qs37 q1550 rfl rfl (by decide +kernel) ⟨Nat.le_of_ble_eq_true rfl, Nat.le_of_ble_eq_true rfl⟩ ⟨Nat.le_refl _, Nat.le_refl _⟩ rfl hl.1 rfl (Nat.le_of_ble_eq_true rfl) dX5_all_106 (fun H locs hP hS => ?_)
        refine lv_goto (tgt := 124) C.1 C.2.1 dX5_all_109 (by decide) ?_
        obtain rfl := Option.some.inj hE
        exact hJ124u8703 H locs ls hP hS (lv_sub hl [0, 1, 2, 3, 4] rfl)
set_option maxHeartbeats 4000000 in
theorem metM_all_33 (l : Launch) (G : kG) (h0 : Nat) (ad : Nat → Nat) (F : Nat → Int32) (A : Nat → Nat → Int32) (L : Nat → Nat → Int64) (p2 : Int32) (res : Int32 × Int32 × Int32 × Int32 × Int32 × Int32 × Int32 × Int32 × Int32 × Int32 × (Nat → Int32) × (Nat → Int32) × (Nat → Int32) × (Nat → Int32) × (Nat → Int32) × (Nat → Int32) × (Nat → Int32)) (hE : sM_all_33 (F 0) (F 1) (F 2) (F 3) (F 4) (F 5) (F 6) (F 7) (F 8) (F 9) (A 12) (A 13) (A 14) (A 15) (A 16) (A 17) (A 33) p2 = some res) : Met l yX5_all (ws_ yX5_all cX5_all 5 none) ({ frames := 1, cells := 0, slots := 0, locals := 26 } : Room) (mPc G h0 ad F A L [.ref (ad 33), .int p2]) (mQc G h0 ad (upd (upd (upd (upd (upd (upd (upd (upd (upd (upd F 0 res.1) 1 res.2.1) 2 res.2.2.1) 3 res.2.2.2.1) 4 res.2.2.2.2.1) 5 res.2.2.2.2.2.1) 6 res.2.2.2.2.2.2.1) 7 res.2.2.2.2.2.2.2.1) 8 res.2.2.2.2.2.2.2.2.1) 9 res.2.2.2.2.2.2.2.2.2.1) (va_up (va_up (va_up (va_up (va_up (va_up (va_up A 12 res.2.2.2.2.2.2.2.2.2.2.1) 13 res.2.2.2.2.2.2.2.2.2.2.2.1) 14 res.2.2.2.2.2.2.2.2.2.2.2.2.1) 15 res.2.2.2.2.2.2.2.2.2.2.2.2.2.1) 16 res.2.2.2.2.2.2.2.2.2.2.2.2.2.2.1) 17 res.2.2.2.2.2.2.2.2.2.2.2.2.2.2.2.1) 33 res.2.2.2.2.2.2.2.2.2.2.2.2.2.2.2.2) L none) 0 0 (mA h0 ad) := by
  refine m_ofW (by decide) rfl (Nat.le_of_ble_eq_true rfl) ?_
  intro p e s m args below meth c ls C hml hP hS hl hr hlocks
  have hl : lv_has ls 5 [(0, .ref h0), (1, .ref (ad 33)), (2, .int p2)] := hl
  obtain ⟨Q, hQ⟩ : ∃ Q, Q = MQ below (mQc G h0 ad (upd (upd (upd (upd (upd (upd (upd (upd (upd (upd F 0 res.1) 1 res.2.1) 2 res.2.2.1) 3 res.2.2.2.1) 4 res.2.2.2.2.1) 5 res.2.2.2.2.2.1) 6 res.2.2.2.2.2.2.1) 7 res.2.2.2.2.2.2.2.1) 8 res.2.2.2.2.2.2.2.2.1) 9 res.2.2.2.2.2.2.2.2.2.1) (va_up (va_up (va_up (va_up (va_up (va_up (va_up A 12 res.2.2.2.2.2.2.2.2.2.2.1) 13 res.2.2.2.2.2.2.2.2.2.2.2.1) 14 res.2.2.2.2.2.2.2.2.2.2.2.2.1) 15 res.2.2.2.2.2.2.2.2.2.2.2.2.2.1) 16 res.2.2.2.2.2.2.2.2.2.2.2.2.2.2.1) 17 res.2.2.2.2.2.2.2.2.2.2.2.2.2.2.2.1) 33 res.2.2.2.2.2.2.2.2.2.2.2.2.2.2.2.2) L none) args s 0 0 (mA h0 ad) := ⟨_, rfl⟩
  rw [← hQ]
  have hret : ∀ (pc : Nat) (ls : Array Slot) (H : Heap) (locs : List Loc), decode cX5_all pc = .ok (.return_, 1) → mPw G h0 ad (upd (upd (upd (upd (upd (upd (upd (upd (upd (upd F 0 res.1) 1 res.2.1) 2 res.2.2.1) 3 res.2.2.2.1) 4 res.2.2.2.2.1) 5 res.2.2.2.2.2.1) 6 res.2.2.2.2.2.2.1) 7 res.2.2.2.2.2.2.2.1) 8 res.2.2.2.2.2.2.2.2.1) 9 res.2.2.2.2.2.2.2.2.2.1) (va_up (va_up (va_up (va_up (va_up (va_up (va_up A 12 res.2.2.2.2.2.2.2.2.2.2.1) 13 res.2.2.2.2.2.2.2.2.2.2.2.1) 14 res.2.2.2.2.2.2.2.2.2.2.2.2.1) 15 res.2.2.2.2.2.2.2.2.2.2.2.2.2.1) 16 res.2.2.2.2.2.2.2.2.2.2.2.2.2.2.1) 17 res.2.2.2.2.2.2.2.2.2.2.2.2.2.2.2.1) 33 res.2.2.2.2.2.2.2.2.2.2.2.2.2.2.2.2) L H → va_S (mA h0 ad) s.heap H locs → W p l e ({ frames := 1, cells := 0, slots := 0, locals := 26 } : Room) s m args below meth c H locs 0 0 Q (F0 m pc ls []) := by
    intro pc ls H locs hd hP hS
    rw [hQ]
    exact m_vret C hr hlocks hd hP hS
  clear hQ
  obtain ⟨H, hH⟩ : ∃ H, H = s.heap := ⟨_, rfl⟩
  obtain ⟨locs, hlo⟩ : ∃ locs : List Loc, locs = [] := ⟨_, rfl⟩
  have hP : mPw G h0 ad F A L H := by rw [hH]; exact hP
  have hS : va_S (mA h0 ad) s.heap H locs := by rw [hH, hlo]; exact hS
  suffices hZ : W p l e ({ frames := 1, cells := 0, slots := 0, locals := 26 } : Room) s m args below meth c H locs 0 0 Q (F0 m 0 ls []) by rw [hH, hlo] at hZ; exact hZ
  clear hH hlo
  unfold sM_all_33 at hE
  refine lv_aload_n C.1 C.2.1 dX5_all_0 rfl (lv_at hl 0 rfl) ?_
  refine lv_aload_n C.1 C.2.1 dX5_all_1 rfl (lv_at hl 0 rfl) ?_
  refine ma_12 C hP dX5_all_2 ?_
  refine lv_bipush (v := 8) C.1 C.2.1 dX5_all_5 (by decide) ?_
  refine lv_aload_n C.1 C.2.1 dX5_all_7 rfl (lv_at hl 1 rfl) ?_
  refine lv_iconst (v := 0) C.1 C.2.1 dX5_all_8 (by decide) ?_
  refine lv_iload_n C.1 C.2.1 dX5_all_9 rfl (lv_at hl 2 rfl) ?_
  obtain ⟨r1, hr1, hE⟩ := it_b hE
  refine m_call (n := 5) (As := [.ref (ad 12), .int 8, .ref (ad 33), .int 0, .int p2]) (rest := []) C hP hS hml (metM_carries_12_33 l G h0 ad _ _ _ 8 0 p2 r1 hr1) q1563 q1565 qs40 q1566 rfl rfl (by decide +kernel) ⟨Nat.le_of_ble_eq_true rfl, Nat.le_of_ble_eq_true rfl⟩ ⟨Nat.le_refl _, Nat.le_refl _⟩ rfl hl.1 rfl (Nat.le_of_ble_eq_true rfl) dX5_all_10 (fun H locs hP hS => ?_)
  refine lv_istore_n (lv' := [(3, .int r1.1), (0, .ref h0), (1, .ref (ad 33)), (2, .int p2)]) C.1 C.2.1 dX5_all_13 rfl hl (by decide) rfl (fun ls hl => ?_)
  refine lv_aload_n C.1 C.2.1 dX5_all_14 rfl (lv_at hl 1 rfl) ?_
  refine lv_aload_n C.1 C.2.1 dX5_all_15 rfl (lv_at hl 1 rfl) ?_
  refine ma_13 C hP dX5_all_16 ?_
  refine lv_bipush (v := 8) C.1 C.2.1 dX5_all_19 (by decide) ?_
  refine lv_aload_n C.1 C.2.1 dX5_all_21 rfl (lv_at hl 2 rfl) ?_
  refine lv_iload_n C.1 C.2.1 dX5_all_22 rfl (lv_at hl 0 rfl) ?_
  refine lv_iload_n C.1 C.2.1 dX5_all_23 rfl (lv_at hl 3 rfl) ?_
  obtain ⟨r2, hr2, hE⟩ := it_b hE
  refine m_call (n := 5) (As := [.ref (ad 13), .int 8, .ref (ad 33), .int r1.1, .int p2]) (rest := []) C hP hS hml (metM_carries_13_33 l G h0 ad _ _ _ 8 r1.1 p2 r2 hr2) q1563 q1565 qs40 q1566 rfl rfl (by decide +kernel) ⟨Nat.le_of_ble_eq_true rfl, Nat.le_of_ble_eq_true rfl⟩ ⟨Nat.le_refl _, Nat.le_refl _⟩ rfl hl.1 rfl (Nat.le_of_ble_eq_true rfl) dX5_all_24 (fun H locs hP hS => ?_)
  refine lv_istore_n (lv' := [(3, .int r2.1), (0, .ref h0), (1, .ref (ad 33)), (2, .int p2)]) C.1 C.2.1 dX5_all_27 rfl hl (by decide) rfl (fun ls hl => ?_)
  refine lv_aload_n C.1 C.2.1 dX5_all_28 rfl (lv_at hl 1 rfl) ?_
  refine lv_aload_n C.1 C.2.1 dX5_all_29 rfl (lv_at hl 1 rfl) ?_
  refine ma_14 C hP dX5_all_30 ?_
  refine lv_bipush (v := 8) C.1 C.2.1 dX5_all_33 (by decide) ?_
  refine lv_aload_n C.1 C.2.1 dX5_all_35 rfl (lv_at hl 2 rfl) ?_
  refine lv_iload_n C.1 C.2.1 dX5_all_36 rfl (lv_at hl 0 rfl) ?_
  refine lv_iload_n C.1 C.2.1 dX5_all_37 rfl (lv_at hl 3 rfl) ?_
  obtain ⟨r3, hr3, hE⟩ := it_b hE
  refine m_call (n := 5) (As := [.ref (ad 14), .int 8, .ref (ad 33), .int r2.1, .int p2]) (rest := []) C hP hS hml (metM_carries_14_33 l G h0 ad _ _ _ 8 r2.1 p2 r3 hr3) q1563 q1565 qs40 q1566 rfl rfl (by decide +kernel) ⟨Nat.le_of_ble_eq_true rfl, Nat.le_of_ble_eq_true rfl⟩ ⟨Nat.le_refl _, Nat.le_refl _⟩ rfl hl.1 rfl (Nat.le_of_ble_eq_true rfl) dX5_all_38 (fun H locs hP hS => ?_)
  refine lv_istore_n (lv' := [(3, .int r3.1), (0, .ref h0), (1, .ref (ad 33)), (2, .int p2)]) C.1 C.2.1 dX5_all_41 rfl hl (by decide) rfl (fun ls hl => ?_)
  refine lv_aload_n C.1 C.2.1 dX5_all_42 rfl (lv_at hl 1 rfl) ?_
  refine lv_aload_n C.1 C.2.1 dX5_all_43 rfl (lv_at hl 1 rfl) ?_
  refine ma_15 C hP dX5_all_44 ?_
  refine lv_bipush (v := 8) C.1 C.2.1 dX5_all_47 (by decide) ?_
  refine lv_aload_n C.1 C.2.1 dX5_all_49 rfl (lv_at hl 2 rfl) ?_
  refine lv_iload_n C.1 C.2.1 dX5_all_50 rfl (lv_at hl 0 rfl) ?_
  refine lv_iload_n C.1 C.2.1 dX5_all_51 rfl (lv_at hl 3 rfl) ?_
  obtain ⟨r4, hr4, hE⟩ := it_b hE
  refine m_call (n := 5) (As := [.ref (ad 15), .int 8, .ref (ad 33), .int r3.1, .int p2]) (rest := []) C hP hS hml (metM_carries_15_33 l G h0 ad _ _ _ 8 r3.1 p2 r4 hr4) q1563 q1565 qs40 q1566 rfl rfl (by decide +kernel) ⟨Nat.le_of_ble_eq_true rfl, Nat.le_of_ble_eq_true rfl⟩ ⟨Nat.le_refl _, Nat.le_refl _⟩ rfl hl.1 rfl (Nat.le_of_ble_eq_true rfl) dX5_all_52 (fun H locs hP hS => ?_)
  refine lv_istore_n (lv' := [(3, .int r4.1), (0, .ref h0), (1, .ref (ad 33)), (2, .int p2)]) C.1 C.2.1 dX5_all_55 rfl hl (by decide) rfl (fun ls hl => ?_)
  refine lv_aload_n C.1 C.2.1 dX5_all_56 rfl (lv_at hl 1 rfl) ?_
  refine lv_aload_n C.1 C.2.1 dX5_all_57 rfl (lv_at hl 1 rfl) ?_
  refine ma_16 C hP dX5_all_58 ?_
  refine lv_bipush (v := 8) C.1 C.2.1 dX5_all_61 (by decide) ?_
  refine lv_aload_n C.1 C.2.1 dX5_all_63 rfl (lv_at hl 2 rfl) ?_
  refine lv_iload_n C.1 C.2.1 dX5_all_64 rfl (lv_at hl 0 rfl) ?_
  refine lv_iload_n C.1 C.2.1 dX5_all_65 rfl (lv_at hl 3 rfl) ?_
  obtain ⟨r5, hr5, hE⟩ := it_b hE
  refine m_call (n := 5) (As := [.ref (ad 16), .int 8, .ref (ad 33), .int r4.1, .int p2]) (rest := []) C hP hS hml (metM_carries_16_33 l G h0 ad _ _ _ 8 r4.1 p2 r5 hr5) q1563 q1565 qs40 q1566 rfl rfl (by decide +kernel) ⟨Nat.le_of_ble_eq_true rfl, Nat.le_of_ble_eq_true rfl⟩ ⟨Nat.le_refl _, Nat.le_refl _⟩ rfl hl.1 rfl (Nat.le_of_ble_eq_true rfl) dX5_all_66 (fun H locs hP hS => ?_)
  refine lv_istore_n (lv' := [(3, .int r5.1), (0, .ref h0), (1, .ref (ad 33)), (2, .int p2)]) C.1 C.2.1 dX5_all_69 rfl hl (by decide) rfl (fun ls hl => ?_)
  refine lv_aload_n C.1 C.2.1 dX5_all_70 rfl (lv_at hl 1 rfl) ?_
  refine lv_aload_n C.1 C.2.1 dX5_all_71 rfl (lv_at hl 1 rfl) ?_
  refine ma_17 C hP dX5_all_72 ?_
  refine lv_iconst (v := 3) C.1 C.2.1 dX5_all_75 (by decide) ?_
  refine lv_aload_n C.1 C.2.1 dX5_all_76 rfl (lv_at hl 2 rfl) ?_
  refine lv_iload_n C.1 C.2.1 dX5_all_77 rfl (lv_at hl 0 rfl) ?_
  refine lv_iload_n C.1 C.2.1 dX5_all_78 rfl (lv_at hl 3 rfl) ?_
  obtain ⟨r6, hr6, hE⟩ := it_b hE
  refine m_call (n := 5) (As := [.ref (ad 17), .int 3, .ref (ad 33), .int r5.1, .int p2]) (rest := []) C hP hS hml (metM_carries_17_33 l G h0 ad _ _ _ 3 r5.1 p2 r6 hr6) q1563 q1565 qs40 q1566 rfl rfl (by decide +kernel) ⟨Nat.le_of_ble_eq_true rfl, Nat.le_of_ble_eq_true rfl⟩ ⟨Nat.le_refl _, Nat.le_refl _⟩ rfl hl.1 rfl (Nat.le_of_ble_eq_true rfl) dX5_all_79 (fun H locs hP hS => ?_)
  refine lv_istore_n (lv' := [(3, .int r6.1), (0, .ref h0), (1, .ref (ad 33)), (2, .int p2)]) C.1 C.2.1 dX5_all_82 rfl hl (by decide) rfl (fun ls hl => ?_)
  refine lv_iconst (v := 0) C.1 C.2.1 dX5_all_83 (by decide) ?_
  refine lv_istore (lv' := [(4, .int 0), (3, .int r6.1), (0, .ref h0), (1, .ref (ad 33)), (2, .int p2)]) C.1 C.2.1 dX5_all_84 hl (by decide) rfl (fun ls hl => ?_)
  obtain ⟨u7, hu7, hE⟩ := it_b hE
  refine wM_all_33_h86 C hml F A L p2 r6.1 (F 0) (F 4) (F 8) (F 9) r1.2.1 r2.2.1 r3.2.1 r4.2.1 r5.2.1 r6.2.1 u7 2000 0 (F 1) (F 2) (F 3) (F 5) (F 6) (F 7) r6.2.2 H locs ls hu7 hP hS (lv_sub hl [2, 3, 4, 1, 0] rfl) (fun H locs ls hP hS hl => ?_)
  refine lv_iinc (v := (r6.1 + 6)) (lv' := [(3, .int (r6.1 + 6)), (0, .ref h0), (1, .ref (ad 33)), (2, .int p2)]) C.1 C.2.1 dX5_all_130 hl (k := 3) rfl rfl (by decide) rfl (fun ls hl => ?_)
  refine lv_iload_n C.1 C.2.1 dX5_all_133 rfl (lv_at hl 3 rfl) ?_
  refine lv_if_eq (tgt := 174) C.1 C.2.1 dX5_all_134 (by decide) (fun c8 => ?_) (fun c8 => ?_)
  · have hE := it_t c8 hE
    refine lv_aload_n C.1 C.2.1 dX5_all_174 rfl (lv_at hl 2 rfl) ?_
    refine lv_iload_n C.1 C.2.1 dX5_all_175 rfl (lv_at hl 0 rfl) ?_
    refine lv_aload_n C.1 C.2.1 dX5_all_176 rfl (lv_at hl 1 rfl) ?_
    refine mg_0 (v := (F 0)) C hP rfl dX5_all_177 ?_
    obtain ⟨g9, hE⟩ := it_g hE
    refine ms_33 (a := u7.2.2.2.2.2.2) C hP hS (gi_in g9) rfl dX5_all_180 (fun H locs hP hS => ?_)
    refine lv_aload_n C.1 C.2.1 dX5_all_181 rfl (lv_at hl 2 rfl) ?_
    refine lv_iload_n C.1 C.2.1 dX5_all_182 rfl (lv_at hl 0 rfl) ?_
    refine lv_iconst (v := 1) C.1 C.2.1 dX5_all_183 (by decide) ?_
    refine lv_iadd C.1 C.2.1 dX5_all_184 ?_
    refine lv_aload_n C.1 C.2.1 dX5_all_185 rfl (lv_at hl 1 rfl) ?_
    refine mg_4 (v := (F 4)) C hP rfl dX5_all_186 ?_
    obtain ⟨g10, hE⟩ := it_g hE
    refine ms_33 (a := (upd u7.2.2.2.2.2.2 ((r6.1 + 6)).toNatClampNeg (F 0))) C hP hS (gi_in g10) rfl dX5_all_189 (fun H locs hP hS => ?_)
    refine lv_aload_n C.1 C.2.1 dX5_all_190 rfl (lv_at hl 2 rfl) ?_
    refine lv_iload_n C.1 C.2.1 dX5_all_191 rfl (lv_at hl 0 rfl) ?_
    refine lv_iconst (v := 2) C.1 C.2.1 dX5_all_192 (by decide) ?_
    refine lv_iadd C.1 C.2.1 dX5_all_193 ?_
    refine lv_aload_n C.1 C.2.1 dX5_all_194 rfl (lv_at hl 1 rfl) ?_
    refine mg_8 (v := (F 8)) C hP rfl dX5_all_195 ?_
    obtain ⟨g11, hE⟩ := it_g hE
    refine ms_33 (a := (upd (upd u7.2.2.2.2.2.2 ((r6.1 + 6)).toNatClampNeg (F 0)) (((r6.1 + 6) + 1)).toNatClampNeg (F 4))) C hP hS (gi_in g11) rfl dX5_all_198 (fun H locs hP hS => ?_)
    refine lv_aload_n C.1 C.2.1 dX5_all_199 rfl (lv_at hl 2 rfl) ?_
    refine lv_iload_n C.1 C.2.1 dX5_all_200 rfl (lv_at hl 0 rfl) ?_
    refine lv_iconst (v := 3) C.1 C.2.1 dX5_all_201 (by decide) ?_
    refine lv_iadd C.1 C.2.1 dX5_all_202 ?_
    refine lv_aload_n C.1 C.2.1 dX5_all_203 rfl (lv_at hl 1 rfl) ?_
    refine mg_9 (v := (F 9)) C hP rfl dX5_all_204 ?_
    obtain ⟨g12, hE⟩ := it_g hE
    refine ms_33 (a := (upd (upd (upd u7.2.2.2.2.2.2 ((r6.1 + 6)).toNatClampNeg (F 0)) (((r6.1 + 6) + 1)).toNatClampNeg (F 4)) (((r6.1 + 6) + 2)).toNatClampNeg (F 8))) C hP hS (gi_in g12) rfl dX5_all_207 (fun H locs hP hS => ?_)
    obtain rfl := Option.some.inj hE
    exact hret _ _ _ _ dX5_all_208 hP hS
  · have hE := it_f c8 hE
    refine lv_aload_n C.1 C.2.1 dX5_all_137 rfl (lv_at hl 1 rfl) ?_
    refine lv_aload_n C.1 C.2.1 dX5_all_138 rfl (lv_at hl 2 rfl) ?_
    refine lv_iload_n C.1 C.2.1 dX5_all_139 rfl (lv_at hl 0 rfl) ?_
    obtain ⟨g13, hE⟩ := it_g hE
    refine ml_33 (v := (u7.2.2.2.2.2.2 ((r6.1 + 6)).toNatClampNeg)) C hP (gi_in g13) rfl dX5_all_140 ?_
    refine mp_0 C hP hS dX5_all_141 (fun H locs hP hS => ?_)
    refine lv_aload_n C.1 C.2.1 dX5_all_144 rfl (lv_at hl 1 rfl) ?_
    refine lv_aload_n C.1 C.2.1 dX5_all_145 rfl (lv_at hl 2 rfl) ?_
    refine lv_iload_n C.1 C.2.1 dX5_all_146 rfl (lv_at hl 0 rfl) ?_
    refine lv_iconst (v := 1) C.1 C.2.1 dX5_all_147 (by decide) ?_
    refine lv_iadd C.1 C.2.1 dX5_all_148 ?_
    obtain ⟨g14, hE⟩ := it_g hE
    refine ml_33 (v := (u7.2.2.2.2.2.2 (((r6.1 + 6) + 1)).toNatClampNeg)) C hP (gi_in g14) rfl dX5_all_149 ?_
    refine mp_4 C hP hS dX5_all_150 (fun H locs hP hS => ?_)
    refine lv_aload_n C.1 C.2.1 dX5_all_153 rfl (lv_at hl 1 rfl) ?_
    refine lv_aload_n C.1 C.2.1 dX5_all_154 rfl (lv_at hl 2 rfl) ?_
    refine lv_iload_n C.1 C.2.1 dX5_all_155 rfl (lv_at hl 0 rfl) ?_
    refine lv_iconst (v := 2) C.1 C.2.1 dX5_all_156 (by decide) ?_
    refine lv_iadd C.1 C.2.1 dX5_all_157 ?_
    obtain ⟨g15, hE⟩ := it_g hE
    refine ml_33 (v := (u7.2.2.2.2.2.2 (((r6.1 + 6) + 2)).toNatClampNeg)) C hP (gi_in g15) rfl dX5_all_158 ?_
    refine mp_8 C hP hS dX5_all_159 (fun H locs hP hS => ?_)
    refine lv_aload_n C.1 C.2.1 dX5_all_162 rfl (lv_at hl 1 rfl) ?_
    refine lv_aload_n C.1 C.2.1 dX5_all_163 rfl (lv_at hl 2 rfl) ?_
    refine lv_iload_n C.1 C.2.1 dX5_all_164 rfl (lv_at hl 0 rfl) ?_
    refine lv_iconst (v := 3) C.1 C.2.1 dX5_all_165 (by decide) ?_
    refine lv_iadd C.1 C.2.1 dX5_all_166 ?_
    obtain ⟨g16, hE⟩ := it_g hE
    refine ml_33 (v := (u7.2.2.2.2.2.2 (((r6.1 + 6) + 3)).toNatClampNeg)) C hP (gi_in g16) rfl dX5_all_167 ?_
    refine mp_9 C hP hS dX5_all_168 (fun H locs hP hS => ?_)
    refine lv_goto (tgt := 208) C.1 C.2.1 dX5_all_171 (by decide) ?_
    obtain rfl := Option.some.inj hE
    exact hret _ _ _ _ dX5_all_208 hP hS
def sM_classOf_h62 (f_base : Int32) (f_end : Int32) (a_least : Nat → Int32) (a_greatest : Nat → Int32) (a_words : Nat → Int32) (l_cells : Nat → Int64) : Nat → Int32 → Int32 → Int32 → Int32 → Int32 → Int32 → Int32 → Int32 → Int32 → Int32 → Int32 → Int32 → Int32 → Int32 → Int32 → Int32 → Int32 → Int32 → Int32 → Int32 → (Nat → Int32) → (Nat → Int32) → (Nat → Int32) → (Nat → Int32) → (Nat → Int32) → (Nat → Int32) → (Nat → Int32) → Option (Int32 × Int32 × Int32 × Int32 × Int32 × Int32 × Int32 × Int32 × Int32 × Int32 × Int32 × Int32 × Int32 × Int32 × Int32 × Int32 × Int32 × Int32 × Int32 × Int32 × (Nat → Int32) × (Nat → Int32) × (Nat → Int32) × (Nat → Int32) × (Nat → Int32) × (Nat → Int32) × (Nat → Int32))
  | 0, _, _, _, _, _, _, _, _, _, _, _, _, _, _, _, _, _, _, _, _, _, _, _, _, _, _, _ => none
  | fuel + 1, x3, x4, f_many, f_weight, f_fright, f_age, f_pets, f_feed, f_life, f_low, f_last, f_at, f_number, f_wrongAt, f_heft, f_alarm, f_old, f_died, f_ofWhat, f_heavy, a_kind, a_part, a_marks, a_ill, a_had, a_deaths, a_tell =>
    if x4 = 0 then
      some (x3, x4, f_many, f_weight, f_fright, f_age, f_pets, f_feed, f_life, f_low, f_last, f_at, f_number, f_wrongAt, f_heft, f_alarm, f_old, f_died, f_ofWhat, f_heavy, a_kind, a_part, a_marks, a_ill, a_had, a_deaths, a_tell)
    else
      if f_end ≤ f_at then
        some (x3, x4, f_many, f_weight, f_fright, f_age, f_pets, f_feed, f_life, f_low, f_last, f_at, f_number, f_wrongAt, f_heft, f_alarm, f_old, f_died, f_ofWhat, f_heavy, a_kind, a_part, a_marks, a_ill, a_had, a_deaths, a_tell)
      else
        if gi (f_base + f_at) 1280 then
        if (((l_cells ((f_base + f_at)).toNatClampNeg) : Int64).toInt32) = 59 then
          (sM_item f_many f_weight f_fright f_age f_pets f_feed f_life f_low f_last f_base (f_at + 1) f_end f_number f_wrongAt f_heft f_alarm f_old f_died f_ofWhat f_heavy a_kind a_part a_marks a_ill a_had a_deaths a_least a_greatest a_words a_tell l_cells).bind fun r6305 =>
          sM_classOf_h62 f_base f_end a_least a_greatest a_words l_cells fuel (x3 + 1) r6305.1 r6305.2.1 r6305.2.2.1 r6305.2.2.2.1 r6305.2.2.2.2.1 r6305.2.2.2.2.2.1 r6305.2.2.2.2.2.2.1 r6305.2.2.2.2.2.2.2.1 r6305.2.2.2.2.2.2.2.2.1 r6305.2.2.2.2.2.2.2.2.2.1 r6305.2.2.2.2.2.2.2.2.2.2.1 r6305.2.2.2.2.2.2.2.2.2.2.2.1 r6305.2.2.2.2.2.2.2.2.2.2.2.2.1 r6305.2.2.2.2.2.2.2.2.2.2.2.2.2.1 r6305.2.2.2.2.2.2.2.2.2.2.2.2.2.2.1 r6305.2.2.2.2.2.2.2.2.2.2.2.2.2.2.2.1 r6305.2.2.2.2.2.2.2.2.2.2.2.2.2.2.2.2.1 r6305.2.2.2.2.2.2.2.2.2.2.2.2.2.2.2.2.2.1 r6305.2.2.2.2.2.2.2.2.2.2.2.2.2.2.2.2.2.2.1 r6305.2.2.2.2.2.2.2.2.2.2.2.2.2.2.2.2.2.2.2.1 r6305.2.2.2.2.2.2.2.2.2.2.2.2.2.2.2.2.2.2.2.2.1 r6305.2.2.2.2.2.2.2.2.2.2.2.2.2.2.2.2.2.2.2.2.2.1 r6305.2.2.2.2.2.2.2.2.2.2.2.2.2.2.2.2.2.2.2.2.2.2.1 r6305.2.2.2.2.2.2.2.2.2.2.2.2.2.2.2.2.2.2.2.2.2.2.2.1 r6305.2.2.2.2.2.2.2.2.2.2.2.2.2.2.2.2.2.2.2.2.2.2.2.2.1 r6305.2.2.2.2.2.2.2.2.2.2.2.2.2.2.2.2.2.2.2.2.2.2.2.2.2
        else
          (sM_wrong f_wrongAt f_at).bind fun r6306 =>
          sM_classOf_h62 f_base f_end a_least a_greatest a_words l_cells fuel x3 r6306.1 f_many f_weight f_fright f_age f_pets f_feed f_life f_low f_last f_at f_number r6306.2 f_heft f_alarm f_old f_died f_ofWhat f_heavy a_kind a_part a_marks a_ill a_had a_deaths a_tell
        else none
def sM_classOf (f_many : Int32) (f_weight : Int32) (f_fright : Int32) (f_age : Int32) (f_pets : Int32) (f_feed : Int32) (f_life : Int32) (f_low : Int32) (f_last : Int32) (f_seed : Int32) (f_fault : Int32) (f_base : Int32) (f_at : Int32) (f_end : Int32) (f_number : Int32) (f_wrongAt : Int32) (f_heft : Int32) (f_alarm : Int32) (f_old : Int32) (f_died : Int32) (f_ofWhat : Int32) (f_heavy : Int32) (a_refused : Nat → Int32) (a_kind : Nat → Int32) (a_part : Nat → Int32) (a_marks : Nat → Int32) (a_ill : Nat → Int32) (a_had : Nat → Int32) (a_deaths : Nat → Int32) (a_held : Nat → Int32) (a_size : Nat → Int32) (a_least : Nat → Int32) (a_greatest : Nat → Int32) (a_words : Nat → Int32) (a_tell : Nat → Int32) (a_was : Nat → Int32) (l_cells : Nat → Int64) (p1 : Int32) : Option (Int32 × Int32 × Int32 × Int32 × Int32 × Int32 × Int32 × Int32 × Int32 × Int32 × Int32 × Int32 × Int32 × Int32 × Int32 × Int32 × Int32 × Int32 × Int32 × Int32 × Int32 × Int32 × Int32 × (Nat → Int32) × (Nat → Int32) × (Nat → Int32) × (Nat → Int32) × (Nat → Int32) × (Nat → Int32) × (Nat → Int32) × (Nat → Int32) × (Nat → Int32)) :=
  (sM_wanted a_held p1).bind fun r1 =>
  if r1 = 0 then
    (sM_all_33 f_many f_weight f_fright f_age f_pets f_feed f_life f_low f_last f_seed a_kind a_part a_marks a_ill a_had a_deaths a_was 0).bind fun r3 =>
    if gi p1 8 then
    (sM_item r3.1 r3.2.1 r3.2.2.1 r3.2.2.2.1 r3.2.2.2.2.1 r3.2.2.2.2.2.1 r3.2.2.2.2.2.2.1 r3.2.2.2.2.2.2.2.1 r3.2.2.2.2.2.2.2.2.1 (160 * p1) 0 (a_size (p1).toNatClampNeg) f_number f_wrongAt f_heft f_alarm f_old f_died f_ofWhat f_heavy r3.2.2.2.2.2.2.2.2.2.2.1 r3.2.2.2.2.2.2.2.2.2.2.2.1 r3.2.2.2.2.2.2.2.2.2.2.2.2.1 r3.2.2.2.2.2.2.2.2.2.2.2.2.2.1 r3.2.2.2.2.2.2.2.2.2.2.2.2.2.2.1 r3.2.2.2.2.2.2.2.2.2.2.2.2.2.2.2.1 a_least a_greatest a_words a_tell l_cells).bind fun r5 =>
    (sM_classOf_h62 (160 * p1) (a_size (p1).toNatClampNeg) a_least a_greatest a_words l_cells 2000 1 r5.1 r5.2.1 r5.2.2.1 r5.2.2.2.1 r5.2.2.2.2.1 r5.2.2.2.2.2.1 r5.2.2.2.2.2.2.1 r5.2.2.2.2.2.2.2.1 r5.2.2.2.2.2.2.2.2.1 r5.2.2.2.2.2.2.2.2.2.1 r5.2.2.2.2.2.2.2.2.2.2.1 r5.2.2.2.2.2.2.2.2.2.2.2.1 r5.2.2.2.2.2.2.2.2.2.2.2.2.1 r5.2.2.2.2.2.2.2.2.2.2.2.2.2.1 r5.2.2.2.2.2.2.2.2.2.2.2.2.2.2.1 r5.2.2.2.2.2.2.2.2.2.2.2.2.2.2.2.1 r5.2.2.2.2.2.2.2.2.2.2.2.2.2.2.2.2.1 r5.2.2.2.2.2.2.2.2.2.2.2.2.2.2.2.2.2.1 r5.2.2.2.2.2.2.2.2.2.2.2.2.2.2.2.2.2.2.1 r5.2.2.2.2.2.2.2.2.2.2.2.2.2.2.2.2.2.2.2.1 r5.2.2.2.2.2.2.2.2.2.2.2.2.2.2.2.2.2.2.2.2.1 r5.2.2.2.2.2.2.2.2.2.2.2.2.2.2.2.2.2.2.2.2.2.1 r5.2.2.2.2.2.2.2.2.2.2.2.2.2.2.2.2.2.2.2.2.2.2.1 r5.2.2.2.2.2.2.2.2.2.2.2.2.2.2.2.2.2.2.2.2.2.2.2.1 r5.2.2.2.2.2.2.2.2.2.2.2.2.2.2.2.2.2.2.2.2.2.2.2.2.1 r5.2.2.2.2.2.2.2.2.2.2.2.2.2.2.2.2.2.2.2.2.2.2.2.2.2).bind fun u6 =>
    if u6.2.1 = 0 then
      (sM_all_33 u6.2.2.1 u6.2.2.2.1 u6.2.2.2.2.1 u6.2.2.2.2.2.1 u6.2.2.2.2.2.2.1 u6.2.2.2.2.2.2.2.1 u6.2.2.2.2.2.2.2.2.1 u6.2.2.2.2.2.2.2.2.2.1 u6.2.2.2.2.2.2.2.2.2.2.1 r3.2.2.2.2.2.2.2.2.2.1 u6.2.2.2.2.2.2.2.2.2.2.2.2.2.2.2.2.2.2.2.2.1 u6.2.2.2.2.2.2.2.2.2.2.2.2.2.2.2.2.2.2.2.2.2.1 u6.2.2.2.2.2.2.2.2.2.2.2.2.2.2.2.2.2.2.2.2.2.2.1 u6.2.2.2.2.2.2.2.2.2.2.2.2.2.2.2.2.2.2.2.2.2.2.2.1 u6.2.2.2.2.2.2.2.2.2.2.2.2.2.2.2.2.2.2.2.2.2.2.2.2.1 u6.2.2.2.2.2.2.2.2.2.2.2.2.2.2.2.2.2.2.2.2.2.2.2.2.2.1 r3.2.2.2.2.2.2.2.2.2.2.2.2.2.2.2.2 1).bind fun r8 =>
      (sM_no a_refused (-6)).bind fun r9 =>
      some (r9.1, r8.1, r8.2.1, r8.2.2.1, r8.2.2.2.1, r8.2.2.2.2.1, r8.2.2.2.2.2.1, r8.2.2.2.2.2.2.1, r8.2.2.2.2.2.2.2.1, r8.2.2.2.2.2.2.2.2.1, r8.2.2.2.2.2.2.2.2.2.1, u6.2.2.2.2.2.2.2.2.2.2.2.2.2.1, (160 * p1), u6.2.2.2.2.2.2.2.2.2.2.2.1, (a_size (p1).toNatClampNeg), u6.2.2.2.2.2.2.2.2.2.2.2.2.1, u6.2.2.2.2.2.2.2.2.2.2.2.2.2.1, u6.2.2.2.2.2.2.2.2.2.2.2.2.2.2.1, u6.2.2.2.2.2.2.2.2.2.2.2.2.2.2.2.1, u6.2.2.2.2.2.2.2.2.2.2.2.2.2.2.2.2.1, u6.2.2.2.2.2.2.2.2.2.2.2.2.2.2.2.2.2.1, u6.2.2.2.2.2.2.2.2.2.2.2.2.2.2.2.2.2.2.1, u6.2.2.2.2.2.2.2.2.2.2.2.2.2.2.2.2.2.2.2.1, r9.2, r8.2.2.2.2.2.2.2.2.2.2.1, r8.2.2.2.2.2.2.2.2.2.2.2.1, r8.2.2.2.2.2.2.2.2.2.2.2.2.1, r8.2.2.2.2.2.2.2.2.2.2.2.2.2.1, r8.2.2.2.2.2.2.2.2.2.2.2.2.2.2.1, r8.2.2.2.2.2.2.2.2.2.2.2.2.2.2.2.1, u6.2.2.2.2.2.2.2.2.2.2.2.2.2.2.2.2.2.2.2.2.2.2.2.2.2.2, r8.2.2.2.2.2.2.2.2.2.2.2.2.2.2.2.2)
    else
      some (u6.1, u6.2.2.1, u6.2.2.2.1, u6.2.2.2.2.1, u6.2.2.2.2.2.1, u6.2.2.2.2.2.2.1, u6.2.2.2.2.2.2.2.1, u6.2.2.2.2.2.2.2.2.1, u6.2.2.2.2.2.2.2.2.2.1, u6.2.2.2.2.2.2.2.2.2.2.1, r3.2.2.2.2.2.2.2.2.2.1, (-1), (160 * p1), u6.2.2.2.2.2.2.2.2.2.2.2.1, (a_size (p1).toNatClampNeg), u6.2.2.2.2.2.2.2.2.2.2.2.2.1, u6.2.2.2.2.2.2.2.2.2.2.2.2.2.1, u6.2.2.2.2.2.2.2.2.2.2.2.2.2.2.1, u6.2.2.2.2.2.2.2.2.2.2.2.2.2.2.2.1, u6.2.2.2.2.2.2.2.2.2.2.2.2.2.2.2.2.1, u6.2.2.2.2.2.2.2.2.2.2.2.2.2.2.2.2.2.1, u6.2.2.2.2.2.2.2.2.2.2.2.2.2.2.2.2.2.2.1, u6.2.2.2.2.2.2.2.2.2.2.2.2.2.2.2.2.2.2.2.1, a_refused, u6.2.2.2.2.2.2.2.2.2.2.2.2.2.2.2.2.2.2.2.2.1, u6.2.2.2.2.2.2.2.2.2.2.2.2.2.2.2.2.2.2.2.2.2.1, u6.2.2.2.2.2.2.2.2.2.2.2.2.2.2.2.2.2.2.2.2.2.2.1, u6.2.2.2.2.2.2.2.2.2.2.2.2.2.2.2.2.2.2.2.2.2.2.2.1, u6.2.2.2.2.2.2.2.2.2.2.2.2.2.2.2.2.2.2.2.2.2.2.2.2.1, u6.2.2.2.2.2.2.2.2.2.2.2.2.2.2.2.2.2.2.2.2.2.2.2.2.2.1, u6.2.2.2.2.2.2.2.2.2.2.2.2.2.2.2.2.2.2.2.2.2.2.2.2.2.2, r3.2.2.2.2.2.2.2.2.2.2.2.2.2.2.2.2)
    else none
  else
    (sM_no a_refused r1).bind fun r10 =>
    some (r10.1, f_many, f_weight, f_fright, f_age, f_pets, f_feed, f_life, f_low, f_last, f_seed, f_fault, f_base, f_at, f_end, f_number, f_wrongAt, f_heft, f_alarm, f_old, f_died, f_ofWhat, f_heavy, r10.2, a_kind, a_part, a_marks, a_ill, a_had, a_deaths, a_tell, a_was)
set_option maxHeartbeats 4000000 in
theorem wM_classOf_h62 {p : Program} {l : Launch} {e : Env} {s : State} {m : MethodId} {args : Array Value} {below : List Frame} {meth : Method} {c : Code} {G : kG} {h0 : Nat} {ad : Nat → Nat} {Q : State → Prop} (C : mC p s m args c cX5_classOf G h0 ad) (hml : c.maxLocals = 5) (F : Nat → Int32) (A : Nat → Nat → Int32) (L : Nat → Nat → Int64) (f_seed : Int32) (f_fault : Int32) (f_base : Int32) (f_end : Int32) (a_refused : Nat → Int32) (a_was : Nat → Int32) (res : Int32 × Int32 × Int32 × Int32 × Int32 × Int32 × Int32 × Int32 × Int32 × Int32 × Int32 × Int32 × Int32 × Int32 × Int32 × Int32 × Int32 × Int32 × Int32 × Int32 × (Nat → Int32) × (Nat → Int32) × (Nat → Int32) × (Nat → Int32) × (Nat → Int32) × (Nat → Int32) × (Nat → Int32)) :
    ∀ (fuel : Nat) (x3 : Int32) (x4 : Int32) (f_many : Int32) (f_weight : Int32) (f_fright : Int32) (f_age : Int32) (f_pets : Int32) (f_feed : Int32) (f_life : Int32) (f_low : Int32) (f_last : Int32) (f_at : Int32) (f_number : Int32) (f_wrongAt : Int32) (f_heft : Int32) (f_alarm : Int32) (f_old : Int32) (f_died : Int32) (f_ofWhat : Int32) (f_heavy : Int32) (a_kind : Nat → Int32) (a_part : Nat → Int32) (a_marks : Nat → Int32) (a_ill : Nat → Int32) (a_had : Nat → Int32) (a_deaths : Nat → Int32) (a_tell : Nat → Int32) (H : Heap) (locs : List Loc) (ls : Array Slot), sM_classOf_h62 f_base f_end (A 24) (A 25) (A 26) (L 22) fuel x3 x4 f_many f_weight f_fright f_age f_pets f_feed f_life f_low f_last f_at f_number f_wrongAt f_heft f_alarm f_old f_died f_ofWhat f_heavy a_kind a_part a_marks a_ill a_had a_deaths a_tell = some res → mPw G h0 ad (upd (upd (upd (upd (upd (upd (upd (upd (upd (upd (upd (upd (upd (upd (upd (upd (upd (upd (upd (upd (upd (upd F 0 f_many) 1 f_weight) 2 f_fright) 3 f_age) 4 f_pets) 5 f_feed) 6 f_life) 7 f_low) 8 f_last) 9 f_seed) 10 f_fault) 28 f_base) 29 f_at) 30 f_end) 31 f_number) 32 f_wrongAt) 35 f_heft) 36 f_alarm) 37 f_old) 38 f_died) 39 f_ofWhat) 40 f_heavy) (va_up (va_up (va_up (va_up (va_up (va_up (va_up (va_up (va_up A 11 a_refused) 12 a_kind) 13 a_part) 14 a_marks) 15 a_ill) 16 a_had) 17 a_deaths) 27 a_tell) 33 a_was) L H → va_S (mA h0 ad) s.heap H locs → lv_has ls 5 [(0, .ref h0), (3, .int x3), (4, .int x4)] → (∀ (H : Heap) (locs : List Loc) (ls : Array Slot), mPw G h0 ad (upd (upd (upd (upd (upd (upd (upd (upd (upd (upd (upd (upd (upd (upd (upd (upd (upd (upd (upd (upd (upd (upd F 0 res.2.2.1) 1 res.2.2.2.1) 2 res.2.2.2.2.1) 3 res.2.2.2.2.2.1) 4 res.2.2.2.2.2.2.1) 5 res.2.2.2.2.2.2.2.1) 6 res.2.2.2.2.2.2.2.2.1) 7 res.2.2.2.2.2.2.2.2.2.1) 8 res.2.2.2.2.2.2.2.2.2.2.1) 9 f_seed) 10 f_fault) 28 f_base) 29 res.2.2.2.2.2.2.2.2.2.2.2.1) 30 f_end) 31 res.2.2.2.2.2.2.2.2.2.2.2.2.1) 32 res.2.2.2.2.2.2.2.2.2.2.2.2.2.1) 35 res.2.2.2.2.2.2.2.2.2.2.2.2.2.2.1) 36 res.2.2.2.2.2.2.2.2.2.2.2.2.2.2.2.1) 37 res.2.2.2.2.2.2.2.2.2.2.2.2.2.2.2.2.1) 38 res.2.2.2.2.2.2.2.2.2.2.2.2.2.2.2.2.2.1) 39 res.2.2.2.2.2.2.2.2.2.2.2.2.2.2.2.2.2.2.1) 40 res.2.2.2.2.2.2.2.2.2.2.2.2.2.2.2.2.2.2.2.1) (va_up (va_up (va_up (va_up (va_up (va_up (va_up (va_up (va_up A 11 a_refused) 12 res.2.2.2.2.2.2.2.2.2.2.2.2.2.2.2.2.2.2.2.2.1) 13 res.2.2.2.2.2.2.2.2.2.2.2.2.2.2.2.2.2.2.2.2.2.1) 14 res.2.2.2.2.2.2.2.2.2.2.2.2.2.2.2.2.2.2.2.2.2.2.1) 15 res.2.2.2.2.2.2.2.2.2.2.2.2.2.2.2.2.2.2.2.2.2.2.2.1) 16 res.2.2.2.2.2.2.2.2.2.2.2.2.2.2.2.2.2.2.2.2.2.2.2.2.1) 17 res.2.2.2.2.2.2.2.2.2.2.2.2.2.2.2.2.2.2.2.2.2.2.2.2.2.1) 27 res.2.2.2.2.2.2.2.2.2.2.2.2.2.2.2.2.2.2.2.2.2.2.2.2.2.2) 33 a_was) L H → va_S (mA h0 ad) s.heap H locs → lv_has ls 5 [(0, .ref h0), (3, .int res.1), (4, .int res.2.1)] → W p l e ({ frames := 5, cells := 0, slots := 0, locals := 110 } : Room) s m args below meth c H locs 0 0 Q (F0 m 133 ls [])) → W p l e ({ frames := 5, cells := 0, slots := 0, locals := 110 } : Room) s m args below meth c H locs 0 0 Q (F0 m 62 ls []) := by
  intro fuel
  induction fuel with
  | zero =>
    intro x3 x4 f_many f_weight f_fright f_age f_pets f_feed f_life f_low f_last f_at f_number f_wrongAt f_heft f_alarm f_old f_died f_ofWhat f_heavy a_kind a_part a_marks a_ill a_had a_deaths a_tell H locs ls hE
    exact it_n hE
  | succ fuel ih =>
    intro x3 x4 f_many f_weight f_fright f_age f_pets f_feed f_life f_low f_last f_at f_number f_wrongAt f_heft f_alarm f_old f_died f_ofWhat f_heavy a_kind a_part a_marks a_ill a_had a_deaths a_tell H locs ls hE hP hS hl hX
    rw [sM_classOf_h62] at hE
    refine lv_iload C.1 C.2.1 dX5_classOf_62 (lv_at hl 2 rfl) ?_
    refine lv_if_eq (tgt := 133) C.1 C.2.1 dX5_classOf_64 (by decide) (fun c6301 => ?_) (fun c6301 => ?_)
    · have hE := it_t c6301 hE
      obtain rfl := Option.some.inj hE
      exact hX H locs ls hP hS (lv_sub hl [0, 1, 2] rfl)
    · have hE := it_f c6301 hE
      refine lv_aload_n C.1 C.2.1 dX5_classOf_67 rfl (lv_at hl 0 rfl) ?_
      refine mg_29 (v := f_at) C hP rfl dX5_classOf_68 ?_
      refine lv_aload_n C.1 C.2.1 dX5_classOf_71 rfl (lv_at hl 0 rfl) ?_
      refine mg_30 (v := f_end) C hP rfl dX5_classOf_72 ?_
      refine lv_icmp_ge (tgt := 133) C.1 C.2.1 dX5_classOf_75 (by decide) (fun c6302 => ?_) (fun c6302 => ?_)
      · have hE := it_t c6302 hE
        obtain rfl := Option.some.inj hE
        exact hX H locs ls hP hS (lv_sub hl [0, 1, 2] rfl)
      · have hE := it_f c6302 hE
        refine lv_aload_n C.1 C.2.1 dX5_classOf_78 rfl (lv_at hl 0 rfl) ?_
        refine ma_22 C hP dX5_classOf_79 ?_
        refine lv_aload_n C.1 C.2.1 dX5_classOf_82 rfl (lv_at hl 0 rfl) ?_
        refine mg_28 (v := f_base) C hP rfl dX5_classOf_83 ?_
        refine lv_aload_n C.1 C.2.1 dX5_classOf_86 rfl (lv_at hl 0 rfl) ?_
        refine mg_29 (v := f_at) C hP rfl dX5_classOf_87 ?_
        refine lv_iadd C.1 C.2.1 dX5_classOf_90 ?_
        obtain ⟨g6303, hE⟩ := it_g hE
        refine ml_22 (v := ((L 22) ((f_base + f_at)).toNatClampNeg)) C hP (gi_in g6303) rfl dX5_classOf_91 ?_
        refine lv_l2i C.1 C.2.1 dX5_classOf_92 rfl ?_
        refine lv_bipush (v := 59) C.1 C.2.1 dX5_classOf_93 (by decide) ?_
        refine lv_icmp_eq (tgt := 111) C.1 C.2.1 dX5_classOf_95 (by decide) (fun c6304 => ?_) (fun c6304 => ?_)
        · have hE := it_t c6304 hE
          refine lv_aload_n C.1 C.2.1 dX5_classOf_111 rfl (lv_at hl 0 rfl) ?_
          refine lv_dup C.1 C.2.1 dX5_classOf_112 rfl ?_
          refine mg_29 (v := f_at) C hP rfl dX5_classOf_113 ?_
          refine lv_iconst (v := 1) C.1 C.2.1 dX5_classOf_116 (by decide) ?_
          refine lv_iadd C.1 C.2.1 dX5_classOf_117 ?_
          refine mp_29 C hP hS dX5_classOf_118 (fun H locs hP hS => ?_)
          refine lv_iinc (v := (x3 + 1)) (lv' := [(3, .int (x3 + 1)), (0, .ref h0), (4, .int x4)]) C.1 C.2.1 dX5_classOf_121 hl (k := 1) rfl rfl (by decide) rfl (fun ls hl => ?_)
          refine lv_aload_n C.1 C.2.1 dX5_classOf_124 rfl (lv_at hl 1 rfl) ?_
          obtain ⟨r6305, hr6305, hE⟩ := it_b hE
          refine m_call (n := 0) (As := []) (rest := []) C hP hS hml (metM_item l G h0 ad _ _ _ r6305 hr6305) q1567 q1569 qs41 q1570 rfl rfl (by decide +kernel) ⟨Nat.le_of_ble_eq_true rfl, Nat.le_of_ble_eq_true rfl⟩ ⟨Nat.le_refl _, Nat.le_refl _⟩ rfl hl.1 rfl (Nat.le_of_ble_eq_true rfl) dX5_classOf_125 (fun H locs hP hS => ?_)
          refine lv_istore (lv' := [(4, .int r6305.1), (3, .int (x3 + 1)), (0, .ref h0)]) C.1 C.2.1 dX5_classOf_128 hl (by decide) rfl (fun ls hl => ?_)
          refine lv_goto (tgt := 62) C.1 C.2.1 dX5_classOf_130 (by decide) ?_
          exact ih (x3 + 1) r6305.1 r6305.2.1 r6305.2.2.1 r6305.2.2.2.1 r6305.2.2.2.2.1 r6305.2.2.2.2.2.1 r6305.2.2.2.2.2.2.1 r6305.2.2.2.2.2.2.2.1 r6305.2.2.2.2.2.2.2.2.1 r6305.2.2.2.2.2.2.2.2.2.1 r6305.2.2.2.2.2.2.2.2.2.2.1 r6305.2.2.2.2.2.2.2.2.2.2.2.1 r6305.2.2.2.2.2.2.2.2.2.2.2.2.1 r6305.2.2.2.2.2.2.2.2.2.2.2.2.2.1 r6305.2.2.2.2.2.2.2.2.2.2.2.2.2.2.1 r6305.2.2.2.2.2.2.2.2.2.2.2.2.2.2.2.1 r6305.2.2.2.2.2.2.2.2.2.2.2.2.2.2.2.2.1 r6305.2.2.2.2.2.2.2.2.2.2.2.2.2.2.2.2.2.1 r6305.2.2.2.2.2.2.2.2.2.2.2.2.2.2.2.2.2.2.1 r6305.2.2.2.2.2.2.2.2.2.2.2.2.2.2.2.2.2.2.2.1 r6305.2.2.2.2.2.2.2.2.2.2.2.2.2.2.2.2.2.2.2.2.1 r6305.2.2.2.2.2.2.2.2.2.2.2.2.2.2.2.2.2.2.2.2.2.1 r6305.2.2.2.2.2.2.2.2.2.2.2.2.2.2.2.2.2.2.2.2.2.2.1 r6305.2.2.2.2.2.2.2.2.2.2.2.2.2.2.2.2.2.2.2.2.2.2.2.1 r6305.2.2.2.2.2.2.2.2.2.2.2.2.2.2.2.2.2.2.2.2.2.2.2.2.1 r6305.2.2.2.2.2.2.2.2.2.2.2.2.2.2.2.2.2.2.2.2.2.2.2.2.2 _ _ _ hE hP hS (lv_sub hl [2, 1, 0] rfl) hX
        · have hE := it_f c6304 hE
          refine lv_aload_n C.1 C.2.1 dX5_classOf_98 rfl (lv_at hl 0 rfl) ?_
          refine lv_aload_n C.1 C.2.1 dX5_classOf_99 rfl (lv_at hl 0 rfl) ?_
          refine mg_29 (v := f_at) C hP rfl dX5_classOf_100 ?_
          obtain ⟨r6306, hr6306, hE⟩ := it_b hE
          refine m_call (n := 1) (As := [.int f_at]) (rest := []) C hP hS hml (metM_wrong l G h0 ad _ _ _ f_at r6306 hr6306) q1575 q1577 qs43 q1578 rfl rfl (by decide +kernel) ⟨Nat.le_of_ble_eq_true rfl, Nat.le_of_ble_eq_true rfl⟩ ⟨Nat.le_refl _, Nat.le_refl _⟩ rfl hl.1 rfl (Nat.le_of_ble_eq_true rfl) dX5_classOf_103 (fun H locs hP hS => ?_)
          refine lv_istore (lv' := [(4, .int r6306.1), (0, .ref h0), (3, .int x3)]) C.1 C.2.1 dX5_classOf_106 hl (by decide) rfl (fun ls hl => ?_)
          refine lv_goto (tgt := 62) C.1 C.2.1 dX5_classOf_108 (by decide) ?_
          exact ih x3 r6306.1 f_many f_weight f_fright f_age f_pets f_feed f_life f_low f_last f_at f_number r6306.2 f_heft f_alarm f_old f_died f_ofWhat f_heavy a_kind a_part a_marks a_ill a_had a_deaths a_tell _ _ _ hE hP hS (lv_sub hl [1, 2, 0] rfl) hX
set_option maxHeartbeats 4000000 in
theorem metM_classOf (l : Launch) (G : kG) (h0 : Nat) (ad : Nat → Nat) (F : Nat → Int32) (A : Nat → Nat → Int32) (L : Nat → Nat → Int64) (p1 : Int32) (res : Int32 × Int32 × Int32 × Int32 × Int32 × Int32 × Int32 × Int32 × Int32 × Int32 × Int32 × Int32 × Int32 × Int32 × Int32 × Int32 × Int32 × Int32 × Int32 × Int32 × Int32 × Int32 × Int32 × (Nat → Int32) × (Nat → Int32) × (Nat → Int32) × (Nat → Int32) × (Nat → Int32) × (Nat → Int32) × (Nat → Int32) × (Nat → Int32) × (Nat → Int32)) (hE : sM_classOf (F 0) (F 1) (F 2) (F 3) (F 4) (F 5) (F 6) (F 7) (F 8) (F 9) (F 10) (F 28) (F 29) (F 30) (F 31) (F 32) (F 35) (F 36) (F 37) (F 38) (F 39) (F 40) (A 11) (A 12) (A 13) (A 14) (A 15) (A 16) (A 17) (A 18) (A 20) (A 24) (A 25) (A 26) (A 27) (A 33) (L 22) p1 = some res) : Met l yX5_classOf (ws_ yX5_classOf cX5_classOf 5 (some .int)) ({ frames := 5, cells := 0, slots := 0, locals := 110 } : Room) (mPc G h0 ad F A L [.int p1]) (mQc G h0 ad (upd (upd (upd (upd (upd (upd (upd (upd (upd (upd (upd (upd (upd (upd (upd (upd (upd (upd (upd (upd (upd (upd F 0 res.2.1) 1 res.2.2.1) 2 res.2.2.2.1) 3 res.2.2.2.2.1) 4 res.2.2.2.2.2.1) 5 res.2.2.2.2.2.2.1) 6 res.2.2.2.2.2.2.2.1) 7 res.2.2.2.2.2.2.2.2.1) 8 res.2.2.2.2.2.2.2.2.2.1) 9 res.2.2.2.2.2.2.2.2.2.2.1) 10 res.2.2.2.2.2.2.2.2.2.2.2.1) 28 res.2.2.2.2.2.2.2.2.2.2.2.2.1) 29 res.2.2.2.2.2.2.2.2.2.2.2.2.2.1) 30 res.2.2.2.2.2.2.2.2.2.2.2.2.2.2.1) 31 res.2.2.2.2.2.2.2.2.2.2.2.2.2.2.2.1) 32 res.2.2.2.2.2.2.2.2.2.2.2.2.2.2.2.2.1) 35 res.2.2.2.2.2.2.2.2.2.2.2.2.2.2.2.2.2.1) 36 res.2.2.2.2.2.2.2.2.2.2.2.2.2.2.2.2.2.2.1) 37 res.2.2.2.2.2.2.2.2.2.2.2.2.2.2.2.2.2.2.2.1) 38 res.2.2.2.2.2.2.2.2.2.2.2.2.2.2.2.2.2.2.2.2.1) 39 res.2.2.2.2.2.2.2.2.2.2.2.2.2.2.2.2.2.2.2.2.2.1) 40 res.2.2.2.2.2.2.2.2.2.2.2.2.2.2.2.2.2.2.2.2.2.2.1) (va_up (va_up (va_up (va_up (va_up (va_up (va_up (va_up (va_up A 11 res.2.2.2.2.2.2.2.2.2.2.2.2.2.2.2.2.2.2.2.2.2.2.2.1) 12 res.2.2.2.2.2.2.2.2.2.2.2.2.2.2.2.2.2.2.2.2.2.2.2.2.1) 13 res.2.2.2.2.2.2.2.2.2.2.2.2.2.2.2.2.2.2.2.2.2.2.2.2.2.1) 14 res.2.2.2.2.2.2.2.2.2.2.2.2.2.2.2.2.2.2.2.2.2.2.2.2.2.2.1) 15 res.2.2.2.2.2.2.2.2.2.2.2.2.2.2.2.2.2.2.2.2.2.2.2.2.2.2.2.1) 16 res.2.2.2.2.2.2.2.2.2.2.2.2.2.2.2.2.2.2.2.2.2.2.2.2.2.2.2.2.1) 17 res.2.2.2.2.2.2.2.2.2.2.2.2.2.2.2.2.2.2.2.2.2.2.2.2.2.2.2.2.2.1) 27 res.2.2.2.2.2.2.2.2.2.2.2.2.2.2.2.2.2.2.2.2.2.2.2.2.2.2.2.2.2.2.1) 33 res.2.2.2.2.2.2.2.2.2.2.2.2.2.2.2.2.2.2.2.2.2.2.2.2.2.2.2.2.2.2.2) L (some (.int res.1))) 0 0 (mA h0 ad) := by
  refine m_ofW (by decide) rfl (Nat.le_of_ble_eq_true rfl) ?_
  intro p e s m args below meth c ls C hml hP hS hl hr hlocks
  have hl : lv_has ls 5 [(0, .ref h0), (1, .int p1)] := hl
  obtain ⟨Q, hQ⟩ : ∃ Q, Q = MQ below (mQc G h0 ad (upd (upd (upd (upd (upd (upd (upd (upd (upd (upd (upd (upd (upd (upd (upd (upd (upd (upd (upd (upd (upd (upd F 0 res.2.1) 1 res.2.2.1) 2 res.2.2.2.1) 3 res.2.2.2.2.1) 4 res.2.2.2.2.2.1) 5 res.2.2.2.2.2.2.1) 6 res.2.2.2.2.2.2.2.1) 7 res.2.2.2.2.2.2.2.2.1) 8 res.2.2.2.2.2.2.2.2.2.1) 9 res.2.2.2.2.2.2.2.2.2.2.1) 10 res.2.2.2.2.2.2.2.2.2.2.2.1) 28 res.2.2.2.2.2.2.2.2.2.2.2.2.1) 29 res.2.2.2.2.2.2.2.2.2.2.2.2.2.1) 30 res.2.2.2.2.2.2.2.2.2.2.2.2.2.2.1) 31 res.2.2.2.2.2.2.2.2.2.2.2.2.2.2.2.1) 32 res.2.2.2.2.2.2.2.2.2.2.2.2.2.2.2.2.1) 35 res.2.2.2.2.2.2.2.2.2.2.2.2.2.2.2.2.2.1) 36 res.2.2.2.2.2.2.2.2.2.2.2.2.2.2.2.2.2.2.1) 37 res.2.2.2.2.2.2.2.2.2.2.2.2.2.2.2.2.2.2.2.1) 38 res.2.2.2.2.2.2.2.2.2.2.2.2.2.2.2.2.2.2.2.2.1) 39 res.2.2.2.2.2.2.2.2.2.2.2.2.2.2.2.2.2.2.2.2.2.1) 40 res.2.2.2.2.2.2.2.2.2.2.2.2.2.2.2.2.2.2.2.2.2.2.1) (va_up (va_up (va_up (va_up (va_up (va_up (va_up (va_up (va_up A 11 res.2.2.2.2.2.2.2.2.2.2.2.2.2.2.2.2.2.2.2.2.2.2.2.1) 12 res.2.2.2.2.2.2.2.2.2.2.2.2.2.2.2.2.2.2.2.2.2.2.2.2.1) 13 res.2.2.2.2.2.2.2.2.2.2.2.2.2.2.2.2.2.2.2.2.2.2.2.2.2.1) 14 res.2.2.2.2.2.2.2.2.2.2.2.2.2.2.2.2.2.2.2.2.2.2.2.2.2.2.1) 15 res.2.2.2.2.2.2.2.2.2.2.2.2.2.2.2.2.2.2.2.2.2.2.2.2.2.2.2.1) 16 res.2.2.2.2.2.2.2.2.2.2.2.2.2.2.2.2.2.2.2.2.2.2.2.2.2.2.2.2.1) 17 res.2.2.2.2.2.2.2.2.2.2.2.2.2.2.2.2.2.2.2.2.2.2.2.2.2.2.2.2.2.1) 27 res.2.2.2.2.2.2.2.2.2.2.2.2.2.2.2.2.2.2.2.2.2.2.2.2.2.2.2.2.2.2.1) 33 res.2.2.2.2.2.2.2.2.2.2.2.2.2.2.2.2.2.2.2.2.2.2.2.2.2.2.2.2.2.2.2) L (some (.int res.1))) args s 0 0 (mA h0 ad) := ⟨_, rfl⟩
  rw [← hQ]
  have hret : ∀ (pc : Nat) (ls : Array Slot) (H : Heap) (locs : List Loc), decode cX5_classOf pc = .ok (.ireturn, 1) → mPw G h0 ad (upd (upd (upd (upd (upd (upd (upd (upd (upd (upd (upd (upd (upd (upd (upd (upd (upd (upd (upd (upd (upd (upd F 0 res.2.1) 1 res.2.2.1) 2 res.2.2.2.1) 3 res.2.2.2.2.1) 4 res.2.2.2.2.2.1) 5 res.2.2.2.2.2.2.1) 6 res.2.2.2.2.2.2.2.1) 7 res.2.2.2.2.2.2.2.2.1) 8 res.2.2.2.2.2.2.2.2.2.1) 9 res.2.2.2.2.2.2.2.2.2.2.1) 10 res.2.2.2.2.2.2.2.2.2.2.2.1) 28 res.2.2.2.2.2.2.2.2.2.2.2.2.1) 29 res.2.2.2.2.2.2.2.2.2.2.2.2.2.1) 30 res.2.2.2.2.2.2.2.2.2.2.2.2.2.2.1) 31 res.2.2.2.2.2.2.2.2.2.2.2.2.2.2.2.1) 32 res.2.2.2.2.2.2.2.2.2.2.2.2.2.2.2.2.1) 35 res.2.2.2.2.2.2.2.2.2.2.2.2.2.2.2.2.2.1) 36 res.2.2.2.2.2.2.2.2.2.2.2.2.2.2.2.2.2.2.1) 37 res.2.2.2.2.2.2.2.2.2.2.2.2.2.2.2.2.2.2.2.1) 38 res.2.2.2.2.2.2.2.2.2.2.2.2.2.2.2.2.2.2.2.2.1) 39 res.2.2.2.2.2.2.2.2.2.2.2.2.2.2.2.2.2.2.2.2.2.1) 40 res.2.2.2.2.2.2.2.2.2.2.2.2.2.2.2.2.2.2.2.2.2.2.1) (va_up (va_up (va_up (va_up (va_up (va_up (va_up (va_up (va_up A 11 res.2.2.2.2.2.2.2.2.2.2.2.2.2.2.2.2.2.2.2.2.2.2.2.1) 12 res.2.2.2.2.2.2.2.2.2.2.2.2.2.2.2.2.2.2.2.2.2.2.2.2.1) 13 res.2.2.2.2.2.2.2.2.2.2.2.2.2.2.2.2.2.2.2.2.2.2.2.2.2.1) 14 res.2.2.2.2.2.2.2.2.2.2.2.2.2.2.2.2.2.2.2.2.2.2.2.2.2.2.1) 15 res.2.2.2.2.2.2.2.2.2.2.2.2.2.2.2.2.2.2.2.2.2.2.2.2.2.2.2.1) 16 res.2.2.2.2.2.2.2.2.2.2.2.2.2.2.2.2.2.2.2.2.2.2.2.2.2.2.2.2.1) 17 res.2.2.2.2.2.2.2.2.2.2.2.2.2.2.2.2.2.2.2.2.2.2.2.2.2.2.2.2.2.1) 27 res.2.2.2.2.2.2.2.2.2.2.2.2.2.2.2.2.2.2.2.2.2.2.2.2.2.2.2.2.2.2.1) 33 res.2.2.2.2.2.2.2.2.2.2.2.2.2.2.2.2.2.2.2.2.2.2.2.2.2.2.2.2.2.2.2) L H → va_S (mA h0 ad) s.heap H locs → W p l e ({ frames := 5, cells := 0, slots := 0, locals := 110 } : Room) s m args below meth c H locs 0 0 Q (F0 m pc ls [.int res.1]) := by
    intro pc ls H locs hd hP hS
    rw [hQ]
    exact m_iret C hr hlocks hd hP hS
  clear hQ
  obtain ⟨H, hH⟩ : ∃ H, H = s.heap := ⟨_, rfl⟩
  obtain ⟨locs, hlo⟩ : ∃ locs : List Loc, locs = [] := ⟨_, rfl⟩
  have hP : mPw G h0 ad F A L H := by rw [hH]; exact hP
  have hS : va_S (mA h0 ad) s.heap H locs := by rw [hH, hlo]; exact hS
  suffices hZ : W p l e ({ frames := 5, cells := 0, slots := 0, locals := 110 } : Room) s m args below meth c H locs 0 0 Q (F0 m 0 ls []) by rw [hH, hlo] at hZ; exact hZ
  clear hH hlo
  unfold sM_classOf at hE
  refine lv_aload_n C.1 C.2.1 dX5_classOf_0 rfl (lv_at hl 0 rfl) ?_
  refine lv_iload_n C.1 C.2.1 dX5_classOf_1 rfl (lv_at hl 1 rfl) ?_
  obtain ⟨r1, hr1, hE⟩ := it_b hE
  refine m_call (n := 1) (As := [.int p1]) (rest := []) C hP hS hml (metM_wanted l G h0 ad _ _ _ p1 r1 hr1) q1555 q1557 qs38 q1558 rfl rfl (by decide +kernel) ⟨Nat.le_of_ble_eq_true rfl, Nat.le_of_ble_eq_true rfl⟩ ⟨Nat.le_refl _, Nat.le_refl _⟩ rfl hl.1 rfl (Nat.le_of_ble_eq_true rfl) dX5_classOf_2 (fun H locs hP hS => ?_)
  refine lv_istore_n (lv' := [(2, .int r1), (0, .ref h0), (1, .int p1)]) C.1 C.2.1 dX5_classOf_5 rfl hl (by decide) rfl (fun ls hl => ?_)
  refine lv_iload_n C.1 C.2.1 dX5_classOf_6 rfl (lv_at hl 0 rfl) ?_
  refine lv_if_eq (tgt := 16) C.1 C.2.1 dX5_classOf_7 (by decide) (fun c2 => ?_) (fun c2 => ?_)
  · have hE := it_t c2 hE
    refine lv_aload_n C.1 C.2.1 dX5_classOf_16 rfl (lv_at hl 1 rfl) ?_
    refine lv_aload_n C.1 C.2.1 dX5_classOf_17 rfl (lv_at hl 1 rfl) ?_
    refine ma_33 C hP dX5_classOf_18 ?_
    refine lv_iconst (v := 0) C.1 C.2.1 dX5_classOf_21 (by decide) ?_
    obtain ⟨r3, hr3, hE⟩ := it_b hE
    refine m_call (n := 2) (As := [.ref (ad 33), .int 0]) (rest := []) C hP hS hml (metM_all_33 l G h0 ad _ _ _ 0 r3 hr3) q1559 q1561 qs39 q1562 rfl rfl (by decide +kernel) ⟨Nat.le_of_ble_eq_true rfl, Nat.le_of_ble_eq_true rfl⟩ ⟨Nat.le_refl _, Nat.le_refl _⟩ rfl hl.1 rfl (Nat.le_of_ble_eq_true rfl) dX5_classOf_22 (fun H locs hP hS => ?_)
    refine lv_aload_n C.1 C.2.1 dX5_classOf_25 rfl (lv_at hl 1 rfl) ?_
    refine lv_sipush (v := 160) C.1 C.2.1 dX5_classOf_26 (by decide) ?_
    refine lv_iload_n C.1 C.2.1 dX5_classOf_29 rfl (lv_at hl 2 rfl) ?_
    refine lv_imul C.1 C.2.1 dX5_classOf_30 ?_
    refine mp_28 C hP hS dX5_classOf_31 (fun H locs hP hS => ?_)
    refine lv_aload_n C.1 C.2.1 dX5_classOf_34 rfl (lv_at hl 1 rfl) ?_
    refine lv_iconst (v := 0) C.1 C.2.1 dX5_classOf_35 (by decide) ?_
    refine mp_29 C hP hS dX5_classOf_36 (fun H locs hP hS => ?_)
    refine lv_aload_n C.1 C.2.1 dX5_classOf_39 rfl (lv_at hl 1 rfl) ?_
    refine lv_aload_n C.1 C.2.1 dX5_classOf_40 rfl (lv_at hl 1 rfl) ?_
    refine ma_20 C hP dX5_classOf_41 ?_
    refine lv_iload_n C.1 C.2.1 dX5_classOf_44 rfl (lv_at hl 2 rfl) ?_
    obtain ⟨g4, hE⟩ := it_g hE
    refine ml_20 (v := ((A 20) (p1).toNatClampNeg)) C hP (gi_in g4) rfl dX5_classOf_45 ?_
    refine mp_30 C hP hS dX5_classOf_46 (fun H locs hP hS => ?_)
    refine lv_aload_n C.1 C.2.1 dX5_classOf_49 rfl (lv_at hl 1 rfl) ?_
    refine lv_iconst (v := (-1)) C.1 C.2.1 dX5_classOf_50 (by decide) ?_
    refine mp_10 C hP hS dX5_classOf_51 (fun H locs hP hS => ?_)
    refine lv_iconst (v := 1) C.1 C.2.1 dX5_classOf_54 (by decide) ?_
    refine lv_istore_n (lv' := [(3, .int 1), (2, .int r1), (0, .ref h0), (1, .int p1)]) C.1 C.2.1 dX5_classOf_55 rfl hl (by decide) rfl (fun ls hl => ?_)
    refine lv_aload_n C.1 C.2.1 dX5_classOf_56 rfl (lv_at hl 2 rfl) ?_
    obtain ⟨r5, hr5, hE⟩ := it_b hE
    refine m_call (n := 0) (As := []) (rest := []) C hP hS hml (metM_item l G h0 ad _ _ _ r5 hr5) q1567 q1569 qs41 q1570 rfl rfl (by decide +kernel) ⟨Nat.le_of_ble_eq_true rfl, Nat.le_of_ble_eq_true rfl⟩ ⟨Nat.le_refl _, Nat.le_refl _⟩ rfl hl.1 rfl (Nat.le_of_ble_eq_true rfl) dX5_classOf_57 (fun H locs hP hS => ?_)
    refine lv_istore (lv' := [(4, .int r5.1), (3, .int 1), (2, .int r1), (0, .ref h0), (1, .int p1)]) C.1 C.2.1 dX5_classOf_60 hl (by decide) rfl (fun ls hl => ?_)
    obtain ⟨u6, hu6, hE⟩ := it_b hE
    refine wM_classOf_h62 C hml F A L r3.2.2.2.2.2.2.2.2.2.1 (-1) (160 * p1) ((A 20) (p1).toNatClampNeg) (A 11) r3.2.2.2.2.2.2.2.2.2.2.2.2.2.2.2.2 u6 2000 1 r5.1 r5.2.1 r5.2.2.1 r5.2.2.2.1 r5.2.2.2.2.1 r5.2.2.2.2.2.1 r5.2.2.2.2.2.2.1 r5.2.2.2.2.2.2.2.1 r5.2.2.2.2.2.2.2.2.1 r5.2.2.2.2.2.2.2.2.2.1 r5.2.2.2.2.2.2.2.2.2.2.1 r5.2.2.2.2.2.2.2.2.2.2.2.1 r5.2.2.2.2.2.2.2.2.2.2.2.2.1 r5.2.2.2.2.2.2.2.2.2.2.2.2.2.1 r5.2.2.2.2.2.2.2.2.2.2.2.2.2.2.1 r5.2.2.2.2.2.2.2.2.2.2.2.2.2.2.2.1 r5.2.2.2.2.2.2.2.2.2.2.2.2.2.2.2.2.1 r5.2.2.2.2.2.2.2.2.2.2.2.2.2.2.2.2.2.1 r5.2.2.2.2.2.2.2.2.2.2.2.2.2.2.2.2.2.2.1 r5.2.2.2.2.2.2.2.2.2.2.2.2.2.2.2.2.2.2.2.1 r5.2.2.2.2.2.2.2.2.2.2.2.2.2.2.2.2.2.2.2.2.1 r5.2.2.2.2.2.2.2.2.2.2.2.2.2.2.2.2.2.2.2.2.2.1 r5.2.2.2.2.2.2.2.2.2.2.2.2.2.2.2.2.2.2.2.2.2.2.1 r5.2.2.2.2.2.2.2.2.2.2.2.2.2.2.2.2.2.2.2.2.2.2.2.1 r5.2.2.2.2.2.2.2.2.2.2.2.2.2.2.2.2.2.2.2.2.2.2.2.2.1 r5.2.2.2.2.2.2.2.2.2.2.2.2.2.2.2.2.2.2.2.2.2.2.2.2.2 H locs ls hu6 hP hS (lv_sub hl [3, 1, 0] rfl) (fun H locs ls hP hS hl => ?_)
    refine lv_iload C.1 C.2.1 dX5_classOf_133 (lv_at hl 2 rfl) ?_
    refine lv_if_eq (tgt := 140) C.1 C.2.1 dX5_classOf_135 (by decide) (fun c7 => ?_) (fun c7 => ?_)
    · have hE := it_t c7 hE
      refine lv_aload_n C.1 C.2.1 dX5_classOf_140 rfl (lv_at hl 0 rfl) ?_
      refine lv_aload_n C.1 C.2.1 dX5_classOf_141 rfl (lv_at hl 0 rfl) ?_
      refine ma_33 C hP dX5_classOf_142 ?_
      refine lv_iconst (v := 1) C.1 C.2.1 dX5_classOf_145 (by decide) ?_
      obtain ⟨r8, hr8, hE⟩ := it_b hE
      refine m_call (n := 2) (As := [.ref (ad 33), .int 1]) (rest := []) C hP hS hml (metM_all_33 l G h0 ad _ _ _ 1 r8 hr8) q1559 q1561 qs39 q1562 rfl rfl (by decide +kernel) ⟨Nat.le_of_ble_eq_true rfl, Nat.le_of_ble_eq_true rfl⟩ ⟨Nat.le_refl _, Nat.le_refl _⟩ rfl hl.1 rfl (Nat.le_of_ble_eq_true rfl) dX5_classOf_146 (fun H locs hP hS => ?_)
      refine lv_aload_n C.1 C.2.1 dX5_classOf_149 rfl (lv_at hl 0 rfl) ?_
      refine lv_aload_n C.1 C.2.1 dX5_classOf_150 rfl (lv_at hl 0 rfl) ?_
      refine mg_32 (v := u6.2.2.2.2.2.2.2.2.2.2.2.2.2.1) C hP rfl dX5_classOf_151 ?_
      refine mp_10 C hP hS dX5_classOf_154 (fun H locs hP hS => ?_)
      refine lv_aload_n C.1 C.2.1 dX5_classOf_157 rfl (lv_at hl 0 rfl) ?_
      refine lv_bipush (v := (-6)) C.1 C.2.1 dX5_classOf_158 (by decide) ?_
      obtain ⟨r9, hr9, hE⟩ := it_b hE
      refine m_call (n := 1) (As := [.int (-6)]) (rest := []) C hP hS hml (metM_no l G h0 ad _ _ _ (-6) r9 hr9) q1483 q1485 qs32 q1486 rfl rfl (by decide +kernel) ⟨Nat.le_of_ble_eq_true rfl, Nat.le_of_ble_eq_true rfl⟩ ⟨Nat.le_refl _, Nat.le_refl _⟩ rfl hl.1 rfl (Nat.le_of_ble_eq_true rfl) dX5_classOf_160 (fun H locs hP hS => ?_)
      obtain rfl := Option.some.inj hE
      exact hret _ _ _ _ dX5_classOf_163 hP hS
    · have hE := it_f c7 hE
      refine lv_iload_n C.1 C.2.1 dX5_classOf_138 rfl (lv_at hl 1 rfl) ?_
      obtain rfl := Option.some.inj hE
      exact hret _ _ _ _ dX5_classOf_139 hP hS
  · have hE := it_f c2 hE
    refine lv_aload_n C.1 C.2.1 dX5_classOf_10 rfl (lv_at hl 1 rfl) ?_
    refine lv_iload_n C.1 C.2.1 dX5_classOf_11 rfl (lv_at hl 0 rfl) ?_
    obtain ⟨r10, hr10, hE⟩ := it_b hE
    refine m_call (n := 1) (As := [.int r1]) (rest := []) C hP hS hml (metM_no l G h0 ad _ _ _ r1 r10 hr10) q1483 q1485 qs32 q1486 rfl rfl (by decide +kernel) ⟨Nat.le_of_ble_eq_true rfl, Nat.le_of_ble_eq_true rfl⟩ ⟨Nat.le_refl _, Nat.le_refl _⟩ rfl hl.1 rfl (Nat.le_of_ble_eq_true rfl) dX5_classOf_12 (fun H locs hP hS => ?_)
    obtain rfl := Option.some.inj hE
    exact hret _ _ _ _ dX5_classOf_15 hP hS
