set_option maxRecDepth 100000
def sC_HW_fit_h18 (x1 : Int32) (v_many : Int32) (v_weight : Int32) (v_fright : Int32) (v_age : Int32) (v_asked : Nat → Int32) (v_homes : Nat → Option Nat) (v_allergic : Nat → Int32) (hk : Nat → Nat) (hb : Nat → Int32) : Nat → Int32 → Int32 → Int32 → Int32 → Int32 → (Nat → Int32) → Option (Int32 × Int32 × Int32 × Int32 × (Nat → Int32))
  | 0, _, _, _, _, _, _ => none
  | fuel + 1, x2, x3, v_tweight, v_tfright, v_tage, v_tasked =>
    if v_many ≤ x3 then
      some (x2, v_tweight, v_tfright, v_tage, v_tasked)
    else
      @Option.bind (Int32 × Int32 × Int32 × Int32 × (Nat → Int32)) _ (
        if x3 = (-1) then
          (sC_Pet_take v_tweight v_tfright v_tage v_tasked v_weight v_fright v_age v_asked).bind fun r1904 =>
          (sC_Room_of v_homes x3).bind fun r1905 =>
          if x3 = (-1) then
            (sC_Pet_week_N r1904.1 r1904.2.1 r1904.2.2.1 r1904.2.2.2).bind fun r1909 =>
            (sC_Pet_dies r1909.1 r1909.2.1 r1909.2.2 r1904.2.2.2).bind fun r1910 =>
            @Option.bind (Bool) _ (
              if r1910 = (-1) then
                if r1909.1 = x1 then
                  some true
                else
                  some false
              else
                some false) fun u1912 =>
            if u1912 = true then
              @Option.bind (Int32) _ (
                if x3 = (-1) then
                  some 256
                else
                  some (1 <<< (x3 &&& 31))) fun u1916 =>
              some ((x2 ||| u1916), r1909.1, r1909.2.1, r1909.2.2, r1904.2.2.2)
            else
              some ((x2 ||| 0), r1909.1, r1909.2.1, r1909.2.2, r1904.2.2.2)
          else
          if gm x3 v_many then
          (sC_Pet_week_H r1904.1 r1904.2.1 r1904.2.2.1 r1904.2.2.2 (hk (x3).toNatClampNeg) x3 (hb (x3).toNatClampNeg)).bind fun r1918 =>
          (sC_Pet_dies r1918.1 r1918.2.1 r1918.2.2 r1904.2.2.2).bind fun r1919 =>
          @Option.bind (Bool) _ (
            if r1919 = (-1) then
              if r1918.1 = x1 then
                some true
              else
                some false
            else
              some false) fun u1921 =>
          if u1921 = true then
            @Option.bind (Int32) _ (
              if x3 = (-1) then
                some 256
              else
                some (1 <<< (x3 &&& 31))) fun u1925 =>
            some ((x2 ||| u1925), r1918.1, r1918.2.1, r1918.2.2, r1904.2.2.2)
          else
            some ((x2 ||| 0), r1918.1, r1918.2.1, r1918.2.2, r1904.2.2.2)
          else none
        else
          (sC_Room_may v_many v_allergic x3).bind fun r1927 =>
          if r1927 = 0 then
            some (x2, v_tweight, v_tfright, v_tage, v_tasked)
          else
            (sC_Pet_take v_tweight v_tfright v_tage v_tasked v_weight v_fright v_age v_asked).bind fun r1929 =>
            (sC_Room_of v_homes x3).bind fun r1930 =>
            if x3 = (-1) then
              (sC_Pet_week_N r1929.1 r1929.2.1 r1929.2.2.1 r1929.2.2.2).bind fun r1934 =>
              (sC_Pet_dies r1934.1 r1934.2.1 r1934.2.2 r1929.2.2.2).bind fun r1935 =>
              @Option.bind (Bool) _ (
                if r1935 = (-1) then
                  if r1934.1 = x1 then
                    some true
                  else
                    some false
                else
                  some false) fun u1937 =>
              if u1937 = true then
                @Option.bind (Int32) _ (
                  if x3 = (-1) then
                    some 256
                  else
                    some (1 <<< (x3 &&& 31))) fun u1941 =>
                some ((x2 ||| u1941), r1934.1, r1934.2.1, r1934.2.2, r1929.2.2.2)
              else
                some ((x2 ||| 0), r1934.1, r1934.2.1, r1934.2.2, r1929.2.2.2)
            else
            if gm x3 v_many then
            (sC_Pet_week_H r1929.1 r1929.2.1 r1929.2.2.1 r1929.2.2.2 (hk (x3).toNatClampNeg) x3 (hb (x3).toNatClampNeg)).bind fun r1943 =>
            (sC_Pet_dies r1943.1 r1943.2.1 r1943.2.2 r1929.2.2.2).bind fun r1944 =>
            @Option.bind (Bool) _ (
              if r1944 = (-1) then
                if r1943.1 = x1 then
                  some true
                else
                  some false
              else
                some false) fun u1946 =>
            if u1946 = true then
              @Option.bind (Int32) _ (
                if x3 = (-1) then
                  some 256
                else
                  some (1 <<< (x3 &&& 31))) fun u1950 =>
              some ((x2 ||| u1950), r1943.1, r1943.2.1, r1943.2.2, r1929.2.2.2)
            else
              some ((x2 ||| 0), r1943.1, r1943.2.1, r1943.2.2, r1929.2.2.2)
            else none) fun u1903 =>
      sC_HW_fit_h18 x1 v_many v_weight v_fright v_age v_asked v_homes v_allergic hk hb fuel u1903.1 (x3 + 1) u1903.2.1 u1903.2.2.1 u1903.2.2.2.1 u1903.2.2.2.2
def sC_HW_fit (v_refusals : Nat → Int32) (v_tweight : Int32) (v_tfright : Int32) (v_tage : Int32) (v_tasked : Nat → Int32) (v_many : Int32) (v_weight : Int32) (v_fright : Int32) (v_age : Int32) (v_asked : Nat → Int32) (v_homes : Nat → Option Nat) (v_allergic : Nat → Int32) (hk : Nat → Nat) (hb : Nat → Int32) (p1 : Int32) : Option (Int32 × (Nat → Int32) × Int32 × Int32 × Int32 × (Nat → Int32)) :=
  (sC_HW_in ((p1 : Int32).toInt64) 0 400).bind fun r1 =>
  if r1 = 0 then
    (sC_HW_refused v_refusals (-6)).bind fun r5 =>
    some (r5.1, r5.2, v_tweight, v_tfright, v_tage, v_tasked)
  else
    (sC_HW_fit_h18 p1 v_many v_weight v_fright v_age v_asked v_homes v_allergic hk hb 2000 0 (-1) v_tweight v_tfright v_tage v_tasked).bind fun u4 =>
    some (u4.1, v_refusals, u4.2.1, u4.2.2.1, u4.2.2.2.1, u4.2.2.2.2)
set_option maxHeartbeats 4000000 in
theorem wC_HW_fit_h18 {p : Program} {l : Launch} {e : Env} {s : State} {m : MethodId} {args : Array Value} {below : List Frame} {meth : Method} {c : Code} {Q : State → Prop} {G : kG} {ad : Nat → Nat} {pl : va_W} {hk : Nat → Nat} {hb : Nat → Int32} {sz : Nat} {v_latestFault : Int32} {v_died : Int32} {v_leastWeight : Int32} {v_noticedBy : Int32} {v_noticed : Int32} {v_orderDied : Int32} {v_orderLeast : Int32} {v_imaged : Option Nat} {v_shelves : Nat → Option Nat} {v_refusals : Nat → Int32} {v_ran : Int32} {v_bodies : Nat → Int32} {v_told : Nat → Int32} {v_bestRow : Nat → Int32} {v_weight_a1 : Int32} {v_fright_a1 : Int32} {v_age_a1 : Int32} {v_asked_a1 : Nat → Int32} {v_weight_a2 : Int32} {v_fright_a2 : Int32} {v_age_a2 : Int32} {v_asked_a2 : Nat → Int32} {v_weight_a3 : Int32} {v_fright_a3 : Int32} {v_age_a3 : Int32} {v_asked_a3 : Nat → Int32} {v_weight_a4 : Int32} {v_fright_a4 : Int32} {v_age_a4 : Int32} {v_asked_a4 : Nat → Int32} {v_many : Int32} {v_pets : Int32} {v_last : Int32} {v_seed : Int32} {v_weight : Int32} {v_fright : Int32} {v_age : Int32} {v_asked : Nat → Int32} {v_homes : Nat → Option Nat} {v_marks : Nat → Int32} {v_had : Nat → Int32} {v_allergic : Nat → Int32} {v_deaths : Nat → Int32} (C : nC p s m args c cX0_fit RX0 G (xWV ad) pl (tA sz (xWV ad) [])) (hml : c.maxLocals = 5)  (D : tD s (xWV ad) [] (tA sz (xWV ad) [])) (hom : homOK v_homes v_many hk hb pl) (x1 : Int32) (res : Int32 × Int32 × Int32 × Int32 × (Nat → Int32)) :
    ∀ (fuel : Nat) (x2 : Int32) (x3 : Int32) (v_tweight : Int32) (v_tfright : Int32) (v_tage : Int32) (v_tasked : Nat → Int32) (H : Heap) (locs : List Loc) (ls : Array Slot), sC_HW_fit_h18 x1 v_many v_weight v_fright v_age v_asked v_homes v_allergic hk hb fuel x2 x3 v_tweight v_tfright v_tage v_tasked = some res → va_P G.1 vwCl (xW G.2 ad v_latestFault v_died v_leastWeight v_noticedBy v_noticed v_orderDied v_orderLeast v_imaged v_shelves v_refusals v_ran v_bodies v_tweight v_tfright v_tage v_tasked v_told v_bestRow v_weight_a1 v_fright_a1 v_age_a1 v_asked_a1 v_weight_a2 v_fright_a2 v_age_a2 v_asked_a2 v_weight_a3 v_fright_a3 v_age_a3 v_asked_a3 v_weight_a4 v_fright_a4 v_age_a4 v_asked_a4 v_many v_pets v_last v_seed v_weight v_fright v_age v_asked v_homes v_marks v_had v_allergic v_deaths) H → va_S (tA sz (xWV ad) []) s.heap H locs → lv_has ls 5 [(0, .ref (ad 0)), (1, .int x1), (2, .int x2), (3, .int x3)] → (∀ (H : Heap) (locs : List Loc) (ls : Array Slot), va_P G.1 vwCl (xW G.2 ad v_latestFault v_died v_leastWeight v_noticedBy v_noticed v_orderDied v_orderLeast v_imaged v_shelves v_refusals v_ran v_bodies res.2.1 res.2.2.1 res.2.2.2.1 res.2.2.2.2 v_told v_bestRow v_weight_a1 v_fright_a1 v_age_a1 v_asked_a1 v_weight_a2 v_fright_a2 v_age_a2 v_asked_a2 v_weight_a3 v_fright_a3 v_age_a3 v_asked_a3 v_weight_a4 v_fright_a4 v_age_a4 v_asked_a4 v_many v_pets v_last v_seed v_weight v_fright v_age v_asked v_homes v_marks v_had v_allergic v_deaths) H → va_S (tA sz (xWV ad) []) s.heap H locs → lv_has ls 5 [(0, .ref (ad 0)), (2, .int res.1)] → W p l e ({ frames := 5, cells := 1, slots := 7, locals := 122 } : Room) s m args below meth c H locs 1 7 Q (F0 m 131 ls [])) → W p l e ({ frames := 5, cells := 1, slots := 7, locals := 122 } : Room) s m args below meth c H locs 1 7 Q (F0 m 18 ls []) := by
  intro fuel
  induction fuel with
  | zero =>
    intro x2 x3 v_tweight v_tfright v_tage v_tasked H locs ls hE
    exact it_n hE
  | succ fuel ih =>
    intro x2 x3 v_tweight v_tfright v_tage v_tasked H locs ls hE hP hS hl hX
    rw [sC_HW_fit_h18] at hE
    refine lv_iload_n C.1 C.2.1 dX0_fit_18 rfl (lv_at hl 3 rfl) ?_
    refine lv_aload_n C.1 C.2.1 dX0_fit_19 rfl (lv_at hl 0 rfl) ?_
    refine xWg_0_6 q244 C hP dX0_fit_20 ?_
    refine xWg_18_0 q182 C hP dX0_fit_23 ?_
    refine lv_icmp_ge (tgt := 131) C.1 C.2.1 dX0_fit_26 (by decide) (fun c1901 => ?_) (fun c1901 => ?_)
    · have hE := it_t c1901 hE
      obtain rfl := Option.some.inj hE
      exact hX H locs ls hP hS (lv_sub hl [0, 2] rfl)
    · have hE := it_f c1901 hE
      refine lv_iload_n C.1 C.2.1 dX0_fit_29 rfl (lv_at hl 3 rfl) ?_
      refine lv_iconst (v := (-1)) C.1 C.2.1 dX0_fit_30 (by decide) ?_
      obtain ⟨u1903, hR, hE⟩ := it_b hE
      have hJ125u1903 : ∀ (H : Heap) (locs : List Loc) (ls : Array Slot), va_P G.1 vwCl (xW G.2 ad v_latestFault v_died v_leastWeight v_noticedBy v_noticed v_orderDied v_orderLeast v_imaged v_shelves v_refusals v_ran v_bodies u1903.2.1 u1903.2.2.1 u1903.2.2.2.1 u1903.2.2.2.2 v_told v_bestRow v_weight_a1 v_fright_a1 v_age_a1 v_asked_a1 v_weight_a2 v_fright_a2 v_age_a2 v_asked_a2 v_weight_a3 v_fright_a3 v_age_a3 v_asked_a3 v_weight_a4 v_fright_a4 v_age_a4 v_asked_a4 v_many v_pets v_last v_seed v_weight v_fright v_age v_asked v_homes v_marks v_had v_allergic v_deaths) H → va_S (tA sz (xWV ad) []) s.heap H locs → lv_has ls 5 [(0, .ref (ad 0)), (1, .int x1), (2, .int u1903.1), (3, .int x3)] → W p l e ({ frames := 5, cells := 1, slots := 7, locals := 122 } : Room) s m args below meth c H locs 1 7 Q (F0 m 125 ls []) := by
        intro H locs ls hP hS hl
        refine lv_iinc (v := (x3 + 1)) (lv' := [(3, .int (x3 + 1)), (0, .ref (ad 0)), (1, .int x1), (2, .int u1903.1)]) C.1 C.2.1 dX0_fit_125 hl (k := 3) rfl rfl (by decide) rfl (fun ls hl => ?_)
        refine lv_goto (tgt := 18) C.1 C.2.1 dX0_fit_128 (by decide) ?_
        exact ih u1903.1 (x3 + 1) u1903.2.1 u1903.2.2.1 u1903.2.2.2.1 u1903.2.2.2.2 _ _ _ hE hP hS (lv_sub hl [1, 2, 3, 0] rfl) hX
      have hE := hR
      refine lv_icmp_eq (tgt := 45) C.1 C.2.1 dX0_fit_31 (by decide) (fun c1902 => ?_) (fun c1902 => ?_)
      · have hE := it_t c1902 hE
        refine lv_aload_n C.1 C.2.1 dX0_fit_45 rfl (lv_at hl 0 rfl) ?_
        refine xWg_0_3 q241 C hP dX0_fit_46 ?_
        refine lv_aload_n C.1 C.2.1 dX0_fit_49 rfl (lv_at hl 0 rfl) ?_
        refine xWg_0_6 q244 C hP dX0_fit_50 ?_
        refine xWg_18_4 q191 C hP dX0_fit_53 ?_
        obtain ⟨r1904, hr1904, hE⟩ := it_b hE
        refine n_after [5, 6, 19, 20] C.2.2.2.2.2.1 C.2.2.2.2.2.2.2.1 hP hS (va_runV (As := [.ref (ad 19)]) (rest := []) ⟨C.1, C.2.1, hml, C.2.2.1, C.2.2.2.1⟩ (metC_Pet_take l G (fun i => ad (if i < 2 then 5 + i else 19 + (i - 2))) pl _ _ _ _ _ _ _ _   r1904 hr1904) (cwV (C := RX2) 1 C.2.2.2.1 (lw_V q1076 q796 q797 q82 q798) rfl rfl rfl (by decide +kernel) ⟨Nat.le_of_ble_eq_true rfl, Nat.le_of_ble_eq_true rfl⟩) (n_preV C hP hS [5, 6, 19, 20] sub_xW_ppW_5_19 (by decide) rfl (va_recv C.2.2.2.2.1 hP (ci := 11) (q0 := 5) rfl rfl)) rfl rfl hl.1 rfl (lv_room (Nat.le_of_ble_eq_true rfl)) dX0_fit_56 ⟨Nat.le_of_ble_eq_true rfl, Nat.le_of_ble_eq_true rfl⟩) xW_av rfl rfl mg_xW_ppW_5_19 (fun H locs hP hS => ?_)
        refine lv_aload_n C.1 C.2.1 dX0_fit_59 rfl (lv_at hl 0 rfl) ?_
        refine xWg_0_6 q244 C hP dX0_fit_60 ?_
        refine lv_iload_n C.1 C.2.1 dX0_fit_63 rfl (lv_at hl 3 rfl) ?_
        obtain ⟨r1905, hr1905, hE⟩ := it_b hE
        refine n_after [18, 19, 20, 21, 22, 23, 24, 25] C.2.2.2.2.2.1 C.2.2.2.2.2.2.2.1 hP hS (va_runV (As := [.int x3]) (rest := [.ref (ad 5)]) ⟨C.1, C.2.1, hml, C.2.2.1, C.2.2.2.1⟩ (metC_Room_of l G (fun i => ad (18 + i)) pl _ _ _ _ _ _ _ _ _ _ _ _ _ x3  r1905 hr1905) (cwV (C := RX3) 1 C.2.2.2.1 (lw_V q1081 q981 q982 q83 q983) rfl rfl rfl (by decide +kernel) ⟨Nat.le_of_ble_eq_true rfl, Nat.le_of_ble_eq_true rfl⟩) (n_preV C hP hS [18, 19, 20, 21, 22, 23, 24, 25] sub_xW_rW_18 (by decide) rfl (va_recv C.2.2.2.2.1 hP (ci := 12) (q0 := 18) rfl rfl)) rfl rfl hl.1 rfl (lv_room (Nat.le_of_ble_eq_true rfl)) dX0_fit_64 ⟨Nat.le_of_ble_eq_true rfl, Nat.le_of_ble_eq_true rfl⟩) xW_av rfl rfl mg_xW_rW_18 (fun H locs hP hS => ?_)
        by_cases c1906 : x3 = (-1)
        · have hE := it_t c1906 hE
          obtain rfl := of_none hr1905 c1906
          obtain ⟨r1909, hr1909, hE⟩ := it_b hE
          refine n_after [5, 6] C.2.2.2.2.2.1 C.2.2.2.2.2.2.2.1 hP hS (va_runV (As := [.null]) (rest := []) ⟨C.1, C.2.1, hml, C.2.2.1, C.2.2.2.1⟩ (metC_Pet_week_N l G (fun i => ad (5 + i)) pl _ _ _ _   r1909 hr1909) (cwV (C := RX2) 1 C.2.2.2.1 (lw_V q1082 q985 q986 q82 q987) rfl rfl rfl (by decide +kernel) ⟨Nat.le_of_ble_eq_true rfl, Nat.le_of_ble_eq_true rfl⟩) (n_preV C hP hS [5, 6] sub_xW_pW_5 (by decide) rfl (va_recv C.2.2.2.2.1 hP (ci := 11) (q0 := 5) rfl rfl)) rfl rfl hl.1 rfl (lv_room (Nat.le_of_ble_eq_true rfl)) dX0_fit_67 ⟨Nat.le_of_ble_eq_true rfl, Nat.le_of_ble_eq_true rfl⟩) xW_av rfl rfl mg_xW_pW_5 (fun H locs hP hS => ?_)
          refine lv_aload_n C.1 C.2.1 dX0_fit_70 rfl (lv_at hl 0 rfl) ?_
          refine xWg_0_3 q241 C hP dX0_fit_71 ?_
          obtain ⟨r1910, hr1910, hE⟩ := it_b hE
          refine n_after [5, 6] C.2.2.2.2.2.1 C.2.2.2.2.2.2.2.1 hP hS (va_runV (As := []) (rest := []) ⟨C.1, C.2.1, hml, C.2.2.1, C.2.2.2.1⟩ (metC_Pet_dies l G (fun i => ad (5 + i)) pl _ _ _ _   r1910 hr1910) (cwV (C := RX2) 0 C.2.2.2.1 (lw_V q1083 q1024 q1025 q82 q1026) rfl rfl rfl (by decide +kernel) ⟨Nat.le_of_ble_eq_true rfl, Nat.le_of_ble_eq_true rfl⟩) (n_preV C hP hS [5, 6] sub_xW_pW_5 (by decide) rfl (va_recv C.2.2.2.2.1 hP (ci := 11) (q0 := 5) rfl rfl)) rfl rfl hl.1 rfl (lv_room (Nat.le_of_ble_eq_true rfl)) dX0_fit_74 ⟨Nat.le_of_ble_eq_true rfl, Nat.le_of_ble_eq_true rfl⟩) xW_av rfl rfl mg_xW_pW_5 (fun H locs hP hS => ?_)
          refine lv_iconst (v := (-1)) C.1 C.2.1 dX0_fit_77 (by decide) ?_
          obtain ⟨u1912, hR, hE⟩ := it_b hE
          have hJ92u1912 : u1912 = true → ∀ (H : Heap) (locs : List Loc) (ls : Array Slot), va_P G.1 vwCl (xW G.2 ad v_latestFault v_died v_leastWeight v_noticedBy v_noticed v_orderDied v_orderLeast v_imaged v_shelves v_refusals v_ran v_bodies r1909.1 r1909.2.1 r1909.2.2 r1904.2.2.2 v_told v_bestRow v_weight_a1 v_fright_a1 v_age_a1 v_asked_a1 v_weight_a2 v_fright_a2 v_age_a2 v_asked_a2 v_weight_a3 v_fright_a3 v_age_a3 v_asked_a3 v_weight_a4 v_fright_a4 v_age_a4 v_asked_a4 v_many v_pets v_last v_seed v_weight v_fright v_age v_asked v_homes v_marks v_had v_allergic v_deaths) H → va_S (tA sz (xWV ad) []) s.heap H locs → lv_has ls 5 [(0, .ref (ad 0)), (1, .int x1), (2, .int x2), (3, .int x3)] → W p l e ({ frames := 5, cells := 1, slots := 7, locals := 122 } : Room) s m args below meth c H locs 1 7 Q (F0 m 92 ls []) := by
            intro hu H locs ls hP hS hl
            have hE := it_t hu hE
            refine lv_iconst (v := 1) C.1 C.2.1 dX0_fit_92 (by decide) ?_
            refine lv_goto (tgt := 97) C.1 C.2.1 dX0_fit_93 (by decide) ?_
            refine lv_istore (lv' := [(4, .int 1), (0, .ref (ad 0)), (1, .int x1), (2, .int x2), (3, .int x3)]) C.1 C.2.1 dX0_fit_97 hl (by decide) rfl (fun ls hl => ?_)
            refine lv_iload_n C.1 C.2.1 dX0_fit_99 rfl (lv_at hl 3 rfl) ?_
            refine lv_iload C.1 C.2.1 dX0_fit_100 (lv_at hl 0 rfl) ?_
            refine lv_if_eq (tgt := 122) C.1 C.2.1 dX0_fit_102 (by decide) (fun c1914 => absurd c1914 (by decide)) (fun c1914 => ?_)
            refine lv_iload_n C.1 C.2.1 dX0_fit_105 rfl (lv_at hl 4 rfl) ?_
            refine lv_iconst (v := (-1)) C.1 C.2.1 dX0_fit_106 (by decide) ?_
            obtain ⟨u1916, hR, hE⟩ := it_b hE
            have hJ123u1916 : ∀ (H : Heap) (locs : List Loc) (ls : Array Slot), va_P G.1 vwCl (xW G.2 ad v_latestFault v_died v_leastWeight v_noticedBy v_noticed v_orderDied v_orderLeast v_imaged v_shelves v_refusals v_ran v_bodies r1909.1 r1909.2.1 r1909.2.2 r1904.2.2.2 v_told v_bestRow v_weight_a1 v_fright_a1 v_age_a1 v_asked_a1 v_weight_a2 v_fright_a2 v_age_a2 v_asked_a2 v_weight_a3 v_fright_a3 v_age_a3 v_asked_a3 v_weight_a4 v_fright_a4 v_age_a4 v_asked_a4 v_many v_pets v_last v_seed v_weight v_fright v_age v_asked v_homes v_marks v_had v_allergic v_deaths) H → va_S (tA sz (xWV ad) []) s.heap H locs → lv_has ls 5 [(0, .ref (ad 0)), (1, .int x1), (3, .int x3)] → W p l e ({ frames := 5, cells := 1, slots := 7, locals := 122 } : Room) s m args below meth c H locs 1 7 Q (F0 m 123 ls [.int u1916, .int x2]) := by
              intro H locs ls hP hS hl
              refine lv_ior C.1 C.2.1 dX0_fit_123 ?_
              refine lv_istore_n (lv' := [(2, .int (x2 ||| u1916)), (0, .ref (ad 0)), (1, .int x1), (3, .int x3)]) C.1 C.2.1 dX0_fit_124 rfl hl (by decide) rfl (fun ls hl => ?_)
              obtain rfl := Option.some.inj hE
              exact hJ125u1903 H locs ls hP hS (lv_sub hl [1, 2, 0, 3] rfl)
            have hE := hR
            refine lv_icmp_ne (tgt := 116) C.1 C.2.1 dX0_fit_107 (by decide) (fun c1915 => ?_) (fun c1915 => ?_)
            · have hE := it_f c1915 hE
              refine lv_iconst (v := 1) C.1 C.2.1 dX0_fit_116 (by decide) ?_
              refine lv_iload_n C.1 C.2.1 dX0_fit_117 rfl (lv_at hl 4 rfl) ?_
              refine lv_ishl C.1 C.2.1 dX0_fit_118 ?_
              refine lv_goto (tgt := 123) C.1 C.2.1 dX0_fit_119 (by decide) ?_
              obtain rfl := Option.some.inj hE
              exact hJ123u1916 H locs ls hP hS (lv_sub hl [1, 2, 4] rfl)
            · have hE := it_t c1915 hE
              refine lv_sipush (v := 256) C.1 C.2.1 dX0_fit_110 (by decide) ?_
              refine lv_goto (tgt := 123) C.1 C.2.1 dX0_fit_113 (by decide) ?_
              obtain rfl := Option.some.inj hE
              exact hJ123u1916 H locs ls hP hS (lv_sub hl [1, 2, 4] rfl)
          have hJ96u1912 : ¬ u1912 = true → ∀ (H : Heap) (locs : List Loc) (ls : Array Slot), va_P G.1 vwCl (xW G.2 ad v_latestFault v_died v_leastWeight v_noticedBy v_noticed v_orderDied v_orderLeast v_imaged v_shelves v_refusals v_ran v_bodies r1909.1 r1909.2.1 r1909.2.2 r1904.2.2.2 v_told v_bestRow v_weight_a1 v_fright_a1 v_age_a1 v_asked_a1 v_weight_a2 v_fright_a2 v_age_a2 v_asked_a2 v_weight_a3 v_fright_a3 v_age_a3 v_asked_a3 v_weight_a4 v_fright_a4 v_age_a4 v_asked_a4 v_many v_pets v_last v_seed v_weight v_fright v_age v_asked v_homes v_marks v_had v_allergic v_deaths) H → va_S (tA sz (xWV ad) []) s.heap H locs → lv_has ls 5 [(0, .ref (ad 0)), (1, .int x1), (2, .int x2), (3, .int x3)] → W p l e ({ frames := 5, cells := 1, slots := 7, locals := 122 } : Room) s m args below meth c H locs 1 7 Q (F0 m 96 ls []) := by
            intro hu H locs ls hP hS hl
            have hE := it_f hu hE
            refine lv_iconst (v := 0) C.1 C.2.1 dX0_fit_96 (by decide) ?_
            refine lv_istore (lv' := [(4, .int 0), (0, .ref (ad 0)), (1, .int x1), (2, .int x2), (3, .int x3)]) C.1 C.2.1 dX0_fit_97 hl (by decide) rfl (fun ls hl => ?_)
            refine lv_iload_n C.1 C.2.1 dX0_fit_99 rfl (lv_at hl 3 rfl) ?_
            refine lv_iload C.1 C.2.1 dX0_fit_100 (lv_at hl 0 rfl) ?_
            refine lv_if_eq (tgt := 122) C.1 C.2.1 dX0_fit_102 (by decide) (fun c1917 => ?_) (fun c1917 => absurd c1917 (by decide))
            refine lv_iconst (v := 0) C.1 C.2.1 dX0_fit_122 (by decide) ?_
            refine lv_ior C.1 C.2.1 dX0_fit_123 ?_
            refine lv_istore_n (lv' := [(2, .int (x2 ||| 0)), (4, .int 0), (0, .ref (ad 0)), (1, .int x1), (3, .int x3)]) C.1 C.2.1 dX0_fit_124 rfl hl (by decide) rfl (fun ls hl => ?_)
            obtain rfl := Option.some.inj hE
            exact hJ125u1903 H locs ls hP hS (lv_sub hl [2, 3, 0, 4] rfl)
          have hE := hR
          refine lv_icmp_ne (tgt := 96) C.1 C.2.1 dX0_fit_78 (by decide) (fun c1911 => ?_) (fun c1911 => ?_)
          · have hE := it_f c1911 hE
            obtain rfl := Option.some.inj hE
            exact hJ96u1912 (by decide) H locs ls hP hS (lv_sub hl [0, 1, 2, 3] rfl)
          · have hE := it_t c1911 hE
            refine lv_aload_n C.1 C.2.1 dX0_fit_81 rfl (lv_at hl 0 rfl) ?_
            refine xWg_0_3 q241 C hP dX0_fit_82 ?_
            refine xWg_5_0 q149 C hP dX0_fit_85 ?_
            refine lv_iload_n C.1 C.2.1 dX0_fit_88 rfl (lv_at hl 1 rfl) ?_
            refine lv_icmp_ne (tgt := 96) C.1 C.2.1 dX0_fit_89 (by decide) (fun c1913 => ?_) (fun c1913 => ?_)
            · have hE := it_f c1913 hE
              obtain rfl := Option.some.inj hE
              exact hJ96u1912 (by decide) H locs ls hP hS (lv_sub hl [0, 1, 2, 3] rfl)
            · have hE := it_t c1913 hE
              obtain rfl := Option.some.inj hE
              exact hJ92u1912 rfl H locs ls hP hS (lv_sub hl [0, 1, 2, 3] rfl)
        have hE := it_f c1906 hE
        obtain ⟨g1907, hE⟩ := it_g hE
        obtain ⟨q1908, hq19080, hq1908, hq19087⟩ := hom _ g1907
        obtain rfl := of_some hr1905 c1906 hq19080
        obtain ⟨r1918, hr1918, hE⟩ := it_b hE
        refine n_after [5, 6] C.2.2.2.2.2.1 C.2.2.2.2.2.2.2.1 hP hS (va_runV (As := [.ref q1908]) (rest := []) ⟨C.1, C.2.1, hml, C.2.2.1, C.2.2.2.1⟩ (metC_Pet_week_H l G (fun i => ad (5 + i)) pl _ _ _ _ q1908 (hk (x3).toNatClampNeg) x3 (hb (x3).toNatClampNeg) hq19087 hq1908 r1918 hr1918) (cwV (C := RX2) 1 C.2.2.2.1 (lw_V q1082 q985 q986 q82 q987) rfl rfl rfl (by decide +kernel) ⟨Nat.le_of_ble_eq_true rfl, Nat.le_of_ble_eq_true rfl⟩) (n_preV C hP hS [5, 6] sub_xW_pW_5 (by decide) rfl (va_recv C.2.2.2.2.1 hP (ci := 11) (q0 := 5) rfl rfl)) rfl rfl hl.1 rfl (lv_room (Nat.le_of_ble_eq_true rfl)) dX0_fit_67 ⟨Nat.le_of_ble_eq_true rfl, Nat.le_of_ble_eq_true rfl⟩) xW_av rfl rfl mg_xW_pW_5 (fun H locs hP hS => ?_)
        refine lv_aload_n C.1 C.2.1 dX0_fit_70 rfl (lv_at hl 0 rfl) ?_
        refine xWg_0_3 q241 C hP dX0_fit_71 ?_
        obtain ⟨r1919, hr1919, hE⟩ := it_b hE
        refine n_after [5, 6] C.2.2.2.2.2.1 C.2.2.2.2.2.2.2.1 hP hS (va_runV (As := []) (rest := []) ⟨C.1, C.2.1, hml, C.2.2.1, C.2.2.2.1⟩ (metC_Pet_dies l G (fun i => ad (5 + i)) pl _ _ _ _   r1919 hr1919) (cwV (C := RX2) 0 C.2.2.2.1 (lw_V q1083 q1024 q1025 q82 q1026) rfl rfl rfl (by decide +kernel) ⟨Nat.le_of_ble_eq_true rfl, Nat.le_of_ble_eq_true rfl⟩) (n_preV C hP hS [5, 6] sub_xW_pW_5 (by decide) rfl (va_recv C.2.2.2.2.1 hP (ci := 11) (q0 := 5) rfl rfl)) rfl rfl hl.1 rfl (lv_room (Nat.le_of_ble_eq_true rfl)) dX0_fit_74 ⟨Nat.le_of_ble_eq_true rfl, Nat.le_of_ble_eq_true rfl⟩) xW_av rfl rfl mg_xW_pW_5 (fun H locs hP hS => ?_)
        refine lv_iconst (v := (-1)) C.1 C.2.1 dX0_fit_77 (by decide) ?_
        obtain ⟨u1921, hR, hE⟩ := it_b hE
        have hJ92u1921 : u1921 = true → ∀ (H : Heap) (locs : List Loc) (ls : Array Slot), va_P G.1 vwCl (xW G.2 ad v_latestFault v_died v_leastWeight v_noticedBy v_noticed v_orderDied v_orderLeast v_imaged v_shelves v_refusals v_ran v_bodies r1918.1 r1918.2.1 r1918.2.2 r1904.2.2.2 v_told v_bestRow v_weight_a1 v_fright_a1 v_age_a1 v_asked_a1 v_weight_a2 v_fright_a2 v_age_a2 v_asked_a2 v_weight_a3 v_fright_a3 v_age_a3 v_asked_a3 v_weight_a4 v_fright_a4 v_age_a4 v_asked_a4 v_many v_pets v_last v_seed v_weight v_fright v_age v_asked v_homes v_marks v_had v_allergic v_deaths) H → va_S (tA sz (xWV ad) []) s.heap H locs → lv_has ls 5 [(0, .ref (ad 0)), (1, .int x1), (2, .int x2), (3, .int x3)] → W p l e ({ frames := 5, cells := 1, slots := 7, locals := 122 } : Room) s m args below meth c H locs 1 7 Q (F0 m 92 ls []) := by
          intro hu H locs ls hP hS hl
          have hE := it_t hu hE
          refine lv_iconst (v := 1) C.1 C.2.1 dX0_fit_92 (by decide) ?_
          refine lv_goto (tgt := 97) C.1 C.2.1 dX0_fit_93 (by decide) ?_
          refine lv_istore (lv' := [(4, .int 1), (0, .ref (ad 0)), (1, .int x1), (2, .int x2), (3, .int x3)]) C.1 C.2.1 dX0_fit_97 hl (by decide) rfl (fun ls hl => ?_)
          refine lv_iload_n C.1 C.2.1 dX0_fit_99 rfl (lv_at hl 3 rfl) ?_
          refine lv_iload C.1 C.2.1 dX0_fit_100 (lv_at hl 0 rfl) ?_
          refine lv_if_eq (tgt := 122) C.1 C.2.1 dX0_fit_102 (by decide) (fun c1923 => absurd c1923 (by decide)) (fun c1923 => ?_)
          refine lv_iload_n C.1 C.2.1 dX0_fit_105 rfl (lv_at hl 4 rfl) ?_
          refine lv_iconst (v := (-1)) C.1 C.2.1 dX0_fit_106 (by decide) ?_
          obtain ⟨u1925, hR, hE⟩ := it_b hE
          have hJ123u1925 : ∀ (H : Heap) (locs : List Loc) (ls : Array Slot), va_P G.1 vwCl (xW G.2 ad v_latestFault v_died v_leastWeight v_noticedBy v_noticed v_orderDied v_orderLeast v_imaged v_shelves v_refusals v_ran v_bodies r1918.1 r1918.2.1 r1918.2.2 r1904.2.2.2 v_told v_bestRow v_weight_a1 v_fright_a1 v_age_a1 v_asked_a1 v_weight_a2 v_fright_a2 v_age_a2 v_asked_a2 v_weight_a3 v_fright_a3 v_age_a3 v_asked_a3 v_weight_a4 v_fright_a4 v_age_a4 v_asked_a4 v_many v_pets v_last v_seed v_weight v_fright v_age v_asked v_homes v_marks v_had v_allergic v_deaths) H → va_S (tA sz (xWV ad) []) s.heap H locs → lv_has ls 5 [(0, .ref (ad 0)), (1, .int x1), (3, .int x3)] → W p l e ({ frames := 5, cells := 1, slots := 7, locals := 122 } : Room) s m args below meth c H locs 1 7 Q (F0 m 123 ls [.int u1925, .int x2]) := by
            intro H locs ls hP hS hl
            refine lv_ior C.1 C.2.1 dX0_fit_123 ?_
            refine lv_istore_n (lv' := [(2, .int (x2 ||| u1925)), (0, .ref (ad 0)), (1, .int x1), (3, .int x3)]) C.1 C.2.1 dX0_fit_124 rfl hl (by decide) rfl (fun ls hl => ?_)
            obtain rfl := Option.some.inj hE
            exact hJ125u1903 H locs ls hP hS (lv_sub hl [1, 2, 0, 3] rfl)
          have hE := hR
          refine lv_icmp_ne (tgt := 116) C.1 C.2.1 dX0_fit_107 (by decide) (fun c1924 => ?_) (fun c1924 => ?_)
          · have hE := it_f c1924 hE
            refine lv_iconst (v := 1) C.1 C.2.1 dX0_fit_116 (by decide) ?_
            refine lv_iload_n C.1 C.2.1 dX0_fit_117 rfl (lv_at hl 4 rfl) ?_
            refine lv_ishl C.1 C.2.1 dX0_fit_118 ?_
            refine lv_goto (tgt := 123) C.1 C.2.1 dX0_fit_119 (by decide) ?_
            obtain rfl := Option.some.inj hE
            exact hJ123u1925 H locs ls hP hS (lv_sub hl [1, 2, 4] rfl)
          · have hE := it_t c1924 hE
            refine lv_sipush (v := 256) C.1 C.2.1 dX0_fit_110 (by decide) ?_
            refine lv_goto (tgt := 123) C.1 C.2.1 dX0_fit_113 (by decide) ?_
            obtain rfl := Option.some.inj hE
            exact hJ123u1925 H locs ls hP hS (lv_sub hl [1, 2, 4] rfl)
        have hJ96u1921 : ¬ u1921 = true → ∀ (H : Heap) (locs : List Loc) (ls : Array Slot), va_P G.1 vwCl (xW G.2 ad v_latestFault v_died v_leastWeight v_noticedBy v_noticed v_orderDied v_orderLeast v_imaged v_shelves v_refusals v_ran v_bodies r1918.1 r1918.2.1 r1918.2.2 r1904.2.2.2 v_told v_bestRow v_weight_a1 v_fright_a1 v_age_a1 v_asked_a1 v_weight_a2 v_fright_a2 v_age_a2 v_asked_a2 v_weight_a3 v_fright_a3 v_age_a3 v_asked_a3 v_weight_a4 v_fright_a4 v_age_a4 v_asked_a4 v_many v_pets v_last v_seed v_weight v_fright v_age v_asked v_homes v_marks v_had v_allergic v_deaths) H → va_S (tA sz (xWV ad) []) s.heap H locs → lv_has ls 5 [(0, .ref (ad 0)), (1, .int x1), (2, .int x2), (3, .int x3)] → W p l e ({ frames := 5, cells := 1, slots := 7, locals := 122 } : Room) s m args below meth c H locs 1 7 Q (F0 m 96 ls []) := by
          intro hu H locs ls hP hS hl
          have hE := it_f hu hE
          refine lv_iconst (v := 0) C.1 C.2.1 dX0_fit_96 (by decide) ?_
          refine lv_istore (lv' := [(4, .int 0), (0, .ref (ad 0)), (1, .int x1), (2, .int x2), (3, .int x3)]) C.1 C.2.1 dX0_fit_97 hl (by decide) rfl (fun ls hl => ?_)
          refine lv_iload_n C.1 C.2.1 dX0_fit_99 rfl (lv_at hl 3 rfl) ?_
          refine lv_iload C.1 C.2.1 dX0_fit_100 (lv_at hl 0 rfl) ?_
          refine lv_if_eq (tgt := 122) C.1 C.2.1 dX0_fit_102 (by decide) (fun c1926 => ?_) (fun c1926 => absurd c1926 (by decide))
          refine lv_iconst (v := 0) C.1 C.2.1 dX0_fit_122 (by decide) ?_
          refine lv_ior C.1 C.2.1 dX0_fit_123 ?_
          refine lv_istore_n (lv' := [(2, .int (x2 ||| 0)), (4, .int 0), (0, .ref (ad 0)), (1, .int x1), (3, .int x3)]) C.1 C.2.1 dX0_fit_124 rfl hl (by decide) rfl (fun ls hl => ?_)
          obtain rfl := Option.some.inj hE
          exact hJ125u1903 H locs ls hP hS (lv_sub hl [2, 3, 0, 4] rfl)
        have hE := hR
        refine lv_icmp_ne (tgt := 96) C.1 C.2.1 dX0_fit_78 (by decide) (fun c1920 => ?_) (fun c1920 => ?_)
        · have hE := it_f c1920 hE
          obtain rfl := Option.some.inj hE
          exact hJ96u1921 (by decide) H locs ls hP hS (lv_sub hl [0, 1, 2, 3] rfl)
        · have hE := it_t c1920 hE
          refine lv_aload_n C.1 C.2.1 dX0_fit_81 rfl (lv_at hl 0 rfl) ?_
          refine xWg_0_3 q241 C hP dX0_fit_82 ?_
          refine xWg_5_0 q149 C hP dX0_fit_85 ?_
          refine lv_iload_n C.1 C.2.1 dX0_fit_88 rfl (lv_at hl 1 rfl) ?_
          refine lv_icmp_ne (tgt := 96) C.1 C.2.1 dX0_fit_89 (by decide) (fun c1922 => ?_) (fun c1922 => ?_)
          · have hE := it_f c1922 hE
            obtain rfl := Option.some.inj hE
            exact hJ96u1921 (by decide) H locs ls hP hS (lv_sub hl [0, 1, 2, 3] rfl)
          · have hE := it_t c1922 hE
            obtain rfl := Option.some.inj hE
            exact hJ92u1921 rfl H locs ls hP hS (lv_sub hl [0, 1, 2, 3] rfl)
      · have hE := it_f c1902 hE
        refine lv_aload_n C.1 C.2.1 dX0_fit_34 rfl (lv_at hl 0 rfl) ?_
        refine xWg_0_6 q244 C hP dX0_fit_35 ?_
        refine lv_iload_n C.1 C.2.1 dX0_fit_38 rfl (lv_at hl 3 rfl) ?_
        obtain ⟨r1927, hr1927, hE⟩ := it_b hE
        refine n_after [18, 19, 20, 21, 22, 23, 24, 25] C.2.2.2.2.2.1 C.2.2.2.2.2.2.2.1 hP hS (va_runV (As := [.int x3]) (rest := []) ⟨C.1, C.2.1, hml, C.2.2.1, C.2.2.2.1⟩ (metC_Room_may l G (fun i => ad (18 + i)) pl _ _ _ _ _ _ _ _ _ _ _ _ _ x3  r1927 hr1927) (cwV (C := RX3) 1 C.2.2.2.1 (lw_V q1067 q972 q973 q83 q974) rfl rfl rfl (by decide +kernel) ⟨Nat.le_of_ble_eq_true rfl, Nat.le_of_ble_eq_true rfl⟩) (n_preV C hP hS [18, 19, 20, 21, 22, 23, 24, 25] sub_xW_rW_18 (by decide) rfl (va_recv C.2.2.2.2.1 hP (ci := 12) (q0 := 18) rfl rfl)) rfl rfl hl.1 rfl (lv_room (Nat.le_of_ble_eq_true rfl)) dX0_fit_39 ⟨Nat.le_of_ble_eq_true rfl, Nat.le_of_ble_eq_true rfl⟩) xW_av rfl rfl mg_xW_rW_18 (fun H locs hP hS => ?_)
        refine lv_if_eq (tgt := 125) C.1 C.2.1 dX0_fit_42 (by decide) (fun c1928 => ?_) (fun c1928 => ?_)
        · have hE := it_t c1928 hE
          obtain rfl := Option.some.inj hE
          exact hJ125u1903 H locs ls hP hS (lv_sub hl [0, 1, 2, 3] rfl)
        · have hE := it_f c1928 hE
          refine lv_aload_n C.1 C.2.1 dX0_fit_45 rfl (lv_at hl 0 rfl) ?_
          refine xWg_0_3 q241 C hP dX0_fit_46 ?_
          refine lv_aload_n C.1 C.2.1 dX0_fit_49 rfl (lv_at hl 0 rfl) ?_
          refine xWg_0_6 q244 C hP dX0_fit_50 ?_
          refine xWg_18_4 q191 C hP dX0_fit_53 ?_
          obtain ⟨r1929, hr1929, hE⟩ := it_b hE
          refine n_after [5, 6, 19, 20] C.2.2.2.2.2.1 C.2.2.2.2.2.2.2.1 hP hS (va_runV (As := [.ref (ad 19)]) (rest := []) ⟨C.1, C.2.1, hml, C.2.2.1, C.2.2.2.1⟩ (metC_Pet_take l G (fun i => ad (if i < 2 then 5 + i else 19 + (i - 2))) pl _ _ _ _ _ _ _ _   r1929 hr1929) (cwV (C := RX2) 1 C.2.2.2.1 (lw_V q1076 q796 q797 q82 q798) rfl rfl rfl (by decide +kernel) ⟨Nat.le_of_ble_eq_true rfl, Nat.le_of_ble_eq_true rfl⟩) (n_preV C hP hS [5, 6, 19, 20] sub_xW_ppW_5_19 (by decide) rfl (va_recv C.2.2.2.2.1 hP (ci := 11) (q0 := 5) rfl rfl)) rfl rfl hl.1 rfl (lv_room (Nat.le_of_ble_eq_true rfl)) dX0_fit_56 ⟨Nat.le_of_ble_eq_true rfl, Nat.le_of_ble_eq_true rfl⟩) xW_av rfl rfl mg_xW_ppW_5_19 (fun H locs hP hS => ?_)
          refine lv_aload_n C.1 C.2.1 dX0_fit_59 rfl (lv_at hl 0 rfl) ?_
          refine xWg_0_6 q244 C hP dX0_fit_60 ?_
          refine lv_iload_n C.1 C.2.1 dX0_fit_63 rfl (lv_at hl 3 rfl) ?_
          obtain ⟨r1930, hr1930, hE⟩ := it_b hE
          refine n_after [18, 19, 20, 21, 22, 23, 24, 25] C.2.2.2.2.2.1 C.2.2.2.2.2.2.2.1 hP hS (va_runV (As := [.int x3]) (rest := [.ref (ad 5)]) ⟨C.1, C.2.1, hml, C.2.2.1, C.2.2.2.1⟩ (metC_Room_of l G (fun i => ad (18 + i)) pl _ _ _ _ _ _ _ _ _ _ _ _ _ x3  r1930 hr1930) (cwV (C := RX3) 1 C.2.2.2.1 (lw_V q1081 q981 q982 q83 q983) rfl rfl rfl (by decide +kernel) ⟨Nat.le_of_ble_eq_true rfl, Nat.le_of_ble_eq_true rfl⟩) (n_preV C hP hS [18, 19, 20, 21, 22, 23, 24, 25] sub_xW_rW_18 (by decide) rfl (va_recv C.2.2.2.2.1 hP (ci := 12) (q0 := 18) rfl rfl)) rfl rfl hl.1 rfl (lv_room (Nat.le_of_ble_eq_true rfl)) dX0_fit_64 ⟨Nat.le_of_ble_eq_true rfl, Nat.le_of_ble_eq_true rfl⟩) xW_av rfl rfl mg_xW_rW_18 (fun H locs hP hS => ?_)
          by_cases c1931 : x3 = (-1)
          · have hE := it_t c1931 hE
            obtain rfl := of_none hr1930 c1931
            obtain ⟨r1934, hr1934, hE⟩ := it_b hE
            refine n_after [5, 6] C.2.2.2.2.2.1 C.2.2.2.2.2.2.2.1 hP hS (va_runV (As := [.null]) (rest := []) ⟨C.1, C.2.1, hml, C.2.2.1, C.2.2.2.1⟩ (metC_Pet_week_N l G (fun i => ad (5 + i)) pl _ _ _ _   r1934 hr1934) (cwV (C := RX2) 1 C.2.2.2.1 (lw_V q1082 q985 q986 q82 q987) rfl rfl rfl (by decide +kernel) ⟨Nat.le_of_ble_eq_true rfl, Nat.le_of_ble_eq_true rfl⟩) (n_preV C hP hS [5, 6] sub_xW_pW_5 (by decide) rfl (va_recv C.2.2.2.2.1 hP (ci := 11) (q0 := 5) rfl rfl)) rfl rfl hl.1 rfl (lv_room (Nat.le_of_ble_eq_true rfl)) dX0_fit_67 ⟨Nat.le_of_ble_eq_true rfl, Nat.le_of_ble_eq_true rfl⟩) xW_av rfl rfl mg_xW_pW_5 (fun H locs hP hS => ?_)
            refine lv_aload_n C.1 C.2.1 dX0_fit_70 rfl (lv_at hl 0 rfl) ?_
            refine xWg_0_3 q241 C hP dX0_fit_71 ?_
            obtain ⟨r1935, hr1935, hE⟩ := it_b hE
            refine n_after [5, 6] C.2.2.2.2.2.1 C.2.2.2.2.2.2.2.1 hP hS (va_runV (As := []) (rest := []) ⟨C.1, C.2.1, hml, C.2.2.1, C.2.2.2.1⟩ (metC_Pet_dies l G (fun i => ad (5 + i)) pl _ _ _ _   r1935 hr1935) (cwV (C := RX2) 0 C.2.2.2.1 (lw_V q1083 q1024 q1025 q82 q1026) rfl rfl rfl (by decide +kernel) ⟨Nat.le_of_ble_eq_true rfl, Nat.le_of_ble_eq_true rfl⟩) (n_preV C hP hS [5, 6] sub_xW_pW_5 (by decide) rfl (va_recv C.2.2.2.2.1 hP (ci := 11) (q0 := 5) rfl rfl)) rfl rfl hl.1 rfl (lv_room (Nat.le_of_ble_eq_true rfl)) dX0_fit_74 ⟨Nat.le_of_ble_eq_true rfl, Nat.le_of_ble_eq_true rfl⟩) xW_av rfl rfl mg_xW_pW_5 (fun H locs hP hS => ?_)
            refine lv_iconst (v := (-1)) C.1 C.2.1 dX0_fit_77 (by decide) ?_
            obtain ⟨u1937, hR, hE⟩ := it_b hE
            have hJ92u1937 : u1937 = true → ∀ (H : Heap) (locs : List Loc) (ls : Array Slot), va_P G.1 vwCl (xW G.2 ad v_latestFault v_died v_leastWeight v_noticedBy v_noticed v_orderDied v_orderLeast v_imaged v_shelves v_refusals v_ran v_bodies r1934.1 r1934.2.1 r1934.2.2 r1929.2.2.2 v_told v_bestRow v_weight_a1 v_fright_a1 v_age_a1 v_asked_a1 v_weight_a2 v_fright_a2 v_age_a2 v_asked_a2 v_weight_a3 v_fright_a3 v_age_a3 v_asked_a3 v_weight_a4 v_fright_a4 v_age_a4 v_asked_a4 v_many v_pets v_last v_seed v_weight v_fright v_age v_asked v_homes v_marks v_had v_allergic v_deaths) H → va_S (tA sz (xWV ad) []) s.heap H locs → lv_has ls 5 [(0, .ref (ad 0)), (1, .int x1), (2, .int x2), (3, .int x3)] → W p l e ({ frames := 5, cells := 1, slots := 7, locals := 122 } : Room) s m args below meth c H locs 1 7 Q (F0 m 92 ls []) := by
              intro hu H locs ls hP hS hl
              have hE := it_t hu hE
              refine lv_iconst (v := 1) C.1 C.2.1 dX0_fit_92 (by decide) ?_
              refine lv_goto (tgt := 97) C.1 C.2.1 dX0_fit_93 (by decide) ?_
              refine lv_istore (lv' := [(4, .int 1), (0, .ref (ad 0)), (1, .int x1), (2, .int x2), (3, .int x3)]) C.1 C.2.1 dX0_fit_97 hl (by decide) rfl (fun ls hl => ?_)
              refine lv_iload_n C.1 C.2.1 dX0_fit_99 rfl (lv_at hl 3 rfl) ?_
              refine lv_iload C.1 C.2.1 dX0_fit_100 (lv_at hl 0 rfl) ?_
              refine lv_if_eq (tgt := 122) C.1 C.2.1 dX0_fit_102 (by decide) (fun c1939 => absurd c1939 (by decide)) (fun c1939 => ?_)
              refine lv_iload_n C.1 C.2.1 dX0_fit_105 rfl (lv_at hl 4 rfl) ?_
              refine lv_iconst (v := (-1)) C.1 C.2.1 dX0_fit_106 (by decide) ?_
              obtain ⟨u1941, hR, hE⟩ := it_b hE
              have hJ123u1941 : ∀ (H : Heap) (locs : List Loc) (ls : Array Slot), va_P G.1 vwCl (xW G.2 ad v_latestFault v_died v_leastWeight v_noticedBy v_noticed v_orderDied v_orderLeast v_imaged v_shelves v_refusals v_ran v_bodies r1934.1 r1934.2.1 r1934.2.2 r1929.2.2.2 v_told v_bestRow v_weight_a1 v_fright_a1 v_age_a1 v_asked_a1 v_weight_a2 v_fright_a2 v_age_a2 v_asked_a2 v_weight_a3 v_fright_a3 v_age_a3 v_asked_a3 v_weight_a4 v_fright_a4 v_age_a4 v_asked_a4 v_many v_pets v_last v_seed v_weight v_fright v_age v_asked v_homes v_marks v_had v_allergic v_deaths) H → va_S (tA sz (xWV ad) []) s.heap H locs → lv_has ls 5 [(0, .ref (ad 0)), (1, .int x1), (3, .int x3)] → W p l e ({ frames := 5, cells := 1, slots := 7, locals := 122 } : Room) s m args below meth c H locs 1 7 Q (F0 m 123 ls [.int u1941, .int x2]) := by
                intro H locs ls hP hS hl
                refine lv_ior C.1 C.2.1 dX0_fit_123 ?_
                refine lv_istore_n (lv' := [(2, .int (x2 ||| u1941)), (0, .ref (ad 0)), (1, .int x1), (3, .int x3)]) C.1 C.2.1 dX0_fit_124 rfl hl (by decide) rfl (fun ls hl => ?_)
                obtain rfl := Option.some.inj hE
                exact hJ125u1903 H locs ls hP hS (lv_sub hl [1, 2, 0, 3] rfl)
              have hE := hR
              refine lv_icmp_ne (tgt := 116) C.1 C.2.1 dX0_fit_107 (by decide) (fun c1940 => ?_) (fun c1940 => ?_)
              · have hE := it_f c1940 hE
                refine lv_iconst (v := 1) C.1 C.2.1 dX0_fit_116 (by decide) ?_
                refine lv_iload_n C.1 C.2.1 dX0_fit_117 rfl (lv_at hl 4 rfl) ?_
                refine lv_ishl C.1 C.2.1 dX0_fit_118 ?_
                refine lv_goto (tgt := 123) C.1 C.2.1 dX0_fit_119 (by decide) ?_
                obtain rfl := Option.some.inj hE
                exact hJ123u1941 H locs ls hP hS (lv_sub hl [1, 2, 4] rfl)
              · have hE := it_t c1940 hE
                refine lv_sipush (v := 256) C.1 C.2.1 dX0_fit_110 (by decide) ?_
                refine lv_goto (tgt := 123) C.1 C.2.1 dX0_fit_113 (by decide) ?_
                obtain rfl := Option.some.inj hE
                exact hJ123u1941 H locs ls hP hS (lv_sub hl [1, 2, 4] rfl)
            have hJ96u1937 : ¬ u1937 = true → ∀ (H : Heap) (locs : List Loc) (ls : Array Slot), va_P G.1 vwCl (xW G.2 ad v_latestFault v_died v_leastWeight v_noticedBy v_noticed v_orderDied v_orderLeast v_imaged v_shelves v_refusals v_ran v_bodies r1934.1 r1934.2.1 r1934.2.2 r1929.2.2.2 v_told v_bestRow v_weight_a1 v_fright_a1 v_age_a1 v_asked_a1 v_weight_a2 v_fright_a2 v_age_a2 v_asked_a2 v_weight_a3 v_fright_a3 v_age_a3 v_asked_a3 v_weight_a4 v_fright_a4 v_age_a4 v_asked_a4 v_many v_pets v_last v_seed v_weight v_fright v_age v_asked v_homes v_marks v_had v_allergic v_deaths) H → va_S (tA sz (xWV ad) []) s.heap H locs → lv_has ls 5 [(0, .ref (ad 0)), (1, .int x1), (2, .int x2), (3, .int x3)] → W p l e ({ frames := 5, cells := 1, slots := 7, locals := 122 } : Room) s m args below meth c H locs 1 7 Q (F0 m 96 ls []) := by
              intro hu H locs ls hP hS hl
              have hE := it_f hu hE
              refine lv_iconst (v := 0) C.1 C.2.1 dX0_fit_96 (by decide) ?_
              refine lv_istore (lv' := [(4, .int 0), (0, .ref (ad 0)), (1, .int x1), (2, .int x2), (3, .int x3)]) C.1 C.2.1 dX0_fit_97 hl (by decide) rfl (fun ls hl => ?_)
              refine lv_iload_n C.1 C.2.1 dX0_fit_99 rfl (lv_at hl 3 rfl) ?_
              refine lv_iload C.1 C.2.1 dX0_fit_100 (lv_at hl 0 rfl) ?_
              refine lv_if_eq (tgt := 122) C.1 C.2.1 dX0_fit_102 (by decide) (fun c1942 => ?_) (fun c1942 => absurd c1942 (by decide))
              refine lv_iconst (v := 0) C.1 C.2.1 dX0_fit_122 (by decide) ?_
              refine lv_ior C.1 C.2.1 dX0_fit_123 ?_
              refine lv_istore_n (lv' := [(2, .int (x2 ||| 0)), (4, .int 0), (0, .ref (ad 0)), (1, .int x1), (3, .int x3)]) C.1 C.2.1 dX0_fit_124 rfl hl (by decide) rfl (fun ls hl => ?_)
              obtain rfl := Option.some.inj hE
              exact hJ125u1903 H locs ls hP hS (lv_sub hl [2, 3, 0, 4] rfl)
            have hE := hR
            refine lv_icmp_ne (tgt := 96) C.1 C.2.1 dX0_fit_78 (by decide) (fun c1936 => ?_) (fun c1936 => ?_)
            · have hE := it_f c1936 hE
              obtain rfl := Option.some.inj hE
              exact hJ96u1937 (by decide) H locs ls hP hS (lv_sub hl [0, 1, 2, 3] rfl)
            · have hE := it_t c1936 hE
              refine lv_aload_n C.1 C.2.1 dX0_fit_81 rfl (lv_at hl 0 rfl) ?_
              refine xWg_0_3 q241 C hP dX0_fit_82 ?_
              refine xWg_5_0 q149 C hP dX0_fit_85 ?_
              refine lv_iload_n C.1 C.2.1 dX0_fit_88 rfl (lv_at hl 1 rfl) ?_
              refine lv_icmp_ne (tgt := 96) C.1 C.2.1 dX0_fit_89 (by decide) (fun c1938 => ?_) (fun c1938 => ?_)
              · have hE := it_f c1938 hE
                obtain rfl := Option.some.inj hE
                exact hJ96u1937 (by decide) H locs ls hP hS (lv_sub hl [0, 1, 2, 3] rfl)
              · have hE := it_t c1938 hE
                obtain rfl := Option.some.inj hE
                exact hJ92u1937 rfl H locs ls hP hS (lv_sub hl [0, 1, 2, 3] rfl)
          have hE := it_f c1931 hE
          obtain ⟨g1932, hE⟩ := it_g hE
          obtain ⟨q1933, hq19330, hq1933, hq19337⟩ := hom _ g1932
          obtain rfl := of_some hr1930 c1931 hq19330
          obtain ⟨r1943, hr1943, hE⟩ := it_b hE
          refine n_after [5, 6] C.2.2.2.2.2.1 C.2.2.2.2.2.2.2.1 hP hS (va_runV (As := [.ref q1933]) (rest := []) ⟨C.1, C.2.1, hml, C.2.2.1, C.2.2.2.1⟩ (metC_Pet_week_H l G (fun i => ad (5 + i)) pl _ _ _ _ q1933 (hk (x3).toNatClampNeg) x3 (hb (x3).toNatClampNeg) hq19337 hq1933 r1943 hr1943) (cwV (C := RX2) 1 C.2.2.2.1 (lw_V q1082 q985 q986 q82 q987) rfl rfl rfl (by decide +kernel) ⟨Nat.le_of_ble_eq_true rfl, Nat.le_of_ble_eq_true rfl⟩) (n_preV C hP hS [5, 6] sub_xW_pW_5 (by decide) rfl (va_recv C.2.2.2.2.1 hP (ci := 11) (q0 := 5) rfl rfl)) rfl rfl hl.1 rfl (lv_room (Nat.le_of_ble_eq_true rfl)) dX0_fit_67 ⟨Nat.le_of_ble_eq_true rfl, Nat.le_of_ble_eq_true rfl⟩) xW_av rfl rfl mg_xW_pW_5 (fun H locs hP hS => ?_)
          refine lv_aload_n C.1 C.2.1 dX0_fit_70 rfl (lv_at hl 0 rfl) ?_
          refine xWg_0_3 q241 C hP dX0_fit_71 ?_
          obtain ⟨r1944, hr1944, hE⟩ := it_b hE
          refine n_after [5, 6] C.2.2.2.2.2.1 C.2.2.2.2.2.2.2.1 hP hS (va_runV (As := []) (rest := []) ⟨C.1, C.2.1, hml, C.2.2.1, C.2.2.2.1⟩ (metC_Pet_dies l G (fun i => ad (5 + i)) pl _ _ _ _   r1944 hr1944) (cwV (C := RX2) 0 C.2.2.2.1 (lw_V q1083 q1024 q1025 q82 q1026) rfl rfl rfl (by decide +kernel) ⟨Nat.le_of_ble_eq_true rfl, Nat.le_of_ble_eq_true rfl⟩) (n_preV C hP hS [5, 6] sub_xW_pW_5 (by decide) rfl (va_recv C.2.2.2.2.1 hP (ci := 11) (q0 := 5) rfl rfl)) rfl rfl hl.1 rfl (lv_room (Nat.le_of_ble_eq_true rfl)) dX0_fit_74 ⟨Nat.le_of_ble_eq_true rfl, Nat.le_of_ble_eq_true rfl⟩) xW_av rfl rfl mg_xW_pW_5 (fun H locs hP hS => ?_)
          refine lv_iconst (v := (-1)) C.1 C.2.1 dX0_fit_77 (by decide) ?_
          obtain ⟨u1946, hR, hE⟩ := it_b hE
          have hJ92u1946 : u1946 = true → ∀ (H : Heap) (locs : List Loc) (ls : Array Slot), va_P G.1 vwCl (xW G.2 ad v_latestFault v_died v_leastWeight v_noticedBy v_noticed v_orderDied v_orderLeast v_imaged v_shelves v_refusals v_ran v_bodies r1943.1 r1943.2.1 r1943.2.2 r1929.2.2.2 v_told v_bestRow v_weight_a1 v_fright_a1 v_age_a1 v_asked_a1 v_weight_a2 v_fright_a2 v_age_a2 v_asked_a2 v_weight_a3 v_fright_a3 v_age_a3 v_asked_a3 v_weight_a4 v_fright_a4 v_age_a4 v_asked_a4 v_many v_pets v_last v_seed v_weight v_fright v_age v_asked v_homes v_marks v_had v_allergic v_deaths) H → va_S (tA sz (xWV ad) []) s.heap H locs → lv_has ls 5 [(0, .ref (ad 0)), (1, .int x1), (2, .int x2), (3, .int x3)] → W p l e ({ frames := 5, cells := 1, slots := 7, locals := 122 } : Room) s m args below meth c H locs 1 7 Q (F0 m 92 ls []) := by
            intro hu H locs ls hP hS hl
            have hE := it_t hu hE
            refine lv_iconst (v := 1) C.1 C.2.1 dX0_fit_92 (by decide) ?_
            refine lv_goto (tgt := 97) C.1 C.2.1 dX0_fit_93 (by decide) ?_
            refine lv_istore (lv' := [(4, .int 1), (0, .ref (ad 0)), (1, .int x1), (2, .int x2), (3, .int x3)]) C.1 C.2.1 dX0_fit_97 hl (by decide) rfl (fun ls hl => ?_)
            refine lv_iload_n C.1 C.2.1 dX0_fit_99 rfl (lv_at hl 3 rfl) ?_
            refine lv_iload C.1 C.2.1 dX0_fit_100 (lv_at hl 0 rfl) ?_
            refine lv_if_eq (tgt := 122) C.1 C.2.1 dX0_fit_102 (by decide) (fun c1948 => absurd c1948 (by decide)) (fun c1948 => ?_)
            refine lv_iload_n C.1 C.2.1 dX0_fit_105 rfl (lv_at hl 4 rfl) ?_
            refine lv_iconst (v := (-1)) C.1 C.2.1 dX0_fit_106 (by decide) ?_
            obtain ⟨u1950, hR, hE⟩ := it_b hE
            have hJ123u1950 : ∀ (H : Heap) (locs : List Loc) (ls : Array Slot), va_P G.1 vwCl (xW G.2 ad v_latestFault v_died v_leastWeight v_noticedBy v_noticed v_orderDied v_orderLeast v_imaged v_shelves v_refusals v_ran v_bodies r1943.1 r1943.2.1 r1943.2.2 r1929.2.2.2 v_told v_bestRow v_weight_a1 v_fright_a1 v_age_a1 v_asked_a1 v_weight_a2 v_fright_a2 v_age_a2 v_asked_a2 v_weight_a3 v_fright_a3 v_age_a3 v_asked_a3 v_weight_a4 v_fright_a4 v_age_a4 v_asked_a4 v_many v_pets v_last v_seed v_weight v_fright v_age v_asked v_homes v_marks v_had v_allergic v_deaths) H → va_S (tA sz (xWV ad) []) s.heap H locs → lv_has ls 5 [(0, .ref (ad 0)), (1, .int x1), (3, .int x3)] → W p l e ({ frames := 5, cells := 1, slots := 7, locals := 122 } : Room) s m args below meth c H locs 1 7 Q (F0 m 123 ls [.int u1950, .int x2]) := by
              intro H locs ls hP hS hl
              refine lv_ior C.1 C.2.1 dX0_fit_123 ?_
              refine lv_istore_n (lv' := [(2, .int (x2 ||| u1950)), (0, .ref (ad 0)), (1, .int x1), (3, .int x3)]) C.1 C.2.1 dX0_fit_124 rfl hl (by decide) rfl (fun ls hl => ?_)
              obtain rfl := Option.some.inj hE
              exact hJ125u1903 H locs ls hP hS (lv_sub hl [1, 2, 0, 3] rfl)
            have hE := hR
            refine lv_icmp_ne (tgt := 116) C.1 C.2.1 dX0_fit_107 (by decide) (fun c1949 => ?_) (fun c1949 => ?_)
            · have hE := it_f c1949 hE
              refine lv_iconst (v := 1) C.1 C.2.1 dX0_fit_116 (by decide) ?_
              refine lv_iload_n C.1 C.2.1 dX0_fit_117 rfl (lv_at hl 4 rfl) ?_
              refine lv_ishl C.1 C.2.1 dX0_fit_118 ?_
              refine lv_goto (tgt := 123) C.1 C.2.1 dX0_fit_119 (by decide) ?_
              obtain rfl := Option.some.inj hE
              exact hJ123u1950 H locs ls hP hS (lv_sub hl [1, 2, 4] rfl)
            · have hE := it_t c1949 hE
              refine lv_sipush (v := 256) C.1 C.2.1 dX0_fit_110 (by decide) ?_
              refine lv_goto (tgt := 123) C.1 C.2.1 dX0_fit_113 (by decide) ?_
              obtain rfl := Option.some.inj hE
              exact hJ123u1950 H locs ls hP hS (lv_sub hl [1, 2, 4] rfl)
          have hJ96u1946 : ¬ u1946 = true → ∀ (H : Heap) (locs : List Loc) (ls : Array Slot), va_P G.1 vwCl (xW G.2 ad v_latestFault v_died v_leastWeight v_noticedBy v_noticed v_orderDied v_orderLeast v_imaged v_shelves v_refusals v_ran v_bodies r1943.1 r1943.2.1 r1943.2.2 r1929.2.2.2 v_told v_bestRow v_weight_a1 v_fright_a1 v_age_a1 v_asked_a1 v_weight_a2 v_fright_a2 v_age_a2 v_asked_a2 v_weight_a3 v_fright_a3 v_age_a3 v_asked_a3 v_weight_a4 v_fright_a4 v_age_a4 v_asked_a4 v_many v_pets v_last v_seed v_weight v_fright v_age v_asked v_homes v_marks v_had v_allergic v_deaths) H → va_S (tA sz (xWV ad) []) s.heap H locs → lv_has ls 5 [(0, .ref (ad 0)), (1, .int x1), (2, .int x2), (3, .int x3)] → W p l e ({ frames := 5, cells := 1, slots := 7, locals := 122 } : Room) s m args below meth c H locs 1 7 Q (F0 m 96 ls []) := by
            intro hu H locs ls hP hS hl
            have hE := it_f hu hE
            refine lv_iconst (v := 0) C.1 C.2.1 dX0_fit_96 (by decide) ?_
            refine lv_istore (lv' := [(4, .int 0), (0, .ref (ad 0)), (1, .int x1), (2, .int x2), (3, .int x3)]) C.1 C.2.1 dX0_fit_97 hl (by decide) rfl (fun ls hl => ?_)
            refine lv_iload_n C.1 C.2.1 dX0_fit_99 rfl (lv_at hl 3 rfl) ?_
            refine lv_iload C.1 C.2.1 dX0_fit_100 (lv_at hl 0 rfl) ?_
            refine lv_if_eq (tgt := 122) C.1 C.2.1 dX0_fit_102 (by decide) (fun c1951 => ?_) (fun c1951 => absurd c1951 (by decide))
            refine lv_iconst (v := 0) C.1 C.2.1 dX0_fit_122 (by decide) ?_
            refine lv_ior C.1 C.2.1 dX0_fit_123 ?_
            refine lv_istore_n (lv' := [(2, .int (x2 ||| 0)), (4, .int 0), (0, .ref (ad 0)), (1, .int x1), (3, .int x3)]) C.1 C.2.1 dX0_fit_124 rfl hl (by decide) rfl (fun ls hl => ?_)
            obtain rfl := Option.some.inj hE
            exact hJ125u1903 H locs ls hP hS (lv_sub hl [2, 3, 0, 4] rfl)
          have hE := hR
          refine lv_icmp_ne (tgt := 96) C.1 C.2.1 dX0_fit_78 (by decide) (fun c1945 => ?_) (fun c1945 => ?_)
          · have hE := it_f c1945 hE
            obtain rfl := Option.some.inj hE
            exact hJ96u1946 (by decide) H locs ls hP hS (lv_sub hl [0, 1, 2, 3] rfl)
          · have hE := it_t c1945 hE
            refine lv_aload_n C.1 C.2.1 dX0_fit_81 rfl (lv_at hl 0 rfl) ?_
            refine xWg_0_3 q241 C hP dX0_fit_82 ?_
            refine xWg_5_0 q149 C hP dX0_fit_85 ?_
            refine lv_iload_n C.1 C.2.1 dX0_fit_88 rfl (lv_at hl 1 rfl) ?_
            refine lv_icmp_ne (tgt := 96) C.1 C.2.1 dX0_fit_89 (by decide) (fun c1947 => ?_) (fun c1947 => ?_)
            · have hE := it_f c1947 hE
              obtain rfl := Option.some.inj hE
              exact hJ96u1946 (by decide) H locs ls hP hS (lv_sub hl [0, 1, 2, 3] rfl)
            · have hE := it_t c1947 hE
              obtain rfl := Option.some.inj hE
              exact hJ92u1946 rfl H locs ls hP hS (lv_sub hl [0, 1, 2, 3] rfl)
set_option maxHeartbeats 4000000 in
theorem metC_HW_fit (l : Launch) (hfl : l.stackTraces = false) (G : kG) (ad : Nat → Nat) (pl : va_W) (hk : Nat → Nat) (hb : Nat → Int32) (sz : Nat) (v_latestFault : Int32) (v_died : Int32) (v_leastWeight : Int32) (v_noticedBy : Int32) (v_noticed : Int32) (v_orderDied : Int32) (v_orderLeast : Int32) (v_imaged : Option Nat) (v_shelves : Nat → Option Nat) (v_refusals : Nat → Int32) (v_ran : Int32) (v_bodies : Nat → Int32) (v_tweight : Int32) (v_tfright : Int32) (v_tage : Int32) (v_tasked : Nat → Int32) (v_told : Nat → Int32) (v_bestRow : Nat → Int32) (v_weight_a1 : Int32) (v_fright_a1 : Int32) (v_age_a1 : Int32) (v_asked_a1 : Nat → Int32) (v_weight_a2 : Int32) (v_fright_a2 : Int32) (v_age_a2 : Int32) (v_asked_a2 : Nat → Int32) (v_weight_a3 : Int32) (v_fright_a3 : Int32) (v_age_a3 : Int32) (v_asked_a3 : Nat → Int32) (v_weight_a4 : Int32) (v_fright_a4 : Int32) (v_age_a4 : Int32) (v_asked_a4 : Nat → Int32) (v_many : Int32) (v_pets : Int32) (v_last : Int32) (v_seed : Int32) (v_weight : Int32) (v_fright : Int32) (v_age : Int32) (v_asked : Nat → Int32) (v_homes : Nat → Option Nat) (v_marks : Nat → Int32) (v_had : Nat → Int32) (v_allergic : Nat → Int32) (v_deaths : Nat → Int32) (hom : homOK v_homes v_many hk hb pl) (p1 : Int32) (res : Int32 × (Nat → Int32) × Int32 × Int32 × Int32 × (Nat → Int32)) (hE : sC_HW_fit v_refusals v_tweight v_tfright v_tage v_tasked v_many v_weight v_fright v_age v_asked v_homes v_allergic hk hb p1 = some res) : vx_Met l yX0_fit (wsW_ yX0_fit cX0_fit 5 (some .int) [((0 : Nat), (132 : Nat), (133 : Nat), (21 : Nat))]) ({ frames := 5, cells := 1, slots := 7, locals := 122 } : Room) (rPc G (xW G.2 ad v_latestFault v_died v_leastWeight v_noticedBy v_noticed v_orderDied v_orderLeast v_imaged v_shelves v_refusals v_ran v_bodies v_tweight v_tfright v_tage v_tasked v_told v_bestRow v_weight_a1 v_fright_a1 v_age_a1 v_asked_a1 v_weight_a2 v_fright_a2 v_age_a2 v_asked_a2 v_weight_a3 v_fright_a3 v_age_a3 v_asked_a3 v_weight_a4 v_fright_a4 v_age_a4 v_asked_a4 v_many v_pets v_last v_seed v_weight v_fright v_age v_asked v_homes v_marks v_had v_allergic v_deaths) pl (xWV ad) sz [.ref (ad 0), .int p1]) (tQc G (xW G.2 ad v_latestFault v_died v_leastWeight v_noticedBy v_noticed v_orderDied v_orderLeast v_imaged v_shelves res.2.1 v_ran v_bodies res.2.2.1 res.2.2.2.1 res.2.2.2.2.1 res.2.2.2.2.2 v_told v_bestRow v_weight_a1 v_fright_a1 v_age_a1 v_asked_a1 v_weight_a2 v_fright_a2 v_age_a2 v_asked_a2 v_weight_a3 v_fright_a3 v_age_a3 v_asked_a3 v_weight_a4 v_fright_a4 v_age_a4 v_asked_a4 v_many v_pets v_last v_seed v_weight v_fright v_age v_asked v_homes v_marks v_had v_allergic v_deaths) [] (tA sz (xWV ad) []) (True) (some (.int res.1))) (tXC G (xW G.2 ad v_latestFault v_died v_leastWeight v_noticedBy v_noticed v_orderDied v_orderLeast v_imaged v_shelves res.2.1 v_ran v_bodies res.2.2.1 res.2.2.2.1 res.2.2.2.2.1 res.2.2.2.2.2 v_told v_bestRow v_weight_a1 v_fright_a1 v_age_a1 v_asked_a1 v_weight_a2 v_fright_a2 v_age_a2 v_asked_a2 v_weight_a3 v_fright_a3 v_age_a3 v_asked_a3 v_weight_a4 v_fright_a4 v_age_a4 v_asked_a4 v_many v_pets v_last v_seed v_weight v_fright v_age v_asked v_homes v_marks v_had v_allergic v_deaths) [] (tA sz (xWV ad) []) 18 RX6 none sz) 1 7 (tA sz (xWV ad) []) := by
  refine r_ofWH (own := RX0) (by decide) rfl (Nat.le_of_ble_eq_true rfl) ?_
  intro p e s m args below meth c ls C C0 D hml htab hP hS hl hr hlocks hsz
  have hl : lv_has ls 5 [(0, .ref (ad 0)), (1, .int p1)] := hl
  obtain ⟨Q, hQ⟩ : ∃ Q, Q = vx_MQ below (tQc G (xW G.2 ad v_latestFault v_died v_leastWeight v_noticedBy v_noticed v_orderDied v_orderLeast v_imaged v_shelves res.2.1 v_ran v_bodies res.2.2.1 res.2.2.2.1 res.2.2.2.2.1 res.2.2.2.2.2 v_told v_bestRow v_weight_a1 v_fright_a1 v_age_a1 v_asked_a1 v_weight_a2 v_fright_a2 v_age_a2 v_asked_a2 v_weight_a3 v_fright_a3 v_age_a3 v_asked_a3 v_weight_a4 v_fright_a4 v_age_a4 v_asked_a4 v_many v_pets v_last v_seed v_weight v_fright v_age v_asked v_homes v_marks v_had v_allergic v_deaths) [] (tA sz (xWV ad) []) (True) (some (.int res.1))) (tXC G (xW G.2 ad v_latestFault v_died v_leastWeight v_noticedBy v_noticed v_orderDied v_orderLeast v_imaged v_shelves res.2.1 v_ran v_bodies res.2.2.1 res.2.2.2.1 res.2.2.2.2.1 res.2.2.2.2.2 v_told v_bestRow v_weight_a1 v_fright_a1 v_age_a1 v_asked_a1 v_weight_a2 v_fright_a2 v_age_a2 v_asked_a2 v_weight_a3 v_fright_a3 v_age_a3 v_asked_a3 v_weight_a4 v_fright_a4 v_age_a4 v_asked_a4 v_many v_pets v_last v_seed v_weight v_fright v_age v_asked v_homes v_marks v_had v_allergic v_deaths) [] (tA sz (xWV ad) []) 18 RX6 none sz) args s 1 7 (tA sz (xWV ad) []) := ⟨_, rfl⟩
  rw [← hQ]
  have hret : ∀ (pc : Nat) (ls : Array Slot) (H : Heap) (locs : List Loc), decode cX0_fit pc = .ok (.ireturn, 1) → True → va_P G.1 vwCl (xW G.2 ad v_latestFault v_died v_leastWeight v_noticedBy v_noticed v_orderDied v_orderLeast v_imaged v_shelves res.2.1 v_ran v_bodies res.2.2.1 res.2.2.2.1 res.2.2.2.2.1 res.2.2.2.2.2 v_told v_bestRow v_weight_a1 v_fright_a1 v_age_a1 v_asked_a1 v_weight_a2 v_fright_a2 v_age_a2 v_asked_a2 v_weight_a3 v_fright_a3 v_age_a3 v_asked_a3 v_weight_a4 v_fright_a4 v_age_a4 v_asked_a4 v_many v_pets v_last v_seed v_weight v_fright v_age v_asked v_homes v_marks v_had v_allergic v_deaths) H → va_S (tA sz (xWV ad) []) s.heap H locs → W p l e ({ frames := 5, cells := 1, slots := 7, locals := 122 } : Room) s m args below meth c H locs 1 7 Q (F0 m pc ls [(.int res.1)]) := by
    intro pc ls H locs hd hφ hP hS
    rw [hQ]
    exact t_iret C0 hr hlocks hd hφ hP P_nil hS
  clear hQ
  obtain ⟨H, hH⟩ : ∃ H, H = s.heap := ⟨_, rfl⟩
  obtain ⟨locs, hlo⟩ : ∃ locs : List Loc, locs = [] := ⟨_, rfl⟩
  have hP : va_P G.1 vwCl (xW G.2 ad v_latestFault v_died v_leastWeight v_noticedBy v_noticed v_orderDied v_orderLeast v_imaged v_shelves v_refusals v_ran v_bodies v_tweight v_tfright v_tage v_tasked v_told v_bestRow v_weight_a1 v_fright_a1 v_age_a1 v_asked_a1 v_weight_a2 v_fright_a2 v_age_a2 v_asked_a2 v_weight_a3 v_fright_a3 v_age_a3 v_asked_a3 v_weight_a4 v_fright_a4 v_age_a4 v_asked_a4 v_many v_pets v_last v_seed v_weight v_fright v_age v_asked v_homes v_marks v_had v_allergic v_deaths) H := by rw [hH]; exact hP
  have hS : va_S (tA sz (xWV ad) []) s.heap H locs := by rw [hH, hlo]; exact hS
  suffices hZ : W p l e ({ frames := 5, cells := 1, slots := 7, locals := 122 } : Room) s m args below meth c H locs 0 0 Q (F0 m 0 ls []) by rw [hH, hlo] at hZ; exact hZ
  clear hH hlo
  unfold sC_HW_fit at hE
  refine lv_iload_n C.1 C.2.1 dX0_fit_0 rfl (lv_at hl 1 rfl) ?_
  refine lv_i2l C.1 C.2.1 dX0_fit_1 rfl ?_
  refine lv_lconst (v := 0) C.1 C.2.1 dX0_fit_2 (by decide) ?_
  refine lv_ldc2 C.1 C.2.1 C.2.2.1 (C.2.2.2.1 _ q778) dX0_fit_3 ?_
  obtain ⟨r1, hr1, hE⟩ := it_b hE
  refine n_after [] C.2.2.2.2.2.1 C.2.2.2.2.2.2.2.1 hP hS (va_runS (As := [.long ((p1 : Int32).toInt64), .long 0, .long 400]) (rest := []) ⟨C.1, C.2.1, hml, C.2.2.1, C.2.2.2.1⟩ (metC_HW_in l G ad pl  ((p1 : Int32).toInt64) 0 400  r1 hr1) (va_cwS 3 C.2.2.2.1 (lw_S q401 q402 q80 q403) rfl rfl rfl (by decide +kernel) ⟨Nat.le_of_ble_eq_true rfl, Nat.le_of_ble_eq_true rfl⟩) (n_preS C hP hS [] rfl (by decide) rfl) rfl rfl hl.1 rfl (lv_room (Nat.le_of_ble_eq_true rfl)) dX0_fit_6 ⟨Nat.le_of_ble_eq_true rfl, Nat.le_of_ble_eq_true rfl⟩) xW_av rfl rfl rfl (fun H locs hP hS => ?_)
  refine lv_bipush (v := (-6)) C.1 C.2.1 dX0_fit_9 (by decide) ?_
  refine t_after [] C0 D hP P_nil hS (vx_runS (As := [.int r1, .int (-6)]) (rest := []) ⟨C.1, C.2.1, hml, C.2.2.1, C.2.2.2.1⟩ (metC_HW_need l hfl G ad pl H.size r1 (-6) _ (need_eq _ _)) (va_cwS 2 C.2.2.2.1 (lw_S q397 q398 q80 q399) rfl rfl rfl (by decide +kernel) ⟨Nat.le_of_ble_eq_true rfl, Nat.le_of_ble_eq_true rfl⟩) (rr_preS C D hP hS [] rfl (by decide) rfl) rfl rfl hl.1 rfl (lv_room (Nat.le_of_ble_eq_true rfl)) dX0_fit_11 ⟨Nat.le_of_ble_eq_true rfl, Nat.le_of_ble_eq_true rfl⟩) xW_av rfl rfl rfl (fun hφ H locs hP _ hS => ?_) (fun w q H locs hw hq hc hP _ hS => ?_)
  · have hE := it_f (nd_n hφ) hE
    refine lv_iconst (v := 0) C.1 C.2.1 dX0_fit_14 (by decide) ?_
    refine lv_istore_n (lv' := [(2, .int 0), (0, .ref (ad 0)), (1, .int p1)]) C.1 C.2.1 dX0_fit_15 rfl hl (by decide) rfl (fun ls hl => ?_)
    refine lv_iconst (v := (-1)) C.1 C.2.1 dX0_fit_16 (by decide) ?_
    refine lv_istore_n (lv' := [(3, .int (-1)), (2, .int 0), (0, .ref (ad 0)), (1, .int p1)]) C.1 C.2.1 dX0_fit_17 rfl hl (by decide) rfl (fun ls hl => ?_)
    obtain ⟨u4, hu4, hE⟩ := it_b hE
    refine wC_HW_fit_h18 C hml  D hom p1 u4 2000 0 (-1) v_tweight v_tfright v_tage v_tasked H locs ls hu4 hP hS (lv_sub hl [2, 3, 1, 0] rfl) (fun H locs ls hP hS hl => ?_)
    refine lv_iload_n C.1 C.2.1 dX0_fit_131 rfl (lv_at hl 1 rfl) ?_
    obtain rfl := Option.some.inj hE
    exact hret _ _ _ _ dX0_fit_132 trivial hP hS
  · obtain ⟨c2, rfl⟩ := nd_x hw
    obtain ⟨q3, rfl⟩ : ∃ z, z = q := ⟨_, rfl⟩
    have hE := it_t c2 hE
    obtain ⟨ce, g1, g2, g3⟩ := t_cell C0 hc rfl
    refine t_catch (name := "HamsterWeekends$Refused") (E := "HamsterWeekends$Refused") C0 D [] ⟨0, 132, 133, 21⟩ [] htab (fun z hz => nomatch hz) rfl (by decide) q291 (List.mem_of_getElem? (i := 1) rfl) g1 g2 g3 ?_
    refine W.eq (g2 := F0 m 133 ls [.ref q3]) rfl ?_
    refine lv_astore_n (lv' := [(2, .ref q3), (0, .ref (ad 0)), (1, .int p1)]) C.1 C.2.1 dX0_fit_133 rfl hl (by decide) rfl (fun ls hl => ?_)
    refine lv_aload_n C.1 C.2.1 dX0_fit_134 rfl (lv_at hl 1 rfl) ?_
    refine lv_aload_n C.1 C.2.1 dX0_fit_135 rfl (lv_at hl 0 rfl) ?_
    obtain ⟨r5, hr5, hE⟩ := it_b hE
    refine n_afterS C.2.2.2.2.2.2.2.1 hS (va_runV (As := [.ref q3]) (rest := []) ⟨C.1, C.2.1, hml, C.2.2.1, C.2.2.2.1⟩ (metC_HW_refused l G ad [(q3, .inr (18, xF (-6)))] _ _ _ _ _ _ _ _ _ _ _ _ _ _ _ _ _ _ _ _ _ _ _ _ _ _ _ _ _ _ _ _ _ _ _ _ _ _ _ _ _ _ _ _ _ _ _ q3 (-6) (List.mem_singleton.mpr rfl) r5 hr5) (cwV (C := RX0) 1 C.2.2.2.1 (lw_V q466 q468 qs2 q80 q469) rfl rfl rfl (by decide +kernel) ⟨Nat.le_of_ble_eq_true rfl, Nat.le_of_ble_eq_true rfl⟩) (t_preX C0 hP hc hq.1 (va_recv C.2.2.2.2.1 hP (ci := 16) (q0 := 0) rfl rfl)) rfl rfl hl.1 rfl (lv_room (Nat.le_of_ble_eq_true rfl)) dX0_fit_136 ⟨Nat.le_of_ble_eq_true rfl, Nat.le_of_ble_eq_true rfl⟩) (fun H locs hP hS => ?_)
    obtain rfl := Option.some.inj hE
    exact hret _ _ _ _ dX0_fit_139 trivial hP hS
def sC_HW_chance (v_refusals : Nat → Int32) (v_weight_a1 : Int32) (v_fright_a1 : Int32) (v_age_a1 : Int32) (v_asked_a1 : Nat → Int32) (v_weight_a2 : Int32) (v_fright_a2 : Int32) (v_age_a2 : Int32) (v_asked_a2 : Nat → Int32) (v_weight_a3 : Int32) (v_fright_a3 : Int32) (v_age_a3 : Int32) (v_asked_a3 : Nat → Int32) (v_weight_a4 : Int32) (v_fright_a4 : Int32) (v_age_a4 : Int32) (v_asked_a4 : Nat → Int32) (v_many : Int32) (v_weight : Int32) (v_fright : Int32) (v_age : Int32) (v_asked : Nat → Int32) (v_homes : Nat → Option Nat) (v_allergic : Nat → Int32) (hk : Nat → Nat) (hb : Nat → Int32) (p1 : Int32) : Option (Int32 × (Nat → Int32) × Int32 × Int32 × Int32 × (Nat → Int32) × Int32 × Int32 × Int32 × (Nat → Int32) × Int32 × Int32 × Int32 × (Nat → Int32) × Int32 × Int32 × Int32 × (Nat → Int32)) :=
  (sC_HW_someMay v_many v_allergic).bind fun r1 =>
  if r1 = none then
    (sC_HW_in ((p1 : Int32).toInt64) 1 4).bind fun r3 =>
    if r3 = 0 then
      (sC_HW_refused v_refusals (-6)).bind fun r14 =>
      some (r14.1, r14.2, v_weight_a1, v_fright_a1, v_age_a1, v_asked_a1, v_weight_a2, v_fright_a2, v_age_a2, v_asked_a2, v_weight_a3, v_fright_a3, v_age_a3, v_asked_a3, v_weight_a4, v_fright_a4, v_age_a4, v_asked_a4)
    else
      if p1 = 1 then
        (sC_HW_deathsIn_19_1 v_weight_a1 v_fright_a1 v_age_a1 v_asked_a1 v_many v_weight v_fright v_age v_asked v_homes v_allergic hk hb (-1)).bind fun r7 =>
        some (r7.1, v_refusals, r7.2.1, r7.2.2.1, r7.2.2.2.1, r7.2.2.2.2, v_weight_a2, v_fright_a2, v_age_a2, v_asked_a2, v_weight_a3, v_fright_a3, v_age_a3, v_asked_a3, v_weight_a4, v_fright_a4, v_age_a4, v_asked_a4)
      else
      if p1 = 2 then
        (sC_HW_deathsIn_19_2 v_weight_a1 v_fright_a1 v_age_a1 v_asked_a1 v_weight_a2 v_fright_a2 v_age_a2 v_asked_a2 v_many v_weight v_fright v_age v_asked v_homes v_allergic hk hb (-1)).bind fun r9 =>
        some (r9.1, v_refusals, r9.2.1, r9.2.2.1, r9.2.2.2.1, r9.2.2.2.2.1, r9.2.2.2.2.2.1, r9.2.2.2.2.2.2.1, r9.2.2.2.2.2.2.2.1, r9.2.2.2.2.2.2.2.2, v_weight_a3, v_fright_a3, v_age_a3, v_asked_a3, v_weight_a4, v_fright_a4, v_age_a4, v_asked_a4)
      else
      if p1 = 3 then
        (sC_HW_deathsIn_19_3 v_weight_a1 v_fright_a1 v_age_a1 v_asked_a1 v_weight_a2 v_fright_a2 v_age_a2 v_asked_a2 v_weight_a3 v_fright_a3 v_age_a3 v_asked_a3 v_many v_weight v_fright v_age v_asked v_homes v_allergic hk hb (-1)).bind fun r11 =>
        some (r11.1, v_refusals, r11.2.1, r11.2.2.1, r11.2.2.2.1, r11.2.2.2.2.1, r11.2.2.2.2.2.1, r11.2.2.2.2.2.2.1, r11.2.2.2.2.2.2.2.1, r11.2.2.2.2.2.2.2.2.1, r11.2.2.2.2.2.2.2.2.2.1, r11.2.2.2.2.2.2.2.2.2.2.1, r11.2.2.2.2.2.2.2.2.2.2.2.1, r11.2.2.2.2.2.2.2.2.2.2.2.2, v_weight_a4, v_fright_a4, v_age_a4, v_asked_a4)
      else
      if p1 = 4 then
        (sC_HW_deathsIn_19_4 v_weight_a1 v_fright_a1 v_age_a1 v_asked_a1 v_weight_a2 v_fright_a2 v_age_a2 v_asked_a2 v_weight_a3 v_fright_a3 v_age_a3 v_asked_a3 v_weight_a4 v_fright_a4 v_age_a4 v_asked_a4 v_many v_weight v_fright v_age v_asked v_homes v_allergic hk hb (-1)).bind fun r13 =>
        some (r13.1, v_refusals, r13.2.1, r13.2.2.1, r13.2.2.2.1, r13.2.2.2.2.1, r13.2.2.2.2.2.1, r13.2.2.2.2.2.2.1, r13.2.2.2.2.2.2.2.1, r13.2.2.2.2.2.2.2.2.1, r13.2.2.2.2.2.2.2.2.2.1, r13.2.2.2.2.2.2.2.2.2.2.1, r13.2.2.2.2.2.2.2.2.2.2.2.1, r13.2.2.2.2.2.2.2.2.2.2.2.2.1, r13.2.2.2.2.2.2.2.2.2.2.2.2.2.1, r13.2.2.2.2.2.2.2.2.2.2.2.2.2.2.1, r13.2.2.2.2.2.2.2.2.2.2.2.2.2.2.2.1, r13.2.2.2.2.2.2.2.2.2.2.2.2.2.2.2.2)
      else
      none
  else
    (sC_HW_refused v_refusals (r1.getD 0)).bind fun r15 =>
    some (r15.1, r15.2, v_weight_a1, v_fright_a1, v_age_a1, v_asked_a1, v_weight_a2, v_fright_a2, v_age_a2, v_asked_a2, v_weight_a3, v_fright_a3, v_age_a3, v_asked_a3, v_weight_a4, v_fright_a4, v_age_a4, v_asked_a4)
set_option maxHeartbeats 4000000 in
theorem metC_HW_chance (l : Launch) (hfl : l.stackTraces = false) (G : kG) (ad : Nat → Nat) (pl : va_W) (hk : Nat → Nat) (hb : Nat → Int32) (sz : Nat) (v_latestFault : Int32) (v_died : Int32) (v_leastWeight : Int32) (v_noticedBy : Int32) (v_noticed : Int32) (v_orderDied : Int32) (v_orderLeast : Int32) (v_imaged : Option Nat) (v_shelves : Nat → Option Nat) (v_refusals : Nat → Int32) (v_ran : Int32) (v_bodies : Nat → Int32) (v_tweight : Int32) (v_tfright : Int32) (v_tage : Int32) (v_tasked : Nat → Int32) (v_told : Nat → Int32) (v_bestRow : Nat → Int32) (v_weight_a1 : Int32) (v_fright_a1 : Int32) (v_age_a1 : Int32) (v_asked_a1 : Nat → Int32) (v_weight_a2 : Int32) (v_fright_a2 : Int32) (v_age_a2 : Int32) (v_asked_a2 : Nat → Int32) (v_weight_a3 : Int32) (v_fright_a3 : Int32) (v_age_a3 : Int32) (v_asked_a3 : Nat → Int32) (v_weight_a4 : Int32) (v_fright_a4 : Int32) (v_age_a4 : Int32) (v_asked_a4 : Nat → Int32) (v_many : Int32) (v_pets : Int32) (v_last : Int32) (v_seed : Int32) (v_weight : Int32) (v_fright : Int32) (v_age : Int32) (v_asked : Nat → Int32) (v_homes : Nat → Option Nat) (v_marks : Nat → Int32) (v_had : Nat → Int32) (v_allergic : Nat → Int32) (v_deaths : Nat → Int32) (hom : homOK v_homes v_many hk hb pl) (p1 : Int32) (res : Int32 × (Nat → Int32) × Int32 × Int32 × Int32 × (Nat → Int32) × Int32 × Int32 × Int32 × (Nat → Int32) × Int32 × Int32 × Int32 × (Nat → Int32) × Int32 × Int32 × Int32 × (Nat → Int32)) (hE : sC_HW_chance v_refusals v_weight_a1 v_fright_a1 v_age_a1 v_asked_a1 v_weight_a2 v_fright_a2 v_age_a2 v_asked_a2 v_weight_a3 v_fright_a3 v_age_a3 v_asked_a3 v_weight_a4 v_fright_a4 v_age_a4 v_asked_a4 v_many v_weight v_fright v_age v_asked v_homes v_allergic hk hb p1 = some res) : vx_Met l yX0_chance (wsW_ yX0_chance cX0_chance 3 (some .int) [((0 : Nat), (31 : Nat), (32 : Nat), (21 : Nat))]) ({ frames := 9, cells := 2, slots := 14, locals := 214 } : Room) (rPc G (xW G.2 ad v_latestFault v_died v_leastWeight v_noticedBy v_noticed v_orderDied v_orderLeast v_imaged v_shelves v_refusals v_ran v_bodies v_tweight v_tfright v_tage v_tasked v_told v_bestRow v_weight_a1 v_fright_a1 v_age_a1 v_asked_a1 v_weight_a2 v_fright_a2 v_age_a2 v_asked_a2 v_weight_a3 v_fright_a3 v_age_a3 v_asked_a3 v_weight_a4 v_fright_a4 v_age_a4 v_asked_a4 v_many v_pets v_last v_seed v_weight v_fright v_age v_asked v_homes v_marks v_had v_allergic v_deaths) pl (xWV ad) sz [.ref (ad 0), .int p1]) (tQc G (xW G.2 ad v_latestFault v_died v_leastWeight v_noticedBy v_noticed v_orderDied v_orderLeast v_imaged v_shelves res.2.1 v_ran v_bodies v_tweight v_tfright v_tage v_tasked v_told v_bestRow res.2.2.1 res.2.2.2.1 res.2.2.2.2.1 res.2.2.2.2.2.1 res.2.2.2.2.2.2.1 res.2.2.2.2.2.2.2.1 res.2.2.2.2.2.2.2.2.1 res.2.2.2.2.2.2.2.2.2.1 res.2.2.2.2.2.2.2.2.2.2.1 res.2.2.2.2.2.2.2.2.2.2.2.1 res.2.2.2.2.2.2.2.2.2.2.2.2.1 res.2.2.2.2.2.2.2.2.2.2.2.2.2.1 res.2.2.2.2.2.2.2.2.2.2.2.2.2.2.1 res.2.2.2.2.2.2.2.2.2.2.2.2.2.2.2.1 res.2.2.2.2.2.2.2.2.2.2.2.2.2.2.2.2.1 res.2.2.2.2.2.2.2.2.2.2.2.2.2.2.2.2.2 v_many v_pets v_last v_seed v_weight v_fright v_age v_asked v_homes v_marks v_had v_allergic v_deaths) [] (tA sz (xWV ad) []) (True) (some (.int res.1))) (tXC G (xW G.2 ad v_latestFault v_died v_leastWeight v_noticedBy v_noticed v_orderDied v_orderLeast v_imaged v_shelves res.2.1 v_ran v_bodies v_tweight v_tfright v_tage v_tasked v_told v_bestRow res.2.2.1 res.2.2.2.1 res.2.2.2.2.1 res.2.2.2.2.2.1 res.2.2.2.2.2.2.1 res.2.2.2.2.2.2.2.1 res.2.2.2.2.2.2.2.2.1 res.2.2.2.2.2.2.2.2.2.1 res.2.2.2.2.2.2.2.2.2.2.1 res.2.2.2.2.2.2.2.2.2.2.2.1 res.2.2.2.2.2.2.2.2.2.2.2.2.1 res.2.2.2.2.2.2.2.2.2.2.2.2.2.1 res.2.2.2.2.2.2.2.2.2.2.2.2.2.2.1 res.2.2.2.2.2.2.2.2.2.2.2.2.2.2.2.1 res.2.2.2.2.2.2.2.2.2.2.2.2.2.2.2.2.1 res.2.2.2.2.2.2.2.2.2.2.2.2.2.2.2.2.2 v_many v_pets v_last v_seed v_weight v_fright v_age v_asked v_homes v_marks v_had v_allergic v_deaths) [] (tA sz (xWV ad) []) 18 RX6 none sz) 2 14 (tA sz (xWV ad) []) := by
  refine r_ofWH (own := RX0) (by decide) rfl (Nat.le_of_ble_eq_true rfl) ?_
  intro p e s m args below meth c ls C C0 D hml htab hP hS hl hr hlocks hsz
  have hl : lv_has ls 3 [(0, .ref (ad 0)), (1, .int p1)] := hl
  obtain ⟨Q, hQ⟩ : ∃ Q, Q = vx_MQ below (tQc G (xW G.2 ad v_latestFault v_died v_leastWeight v_noticedBy v_noticed v_orderDied v_orderLeast v_imaged v_shelves res.2.1 v_ran v_bodies v_tweight v_tfright v_tage v_tasked v_told v_bestRow res.2.2.1 res.2.2.2.1 res.2.2.2.2.1 res.2.2.2.2.2.1 res.2.2.2.2.2.2.1 res.2.2.2.2.2.2.2.1 res.2.2.2.2.2.2.2.2.1 res.2.2.2.2.2.2.2.2.2.1 res.2.2.2.2.2.2.2.2.2.2.1 res.2.2.2.2.2.2.2.2.2.2.2.1 res.2.2.2.2.2.2.2.2.2.2.2.2.1 res.2.2.2.2.2.2.2.2.2.2.2.2.2.1 res.2.2.2.2.2.2.2.2.2.2.2.2.2.2.1 res.2.2.2.2.2.2.2.2.2.2.2.2.2.2.2.1 res.2.2.2.2.2.2.2.2.2.2.2.2.2.2.2.2.1 res.2.2.2.2.2.2.2.2.2.2.2.2.2.2.2.2.2 v_many v_pets v_last v_seed v_weight v_fright v_age v_asked v_homes v_marks v_had v_allergic v_deaths) [] (tA sz (xWV ad) []) (True) (some (.int res.1))) (tXC G (xW G.2 ad v_latestFault v_died v_leastWeight v_noticedBy v_noticed v_orderDied v_orderLeast v_imaged v_shelves res.2.1 v_ran v_bodies v_tweight v_tfright v_tage v_tasked v_told v_bestRow res.2.2.1 res.2.2.2.1 res.2.2.2.2.1 res.2.2.2.2.2.1 res.2.2.2.2.2.2.1 res.2.2.2.2.2.2.2.1 res.2.2.2.2.2.2.2.2.1 res.2.2.2.2.2.2.2.2.2.1 res.2.2.2.2.2.2.2.2.2.2.1 res.2.2.2.2.2.2.2.2.2.2.2.1 res.2.2.2.2.2.2.2.2.2.2.2.2.1 res.2.2.2.2.2.2.2.2.2.2.2.2.2.1 res.2.2.2.2.2.2.2.2.2.2.2.2.2.2.1 res.2.2.2.2.2.2.2.2.2.2.2.2.2.2.2.1 res.2.2.2.2.2.2.2.2.2.2.2.2.2.2.2.2.1 res.2.2.2.2.2.2.2.2.2.2.2.2.2.2.2.2.2 v_many v_pets v_last v_seed v_weight v_fright v_age v_asked v_homes v_marks v_had v_allergic v_deaths) [] (tA sz (xWV ad) []) 18 RX6 none sz) args s 2 14 (tA sz (xWV ad) []) := ⟨_, rfl⟩
  rw [← hQ]
  have hret : ∀ (pc : Nat) (ls : Array Slot) (H : Heap) (locs : List Loc), decode cX0_chance pc = .ok (.ireturn, 1) → True → va_P G.1 vwCl (xW G.2 ad v_latestFault v_died v_leastWeight v_noticedBy v_noticed v_orderDied v_orderLeast v_imaged v_shelves res.2.1 v_ran v_bodies v_tweight v_tfright v_tage v_tasked v_told v_bestRow res.2.2.1 res.2.2.2.1 res.2.2.2.2.1 res.2.2.2.2.2.1 res.2.2.2.2.2.2.1 res.2.2.2.2.2.2.2.1 res.2.2.2.2.2.2.2.2.1 res.2.2.2.2.2.2.2.2.2.1 res.2.2.2.2.2.2.2.2.2.2.1 res.2.2.2.2.2.2.2.2.2.2.2.1 res.2.2.2.2.2.2.2.2.2.2.2.2.1 res.2.2.2.2.2.2.2.2.2.2.2.2.2.1 res.2.2.2.2.2.2.2.2.2.2.2.2.2.2.1 res.2.2.2.2.2.2.2.2.2.2.2.2.2.2.2.1 res.2.2.2.2.2.2.2.2.2.2.2.2.2.2.2.2.1 res.2.2.2.2.2.2.2.2.2.2.2.2.2.2.2.2.2 v_many v_pets v_last v_seed v_weight v_fright v_age v_asked v_homes v_marks v_had v_allergic v_deaths) H → va_S (tA sz (xWV ad) []) s.heap H locs → W p l e ({ frames := 9, cells := 2, slots := 14, locals := 214 } : Room) s m args below meth c H locs 2 14 Q (F0 m pc ls [(.int res.1)]) := by
    intro pc ls H locs hd hφ hP hS
    rw [hQ]
    exact t_iret C0 hr hlocks hd hφ hP P_nil hS
  clear hQ
  obtain ⟨H, hH⟩ : ∃ H, H = s.heap := ⟨_, rfl⟩
  obtain ⟨locs, hlo⟩ : ∃ locs : List Loc, locs = [] := ⟨_, rfl⟩
  have hP : va_P G.1 vwCl (xW G.2 ad v_latestFault v_died v_leastWeight v_noticedBy v_noticed v_orderDied v_orderLeast v_imaged v_shelves v_refusals v_ran v_bodies v_tweight v_tfright v_tage v_tasked v_told v_bestRow v_weight_a1 v_fright_a1 v_age_a1 v_asked_a1 v_weight_a2 v_fright_a2 v_age_a2 v_asked_a2 v_weight_a3 v_fright_a3 v_age_a3 v_asked_a3 v_weight_a4 v_fright_a4 v_age_a4 v_asked_a4 v_many v_pets v_last v_seed v_weight v_fright v_age v_asked v_homes v_marks v_had v_allergic v_deaths) H := by rw [hH]; exact hP
  have hS : va_S (tA sz (xWV ad) []) s.heap H locs := by rw [hH, hlo]; exact hS
  suffices hZ : W p l e ({ frames := 9, cells := 2, slots := 14, locals := 214 } : Room) s m args below meth c H locs 0 0 Q (F0 m 0 ls []) by rw [hH, hlo] at hZ; exact hZ
  clear hH hlo
  unfold sC_HW_chance at hE
  refine lv_aload_n C.1 C.2.1 dX0_chance_0 rfl (lv_at hl 0 rfl) ?_
  obtain ⟨r1, hr1, hE⟩ := it_b hE
  refine t_afterS C0 D hP P_nil hS (vx_runV (As := []) (rest := []) ⟨C.1, C.2.1, hml, C.2.2.1, C.2.2.2.1⟩ (metC_HW_someMay l hfl G ad pl H.size _ _ _ _ _ _ _ _ _ _ _ _ _ _ _ _ _ _ _ _ _ _ _ _ _ _ _ _ _ _ _ _ _ _ _ _ _ _ _ _ _ _ _ _ _ _ _  r1 hr1) (cwV (C := RX0) 0 C.2.2.2.1 (lw_V q1109 q1111 qs25 q80 q1112) rfl rfl rfl (by decide +kernel) ⟨Nat.le_of_ble_eq_true rfl, Nat.le_of_ble_eq_true rfl⟩) (rr_preV0 C D hP hS (va_recv C.2.2.2.2.1 hP (ci := 16) (q0 := 0) rfl rfl)) rfl rfl hl.1 rfl (lv_room (Nat.le_of_ble_eq_true rfl)) dX0_chance_1 ⟨Nat.le_of_ble_eq_true rfl, Nat.le_of_ble_eq_true rfl⟩) xW_av (fun hφ H locs hP _ hS => ?_) (fun w q H locs hw hq hc hP _ hS => ?_)
  · have hE := it_t hφ hE
    refine lv_iload_n C.1 C.2.1 dX0_chance_4 rfl (lv_at hl 1 rfl) ?_
    refine lv_i2l C.1 C.2.1 dX0_chance_5 rfl ?_
    refine lv_lconst (v := 1) C.1 C.2.1 dX0_chance_6 (by decide) ?_
    refine lv_ldc2 C.1 C.2.1 C.2.2.1 (C.2.2.2.1 _ q1153) dX0_chance_7 ?_
    obtain ⟨r3, hr3, hE⟩ := it_b hE
    refine n_after [] C.2.2.2.2.2.1 C.2.2.2.2.2.2.2.1 hP hS (va_runS (As := [.long ((p1 : Int32).toInt64), .long 1, .long 4]) (rest := []) ⟨C.1, C.2.1, hml, C.2.2.1, C.2.2.2.1⟩ (metC_HW_in l G ad pl  ((p1 : Int32).toInt64) 1 4  r3 hr3) (va_cwS 3 C.2.2.2.1 (lw_S q401 q402 q80 q403) rfl rfl rfl (by decide +kernel) ⟨Nat.le_of_ble_eq_true rfl, Nat.le_of_ble_eq_true rfl⟩) (n_preS C hP hS [] rfl (by decide) rfl) rfl rfl hl.1 rfl (lv_room (Nat.le_of_ble_eq_true rfl)) dX0_chance_10 ⟨Nat.le_of_ble_eq_true rfl, Nat.le_of_ble_eq_true rfl⟩) xW_av rfl rfl rfl (fun H locs hP hS => ?_)
    refine lv_bipush (v := (-6)) C.1 C.2.1 dX0_chance_13 (by decide) ?_
    refine t_after [] C0 D hP P_nil hS (vx_runS (As := [.int r3, .int (-6)]) (rest := []) ⟨C.1, C.2.1, hml, C.2.2.1, C.2.2.2.1⟩ (metC_HW_need l hfl G ad pl H.size r3 (-6) _ (need_eq _ _)) (va_cwS 2 C.2.2.2.1 (lw_S q397 q398 q80 q399) rfl rfl rfl (by decide +kernel) ⟨Nat.le_of_ble_eq_true rfl, Nat.le_of_ble_eq_true rfl⟩) (rr_preS C D hP hS [] rfl (by decide) rfl) rfl rfl hl.1 rfl (lv_room (Nat.le_of_ble_eq_true rfl)) dX0_chance_15 ⟨Nat.le_of_ble_eq_true rfl, Nat.le_of_ble_eq_true rfl⟩) xW_av rfl rfl rfl (fun hφ H locs hP _ hS => ?_) (fun w q H locs hw hq hc hP _ hS => ?_)
    · have hE := it_f (nd_n hφ) hE
      refine lv_aload_n C.1 C.2.1 dX0_chance_18 rfl (lv_at hl 0 rfl) ?_
      refine lv_aload_n C.1 C.2.1 dX0_chance_19 rfl (lv_at hl 0 rfl) ?_
      refine xWg_0_6 q244 C hP dX0_chance_20 ?_
      refine xWg_18_4 q191 C hP dX0_chance_23 ?_
      refine lv_iload_n C.1 C.2.1 dX0_chance_26 rfl (lv_at hl 1 rfl) ?_
      refine lv_iconst (v := (-1)) C.1 C.2.1 dX0_chance_27 (by decide) ?_
      by_cases c6 : p1 = 1
      · have hE := it_t c6 hE
        rw [c6]
        obtain ⟨r7, hr7, hE⟩ := it_b hE
        refine n_afterS C.2.2.2.2.2.2.2.1 hS (va_runV (As := [.ref (ad 19), .int 1, .int (-1)]) (rest := []) ⟨C.1, C.2.1, hml, C.2.2.1, C.2.2.2.1⟩ (metC_HW_deathsIn_19_1 l G ad pl hk hb _ _ _ _ _ _ _ _ _ _ _ _ _ _ _ _ _ _ _ _ _ _ _ _ _ _ _ _ _ _ _ _ _ _ _ _ _ _ _ _ _ _ _ _ _ _ _ hom (-1)  r7 hr7) (cwV (C := RX0) 3 C.2.2.2.1 (lw_V q1154 q1156 qs28 q80 q1157) rfl rfl rfl (by decide +kernel) ⟨Nat.le_of_ble_eq_true rfl, Nat.le_of_ble_eq_true rfl⟩) (n_preV0 C hP hS (va_recv C.2.2.2.2.1 hP (ci := 16) (q0 := 0) rfl rfl)) rfl rfl hl.1 rfl (lv_room (Nat.le_of_ble_eq_true rfl)) dX0_chance_28 ⟨Nat.le_of_ble_eq_true rfl, Nat.le_of_ble_eq_true rfl⟩) (fun H locs hP hS => ?_)
        obtain rfl := Option.some.inj hE
        exact hret _ _ _ _ dX0_chance_31 trivial hP hS
      have hE := it_f c6 hE
      by_cases c8 : p1 = 2
      · have hE := it_t c8 hE
        rw [c8]
        obtain ⟨r9, hr9, hE⟩ := it_b hE
        refine n_afterS C.2.2.2.2.2.2.2.1 hS (va_runV (As := [.ref (ad 19), .int 2, .int (-1)]) (rest := []) ⟨C.1, C.2.1, hml, C.2.2.1, C.2.2.2.1⟩ (metC_HW_deathsIn_19_2 l G ad pl hk hb _ _ _ _ _ _ _ _ _ _ _ _ _ _ _ _ _ _ _ _ _ _ _ _ _ _ _ _ _ _ _ _ _ _ _ _ _ _ _ _ _ _ _ _ _ _ _ hom (-1)  r9 hr9) (cwV (C := RX0) 3 C.2.2.2.1 (lw_V q1154 q1156 qs28 q80 q1157) rfl rfl rfl (by decide +kernel) ⟨Nat.le_of_ble_eq_true rfl, Nat.le_of_ble_eq_true rfl⟩) (n_preV0 C hP hS (va_recv C.2.2.2.2.1 hP (ci := 16) (q0 := 0) rfl rfl)) rfl rfl hl.1 rfl (lv_room (Nat.le_of_ble_eq_true rfl)) dX0_chance_28 ⟨Nat.le_of_ble_eq_true rfl, Nat.le_of_ble_eq_true rfl⟩) (fun H locs hP hS => ?_)
        obtain rfl := Option.some.inj hE
        exact hret _ _ _ _ dX0_chance_31 trivial hP hS
      have hE := it_f c8 hE
      by_cases c10 : p1 = 3
      · have hE := it_t c10 hE
        rw [c10]
        obtain ⟨r11, hr11, hE⟩ := it_b hE
        refine n_afterS C.2.2.2.2.2.2.2.1 hS (va_runV (As := [.ref (ad 19), .int 3, .int (-1)]) (rest := []) ⟨C.1, C.2.1, hml, C.2.2.1, C.2.2.2.1⟩ (metC_HW_deathsIn_19_3 l G ad pl hk hb _ _ _ _ _ _ _ _ _ _ _ _ _ _ _ _ _ _ _ _ _ _ _ _ _ _ _ _ _ _ _ _ _ _ _ _ _ _ _ _ _ _ _ _ _ _ _ hom (-1)  r11 hr11) (cwV (C := RX0) 3 C.2.2.2.1 (lw_V q1154 q1156 qs28 q80 q1157) rfl rfl rfl (by decide +kernel) ⟨Nat.le_of_ble_eq_true rfl, Nat.le_of_ble_eq_true rfl⟩) (n_preV0 C hP hS (va_recv C.2.2.2.2.1 hP (ci := 16) (q0 := 0) rfl rfl)) rfl rfl hl.1 rfl (lv_room (Nat.le_of_ble_eq_true rfl)) dX0_chance_28 ⟨Nat.le_of_ble_eq_true rfl, Nat.le_of_ble_eq_true rfl⟩) (fun H locs hP hS => ?_)
        obtain rfl := Option.some.inj hE
        exact hret _ _ _ _ dX0_chance_31 trivial hP hS
      have hE := it_f c10 hE
      by_cases c12 : p1 = 4
      · have hE := it_t c12 hE
        rw [c12]
        obtain ⟨r13, hr13, hE⟩ := it_b hE
        refine n_afterS C.2.2.2.2.2.2.2.1 hS (va_runV (As := [.ref (ad 19), .int 4, .int (-1)]) (rest := []) ⟨C.1, C.2.1, hml, C.2.2.1, C.2.2.2.1⟩ (metC_HW_deathsIn_19_4 l G ad pl hk hb _ _ _ _ _ _ _ _ _ _ _ _ _ _ _ _ _ _ _ _ _ _ _ _ _ _ _ _ _ _ _ _ _ _ _ _ _ _ _ _ _ _ _ _ _ _ _ hom (-1)  r13 hr13) (cwV (C := RX0) 3 C.2.2.2.1 (lw_V q1154 q1156 qs28 q80 q1157) rfl rfl rfl (by decide +kernel) ⟨Nat.le_of_ble_eq_true rfl, Nat.le_of_ble_eq_true rfl⟩) (n_preV0 C hP hS (va_recv C.2.2.2.2.1 hP (ci := 16) (q0 := 0) rfl rfl)) rfl rfl hl.1 rfl (lv_room (Nat.le_of_ble_eq_true rfl)) dX0_chance_28 ⟨Nat.le_of_ble_eq_true rfl, Nat.le_of_ble_eq_true rfl⟩) (fun H locs hP hS => ?_)
        obtain rfl := Option.some.inj hE
        exact hret _ _ _ _ dX0_chance_31 trivial hP hS
      have hE := it_f c12 hE
      exact it_n hE
    · obtain ⟨c4, rfl⟩ := nd_x hw
      obtain ⟨q5, rfl⟩ : ∃ z, z = q := ⟨_, rfl⟩
      have hE := it_t c4 hE
      obtain ⟨ce, g1, g2, g3⟩ := t_cell C0 hc rfl
      refine t_catch (name := "HamsterWeekends$Refused") (E := "HamsterWeekends$Refused") C0 D [] ⟨0, 31, 32, 21⟩ [] htab (fun z hz => nomatch hz) rfl (by decide) q291 (List.mem_of_getElem? (i := 1) rfl) g1 g2 g3 ?_
      refine W.eq (g2 := F0 m 32 ls [.ref q5]) rfl ?_
      refine lv_astore_n (lv' := [(2, .ref q5), (0, .ref (ad 0)), (1, .int p1)]) C.1 C.2.1 dX0_chance_32 rfl hl (by decide) rfl (fun ls hl => ?_)
      refine lv_aload_n C.1 C.2.1 dX0_chance_33 rfl (lv_at hl 1 rfl) ?_
      refine lv_aload_n C.1 C.2.1 dX0_chance_34 rfl (lv_at hl 0 rfl) ?_
      obtain ⟨r14, hr14, hE⟩ := it_b hE
      refine n_afterS C.2.2.2.2.2.2.2.1 hS (va_runV (As := [.ref q5]) (rest := []) ⟨C.1, C.2.1, hml, C.2.2.1, C.2.2.2.1⟩ (metC_HW_refused l G ad [(q5, .inr (18, xF (-6)))] _ _ _ _ _ _ _ _ _ _ _ _ _ _ _ _ _ _ _ _ _ _ _ _ _ _ _ _ _ _ _ _ _ _ _ _ _ _ _ _ _ _ _ _ _ _ _ q5 (-6) (List.mem_singleton.mpr rfl) r14 hr14) (cwV (C := RX0) 1 C.2.2.2.1 (lw_V q466 q468 qs2 q80 q469) rfl rfl rfl (by decide +kernel) ⟨Nat.le_of_ble_eq_true rfl, Nat.le_of_ble_eq_true rfl⟩) (t_preX C0 hP hc hq.1 (va_recv C.2.2.2.2.1 hP (ci := 16) (q0 := 0) rfl rfl)) rfl rfl hl.1 rfl (lv_room (Nat.le_of_ble_eq_true rfl)) dX0_chance_35 ⟨Nat.le_of_ble_eq_true rfl, Nat.le_of_ble_eq_true rfl⟩) (fun H locs hP hS => ?_)
      obtain rfl := Option.some.inj hE
      exact hret _ _ _ _ dX0_chance_38 trivial hP hS
  · have hE := it_f (by rw [hw]; exact fun h => nomatch h) hE
    obtain ⟨q2, rfl⟩ : ∃ z, z = q := ⟨_, rfl⟩
    obtain rfl : w = (r1.getD 0) := by rw [hw]; rfl
    obtain ⟨ce, g1, g2, g3⟩ := t_cell C0 hc rfl
    refine t_catch (name := "HamsterWeekends$Refused") (E := "HamsterWeekends$Refused") C0 D [] ⟨0, 31, 32, 21⟩ [] htab (fun z hz => nomatch hz) rfl (by decide) q291 (List.mem_of_getElem? (i := 1) rfl) g1 g2 g3 ?_
    refine W.eq (g2 := F0 m 32 ls [.ref q2]) rfl ?_
    refine lv_astore_n (lv' := [(2, .ref q2), (0, .ref (ad 0)), (1, .int p1)]) C.1 C.2.1 dX0_chance_32 rfl hl (by decide) rfl (fun ls hl => ?_)
    refine lv_aload_n C.1 C.2.1 dX0_chance_33 rfl (lv_at hl 1 rfl) ?_
    refine lv_aload_n C.1 C.2.1 dX0_chance_34 rfl (lv_at hl 0 rfl) ?_
    obtain ⟨r15, hr15, hE⟩ := it_b hE
    refine n_afterS C.2.2.2.2.2.2.2.1 hS (va_runV (As := [.ref q2]) (rest := []) ⟨C.1, C.2.1, hml, C.2.2.1, C.2.2.2.1⟩ (metC_HW_refused l G ad [(q2, .inr (18, xF (r1.getD 0)))] _ _ _ _ _ _ _ _ _ _ _ _ _ _ _ _ _ _ _ _ _ _ _ _ _ _ _ _ _ _ _ _ _ _ _ _ _ _ _ _ _ _ _ _ _ _ _ q2 (r1.getD 0) (List.mem_singleton.mpr rfl) r15 hr15) (cwV (C := RX0) 1 C.2.2.2.1 (lw_V q466 q468 qs2 q80 q469) rfl rfl rfl (by decide +kernel) ⟨Nat.le_of_ble_eq_true rfl, Nat.le_of_ble_eq_true rfl⟩) (t_preX C0 hP hc hq.1 (va_recv C.2.2.2.2.1 hP (ci := 16) (q0 := 0) rfl rfl)) rfl rfl hl.1 rfl (lv_room (Nat.le_of_ble_eq_true rfl)) dX0_chance_35 ⟨Nat.le_of_ble_eq_true rfl, Nat.le_of_ble_eq_true rfl⟩) (fun H locs hP hS => ?_)
    obtain rfl := Option.some.inj hE
    refine W.widen (k := 2) (n := 14) (Nat.le_of_ble_eq_true rfl) (Nat.le_of_ble_eq_true rfl) ?_
    exact hret _ _ _ _ dX0_chance_38 trivial hP hS
def sC_HW_last (v_refusals : Nat → Int32) (v_weight_a1 : Int32) (v_fright_a1 : Int32) (v_age_a1 : Int32) (v_asked_a1 : Nat → Int32) (v_weight_a2 : Int32) (v_fright_a2 : Int32) (v_age_a2 : Int32) (v_asked_a2 : Nat → Int32) (v_weight_a3 : Int32) (v_fright_a3 : Int32) (v_age_a3 : Int32) (v_asked_a3 : Nat → Int32) (v_weight_a4 : Int32) (v_fright_a4 : Int32) (v_age_a4 : Int32) (v_asked_a4 : Nat → Int32) (v_many : Int32) (v_weight : Int32) (v_fright : Int32) (v_age : Int32) (v_asked : Nat → Int32) (v_homes : Nat → Option Nat) (v_allergic : Nat → Int32) (hk : Nat → Nat) (hb : Nat → Int32) (p1 : Int32) (p2 : Int32) (p3 : Int32) : Option (Int32 × (Nat → Int32) × Int32 × Int32 × Int32 × (Nat → Int32) × Int32 × Int32 × Int32 × (Nat → Int32) × Int32 × Int32 × Int32 × (Nat → Int32) × Int32 × Int32 × Int32 × (Nat → Int32)) :=
  (sC_HW_mustHome v_many p1).bind fun r1 =>
  if r1 = none then
    (sC_HW_in ((p3 : Int32).toInt64) 0 1).bind fun r3 =>
    if r3 = 0 then
      (sC_HW_refused v_refusals (-5)).bind fun r37 =>
      some (r37.1, r37.2, v_weight_a1, v_fright_a1, v_age_a1, v_asked_a1, v_weight_a2, v_fright_a2, v_age_a2, v_asked_a2, v_weight_a3, v_fright_a3, v_age_a3, v_asked_a3, v_weight_a4, v_fright_a4, v_age_a4, v_asked_a4)
    else
      (sC_HW_someMay v_many v_allergic).bind fun r6 =>
      if r6 = none then
        (sC_HW_in ((p2 : Int32).toInt64) 1 4).bind fun r8 =>
        if r8 = 0 then
          (sC_HW_refused v_refusals (-6)).bind fun r35 =>
          some (r35.1, r35.2, v_weight_a1, v_fright_a1, v_age_a1, v_asked_a1, v_weight_a2, v_fright_a2, v_age_a2, v_asked_a2, v_weight_a3, v_fright_a3, v_age_a3, v_asked_a3, v_weight_a4, v_fright_a4, v_age_a4, v_asked_a4)
        else
          if p2 = 1 then
            (sC_HW_deathsIn_19_1 v_weight_a1 v_fright_a1 v_age_a1 v_asked_a1 v_many v_weight v_fright v_age v_asked v_homes v_allergic hk hb p1).bind fun r12 =>
            (sC_HW_deathsIn_19_1 r12.2.1 r12.2.2.1 r12.2.2.2.1 r12.2.2.2.2 v_many v_weight v_fright v_age v_asked v_homes v_allergic hk hb (-1)).bind fun r13 =>
            if p3 = 0 then
              some (r12.1, v_refusals, r13.2.1, r13.2.2.1, r13.2.2.2.1, r13.2.2.2.2, v_weight_a2, v_fright_a2, v_age_a2, v_asked_a2, v_weight_a3, v_fright_a3, v_age_a3, v_asked_a3, v_weight_a4, v_fright_a4, v_age_a4, v_asked_a4)
            else
              if r13.1 = 0 then
                some (0, v_refusals, r13.2.1, r13.2.2.1, r13.2.2.2.1, r13.2.2.2.2, v_weight_a2, v_fright_a2, v_age_a2, v_asked_a2, v_weight_a3, v_fright_a3, v_age_a3, v_asked_a3, v_weight_a4, v_fright_a4, v_age_a4, v_asked_a4)
              else
                if ¬ r13.1 = 0 then
                some (((1000 * r12.1) / r13.1), v_refusals, r13.2.1, r13.2.2.1, r13.2.2.2.1, r13.2.2.2.2, v_weight_a2, v_fright_a2, v_age_a2, v_asked_a2, v_weight_a3, v_fright_a3, v_age_a3, v_asked_a3, v_weight_a4, v_fright_a4, v_age_a4, v_asked_a4)
                else none
          else
          if p2 = 2 then
            (sC_HW_deathsIn_19_2 v_weight_a1 v_fright_a1 v_age_a1 v_asked_a1 v_weight_a2 v_fright_a2 v_age_a2 v_asked_a2 v_many v_weight v_fright v_age v_asked v_homes v_allergic hk hb p1).bind fun r18 =>
            (sC_HW_deathsIn_19_2 r18.2.1 r18.2.2.1 r18.2.2.2.1 r18.2.2.2.2.1 r18.2.2.2.2.2.1 r18.2.2.2.2.2.2.1 r18.2.2.2.2.2.2.2.1 r18.2.2.2.2.2.2.2.2 v_many v_weight v_fright v_age v_asked v_homes v_allergic hk hb (-1)).bind fun r19 =>
            if p3 = 0 then
              some (r18.1, v_refusals, r19.2.1, r19.2.2.1, r19.2.2.2.1, r19.2.2.2.2.1, r19.2.2.2.2.2.1, r19.2.2.2.2.2.2.1, r19.2.2.2.2.2.2.2.1, r19.2.2.2.2.2.2.2.2, v_weight_a3, v_fright_a3, v_age_a3, v_asked_a3, v_weight_a4, v_fright_a4, v_age_a4, v_asked_a4)
            else
              if r19.1 = 0 then
                some (0, v_refusals, r19.2.1, r19.2.2.1, r19.2.2.2.1, r19.2.2.2.2.1, r19.2.2.2.2.2.1, r19.2.2.2.2.2.2.1, r19.2.2.2.2.2.2.2.1, r19.2.2.2.2.2.2.2.2, v_weight_a3, v_fright_a3, v_age_a3, v_asked_a3, v_weight_a4, v_fright_a4, v_age_a4, v_asked_a4)
              else
                if ¬ r19.1 = 0 then
                some (((1000 * r18.1) / r19.1), v_refusals, r19.2.1, r19.2.2.1, r19.2.2.2.1, r19.2.2.2.2.1, r19.2.2.2.2.2.1, r19.2.2.2.2.2.2.1, r19.2.2.2.2.2.2.2.1, r19.2.2.2.2.2.2.2.2, v_weight_a3, v_fright_a3, v_age_a3, v_asked_a3, v_weight_a4, v_fright_a4, v_age_a4, v_asked_a4)
                else none
          else
          if p2 = 3 then
            (sC_HW_deathsIn_19_3 v_weight_a1 v_fright_a1 v_age_a1 v_asked_a1 v_weight_a2 v_fright_a2 v_age_a2 v_asked_a2 v_weight_a3 v_fright_a3 v_age_a3 v_asked_a3 v_many v_weight v_fright v_age v_asked v_homes v_allergic hk hb p1).bind fun r24 =>
            (sC_HW_deathsIn_19_3 r24.2.1 r24.2.2.1 r24.2.2.2.1 r24.2.2.2.2.1 r24.2.2.2.2.2.1 r24.2.2.2.2.2.2.1 r24.2.2.2.2.2.2.2.1 r24.2.2.2.2.2.2.2.2.1 r24.2.2.2.2.2.2.2.2.2.1 r24.2.2.2.2.2.2.2.2.2.2.1 r24.2.2.2.2.2.2.2.2.2.2.2.1 r24.2.2.2.2.2.2.2.2.2.2.2.2 v_many v_weight v_fright v_age v_asked v_homes v_allergic hk hb (-1)).bind fun r25 =>
            if p3 = 0 then
              some (r24.1, v_refusals, r25.2.1, r25.2.2.1, r25.2.2.2.1, r25.2.2.2.2.1, r25.2.2.2.2.2.1, r25.2.2.2.2.2.2.1, r25.2.2.2.2.2.2.2.1, r25.2.2.2.2.2.2.2.2.1, r25.2.2.2.2.2.2.2.2.2.1, r25.2.2.2.2.2.2.2.2.2.2.1, r25.2.2.2.2.2.2.2.2.2.2.2.1, r25.2.2.2.2.2.2.2.2.2.2.2.2, v_weight_a4, v_fright_a4, v_age_a4, v_asked_a4)
            else
              if r25.1 = 0 then
                some (0, v_refusals, r25.2.1, r25.2.2.1, r25.2.2.2.1, r25.2.2.2.2.1, r25.2.2.2.2.2.1, r25.2.2.2.2.2.2.1, r25.2.2.2.2.2.2.2.1, r25.2.2.2.2.2.2.2.2.1, r25.2.2.2.2.2.2.2.2.2.1, r25.2.2.2.2.2.2.2.2.2.2.1, r25.2.2.2.2.2.2.2.2.2.2.2.1, r25.2.2.2.2.2.2.2.2.2.2.2.2, v_weight_a4, v_fright_a4, v_age_a4, v_asked_a4)
              else
                if ¬ r25.1 = 0 then
                some (((1000 * r24.1) / r25.1), v_refusals, r25.2.1, r25.2.2.1, r25.2.2.2.1, r25.2.2.2.2.1, r25.2.2.2.2.2.1, r25.2.2.2.2.2.2.1, r25.2.2.2.2.2.2.2.1, r25.2.2.2.2.2.2.2.2.1, r25.2.2.2.2.2.2.2.2.2.1, r25.2.2.2.2.2.2.2.2.2.2.1, r25.2.2.2.2.2.2.2.2.2.2.2.1, r25.2.2.2.2.2.2.2.2.2.2.2.2, v_weight_a4, v_fright_a4, v_age_a4, v_asked_a4)
                else none
          else
          if p2 = 4 then
            (sC_HW_deathsIn_19_4 v_weight_a1 v_fright_a1 v_age_a1 v_asked_a1 v_weight_a2 v_fright_a2 v_age_a2 v_asked_a2 v_weight_a3 v_fright_a3 v_age_a3 v_asked_a3 v_weight_a4 v_fright_a4 v_age_a4 v_asked_a4 v_many v_weight v_fright v_age v_asked v_homes v_allergic hk hb p1).bind fun r30 =>
            (sC_HW_deathsIn_19_4 r30.2.1 r30.2.2.1 r30.2.2.2.1 r30.2.2.2.2.1 r30.2.2.2.2.2.1 r30.2.2.2.2.2.2.1 r30.2.2.2.2.2.2.2.1 r30.2.2.2.2.2.2.2.2.1 r30.2.2.2.2.2.2.2.2.2.1 r30.2.2.2.2.2.2.2.2.2.2.1 r30.2.2.2.2.2.2.2.2.2.2.2.1 r30.2.2.2.2.2.2.2.2.2.2.2.2.1 r30.2.2.2.2.2.2.2.2.2.2.2.2.2.1 r30.2.2.2.2.2.2.2.2.2.2.2.2.2.2.1 r30.2.2.2.2.2.2.2.2.2.2.2.2.2.2.2.1 r30.2.2.2.2.2.2.2.2.2.2.2.2.2.2.2.2 v_many v_weight v_fright v_age v_asked v_homes v_allergic hk hb (-1)).bind fun r31 =>
            if p3 = 0 then
              some (r30.1, v_refusals, r31.2.1, r31.2.2.1, r31.2.2.2.1, r31.2.2.2.2.1, r31.2.2.2.2.2.1, r31.2.2.2.2.2.2.1, r31.2.2.2.2.2.2.2.1, r31.2.2.2.2.2.2.2.2.1, r31.2.2.2.2.2.2.2.2.2.1, r31.2.2.2.2.2.2.2.2.2.2.1, r31.2.2.2.2.2.2.2.2.2.2.2.1, r31.2.2.2.2.2.2.2.2.2.2.2.2.1, r31.2.2.2.2.2.2.2.2.2.2.2.2.2.1, r31.2.2.2.2.2.2.2.2.2.2.2.2.2.2.1, r31.2.2.2.2.2.2.2.2.2.2.2.2.2.2.2.1, r31.2.2.2.2.2.2.2.2.2.2.2.2.2.2.2.2)
            else
              if r31.1 = 0 then
                some (0, v_refusals, r31.2.1, r31.2.2.1, r31.2.2.2.1, r31.2.2.2.2.1, r31.2.2.2.2.2.1, r31.2.2.2.2.2.2.1, r31.2.2.2.2.2.2.2.1, r31.2.2.2.2.2.2.2.2.1, r31.2.2.2.2.2.2.2.2.2.1, r31.2.2.2.2.2.2.2.2.2.2.1, r31.2.2.2.2.2.2.2.2.2.2.2.1, r31.2.2.2.2.2.2.2.2.2.2.2.2.1, r31.2.2.2.2.2.2.2.2.2.2.2.2.2.1, r31.2.2.2.2.2.2.2.2.2.2.2.2.2.2.1, r31.2.2.2.2.2.2.2.2.2.2.2.2.2.2.2.1, r31.2.2.2.2.2.2.2.2.2.2.2.2.2.2.2.2)
              else
                if ¬ r31.1 = 0 then
                some (((1000 * r30.1) / r31.1), v_refusals, r31.2.1, r31.2.2.1, r31.2.2.2.1, r31.2.2.2.2.1, r31.2.2.2.2.2.1, r31.2.2.2.2.2.2.1, r31.2.2.2.2.2.2.2.1, r31.2.2.2.2.2.2.2.2.1, r31.2.2.2.2.2.2.2.2.2.1, r31.2.2.2.2.2.2.2.2.2.2.1, r31.2.2.2.2.2.2.2.2.2.2.2.1, r31.2.2.2.2.2.2.2.2.2.2.2.2.1, r31.2.2.2.2.2.2.2.2.2.2.2.2.2.1, r31.2.2.2.2.2.2.2.2.2.2.2.2.2.2.1, r31.2.2.2.2.2.2.2.2.2.2.2.2.2.2.2.1, r31.2.2.2.2.2.2.2.2.2.2.2.2.2.2.2.2)
                else none
          else
          none
      else
        (sC_HW_refused v_refusals (r6.getD 0)).bind fun r36 =>
        some (r36.1, r36.2, v_weight_a1, v_fright_a1, v_age_a1, v_asked_a1, v_weight_a2, v_fright_a2, v_age_a2, v_asked_a2, v_weight_a3, v_fright_a3, v_age_a3, v_asked_a3, v_weight_a4, v_fright_a4, v_age_a4, v_asked_a4)
  else
    (sC_HW_refused v_refusals (r1.getD 0)).bind fun r38 =>
    some (r38.1, r38.2, v_weight_a1, v_fright_a1, v_age_a1, v_asked_a1, v_weight_a2, v_fright_a2, v_age_a2, v_asked_a2, v_weight_a3, v_fright_a3, v_age_a3, v_asked_a3, v_weight_a4, v_fright_a4, v_age_a4, v_asked_a4)
set_option maxHeartbeats 4000000 in
theorem metC_HW_last (l : Launch) (hfl : l.stackTraces = false) (G : kG) (ad : Nat → Nat) (pl : va_W) (hk : Nat → Nat) (hb : Nat → Int32) (sz : Nat) (v_latestFault : Int32) (v_died : Int32) (v_leastWeight : Int32) (v_noticedBy : Int32) (v_noticed : Int32) (v_orderDied : Int32) (v_orderLeast : Int32) (v_imaged : Option Nat) (v_shelves : Nat → Option Nat) (v_refusals : Nat → Int32) (v_ran : Int32) (v_bodies : Nat → Int32) (v_tweight : Int32) (v_tfright : Int32) (v_tage : Int32) (v_tasked : Nat → Int32) (v_told : Nat → Int32) (v_bestRow : Nat → Int32) (v_weight_a1 : Int32) (v_fright_a1 : Int32) (v_age_a1 : Int32) (v_asked_a1 : Nat → Int32) (v_weight_a2 : Int32) (v_fright_a2 : Int32) (v_age_a2 : Int32) (v_asked_a2 : Nat → Int32) (v_weight_a3 : Int32) (v_fright_a3 : Int32) (v_age_a3 : Int32) (v_asked_a3 : Nat → Int32) (v_weight_a4 : Int32) (v_fright_a4 : Int32) (v_age_a4 : Int32) (v_asked_a4 : Nat → Int32) (v_many : Int32) (v_pets : Int32) (v_last : Int32) (v_seed : Int32) (v_weight : Int32) (v_fright : Int32) (v_age : Int32) (v_asked : Nat → Int32) (v_homes : Nat → Option Nat) (v_marks : Nat → Int32) (v_had : Nat → Int32) (v_allergic : Nat → Int32) (v_deaths : Nat → Int32) (hom : homOK v_homes v_many hk hb pl) (p1 : Int32) (p2 : Int32) (p3 : Int32) (res : Int32 × (Nat → Int32) × Int32 × Int32 × Int32 × (Nat → Int32) × Int32 × Int32 × Int32 × (Nat → Int32) × Int32 × Int32 × Int32 × (Nat → Int32) × Int32 × Int32 × Int32 × (Nat → Int32)) (hE : sC_HW_last v_refusals v_weight_a1 v_fright_a1 v_age_a1 v_asked_a1 v_weight_a2 v_fright_a2 v_age_a2 v_asked_a2 v_weight_a3 v_fright_a3 v_age_a3 v_asked_a3 v_weight_a4 v_fright_a4 v_age_a4 v_asked_a4 v_many v_weight v_fright v_age v_asked v_homes v_allergic hk hb p1 p2 p3 = some res) : vx_Met l yX0_last (wsW_ yX0_last cX0_last 6 (some .int) [((0 : Nat), (92 : Nat), (93 : Nat), (21 : Nat))]) ({ frames := 9, cells := 4, slots := 28, locals := 214 } : Room) (rPc G (xW G.2 ad v_latestFault v_died v_leastWeight v_noticedBy v_noticed v_orderDied v_orderLeast v_imaged v_shelves v_refusals v_ran v_bodies v_tweight v_tfright v_tage v_tasked v_told v_bestRow v_weight_a1 v_fright_a1 v_age_a1 v_asked_a1 v_weight_a2 v_fright_a2 v_age_a2 v_asked_a2 v_weight_a3 v_fright_a3 v_age_a3 v_asked_a3 v_weight_a4 v_fright_a4 v_age_a4 v_asked_a4 v_many v_pets v_last v_seed v_weight v_fright v_age v_asked v_homes v_marks v_had v_allergic v_deaths) pl (xWV ad) sz [.ref (ad 0), .int p1, .int p2, .int p3]) (tQc G (xW G.2 ad v_latestFault v_died v_leastWeight v_noticedBy v_noticed v_orderDied v_orderLeast v_imaged v_shelves res.2.1 v_ran v_bodies v_tweight v_tfright v_tage v_tasked v_told v_bestRow res.2.2.1 res.2.2.2.1 res.2.2.2.2.1 res.2.2.2.2.2.1 res.2.2.2.2.2.2.1 res.2.2.2.2.2.2.2.1 res.2.2.2.2.2.2.2.2.1 res.2.2.2.2.2.2.2.2.2.1 res.2.2.2.2.2.2.2.2.2.2.1 res.2.2.2.2.2.2.2.2.2.2.2.1 res.2.2.2.2.2.2.2.2.2.2.2.2.1 res.2.2.2.2.2.2.2.2.2.2.2.2.2.1 res.2.2.2.2.2.2.2.2.2.2.2.2.2.2.1 res.2.2.2.2.2.2.2.2.2.2.2.2.2.2.2.1 res.2.2.2.2.2.2.2.2.2.2.2.2.2.2.2.2.1 res.2.2.2.2.2.2.2.2.2.2.2.2.2.2.2.2.2 v_many v_pets v_last v_seed v_weight v_fright v_age v_asked v_homes v_marks v_had v_allergic v_deaths) [] (tA sz (xWV ad) []) (True) (some (.int res.1))) (tXC G (xW G.2 ad v_latestFault v_died v_leastWeight v_noticedBy v_noticed v_orderDied v_orderLeast v_imaged v_shelves res.2.1 v_ran v_bodies v_tweight v_tfright v_tage v_tasked v_told v_bestRow res.2.2.1 res.2.2.2.1 res.2.2.2.2.1 res.2.2.2.2.2.1 res.2.2.2.2.2.2.1 res.2.2.2.2.2.2.2.1 res.2.2.2.2.2.2.2.2.1 res.2.2.2.2.2.2.2.2.2.1 res.2.2.2.2.2.2.2.2.2.2.1 res.2.2.2.2.2.2.2.2.2.2.2.1 res.2.2.2.2.2.2.2.2.2.2.2.2.1 res.2.2.2.2.2.2.2.2.2.2.2.2.2.1 res.2.2.2.2.2.2.2.2.2.2.2.2.2.2.1 res.2.2.2.2.2.2.2.2.2.2.2.2.2.2.2.1 res.2.2.2.2.2.2.2.2.2.2.2.2.2.2.2.2.1 res.2.2.2.2.2.2.2.2.2.2.2.2.2.2.2.2.2 v_many v_pets v_last v_seed v_weight v_fright v_age v_asked v_homes v_marks v_had v_allergic v_deaths) [] (tA sz (xWV ad) []) 18 RX6 none sz) 4 28 (tA sz (xWV ad) []) := by
  refine r_ofWH (own := RX0) (by decide) rfl (Nat.le_of_ble_eq_true rfl) ?_
  intro p e s m args below meth c ls C C0 D hml htab hP hS hl hr hlocks hsz
  have hl : lv_has ls 6 [(0, .ref (ad 0)), (1, .int p1), (2, .int p2), (3, .int p3)] := hl
  obtain ⟨Q, hQ⟩ : ∃ Q, Q = vx_MQ below (tQc G (xW G.2 ad v_latestFault v_died v_leastWeight v_noticedBy v_noticed v_orderDied v_orderLeast v_imaged v_shelves res.2.1 v_ran v_bodies v_tweight v_tfright v_tage v_tasked v_told v_bestRow res.2.2.1 res.2.2.2.1 res.2.2.2.2.1 res.2.2.2.2.2.1 res.2.2.2.2.2.2.1 res.2.2.2.2.2.2.2.1 res.2.2.2.2.2.2.2.2.1 res.2.2.2.2.2.2.2.2.2.1 res.2.2.2.2.2.2.2.2.2.2.1 res.2.2.2.2.2.2.2.2.2.2.2.1 res.2.2.2.2.2.2.2.2.2.2.2.2.1 res.2.2.2.2.2.2.2.2.2.2.2.2.2.1 res.2.2.2.2.2.2.2.2.2.2.2.2.2.2.1 res.2.2.2.2.2.2.2.2.2.2.2.2.2.2.2.1 res.2.2.2.2.2.2.2.2.2.2.2.2.2.2.2.2.1 res.2.2.2.2.2.2.2.2.2.2.2.2.2.2.2.2.2 v_many v_pets v_last v_seed v_weight v_fright v_age v_asked v_homes v_marks v_had v_allergic v_deaths) [] (tA sz (xWV ad) []) (True) (some (.int res.1))) (tXC G (xW G.2 ad v_latestFault v_died v_leastWeight v_noticedBy v_noticed v_orderDied v_orderLeast v_imaged v_shelves res.2.1 v_ran v_bodies v_tweight v_tfright v_tage v_tasked v_told v_bestRow res.2.2.1 res.2.2.2.1 res.2.2.2.2.1 res.2.2.2.2.2.1 res.2.2.2.2.2.2.1 res.2.2.2.2.2.2.2.1 res.2.2.2.2.2.2.2.2.1 res.2.2.2.2.2.2.2.2.2.1 res.2.2.2.2.2.2.2.2.2.2.1 res.2.2.2.2.2.2.2.2.2.2.2.1 res.2.2.2.2.2.2.2.2.2.2.2.2.1 res.2.2.2.2.2.2.2.2.2.2.2.2.2.1 res.2.2.2.2.2.2.2.2.2.2.2.2.2.2.1 res.2.2.2.2.2.2.2.2.2.2.2.2.2.2.2.1 res.2.2.2.2.2.2.2.2.2.2.2.2.2.2.2.2.1 res.2.2.2.2.2.2.2.2.2.2.2.2.2.2.2.2.2 v_many v_pets v_last v_seed v_weight v_fright v_age v_asked v_homes v_marks v_had v_allergic v_deaths) [] (tA sz (xWV ad) []) 18 RX6 none sz) args s 4 28 (tA sz (xWV ad) []) := ⟨_, rfl⟩
  rw [← hQ]
  have hret : ∀ (pc : Nat) (ls : Array Slot) (H : Heap) (locs : List Loc), decode cX0_last pc = .ok (.ireturn, 1) → True → va_P G.1 vwCl (xW G.2 ad v_latestFault v_died v_leastWeight v_noticedBy v_noticed v_orderDied v_orderLeast v_imaged v_shelves res.2.1 v_ran v_bodies v_tweight v_tfright v_tage v_tasked v_told v_bestRow res.2.2.1 res.2.2.2.1 res.2.2.2.2.1 res.2.2.2.2.2.1 res.2.2.2.2.2.2.1 res.2.2.2.2.2.2.2.1 res.2.2.2.2.2.2.2.2.1 res.2.2.2.2.2.2.2.2.2.1 res.2.2.2.2.2.2.2.2.2.2.1 res.2.2.2.2.2.2.2.2.2.2.2.1 res.2.2.2.2.2.2.2.2.2.2.2.2.1 res.2.2.2.2.2.2.2.2.2.2.2.2.2.1 res.2.2.2.2.2.2.2.2.2.2.2.2.2.2.1 res.2.2.2.2.2.2.2.2.2.2.2.2.2.2.2.1 res.2.2.2.2.2.2.2.2.2.2.2.2.2.2.2.2.1 res.2.2.2.2.2.2.2.2.2.2.2.2.2.2.2.2.2 v_many v_pets v_last v_seed v_weight v_fright v_age v_asked v_homes v_marks v_had v_allergic v_deaths) H → va_S (tA sz (xWV ad) []) s.heap H locs → W p l e ({ frames := 9, cells := 4, slots := 28, locals := 214 } : Room) s m args below meth c H locs 4 28 Q (F0 m pc ls [(.int res.1)]) := by
    intro pc ls H locs hd hφ hP hS
    rw [hQ]
    exact t_iret C0 hr hlocks hd hφ hP P_nil hS
  clear hQ
  obtain ⟨H, hH⟩ : ∃ H, H = s.heap := ⟨_, rfl⟩
  obtain ⟨locs, hlo⟩ : ∃ locs : List Loc, locs = [] := ⟨_, rfl⟩
  have hP : va_P G.1 vwCl (xW G.2 ad v_latestFault v_died v_leastWeight v_noticedBy v_noticed v_orderDied v_orderLeast v_imaged v_shelves v_refusals v_ran v_bodies v_tweight v_tfright v_tage v_tasked v_told v_bestRow v_weight_a1 v_fright_a1 v_age_a1 v_asked_a1 v_weight_a2 v_fright_a2 v_age_a2 v_asked_a2 v_weight_a3 v_fright_a3 v_age_a3 v_asked_a3 v_weight_a4 v_fright_a4 v_age_a4 v_asked_a4 v_many v_pets v_last v_seed v_weight v_fright v_age v_asked v_homes v_marks v_had v_allergic v_deaths) H := by rw [hH]; exact hP
  have hS : va_S (tA sz (xWV ad) []) s.heap H locs := by rw [hH, hlo]; exact hS
  suffices hZ : W p l e ({ frames := 9, cells := 4, slots := 28, locals := 214 } : Room) s m args below meth c H locs 0 0 Q (F0 m 0 ls []) by rw [hH, hlo] at hZ; exact hZ
  clear hH hlo
  unfold sC_HW_last at hE
  refine lv_aload_n C.1 C.2.1 dX0_last_0 rfl (lv_at hl 0 rfl) ?_
  refine lv_iload_n C.1 C.2.1 dX0_last_1 rfl (lv_at hl 1 rfl) ?_
  obtain ⟨r1, hr1, hE⟩ := it_b hE
  refine t_afterS C0 D hP P_nil hS (vx_runV (As := [.int p1]) (rest := []) ⟨C.1, C.2.1, hml, C.2.2.1, C.2.2.2.1⟩ (metC_HW_mustHome l hfl G ad pl H.size _ _ _ _ _ _ _ _ _ _ _ _ _ _ _ _ _ _ _ _ _ _ _ _ _ _ _ _ _ _ _ _ _ _ _ _ _ _ _ _ _ _ _ _ _ _ _ p1 r1 hr1) (cwV (C := RX0) 1 C.2.2.2.1 (lw_V q577 q579 qs3 q80 q580) rfl rfl rfl (by decide +kernel) ⟨Nat.le_of_ble_eq_true rfl, Nat.le_of_ble_eq_true rfl⟩) (rr_preV0 C D hP hS (va_recv C.2.2.2.2.1 hP (ci := 16) (q0 := 0) rfl rfl)) rfl rfl hl.1 rfl (lv_room (Nat.le_of_ble_eq_true rfl)) dX0_last_2 ⟨Nat.le_of_ble_eq_true rfl, Nat.le_of_ble_eq_true rfl⟩) xW_av (fun hφ H locs hP _ hS => ?_) (fun w q H locs hw hq hc hP _ hS => ?_)
  · have hE := it_t hφ hE
    refine lv_iload_n C.1 C.2.1 dX0_last_5 rfl (lv_at hl 3 rfl) ?_
    refine lv_i2l C.1 C.2.1 dX0_last_6 rfl ?_
    refine lv_lconst (v := 0) C.1 C.2.1 dX0_last_7 (by decide) ?_
    refine lv_lconst (v := 1) C.1 C.2.1 dX0_last_8 (by decide) ?_
    obtain ⟨r3, hr3, hE⟩ := it_b hE
    refine n_after [] C.2.2.2.2.2.1 C.2.2.2.2.2.2.2.1 hP hS (va_runS (As := [.long ((p3 : Int32).toInt64), .long 0, .long 1]) (rest := []) ⟨C.1, C.2.1, hml, C.2.2.1, C.2.2.2.1⟩ (metC_HW_in l G ad pl  ((p3 : Int32).toInt64) 0 1  r3 hr3) (va_cwS 3 C.2.2.2.1 (lw_S q401 q402 q80 q403) rfl rfl rfl (by decide +kernel) ⟨Nat.le_of_ble_eq_true rfl, Nat.le_of_ble_eq_true rfl⟩) (n_preS C hP hS [] rfl (by decide) rfl) rfl rfl hl.1 rfl (lv_room (Nat.le_of_ble_eq_true rfl)) dX0_last_9 ⟨Nat.le_of_ble_eq_true rfl, Nat.le_of_ble_eq_true rfl⟩) xW_av rfl rfl rfl (fun H locs hP hS => ?_)
    refine lv_bipush (v := (-5)) C.1 C.2.1 dX0_last_12 (by decide) ?_
    refine t_after [] C0 D hP P_nil hS (vx_runS (As := [.int r3, .int (-5)]) (rest := []) ⟨C.1, C.2.1, hml, C.2.2.1, C.2.2.2.1⟩ (metC_HW_need l hfl G ad pl H.size r3 (-5) _ (need_eq _ _)) (va_cwS 2 C.2.2.2.1 (lw_S q397 q398 q80 q399) rfl rfl rfl (by decide +kernel) ⟨Nat.le_of_ble_eq_true rfl, Nat.le_of_ble_eq_true rfl⟩) (rr_preS C D hP hS [] rfl (by decide) rfl) rfl rfl hl.1 rfl (lv_room (Nat.le_of_ble_eq_true rfl)) dX0_last_14 ⟨Nat.le_of_ble_eq_true rfl, Nat.le_of_ble_eq_true rfl⟩) xW_av rfl rfl rfl (fun hφ H locs hP _ hS => ?_) (fun w q H locs hw hq hc hP _ hS => ?_)
    · have hE := it_f (nd_n hφ) hE
      refine lv_aload_n C.1 C.2.1 dX0_last_17 rfl (lv_at hl 0 rfl) ?_
      obtain ⟨r6, hr6, hE⟩ := it_b hE
      refine t_afterS C0 D hP P_nil hS (vx_runV (As := []) (rest := []) ⟨C.1, C.2.1, hml, C.2.2.1, C.2.2.2.1⟩ (metC_HW_someMay l hfl G ad pl H.size _ _ _ _ _ _ _ _ _ _ _ _ _ _ _ _ _ _ _ _ _ _ _ _ _ _ _ _ _ _ _ _ _ _ _ _ _ _ _ _ _ _ _ _ _ _ _  r6 hr6) (cwV (C := RX0) 0 C.2.2.2.1 (lw_V q1109 q1111 qs25 q80 q1112) rfl rfl rfl (by decide +kernel) ⟨Nat.le_of_ble_eq_true rfl, Nat.le_of_ble_eq_true rfl⟩) (rr_preV0 C D hP hS (va_recv C.2.2.2.2.1 hP (ci := 16) (q0 := 0) rfl rfl)) rfl rfl hl.1 rfl (lv_room (Nat.le_of_ble_eq_true rfl)) dX0_last_18 ⟨Nat.le_of_ble_eq_true rfl, Nat.le_of_ble_eq_true rfl⟩) xW_av (fun hφ H locs hP _ hS => ?_) (fun w q H locs hw hq hc hP _ hS => ?_)
      · have hE := it_t hφ hE
        refine lv_iload_n C.1 C.2.1 dX0_last_21 rfl (lv_at hl 2 rfl) ?_
        refine lv_i2l C.1 C.2.1 dX0_last_22 rfl ?_
        refine lv_lconst (v := 1) C.1 C.2.1 dX0_last_23 (by decide) ?_
        refine lv_ldc2 C.1 C.2.1 C.2.2.1 (C.2.2.2.1 _ q1153) dX0_last_24 ?_
        obtain ⟨r8, hr8, hE⟩ := it_b hE
        refine n_after [] C.2.2.2.2.2.1 C.2.2.2.2.2.2.2.1 hP hS (va_runS (As := [.long ((p2 : Int32).toInt64), .long 1, .long 4]) (rest := []) ⟨C.1, C.2.1, hml, C.2.2.1, C.2.2.2.1⟩ (metC_HW_in l G ad pl  ((p2 : Int32).toInt64) 1 4  r8 hr8) (va_cwS 3 C.2.2.2.1 (lw_S q401 q402 q80 q403) rfl rfl rfl (by decide +kernel) ⟨Nat.le_of_ble_eq_true rfl, Nat.le_of_ble_eq_true rfl⟩) (n_preS C hP hS [] rfl (by decide) rfl) rfl rfl hl.1 rfl (lv_room (Nat.le_of_ble_eq_true rfl)) dX0_last_27 ⟨Nat.le_of_ble_eq_true rfl, Nat.le_of_ble_eq_true rfl⟩) xW_av rfl rfl rfl (fun H locs hP hS => ?_)
        refine lv_bipush (v := (-6)) C.1 C.2.1 dX0_last_30 (by decide) ?_
        refine t_after [] C0 D hP P_nil hS (vx_runS (As := [.int r8, .int (-6)]) (rest := []) ⟨C.1, C.2.1, hml, C.2.2.1, C.2.2.2.1⟩ (metC_HW_need l hfl G ad pl H.size r8 (-6) _ (need_eq _ _)) (va_cwS 2 C.2.2.2.1 (lw_S q397 q398 q80 q399) rfl rfl rfl (by decide +kernel) ⟨Nat.le_of_ble_eq_true rfl, Nat.le_of_ble_eq_true rfl⟩) (rr_preS C D hP hS [] rfl (by decide) rfl) rfl rfl hl.1 rfl (lv_room (Nat.le_of_ble_eq_true rfl)) dX0_last_32 ⟨Nat.le_of_ble_eq_true rfl, Nat.le_of_ble_eq_true rfl⟩) xW_av rfl rfl rfl (fun hφ H locs hP _ hS => ?_) (fun w q H locs hw hq hc hP _ hS => ?_)
        · have hE := it_f (nd_n hφ) hE
          refine lv_aload_n C.1 C.2.1 dX0_last_35 rfl (lv_at hl 0 rfl) ?_
          refine lv_aload_n C.1 C.2.1 dX0_last_36 rfl (lv_at hl 0 rfl) ?_
          refine xWg_0_6 q244 C hP dX0_last_37 ?_
          refine xWg_18_4 q191 C hP dX0_last_40 ?_
          refine lv_iload_n C.1 C.2.1 dX0_last_43 rfl (lv_at hl 2 rfl) ?_
          refine lv_iload_n C.1 C.2.1 dX0_last_44 rfl (lv_at hl 1 rfl) ?_
          by_cases c11 : p2 = 1
          · have hE := it_t c11 hE
            rw [c11]
            obtain ⟨r12, hr12, hE⟩ := it_b hE
            refine n_afterS C.2.2.2.2.2.2.2.1 hS (va_runV (As := [.ref (ad 19), .int 1, .int p1]) (rest := []) ⟨C.1, C.2.1, hml, C.2.2.1, C.2.2.2.1⟩ (metC_HW_deathsIn_19_1 l G ad pl hk hb _ _ _ _ _ _ _ _ _ _ _ _ _ _ _ _ _ _ _ _ _ _ _ _ _ _ _ _ _ _ _ _ _ _ _ _ _ _ _ _ _ _ _ _ _ _ _ hom p1  r12 hr12) (cwV (C := RX0) 3 C.2.2.2.1 (lw_V q1154 q1156 qs28 q80 q1157) rfl rfl rfl (by decide +kernel) ⟨Nat.le_of_ble_eq_true rfl, Nat.le_of_ble_eq_true rfl⟩) (n_preV0 C hP hS (va_recv C.2.2.2.2.1 hP (ci := 16) (q0 := 0) rfl rfl)) rfl rfl hl.1 rfl (lv_room (Nat.le_of_ble_eq_true rfl)) dX0_last_45 ⟨Nat.le_of_ble_eq_true rfl, Nat.le_of_ble_eq_true rfl⟩) (fun H locs hP hS => ?_)
            refine lv_istore (lv' := [(4, .int r12.1), (0, .ref (ad 0)), (1, .int p1), (2, .int p2), (3, .int p3)]) C.1 C.2.1 dX0_last_48 hl (by decide) rfl (fun ls hl => ?_)
            refine lv_aload_n C.1 C.2.1 dX0_last_50 rfl (lv_at hl 1 rfl) ?_
            refine lv_aload_n C.1 C.2.1 dX0_last_51 rfl (lv_at hl 1 rfl) ?_
            refine xWg_0_6 q244 C hP dX0_last_52 ?_
            refine xWg_18_4 q191 C hP dX0_last_55 ?_
            refine lv_iload_n C.1 C.2.1 dX0_last_58 rfl (lv_at hl 3 rfl) ?_
            refine lv_iconst (v := (-1)) C.1 C.2.1 dX0_last_59 (by decide) ?_
            rw [c11]
            obtain ⟨r13, hr13, hE⟩ := it_b hE
            refine n_afterS C.2.2.2.2.2.2.2.1 hS (va_runV (As := [.ref (ad 19), .int 1, .int (-1)]) (rest := []) ⟨C.1, C.2.1, hml, C.2.2.1, C.2.2.2.1⟩ (metC_HW_deathsIn_19_1 l G ad pl hk hb _ _ _ _ _ _ _ _ _ _ _ _ _ _ _ _ _ _ _ _ _ _ _ _ _ _ _ _ _ _ _ _ _ _ _ _ _ _ _ _ _ _ _ _ _ _ _ hom (-1)  r13 hr13) (cwV (C := RX0) 3 C.2.2.2.1 (lw_V q1154 q1156 qs28 q80 q1157) rfl rfl rfl (by decide +kernel) ⟨Nat.le_of_ble_eq_true rfl, Nat.le_of_ble_eq_true rfl⟩) (n_preV0 C hP hS (va_recv C.2.2.2.2.1 hP (ci := 16) (q0 := 0) rfl rfl)) rfl rfl hl.1 rfl (lv_room (Nat.le_of_ble_eq_true rfl)) dX0_last_60 ⟨Nat.le_of_ble_eq_true rfl, Nat.le_of_ble_eq_true rfl⟩) (fun H locs hP hS => ?_)
            refine lv_istore (lv' := [(5, .int r13.1), (4, .int r12.1), (0, .ref (ad 0)), (1, .int p1), (2, .int p2), (3, .int p3)]) C.1 C.2.1 dX0_last_63 hl (by decide) rfl (fun ls hl => ?_)
            refine lv_iload_n C.1 C.2.1 dX0_last_65 rfl (lv_at hl 5 rfl) ?_
            refine lv_if_ne (tgt := 74) C.1 C.2.1 dX0_last_66 (by decide) (fun c14 => ?_) (fun c14 => ?_)
            · have hE := it_f c14 hE
              refine lv_iload C.1 C.2.1 dX0_last_74 (lv_at hl 0 rfl) ?_
              refine lv_if_ne (tgt := 83) C.1 C.2.1 dX0_last_76 (by decide) (fun c15 => ?_) (fun c15 => ?_)
              · have hE := it_f c15 hE
                refine lv_sipush (v := 1000) C.1 C.2.1 dX0_last_83 (by decide) ?_
                refine lv_iload C.1 C.2.1 dX0_last_86 (lv_at hl 1 rfl) ?_
                refine lv_imul C.1 C.2.1 dX0_last_88 ?_
                refine lv_iload C.1 C.2.1 dX0_last_89 (lv_at hl 0 rfl) ?_
                obtain ⟨g16, hE⟩ := it_g hE
                refine lv_idiv C.1 C.2.1 dX0_last_91 g16 ?_
                obtain rfl := Option.some.inj hE
                exact hret _ _ _ _ dX0_last_92 trivial hP hS
              · have hE := it_t c15 hE
                refine lv_iconst (v := 0) C.1 C.2.1 dX0_last_79 (by decide) ?_
                refine lv_goto (tgt := 92) C.1 C.2.1 dX0_last_80 (by decide) ?_
                obtain rfl := Option.some.inj hE
                exact hret _ _ _ _ dX0_last_92 trivial hP hS
            · have hE := it_t c14 hE
              refine lv_iload C.1 C.2.1 dX0_last_69 (lv_at hl 1 rfl) ?_
              refine lv_goto (tgt := 92) C.1 C.2.1 dX0_last_71 (by decide) ?_
              obtain rfl := Option.some.inj hE
              exact hret _ _ _ _ dX0_last_92 trivial hP hS
          have hE := it_f c11 hE
          by_cases c17 : p2 = 2
          · have hE := it_t c17 hE
            rw [c17]
            obtain ⟨r18, hr18, hE⟩ := it_b hE
            refine n_afterS C.2.2.2.2.2.2.2.1 hS (va_runV (As := [.ref (ad 19), .int 2, .int p1]) (rest := []) ⟨C.1, C.2.1, hml, C.2.2.1, C.2.2.2.1⟩ (metC_HW_deathsIn_19_2 l G ad pl hk hb _ _ _ _ _ _ _ _ _ _ _ _ _ _ _ _ _ _ _ _ _ _ _ _ _ _ _ _ _ _ _ _ _ _ _ _ _ _ _ _ _ _ _ _ _ _ _ hom p1  r18 hr18) (cwV (C := RX0) 3 C.2.2.2.1 (lw_V q1154 q1156 qs28 q80 q1157) rfl rfl rfl (by decide +kernel) ⟨Nat.le_of_ble_eq_true rfl, Nat.le_of_ble_eq_true rfl⟩) (n_preV0 C hP hS (va_recv C.2.2.2.2.1 hP (ci := 16) (q0 := 0) rfl rfl)) rfl rfl hl.1 rfl (lv_room (Nat.le_of_ble_eq_true rfl)) dX0_last_45 ⟨Nat.le_of_ble_eq_true rfl, Nat.le_of_ble_eq_true rfl⟩) (fun H locs hP hS => ?_)
            refine lv_istore (lv' := [(4, .int r18.1), (0, .ref (ad 0)), (1, .int p1), (2, .int p2), (3, .int p3)]) C.1 C.2.1 dX0_last_48 hl (by decide) rfl (fun ls hl => ?_)
            refine lv_aload_n C.1 C.2.1 dX0_last_50 rfl (lv_at hl 1 rfl) ?_
            refine lv_aload_n C.1 C.2.1 dX0_last_51 rfl (lv_at hl 1 rfl) ?_
            refine xWg_0_6 q244 C hP dX0_last_52 ?_
            refine xWg_18_4 q191 C hP dX0_last_55 ?_
            refine lv_iload_n C.1 C.2.1 dX0_last_58 rfl (lv_at hl 3 rfl) ?_
            refine lv_iconst (v := (-1)) C.1 C.2.1 dX0_last_59 (by decide) ?_
            rw [c17]
            obtain ⟨r19, hr19, hE⟩ := it_b hE
            refine n_afterS C.2.2.2.2.2.2.2.1 hS (va_runV (As := [.ref (ad 19), .int 2, .int (-1)]) (rest := []) ⟨C.1, C.2.1, hml, C.2.2.1, C.2.2.2.1⟩ (metC_HW_deathsIn_19_2 l G ad pl hk hb _ _ _ _ _ _ _ _ _ _ _ _ _ _ _ _ _ _ _ _ _ _ _ _ _ _ _ _ _ _ _ _ _ _ _ _ _ _ _ _ _ _ _ _ _ _ _ hom (-1)  r19 hr19) (cwV (C := RX0) 3 C.2.2.2.1 (lw_V q1154 q1156 qs28 q80 q1157) rfl rfl rfl (by decide +kernel) ⟨Nat.le_of_ble_eq_true rfl, Nat.le_of_ble_eq_true rfl⟩) (n_preV0 C hP hS (va_recv C.2.2.2.2.1 hP (ci := 16) (q0 := 0) rfl rfl)) rfl rfl hl.1 rfl (lv_room (Nat.le_of_ble_eq_true rfl)) dX0_last_60 ⟨Nat.le_of_ble_eq_true rfl, Nat.le_of_ble_eq_true rfl⟩) (fun H locs hP hS => ?_)
            refine lv_istore (lv' := [(5, .int r19.1), (4, .int r18.1), (0, .ref (ad 0)), (1, .int p1), (2, .int p2), (3, .int p3)]) C.1 C.2.1 dX0_last_63 hl (by decide) rfl (fun ls hl => ?_)
            refine lv_iload_n C.1 C.2.1 dX0_last_65 rfl (lv_at hl 5 rfl) ?_
            refine lv_if_ne (tgt := 74) C.1 C.2.1 dX0_last_66 (by decide) (fun c20 => ?_) (fun c20 => ?_)
            · have hE := it_f c20 hE
              refine lv_iload C.1 C.2.1 dX0_last_74 (lv_at hl 0 rfl) ?_
              refine lv_if_ne (tgt := 83) C.1 C.2.1 dX0_last_76 (by decide) (fun c21 => ?_) (fun c21 => ?_)
              · have hE := it_f c21 hE
                refine lv_sipush (v := 1000) C.1 C.2.1 dX0_last_83 (by decide) ?_
                refine lv_iload C.1 C.2.1 dX0_last_86 (lv_at hl 1 rfl) ?_
                refine lv_imul C.1 C.2.1 dX0_last_88 ?_
                refine lv_iload C.1 C.2.1 dX0_last_89 (lv_at hl 0 rfl) ?_
                obtain ⟨g22, hE⟩ := it_g hE
                refine lv_idiv C.1 C.2.1 dX0_last_91 g22 ?_
                obtain rfl := Option.some.inj hE
                exact hret _ _ _ _ dX0_last_92 trivial hP hS
              · have hE := it_t c21 hE
                refine lv_iconst (v := 0) C.1 C.2.1 dX0_last_79 (by decide) ?_
                refine lv_goto (tgt := 92) C.1 C.2.1 dX0_last_80 (by decide) ?_
                obtain rfl := Option.some.inj hE
                exact hret _ _ _ _ dX0_last_92 trivial hP hS
            · have hE := it_t c20 hE
              refine lv_iload C.1 C.2.1 dX0_last_69 (lv_at hl 1 rfl) ?_
              refine lv_goto (tgt := 92) C.1 C.2.1 dX0_last_71 (by decide) ?_
              obtain rfl := Option.some.inj hE
              exact hret _ _ _ _ dX0_last_92 trivial hP hS
          have hE := it_f c17 hE
          by_cases c23 : p2 = 3
          · have hE := it_t c23 hE
            rw [c23]
            obtain ⟨r24, hr24, hE⟩ := it_b hE
            refine n_afterS C.2.2.2.2.2.2.2.1 hS (va_runV (As := [.ref (ad 19), .int 3, .int p1]) (rest := []) ⟨C.1, C.2.1, hml, C.2.2.1, C.2.2.2.1⟩ (metC_HW_deathsIn_19_3 l G ad pl hk hb _ _ _ _ _ _ _ _ _ _ _ _ _ _ _ _ _ _ _ _ _ _ _ _ _ _ _ _ _ _ _ _ _ _ _ _ _ _ _ _ _ _ _ _ _ _ _ hom p1  r24 hr24) (cwV (C := RX0) 3 C.2.2.2.1 (lw_V q1154 q1156 qs28 q80 q1157) rfl rfl rfl (by decide +kernel) ⟨Nat.le_of_ble_eq_true rfl, Nat.le_of_ble_eq_true rfl⟩) (n_preV0 C hP hS (va_recv C.2.2.2.2.1 hP (ci := 16) (q0 := 0) rfl rfl)) rfl rfl hl.1 rfl (lv_room (Nat.le_of_ble_eq_true rfl)) dX0_last_45 ⟨Nat.le_of_ble_eq_true rfl, Nat.le_of_ble_eq_true rfl⟩) (fun H locs hP hS => ?_)
            refine lv_istore (lv' := [(4, .int r24.1), (0, .ref (ad 0)), (1, .int p1), (2, .int p2), (3, .int p3)]) C.1 C.2.1 dX0_last_48 hl (by decide) rfl (fun ls hl => ?_)
            refine lv_aload_n C.1 C.2.1 dX0_last_50 rfl (lv_at hl 1 rfl) ?_
            refine lv_aload_n C.1 C.2.1 dX0_last_51 rfl (lv_at hl 1 rfl) ?_
            refine xWg_0_6 q244 C hP dX0_last_52 ?_
            refine xWg_18_4 q191 C hP dX0_last_55 ?_
            refine lv_iload_n C.1 C.2.1 dX0_last_58 rfl (lv_at hl 3 rfl) ?_
            refine lv_iconst (v := (-1)) C.1 C.2.1 dX0_last_59 (by decide) ?_
            rw [c23]
            obtain ⟨r25, hr25, hE⟩ := it_b hE
            refine n_afterS C.2.2.2.2.2.2.2.1 hS (va_runV (As := [.ref (ad 19), .int 3, .int (-1)]) (rest := []) ⟨C.1, C.2.1, hml, C.2.2.1, C.2.2.2.1⟩ (metC_HW_deathsIn_19_3 l G ad pl hk hb _ _ _ _ _ _ _ _ _ _ _ _ _ _ _ _ _ _ _ _ _ _ _ _ _ _ _ _ _ _ _ _ _ _ _ _ _ _ _ _ _ _ _ _ _ _ _ hom (-1)  r25 hr25) (cwV (C := RX0) 3 C.2.2.2.1 (lw_V q1154 q1156 qs28 q80 q1157) rfl rfl rfl (by decide +kernel) ⟨Nat.le_of_ble_eq_true rfl, Nat.le_of_ble_eq_true rfl⟩) (n_preV0 C hP hS (va_recv C.2.2.2.2.1 hP (ci := 16) (q0 := 0) rfl rfl)) rfl rfl hl.1 rfl (lv_room (Nat.le_of_ble_eq_true rfl)) dX0_last_60 ⟨Nat.le_of_ble_eq_true rfl, Nat.le_of_ble_eq_true rfl⟩) (fun H locs hP hS => ?_)
            refine lv_istore (lv' := [(5, .int r25.1), (4, .int r24.1), (0, .ref (ad 0)), (1, .int p1), (2, .int p2), (3, .int p3)]) C.1 C.2.1 dX0_last_63 hl (by decide) rfl (fun ls hl => ?_)
            refine lv_iload_n C.1 C.2.1 dX0_last_65 rfl (lv_at hl 5 rfl) ?_
            refine lv_if_ne (tgt := 74) C.1 C.2.1 dX0_last_66 (by decide) (fun c26 => ?_) (fun c26 => ?_)
            · have hE := it_f c26 hE
              refine lv_iload C.1 C.2.1 dX0_last_74 (lv_at hl 0 rfl) ?_
              refine lv_if_ne (tgt := 83) C.1 C.2.1 dX0_last_76 (by decide) (fun c27 => ?_) (fun c27 => ?_)
              · have hE := it_f c27 hE
                refine lv_sipush (v := 1000) C.1 C.2.1 dX0_last_83 (by decide) ?_
                refine lv_iload C.1 C.2.1 dX0_last_86 (lv_at hl 1 rfl) ?_
                refine lv_imul C.1 C.2.1 dX0_last_88 ?_
                refine lv_iload C.1 C.2.1 dX0_last_89 (lv_at hl 0 rfl) ?_
                obtain ⟨g28, hE⟩ := it_g hE
                refine lv_idiv C.1 C.2.1 dX0_last_91 g28 ?_
                obtain rfl := Option.some.inj hE
                exact hret _ _ _ _ dX0_last_92 trivial hP hS
              · have hE := it_t c27 hE
                refine lv_iconst (v := 0) C.1 C.2.1 dX0_last_79 (by decide) ?_
                refine lv_goto (tgt := 92) C.1 C.2.1 dX0_last_80 (by decide) ?_
                obtain rfl := Option.some.inj hE
                exact hret _ _ _ _ dX0_last_92 trivial hP hS
            · have hE := it_t c26 hE
              refine lv_iload C.1 C.2.1 dX0_last_69 (lv_at hl 1 rfl) ?_
              refine lv_goto (tgt := 92) C.1 C.2.1 dX0_last_71 (by decide) ?_
              obtain rfl := Option.some.inj hE
              exact hret _ _ _ _ dX0_last_92 trivial hP hS
          have hE := it_f c23 hE
          by_cases c29 : p2 = 4
          · have hE := it_t c29 hE
            rw [c29]
            obtain ⟨r30, hr30, hE⟩ := it_b hE
            refine n_afterS C.2.2.2.2.2.2.2.1 hS (va_runV (As := [.ref (ad 19), .int 4, .int p1]) (rest := []) ⟨C.1, C.2.1, hml, C.2.2.1, C.2.2.2.1⟩ (metC_HW_deathsIn_19_4 l G ad pl hk hb _ _ _ _ _ _ _ _ _ _ _ _ _ _ _ _ _ _ _ _ _ _ _ _ _ _ _ _ _ _ _ _ _ _ _ _ _ _ _ _ _ _ _ _ _ _ _ hom p1  r30 hr30) (cwV (C := RX0) 3 C.2.2.2.1 (lw_V q1154 q1156 qs28 q80 q1157) rfl rfl rfl (by decide +kernel) ⟨Nat.le_of_ble_eq_true rfl, Nat.le_of_ble_eq_true rfl⟩) (n_preV0 C hP hS (va_recv C.2.2.2.2.1 hP (ci := 16) (q0 := 0) rfl rfl)) rfl rfl hl.1 rfl (lv_room (Nat.le_of_ble_eq_true rfl)) dX0_last_45 ⟨Nat.le_of_ble_eq_true rfl, Nat.le_of_ble_eq_true rfl⟩) (fun H locs hP hS => ?_)
            refine lv_istore (lv' := [(4, .int r30.1), (0, .ref (ad 0)), (1, .int p1), (2, .int p2), (3, .int p3)]) C.1 C.2.1 dX0_last_48 hl (by decide) rfl (fun ls hl => ?_)
            refine lv_aload_n C.1 C.2.1 dX0_last_50 rfl (lv_at hl 1 rfl) ?_
            refine lv_aload_n C.1 C.2.1 dX0_last_51 rfl (lv_at hl 1 rfl) ?_
            refine xWg_0_6 q244 C hP dX0_last_52 ?_
            refine xWg_18_4 q191 C hP dX0_last_55 ?_
            refine lv_iload_n C.1 C.2.1 dX0_last_58 rfl (lv_at hl 3 rfl) ?_
            refine lv_iconst (v := (-1)) C.1 C.2.1 dX0_last_59 (by decide) ?_
            rw [c29]
            obtain ⟨r31, hr31, hE⟩ := it_b hE
            refine n_afterS C.2.2.2.2.2.2.2.1 hS (va_runV (As := [.ref (ad 19), .int 4, .int (-1)]) (rest := []) ⟨C.1, C.2.1, hml, C.2.2.1, C.2.2.2.1⟩ (metC_HW_deathsIn_19_4 l G ad pl hk hb _ _ _ _ _ _ _ _ _ _ _ _ _ _ _ _ _ _ _ _ _ _ _ _ _ _ _ _ _ _ _ _ _ _ _ _ _ _ _ _ _ _ _ _ _ _ _ hom (-1)  r31 hr31) (cwV (C := RX0) 3 C.2.2.2.1 (lw_V q1154 q1156 qs28 q80 q1157) rfl rfl rfl (by decide +kernel) ⟨Nat.le_of_ble_eq_true rfl, Nat.le_of_ble_eq_true rfl⟩) (n_preV0 C hP hS (va_recv C.2.2.2.2.1 hP (ci := 16) (q0 := 0) rfl rfl)) rfl rfl hl.1 rfl (lv_room (Nat.le_of_ble_eq_true rfl)) dX0_last_60 ⟨Nat.le_of_ble_eq_true rfl, Nat.le_of_ble_eq_true rfl⟩) (fun H locs hP hS => ?_)
            refine lv_istore (lv' := [(5, .int r31.1), (4, .int r30.1), (0, .ref (ad 0)), (1, .int p1), (2, .int p2), (3, .int p3)]) C.1 C.2.1 dX0_last_63 hl (by decide) rfl (fun ls hl => ?_)
            refine lv_iload_n C.1 C.2.1 dX0_last_65 rfl (lv_at hl 5 rfl) ?_
            refine lv_if_ne (tgt := 74) C.1 C.2.1 dX0_last_66 (by decide) (fun c32 => ?_) (fun c32 => ?_)
            · have hE := it_f c32 hE
              refine lv_iload C.1 C.2.1 dX0_last_74 (lv_at hl 0 rfl) ?_
              refine lv_if_ne (tgt := 83) C.1 C.2.1 dX0_last_76 (by decide) (fun c33 => ?_) (fun c33 => ?_)
              · have hE := it_f c33 hE
                refine lv_sipush (v := 1000) C.1 C.2.1 dX0_last_83 (by decide) ?_
                refine lv_iload C.1 C.2.1 dX0_last_86 (lv_at hl 1 rfl) ?_
                refine lv_imul C.1 C.2.1 dX0_last_88 ?_
                refine lv_iload C.1 C.2.1 dX0_last_89 (lv_at hl 0 rfl) ?_
                obtain ⟨g34, hE⟩ := it_g hE
                refine lv_idiv C.1 C.2.1 dX0_last_91 g34 ?_
                obtain rfl := Option.some.inj hE
                exact hret _ _ _ _ dX0_last_92 trivial hP hS
              · have hE := it_t c33 hE
                refine lv_iconst (v := 0) C.1 C.2.1 dX0_last_79 (by decide) ?_
                refine lv_goto (tgt := 92) C.1 C.2.1 dX0_last_80 (by decide) ?_
                obtain rfl := Option.some.inj hE
                exact hret _ _ _ _ dX0_last_92 trivial hP hS
            · have hE := it_t c32 hE
              refine lv_iload C.1 C.2.1 dX0_last_69 (lv_at hl 1 rfl) ?_
              refine lv_goto (tgt := 92) C.1 C.2.1 dX0_last_71 (by decide) ?_
              obtain rfl := Option.some.inj hE
              exact hret _ _ _ _ dX0_last_92 trivial hP hS
          have hE := it_f c29 hE
          exact it_n hE
        · obtain ⟨c9, rfl⟩ := nd_x hw
          obtain ⟨q10, rfl⟩ : ∃ z, z = q := ⟨_, rfl⟩
          have hE := it_t c9 hE
          obtain ⟨ce, g1, g2, g3⟩ := t_cell C0 hc rfl
          refine t_catch (name := "HamsterWeekends$Refused") (E := "HamsterWeekends$Refused") C0 D [] ⟨0, 92, 93, 21⟩ [] htab (fun z hz => nomatch hz) rfl (by decide) q291 (List.mem_of_getElem? (i := 1) rfl) g1 g2 g3 ?_
          refine W.eq (g2 := F0 m 93 ls [.ref q10]) rfl ?_
          refine lv_astore (lv' := [(4, .ref q10), (0, .ref (ad 0)), (1, .int p1), (2, .int p2), (3, .int p3)]) C.1 C.2.1 dX0_last_93 hl (by decide) rfl (fun ls hl => ?_)
          refine lv_aload_n C.1 C.2.1 dX0_last_95 rfl (lv_at hl 1 rfl) ?_
          refine lv_aload C.1 C.2.1 dX0_last_96 (lv_at hl 0 rfl) ?_
          obtain ⟨r35, hr35, hE⟩ := it_b hE
          refine n_afterS C.2.2.2.2.2.2.2.1 hS (va_runV (As := [.ref q10]) (rest := []) ⟨C.1, C.2.1, hml, C.2.2.1, C.2.2.2.1⟩ (metC_HW_refused l G ad [(q10, .inr (18, xF (-6)))] _ _ _ _ _ _ _ _ _ _ _ _ _ _ _ _ _ _ _ _ _ _ _ _ _ _ _ _ _ _ _ _ _ _ _ _ _ _ _ _ _ _ _ _ _ _ _ q10 (-6) (List.mem_singleton.mpr rfl) r35 hr35) (cwV (C := RX0) 1 C.2.2.2.1 (lw_V q466 q468 qs2 q80 q469) rfl rfl rfl (by decide +kernel) ⟨Nat.le_of_ble_eq_true rfl, Nat.le_of_ble_eq_true rfl⟩) (t_preX C0 hP hc hq.1 (va_recv C.2.2.2.2.1 hP (ci := 16) (q0 := 0) rfl rfl)) rfl rfl hl.1 rfl (lv_room (Nat.le_of_ble_eq_true rfl)) dX0_last_98 ⟨Nat.le_of_ble_eq_true rfl, Nat.le_of_ble_eq_true rfl⟩) (fun H locs hP hS => ?_)
          obtain rfl := Option.some.inj hE
          exact hret _ _ _ _ dX0_last_101 trivial hP hS
      · have hE := it_f (by rw [hw]; exact fun h => nomatch h) hE
        obtain ⟨q7, rfl⟩ : ∃ z, z = q := ⟨_, rfl⟩
        obtain rfl : w = (r6.getD 0) := by rw [hw]; rfl
        obtain ⟨ce, g1, g2, g3⟩ := t_cell C0 hc rfl
        refine t_catch (name := "HamsterWeekends$Refused") (E := "HamsterWeekends$Refused") C0 D [] ⟨0, 92, 93, 21⟩ [] htab (fun z hz => nomatch hz) rfl (by decide) q291 (List.mem_of_getElem? (i := 1) rfl) g1 g2 g3 ?_
        refine W.eq (g2 := F0 m 93 ls [.ref q7]) rfl ?_
        refine lv_astore (lv' := [(4, .ref q7), (0, .ref (ad 0)), (1, .int p1), (2, .int p2), (3, .int p3)]) C.1 C.2.1 dX0_last_93 hl (by decide) rfl (fun ls hl => ?_)
        refine lv_aload_n C.1 C.2.1 dX0_last_95 rfl (lv_at hl 1 rfl) ?_
        refine lv_aload C.1 C.2.1 dX0_last_96 (lv_at hl 0 rfl) ?_
        obtain ⟨r36, hr36, hE⟩ := it_b hE
        refine n_afterS C.2.2.2.2.2.2.2.1 hS (va_runV (As := [.ref q7]) (rest := []) ⟨C.1, C.2.1, hml, C.2.2.1, C.2.2.2.1⟩ (metC_HW_refused l G ad [(q7, .inr (18, xF (r6.getD 0)))] _ _ _ _ _ _ _ _ _ _ _ _ _ _ _ _ _ _ _ _ _ _ _ _ _ _ _ _ _ _ _ _ _ _ _ _ _ _ _ _ _ _ _ _ _ _ _ q7 (r6.getD 0) (List.mem_singleton.mpr rfl) r36 hr36) (cwV (C := RX0) 1 C.2.2.2.1 (lw_V q466 q468 qs2 q80 q469) rfl rfl rfl (by decide +kernel) ⟨Nat.le_of_ble_eq_true rfl, Nat.le_of_ble_eq_true rfl⟩) (t_preX C0 hP hc hq.1 (va_recv C.2.2.2.2.1 hP (ci := 16) (q0 := 0) rfl rfl)) rfl rfl hl.1 rfl (lv_room (Nat.le_of_ble_eq_true rfl)) dX0_last_98 ⟨Nat.le_of_ble_eq_true rfl, Nat.le_of_ble_eq_true rfl⟩) (fun H locs hP hS => ?_)
        obtain rfl := Option.some.inj hE
        refine W.widen (k := 4) (n := 28) (Nat.le_of_ble_eq_true rfl) (Nat.le_of_ble_eq_true rfl) ?_
        exact hret _ _ _ _ dX0_last_101 trivial hP hS
    · obtain ⟨c4, rfl⟩ := nd_x hw
      obtain ⟨q5, rfl⟩ : ∃ z, z = q := ⟨_, rfl⟩
      have hE := it_t c4 hE
      obtain ⟨ce, g1, g2, g3⟩ := t_cell C0 hc rfl
      refine t_catch (name := "HamsterWeekends$Refused") (E := "HamsterWeekends$Refused") C0 D [] ⟨0, 92, 93, 21⟩ [] htab (fun z hz => nomatch hz) rfl (by decide) q291 (List.mem_of_getElem? (i := 1) rfl) g1 g2 g3 ?_
      refine W.eq (g2 := F0 m 93 ls [.ref q5]) rfl ?_
      refine lv_astore (lv' := [(4, .ref q5), (0, .ref (ad 0)), (1, .int p1), (2, .int p2), (3, .int p3)]) C.1 C.2.1 dX0_last_93 hl (by decide) rfl (fun ls hl => ?_)
      refine lv_aload_n C.1 C.2.1 dX0_last_95 rfl (lv_at hl 1 rfl) ?_
      refine lv_aload C.1 C.2.1 dX0_last_96 (lv_at hl 0 rfl) ?_
      obtain ⟨r37, hr37, hE⟩ := it_b hE
      refine n_afterS C.2.2.2.2.2.2.2.1 hS (va_runV (As := [.ref q5]) (rest := []) ⟨C.1, C.2.1, hml, C.2.2.1, C.2.2.2.1⟩ (metC_HW_refused l G ad [(q5, .inr (18, xF (-5)))] _ _ _ _ _ _ _ _ _ _ _ _ _ _ _ _ _ _ _ _ _ _ _ _ _ _ _ _ _ _ _ _ _ _ _ _ _ _ _ _ _ _ _ _ _ _ _ q5 (-5) (List.mem_singleton.mpr rfl) r37 hr37) (cwV (C := RX0) 1 C.2.2.2.1 (lw_V q466 q468 qs2 q80 q469) rfl rfl rfl (by decide +kernel) ⟨Nat.le_of_ble_eq_true rfl, Nat.le_of_ble_eq_true rfl⟩) (t_preX C0 hP hc hq.1 (va_recv C.2.2.2.2.1 hP (ci := 16) (q0 := 0) rfl rfl)) rfl rfl hl.1 rfl (lv_room (Nat.le_of_ble_eq_true rfl)) dX0_last_98 ⟨Nat.le_of_ble_eq_true rfl, Nat.le_of_ble_eq_true rfl⟩) (fun H locs hP hS => ?_)
      obtain rfl := Option.some.inj hE
      refine W.widen (k := 4) (n := 28) (Nat.le_of_ble_eq_true rfl) (Nat.le_of_ble_eq_true rfl) ?_
      exact hret _ _ _ _ dX0_last_101 trivial hP hS
  · have hE := it_f (by rw [hw]; exact fun h => nomatch h) hE
    obtain ⟨q2, rfl⟩ : ∃ z, z = q := ⟨_, rfl⟩
    obtain rfl : w = (r1.getD 0) := by rw [hw]; rfl
    obtain ⟨ce, g1, g2, g3⟩ := t_cell C0 hc rfl
    refine t_catch (name := "HamsterWeekends$Refused") (E := "HamsterWeekends$Refused") C0 D [] ⟨0, 92, 93, 21⟩ [] htab (fun z hz => nomatch hz) rfl (by decide) q291 (List.mem_of_getElem? (i := 1) rfl) g1 g2 g3 ?_
    refine W.eq (g2 := F0 m 93 ls [.ref q2]) rfl ?_
    refine lv_astore (lv' := [(4, .ref q2), (0, .ref (ad 0)), (1, .int p1), (2, .int p2), (3, .int p3)]) C.1 C.2.1 dX0_last_93 hl (by decide) rfl (fun ls hl => ?_)
    refine lv_aload_n C.1 C.2.1 dX0_last_95 rfl (lv_at hl 1 rfl) ?_
    refine lv_aload C.1 C.2.1 dX0_last_96 (lv_at hl 0 rfl) ?_
    obtain ⟨r38, hr38, hE⟩ := it_b hE
    refine n_afterS C.2.2.2.2.2.2.2.1 hS (va_runV (As := [.ref q2]) (rest := []) ⟨C.1, C.2.1, hml, C.2.2.1, C.2.2.2.1⟩ (metC_HW_refused l G ad [(q2, .inr (18, xF (r1.getD 0)))] _ _ _ _ _ _ _ _ _ _ _ _ _ _ _ _ _ _ _ _ _ _ _ _ _ _ _ _ _ _ _ _ _ _ _ _ _ _ _ _ _ _ _ _ _ _ _ q2 (r1.getD 0) (List.mem_singleton.mpr rfl) r38 hr38) (cwV (C := RX0) 1 C.2.2.2.1 (lw_V q466 q468 qs2 q80 q469) rfl rfl rfl (by decide +kernel) ⟨Nat.le_of_ble_eq_true rfl, Nat.le_of_ble_eq_true rfl⟩) (t_preX C0 hP hc hq.1 (va_recv C.2.2.2.2.1 hP (ci := 16) (q0 := 0) rfl rfl)) rfl rfl hl.1 rfl (lv_room (Nat.le_of_ble_eq_true rfl)) dX0_last_98 ⟨Nat.le_of_ble_eq_true rfl, Nat.le_of_ble_eq_true rfl⟩) (fun H locs hP hS => ?_)
    obtain rfl := Option.some.inj hE
    refine W.widen (k := 4) (n := 28) (Nat.le_of_ble_eq_true rfl) (Nat.le_of_ble_eq_true rfl) ?_
    exact hret _ _ _ _ dX0_last_101 trivial hP hS
def sC_HW_carried (v_refusals : Nat → Int32) (v_tweight : Int32) (v_tfright : Int32) (v_tage : Int32) (v_tasked : Nat → Int32) (v_many : Int32) (v_weight : Int32) (v_fright : Int32) (v_age : Int32) (v_asked : Nat → Int32) (v_homes : Nat → Option Nat) (hk : Nat → Nat) (hb : Nat → Int32) (p1 : Int32) (p2 : Int32) : Option (Int32 × (Nat → Int32) × Int32 × Int32 × Int32 × (Nat → Int32)) :=
  (sC_HW_mustHome v_many p1).bind fun r1 =>
  if r1 = none then
    (sC_HW_in ((p2 : Int32).toInt64) 0 40).bind fun r3 =>
    if r3 = 0 then
      (sC_HW_refused v_refusals (-6)).bind fun r8 =>
      some (((-1000) + r8.1), r8.2, v_tweight, v_tfright, v_tage, v_tasked)
    else
      (sC_HW_weightBehind v_tweight v_tfright v_tage v_tasked v_many v_weight v_fright v_age v_asked v_homes hk hb (-1) p2).bind fun r6 =>
      (sC_HW_weightBehind r6.2.1 r6.2.2.1 r6.2.2.2.1 r6.2.2.2.2 v_many v_weight v_fright v_age v_asked v_homes hk hb p1 p2).bind fun r7 =>
      some ((r6.1 - r7.1), v_refusals, r7.2.1, r7.2.2.1, r7.2.2.2.1, r7.2.2.2.2)
  else
    (sC_HW_refused v_refusals (r1.getD 0)).bind fun r9 =>
    some (((-1000) + r9.1), r9.2, v_tweight, v_tfright, v_tage, v_tasked)
set_option maxHeartbeats 4000000 in
theorem metC_HW_carried (l : Launch) (hfl : l.stackTraces = false) (G : kG) (ad : Nat → Nat) (pl : va_W) (hk : Nat → Nat) (hb : Nat → Int32) (sz : Nat) (v_latestFault : Int32) (v_died : Int32) (v_leastWeight : Int32) (v_noticedBy : Int32) (v_noticed : Int32) (v_orderDied : Int32) (v_orderLeast : Int32) (v_imaged : Option Nat) (v_shelves : Nat → Option Nat) (v_refusals : Nat → Int32) (v_ran : Int32) (v_bodies : Nat → Int32) (v_tweight : Int32) (v_tfright : Int32) (v_tage : Int32) (v_tasked : Nat → Int32) (v_told : Nat → Int32) (v_bestRow : Nat → Int32) (v_weight_a1 : Int32) (v_fright_a1 : Int32) (v_age_a1 : Int32) (v_asked_a1 : Nat → Int32) (v_weight_a2 : Int32) (v_fright_a2 : Int32) (v_age_a2 : Int32) (v_asked_a2 : Nat → Int32) (v_weight_a3 : Int32) (v_fright_a3 : Int32) (v_age_a3 : Int32) (v_asked_a3 : Nat → Int32) (v_weight_a4 : Int32) (v_fright_a4 : Int32) (v_age_a4 : Int32) (v_asked_a4 : Nat → Int32) (v_many : Int32) (v_pets : Int32) (v_last : Int32) (v_seed : Int32) (v_weight : Int32) (v_fright : Int32) (v_age : Int32) (v_asked : Nat → Int32) (v_homes : Nat → Option Nat) (v_marks : Nat → Int32) (v_had : Nat → Int32) (v_allergic : Nat → Int32) (v_deaths : Nat → Int32) (hom : homOK v_homes v_many hk hb pl) (p1 : Int32) (p2 : Int32) (res : Int32 × (Nat → Int32) × Int32 × Int32 × Int32 × (Nat → Int32)) (hE : sC_HW_carried v_refusals v_tweight v_tfright v_tage v_tasked v_many v_weight v_fright v_age v_asked v_homes hk hb p1 p2 = some res) : vx_Met l yX0_carried (wsW_ yX0_carried cX0_carried 4 (some .int) [((0 : Nat), (32 : Nat), (33 : Nat), (21 : Nat))]) ({ frames := 6, cells := 2, slots := 14, locals := 143 } : Room) (rPc G (xW G.2 ad v_latestFault v_died v_leastWeight v_noticedBy v_noticed v_orderDied v_orderLeast v_imaged v_shelves v_refusals v_ran v_bodies v_tweight v_tfright v_tage v_tasked v_told v_bestRow v_weight_a1 v_fright_a1 v_age_a1 v_asked_a1 v_weight_a2 v_fright_a2 v_age_a2 v_asked_a2 v_weight_a3 v_fright_a3 v_age_a3 v_asked_a3 v_weight_a4 v_fright_a4 v_age_a4 v_asked_a4 v_many v_pets v_last v_seed v_weight v_fright v_age v_asked v_homes v_marks v_had v_allergic v_deaths) pl (xWV ad) sz [.ref (ad 0), .int p1, .int p2]) (tQc G (xW G.2 ad v_latestFault v_died v_leastWeight v_noticedBy v_noticed v_orderDied v_orderLeast v_imaged v_shelves res.2.1 v_ran v_bodies res.2.2.1 res.2.2.2.1 res.2.2.2.2.1 res.2.2.2.2.2 v_told v_bestRow v_weight_a1 v_fright_a1 v_age_a1 v_asked_a1 v_weight_a2 v_fright_a2 v_age_a2 v_asked_a2 v_weight_a3 v_fright_a3 v_age_a3 v_asked_a3 v_weight_a4 v_fright_a4 v_age_a4 v_asked_a4 v_many v_pets v_last v_seed v_weight v_fright v_age v_asked v_homes v_marks v_had v_allergic v_deaths) [] (tA sz (xWV ad) []) (True) (some (.int res.1))) (tXC G (xW G.2 ad v_latestFault v_died v_leastWeight v_noticedBy v_noticed v_orderDied v_orderLeast v_imaged v_shelves res.2.1 v_ran v_bodies res.2.2.1 res.2.2.2.1 res.2.2.2.2.1 res.2.2.2.2.2 v_told v_bestRow v_weight_a1 v_fright_a1 v_age_a1 v_asked_a1 v_weight_a2 v_fright_a2 v_age_a2 v_asked_a2 v_weight_a3 v_fright_a3 v_age_a3 v_asked_a3 v_weight_a4 v_fright_a4 v_age_a4 v_asked_a4 v_many v_pets v_last v_seed v_weight v_fright v_age v_asked v_homes v_marks v_had v_allergic v_deaths) [] (tA sz (xWV ad) []) 18 RX6 none sz) 2 14 (tA sz (xWV ad) []) := by
  refine r_ofWH (own := RX0) (by decide) rfl (Nat.le_of_ble_eq_true rfl) ?_
  intro p e s m args below meth c ls C C0 D hml htab hP hS hl hr hlocks hsz
  have hl : lv_has ls 4 [(0, .ref (ad 0)), (1, .int p1), (2, .int p2)] := hl
  obtain ⟨Q, hQ⟩ : ∃ Q, Q = vx_MQ below (tQc G (xW G.2 ad v_latestFault v_died v_leastWeight v_noticedBy v_noticed v_orderDied v_orderLeast v_imaged v_shelves res.2.1 v_ran v_bodies res.2.2.1 res.2.2.2.1 res.2.2.2.2.1 res.2.2.2.2.2 v_told v_bestRow v_weight_a1 v_fright_a1 v_age_a1 v_asked_a1 v_weight_a2 v_fright_a2 v_age_a2 v_asked_a2 v_weight_a3 v_fright_a3 v_age_a3 v_asked_a3 v_weight_a4 v_fright_a4 v_age_a4 v_asked_a4 v_many v_pets v_last v_seed v_weight v_fright v_age v_asked v_homes v_marks v_had v_allergic v_deaths) [] (tA sz (xWV ad) []) (True) (some (.int res.1))) (tXC G (xW G.2 ad v_latestFault v_died v_leastWeight v_noticedBy v_noticed v_orderDied v_orderLeast v_imaged v_shelves res.2.1 v_ran v_bodies res.2.2.1 res.2.2.2.1 res.2.2.2.2.1 res.2.2.2.2.2 v_told v_bestRow v_weight_a1 v_fright_a1 v_age_a1 v_asked_a1 v_weight_a2 v_fright_a2 v_age_a2 v_asked_a2 v_weight_a3 v_fright_a3 v_age_a3 v_asked_a3 v_weight_a4 v_fright_a4 v_age_a4 v_asked_a4 v_many v_pets v_last v_seed v_weight v_fright v_age v_asked v_homes v_marks v_had v_allergic v_deaths) [] (tA sz (xWV ad) []) 18 RX6 none sz) args s 2 14 (tA sz (xWV ad) []) := ⟨_, rfl⟩
  rw [← hQ]
  have hret : ∀ (pc : Nat) (ls : Array Slot) (H : Heap) (locs : List Loc), decode cX0_carried pc = .ok (.ireturn, 1) → True → va_P G.1 vwCl (xW G.2 ad v_latestFault v_died v_leastWeight v_noticedBy v_noticed v_orderDied v_orderLeast v_imaged v_shelves res.2.1 v_ran v_bodies res.2.2.1 res.2.2.2.1 res.2.2.2.2.1 res.2.2.2.2.2 v_told v_bestRow v_weight_a1 v_fright_a1 v_age_a1 v_asked_a1 v_weight_a2 v_fright_a2 v_age_a2 v_asked_a2 v_weight_a3 v_fright_a3 v_age_a3 v_asked_a3 v_weight_a4 v_fright_a4 v_age_a4 v_asked_a4 v_many v_pets v_last v_seed v_weight v_fright v_age v_asked v_homes v_marks v_had v_allergic v_deaths) H → va_S (tA sz (xWV ad) []) s.heap H locs → W p l e ({ frames := 6, cells := 2, slots := 14, locals := 143 } : Room) s m args below meth c H locs 2 14 Q (F0 m pc ls [(.int res.1)]) := by
    intro pc ls H locs hd hφ hP hS
    rw [hQ]
    exact t_iret C0 hr hlocks hd hφ hP P_nil hS
  clear hQ
  obtain ⟨H, hH⟩ : ∃ H, H = s.heap := ⟨_, rfl⟩
  obtain ⟨locs, hlo⟩ : ∃ locs : List Loc, locs = [] := ⟨_, rfl⟩
  have hP : va_P G.1 vwCl (xW G.2 ad v_latestFault v_died v_leastWeight v_noticedBy v_noticed v_orderDied v_orderLeast v_imaged v_shelves v_refusals v_ran v_bodies v_tweight v_tfright v_tage v_tasked v_told v_bestRow v_weight_a1 v_fright_a1 v_age_a1 v_asked_a1 v_weight_a2 v_fright_a2 v_age_a2 v_asked_a2 v_weight_a3 v_fright_a3 v_age_a3 v_asked_a3 v_weight_a4 v_fright_a4 v_age_a4 v_asked_a4 v_many v_pets v_last v_seed v_weight v_fright v_age v_asked v_homes v_marks v_had v_allergic v_deaths) H := by rw [hH]; exact hP
  have hS : va_S (tA sz (xWV ad) []) s.heap H locs := by rw [hH, hlo]; exact hS
  suffices hZ : W p l e ({ frames := 6, cells := 2, slots := 14, locals := 143 } : Room) s m args below meth c H locs 0 0 Q (F0 m 0 ls []) by rw [hH, hlo] at hZ; exact hZ
  clear hH hlo
  unfold sC_HW_carried at hE
  refine lv_aload_n C.1 C.2.1 dX0_carried_0 rfl (lv_at hl 0 rfl) ?_
  refine lv_iload_n C.1 C.2.1 dX0_carried_1 rfl (lv_at hl 1 rfl) ?_
  obtain ⟨r1, hr1, hE⟩ := it_b hE
  refine t_afterS C0 D hP P_nil hS (vx_runV (As := [.int p1]) (rest := []) ⟨C.1, C.2.1, hml, C.2.2.1, C.2.2.2.1⟩ (metC_HW_mustHome l hfl G ad pl H.size _ _ _ _ _ _ _ _ _ _ _ _ _ _ _ _ _ _ _ _ _ _ _ _ _ _ _ _ _ _ _ _ _ _ _ _ _ _ _ _ _ _ _ _ _ _ _ p1 r1 hr1) (cwV (C := RX0) 1 C.2.2.2.1 (lw_V q577 q579 qs3 q80 q580) rfl rfl rfl (by decide +kernel) ⟨Nat.le_of_ble_eq_true rfl, Nat.le_of_ble_eq_true rfl⟩) (rr_preV0 C D hP hS (va_recv C.2.2.2.2.1 hP (ci := 16) (q0 := 0) rfl rfl)) rfl rfl hl.1 rfl (lv_room (Nat.le_of_ble_eq_true rfl)) dX0_carried_2 ⟨Nat.le_of_ble_eq_true rfl, Nat.le_of_ble_eq_true rfl⟩) xW_av (fun hφ H locs hP _ hS => ?_) (fun w q H locs hw hq hc hP _ hS => ?_)
  · have hE := it_t hφ hE
    refine lv_iload_n C.1 C.2.1 dX0_carried_5 rfl (lv_at hl 2 rfl) ?_
    refine lv_i2l C.1 C.2.1 dX0_carried_6 rfl ?_
    refine lv_lconst (v := 0) C.1 C.2.1 dX0_carried_7 (by decide) ?_
    refine lv_ldc2 C.1 C.2.1 C.2.2.1 (C.2.2.2.1 _ q1166) dX0_carried_8 ?_
    obtain ⟨r3, hr3, hE⟩ := it_b hE
    refine n_after [] C.2.2.2.2.2.1 C.2.2.2.2.2.2.2.1 hP hS (va_runS (As := [.long ((p2 : Int32).toInt64), .long 0, .long 40]) (rest := []) ⟨C.1, C.2.1, hml, C.2.2.1, C.2.2.2.1⟩ (metC_HW_in l G ad pl  ((p2 : Int32).toInt64) 0 40  r3 hr3) (va_cwS 3 C.2.2.2.1 (lw_S q401 q402 q80 q403) rfl rfl rfl (by decide +kernel) ⟨Nat.le_of_ble_eq_true rfl, Nat.le_of_ble_eq_true rfl⟩) (n_preS C hP hS [] rfl (by decide) rfl) rfl rfl hl.1 rfl (lv_room (Nat.le_of_ble_eq_true rfl)) dX0_carried_11 ⟨Nat.le_of_ble_eq_true rfl, Nat.le_of_ble_eq_true rfl⟩) xW_av rfl rfl rfl (fun H locs hP hS => ?_)
    refine lv_bipush (v := (-6)) C.1 C.2.1 dX0_carried_14 (by decide) ?_
    refine t_after [] C0 D hP P_nil hS (vx_runS (As := [.int r3, .int (-6)]) (rest := []) ⟨C.1, C.2.1, hml, C.2.2.1, C.2.2.2.1⟩ (metC_HW_need l hfl G ad pl H.size r3 (-6) _ (need_eq _ _)) (va_cwS 2 C.2.2.2.1 (lw_S q397 q398 q80 q399) rfl rfl rfl (by decide +kernel) ⟨Nat.le_of_ble_eq_true rfl, Nat.le_of_ble_eq_true rfl⟩) (rr_preS C D hP hS [] rfl (by decide) rfl) rfl rfl hl.1 rfl (lv_room (Nat.le_of_ble_eq_true rfl)) dX0_carried_16 ⟨Nat.le_of_ble_eq_true rfl, Nat.le_of_ble_eq_true rfl⟩) xW_av rfl rfl rfl (fun hφ H locs hP _ hS => ?_) (fun w q H locs hw hq hc hP _ hS => ?_)
    · have hE := it_f (nd_n hφ) hE
      refine lv_aload_n C.1 C.2.1 dX0_carried_19 rfl (lv_at hl 0 rfl) ?_
      refine lv_iconst (v := (-1)) C.1 C.2.1 dX0_carried_20 (by decide) ?_
      refine lv_iload_n C.1 C.2.1 dX0_carried_21 rfl (lv_at hl 2 rfl) ?_
      obtain ⟨r6, hr6, hE⟩ := it_b hE
      refine n_afterS C.2.2.2.2.2.2.2.1 hS (va_runV (As := [.int (-1), .int p2]) (rest := []) ⟨C.1, C.2.1, hml, C.2.2.1, C.2.2.2.1⟩ (metC_HW_weightBehind l G ad pl hk hb _ _ _ _ _ _ _ _ _ _ _ _ _ _ _ _ _ _ _ _ _ _ _ _ _ _ _ _ _ _ _ _ _ _ _ _ _ _ _ _ _ _ _ _ _ _ _ hom (-1) p2  r6 hr6) (cwV (C := RX0) 2 C.2.2.2.1 (lw_V q1167 q1169 qs29 q80 q1170) rfl rfl rfl (by decide +kernel) ⟨Nat.le_of_ble_eq_true rfl, Nat.le_of_ble_eq_true rfl⟩) (n_preV0 C hP hS (va_recv C.2.2.2.2.1 hP (ci := 16) (q0 := 0) rfl rfl)) rfl rfl hl.1 rfl (lv_room (Nat.le_of_ble_eq_true rfl)) dX0_carried_22 ⟨Nat.le_of_ble_eq_true rfl, Nat.le_of_ble_eq_true rfl⟩) (fun H locs hP hS => ?_)
      refine lv_aload_n C.1 C.2.1 dX0_carried_25 rfl (lv_at hl 0 rfl) ?_
      refine lv_iload_n C.1 C.2.1 dX0_carried_26 rfl (lv_at hl 1 rfl) ?_
      refine lv_iload_n C.1 C.2.1 dX0_carried_27 rfl (lv_at hl 2 rfl) ?_
      obtain ⟨r7, hr7, hE⟩ := it_b hE
      refine n_afterS C.2.2.2.2.2.2.2.1 hS (va_runV (As := [.int p1, .int p2]) (rest := [.int r6.1]) ⟨C.1, C.2.1, hml, C.2.2.1, C.2.2.2.1⟩ (metC_HW_weightBehind l G ad pl hk hb _ _ _ _ _ _ _ _ _ _ _ _ _ _ _ _ _ _ _ _ _ _ _ _ _ _ _ _ _ _ _ _ _ _ _ _ _ _ _ _ _ _ _ _ _ _ _ hom p1 p2  r7 hr7) (cwV (C := RX0) 2 C.2.2.2.1 (lw_V q1167 q1169 qs29 q80 q1170) rfl rfl rfl (by decide +kernel) ⟨Nat.le_of_ble_eq_true rfl, Nat.le_of_ble_eq_true rfl⟩) (n_preV0 C hP hS (va_recv C.2.2.2.2.1 hP (ci := 16) (q0 := 0) rfl rfl)) rfl rfl hl.1 rfl (lv_room (Nat.le_of_ble_eq_true rfl)) dX0_carried_28 ⟨Nat.le_of_ble_eq_true rfl, Nat.le_of_ble_eq_true rfl⟩) (fun H locs hP hS => ?_)
      refine lv_isub C.1 C.2.1 dX0_carried_31 ?_
      obtain rfl := Option.some.inj hE
      exact hret _ _ _ _ dX0_carried_32 trivial hP hS
    · obtain ⟨c4, rfl⟩ := nd_x hw
      obtain ⟨q5, rfl⟩ : ∃ z, z = q := ⟨_, rfl⟩
      have hE := it_t c4 hE
      obtain ⟨ce, g1, g2, g3⟩ := t_cell C0 hc rfl
      refine t_catch (name := "HamsterWeekends$Refused") (E := "HamsterWeekends$Refused") C0 D [] ⟨0, 32, 33, 21⟩ [] htab (fun z hz => nomatch hz) rfl (by decide) q291 (List.mem_of_getElem? (i := 1) rfl) g1 g2 g3 ?_
      refine W.eq (g2 := F0 m 33 ls [.ref q5]) rfl ?_
      refine lv_astore_n (lv' := [(3, .ref q5), (0, .ref (ad 0)), (1, .int p1), (2, .int p2)]) C.1 C.2.1 dX0_carried_33 rfl hl (by decide) rfl (fun ls hl => ?_)
      refine lv_sipush (v := (-1000)) C.1 C.2.1 dX0_carried_34 (by decide) ?_
      refine lv_aload_n C.1 C.2.1 dX0_carried_37 rfl (lv_at hl 1 rfl) ?_
      refine lv_aload_n C.1 C.2.1 dX0_carried_38 rfl (lv_at hl 0 rfl) ?_
      obtain ⟨r8, hr8, hE⟩ := it_b hE
      refine n_afterS C.2.2.2.2.2.2.2.1 hS (va_runV (As := [.ref q5]) (rest := [.int (-1000)]) ⟨C.1, C.2.1, hml, C.2.2.1, C.2.2.2.1⟩ (metC_HW_refused l G ad [(q5, .inr (18, xF (-6)))] _ _ _ _ _ _ _ _ _ _ _ _ _ _ _ _ _ _ _ _ _ _ _ _ _ _ _ _ _ _ _ _ _ _ _ _ _ _ _ _ _ _ _ _ _ _ _ q5 (-6) (List.mem_singleton.mpr rfl) r8 hr8) (cwV (C := RX0) 1 C.2.2.2.1 (lw_V q466 q468 qs2 q80 q469) rfl rfl rfl (by decide +kernel) ⟨Nat.le_of_ble_eq_true rfl, Nat.le_of_ble_eq_true rfl⟩) (t_preX C0 hP hc hq.1 (va_recv C.2.2.2.2.1 hP (ci := 16) (q0 := 0) rfl rfl)) rfl rfl hl.1 rfl (lv_room (Nat.le_of_ble_eq_true rfl)) dX0_carried_39 ⟨Nat.le_of_ble_eq_true rfl, Nat.le_of_ble_eq_true rfl⟩) (fun H locs hP hS => ?_)
      refine lv_iadd C.1 C.2.1 dX0_carried_42 ?_
      obtain rfl := Option.some.inj hE
      exact hret _ _ _ _ dX0_carried_43 trivial hP hS
  · have hE := it_f (by rw [hw]; exact fun h => nomatch h) hE
    obtain ⟨q2, rfl⟩ : ∃ z, z = q := ⟨_, rfl⟩
    obtain rfl : w = (r1.getD 0) := by rw [hw]; rfl
    obtain ⟨ce, g1, g2, g3⟩ := t_cell C0 hc rfl
    refine t_catch (name := "HamsterWeekends$Refused") (E := "HamsterWeekends$Refused") C0 D [] ⟨0, 32, 33, 21⟩ [] htab (fun z hz => nomatch hz) rfl (by decide) q291 (List.mem_of_getElem? (i := 1) rfl) g1 g2 g3 ?_
    refine W.eq (g2 := F0 m 33 ls [.ref q2]) rfl ?_
    refine lv_astore_n (lv' := [(3, .ref q2), (0, .ref (ad 0)), (1, .int p1), (2, .int p2)]) C.1 C.2.1 dX0_carried_33 rfl hl (by decide) rfl (fun ls hl => ?_)
    refine lv_sipush (v := (-1000)) C.1 C.2.1 dX0_carried_34 (by decide) ?_
    refine lv_aload_n C.1 C.2.1 dX0_carried_37 rfl (lv_at hl 1 rfl) ?_
    refine lv_aload_n C.1 C.2.1 dX0_carried_38 rfl (lv_at hl 0 rfl) ?_
    obtain ⟨r9, hr9, hE⟩ := it_b hE
    refine n_afterS C.2.2.2.2.2.2.2.1 hS (va_runV (As := [.ref q2]) (rest := [.int (-1000)]) ⟨C.1, C.2.1, hml, C.2.2.1, C.2.2.2.1⟩ (metC_HW_refused l G ad [(q2, .inr (18, xF (r1.getD 0)))] _ _ _ _ _ _ _ _ _ _ _ _ _ _ _ _ _ _ _ _ _ _ _ _ _ _ _ _ _ _ _ _ _ _ _ _ _ _ _ _ _ _ _ _ _ _ _ q2 (r1.getD 0) (List.mem_singleton.mpr rfl) r9 hr9) (cwV (C := RX0) 1 C.2.2.2.1 (lw_V q466 q468 qs2 q80 q469) rfl rfl rfl (by decide +kernel) ⟨Nat.le_of_ble_eq_true rfl, Nat.le_of_ble_eq_true rfl⟩) (t_preX C0 hP hc hq.1 (va_recv C.2.2.2.2.1 hP (ci := 16) (q0 := 0) rfl rfl)) rfl rfl hl.1 rfl (lv_room (Nat.le_of_ble_eq_true rfl)) dX0_carried_39 ⟨Nat.le_of_ble_eq_true rfl, Nat.le_of_ble_eq_true rfl⟩) (fun H locs hP hS => ?_)
    refine lv_iadd C.1 C.2.1 dX0_carried_42 ?_
    obtain rfl := Option.some.inj hE
    refine W.widen (k := 2) (n := 14) (Nat.le_of_ble_eq_true rfl) (Nat.le_of_ble_eq_true rfl) ?_
    exact hret _ _ _ _ dX0_carried_43 trivial hP hS
def sC_HW_week (v_refusals : Nat → Int32) (v_many : Int32) (v_pets : Int32) (v_last : Int32) (v_weight : Int32) (v_fright : Int32) (v_age : Int32) (v_asked : Nat → Int32) (v_homes : Nat → Option Nat) (v_had : Nat → Int32) (v_allergic : Nat → Int32) (v_deaths : Nat → Int32) (hk : Nat → Nat) (hb : Nat → Int32) (p1 : Int32) : Option (Int32 × (Nat → Int32) × Int32 × Int32 × Int32 × Int32 × Int32 × (Nat → Int32) × (Nat → Int32)) :=
  @Option.bind (Bool) _ (
    if p1 = (-1) then
      some true
    else
      (sC_Room_isHome v_many p1).bind fun r3 =>
      if r3 = 0 then
        some false
      else
        some true) fun u2 =>
  if u2 = true then
    @Option.bind (Bool) _ (
      if p1 = (-1) then
        some true
      else
        (sC_Room_may v_many v_allergic p1).bind fun r9 =>
        if r9 = 0 then
          some false
        else
          some true) fun u8 =>
    if u8 = true then
      (sC_Room_week v_many v_pets v_last v_weight v_fright v_age v_asked v_homes v_had v_deaths hk hb p1).bind fun r13 =>
      if r13.1 = (-1) then
        some (r13.2.2.2.1, v_refusals, r13.2.1, r13.2.2.1, r13.2.2.2.1, r13.2.2.2.2.1, r13.2.2.2.2.2.1, r13.2.2.2.2.2.2.1, r13.2.2.2.2.2.2.2)
      else
        some ((-1), v_refusals, r13.2.1, r13.2.2.1, r13.2.2.2.1, r13.2.2.2.2.1, r13.2.2.2.2.2.1, r13.2.2.2.2.2.2.1, r13.2.2.2.2.2.2.2)
    else
      (sC_HW_refused v_refusals (-6)).bind fun r17 =>
      some ((r17.1 - 10), r17.2, v_pets, v_last, v_weight, v_fright, v_age, v_had, v_deaths)
  else
    (sC_HW_refused v_refusals (-1)).bind fun r20 =>
    some ((r20.1 - 10), r20.2, v_pets, v_last, v_weight, v_fright, v_age, v_had, v_deaths)
set_option maxHeartbeats 4000000 in
theorem metC_HW_week (l : Launch) (hfl : l.stackTraces = false) (G : kG) (ad : Nat → Nat) (pl : va_W) (hk : Nat → Nat) (hb : Nat → Int32) (sz : Nat) (v_latestFault : Int32) (v_died : Int32) (v_leastWeight : Int32) (v_noticedBy : Int32) (v_noticed : Int32) (v_orderDied : Int32) (v_orderLeast : Int32) (v_imaged : Option Nat) (v_shelves : Nat → Option Nat) (v_refusals : Nat → Int32) (v_ran : Int32) (v_bodies : Nat → Int32) (v_tweight : Int32) (v_tfright : Int32) (v_tage : Int32) (v_tasked : Nat → Int32) (v_told : Nat → Int32) (v_bestRow : Nat → Int32) (v_weight_a1 : Int32) (v_fright_a1 : Int32) (v_age_a1 : Int32) (v_asked_a1 : Nat → Int32) (v_weight_a2 : Int32) (v_fright_a2 : Int32) (v_age_a2 : Int32) (v_asked_a2 : Nat → Int32) (v_weight_a3 : Int32) (v_fright_a3 : Int32) (v_age_a3 : Int32) (v_asked_a3 : Nat → Int32) (v_weight_a4 : Int32) (v_fright_a4 : Int32) (v_age_a4 : Int32) (v_asked_a4 : Nat → Int32) (v_many : Int32) (v_pets : Int32) (v_last : Int32) (v_seed : Int32) (v_weight : Int32) (v_fright : Int32) (v_age : Int32) (v_asked : Nat → Int32) (v_homes : Nat → Option Nat) (v_marks : Nat → Int32) (v_had : Nat → Int32) (v_allergic : Nat → Int32) (v_deaths : Nat → Int32) (hom : homOK v_homes v_many hk hb pl) (p1 : Int32) (res : Int32 × (Nat → Int32) × Int32 × Int32 × Int32 × Int32 × Int32 × (Nat → Int32) × (Nat → Int32)) (hE : sC_HW_week v_refusals v_many v_pets v_last v_weight v_fright v_age v_asked v_homes v_had v_allergic v_deaths hk hb p1 = some res) : vx_Met l yX0_week (wsW_ yX0_week cX0_week 3 (some .int) [((0 : Nat), (77 : Nat), (78 : Nat), (21 : Nat))]) ({ frames := 6, cells := 2, slots := 14, locals := 128 } : Room) (rPc G (xW G.2 ad v_latestFault v_died v_leastWeight v_noticedBy v_noticed v_orderDied v_orderLeast v_imaged v_shelves v_refusals v_ran v_bodies v_tweight v_tfright v_tage v_tasked v_told v_bestRow v_weight_a1 v_fright_a1 v_age_a1 v_asked_a1 v_weight_a2 v_fright_a2 v_age_a2 v_asked_a2 v_weight_a3 v_fright_a3 v_age_a3 v_asked_a3 v_weight_a4 v_fright_a4 v_age_a4 v_asked_a4 v_many v_pets v_last v_seed v_weight v_fright v_age v_asked v_homes v_marks v_had v_allergic v_deaths) pl (xWV ad) sz [.ref (ad 0), .int p1]) (tQc G (xW G.2 ad v_latestFault v_died v_leastWeight v_noticedBy v_noticed v_orderDied v_orderLeast v_imaged v_shelves res.2.1 v_ran v_bodies v_tweight v_tfright v_tage v_tasked v_told v_bestRow v_weight_a1 v_fright_a1 v_age_a1 v_asked_a1 v_weight_a2 v_fright_a2 v_age_a2 v_asked_a2 v_weight_a3 v_fright_a3 v_age_a3 v_asked_a3 v_weight_a4 v_fright_a4 v_age_a4 v_asked_a4 v_many res.2.2.1 res.2.2.2.1 v_seed res.2.2.2.2.1 res.2.2.2.2.2.1 res.2.2.2.2.2.2.1 v_asked v_homes v_marks res.2.2.2.2.2.2.2.1 v_allergic res.2.2.2.2.2.2.2.2) [] (tA sz (xWV ad) []) (True) (some (.int res.1))) (tXC G (xW G.2 ad v_latestFault v_died v_leastWeight v_noticedBy v_noticed v_orderDied v_orderLeast v_imaged v_shelves res.2.1 v_ran v_bodies v_tweight v_tfright v_tage v_tasked v_told v_bestRow v_weight_a1 v_fright_a1 v_age_a1 v_asked_a1 v_weight_a2 v_fright_a2 v_age_a2 v_asked_a2 v_weight_a3 v_fright_a3 v_age_a3 v_asked_a3 v_weight_a4 v_fright_a4 v_age_a4 v_asked_a4 v_many res.2.2.1 res.2.2.2.1 v_seed res.2.2.2.2.1 res.2.2.2.2.2.1 res.2.2.2.2.2.2.1 v_asked v_homes v_marks res.2.2.2.2.2.2.2.1 v_allergic res.2.2.2.2.2.2.2.2) [] (tA sz (xWV ad) []) 18 RX6 none sz) 2 14 (tA sz (xWV ad) []) := by
  refine r_ofWH (own := RX0) (by decide) rfl (Nat.le_of_ble_eq_true rfl) ?_
  intro p e s m args below meth c ls C C0 D hml htab hP hS hl hr hlocks hsz
  have hl : lv_has ls 3 [(0, .ref (ad 0)), (1, .int p1)] := hl
  obtain ⟨Q, hQ⟩ : ∃ Q, Q = vx_MQ below (tQc G (xW G.2 ad v_latestFault v_died v_leastWeight v_noticedBy v_noticed v_orderDied v_orderLeast v_imaged v_shelves res.2.1 v_ran v_bodies v_tweight v_tfright v_tage v_tasked v_told v_bestRow v_weight_a1 v_fright_a1 v_age_a1 v_asked_a1 v_weight_a2 v_fright_a2 v_age_a2 v_asked_a2 v_weight_a3 v_fright_a3 v_age_a3 v_asked_a3 v_weight_a4 v_fright_a4 v_age_a4 v_asked_a4 v_many res.2.2.1 res.2.2.2.1 v_seed res.2.2.2.2.1 res.2.2.2.2.2.1 res.2.2.2.2.2.2.1 v_asked v_homes v_marks res.2.2.2.2.2.2.2.1 v_allergic res.2.2.2.2.2.2.2.2) [] (tA sz (xWV ad) []) (True) (some (.int res.1))) (tXC G (xW G.2 ad v_latestFault v_died v_leastWeight v_noticedBy v_noticed v_orderDied v_orderLeast v_imaged v_shelves res.2.1 v_ran v_bodies v_tweight v_tfright v_tage v_tasked v_told v_bestRow v_weight_a1 v_fright_a1 v_age_a1 v_asked_a1 v_weight_a2 v_fright_a2 v_age_a2 v_asked_a2 v_weight_a3 v_fright_a3 v_age_a3 v_asked_a3 v_weight_a4 v_fright_a4 v_age_a4 v_asked_a4 v_many res.2.2.1 res.2.2.2.1 v_seed res.2.2.2.2.1 res.2.2.2.2.2.1 res.2.2.2.2.2.2.1 v_asked v_homes v_marks res.2.2.2.2.2.2.2.1 v_allergic res.2.2.2.2.2.2.2.2) [] (tA sz (xWV ad) []) 18 RX6 none sz) args s 2 14 (tA sz (xWV ad) []) := ⟨_, rfl⟩
  rw [← hQ]
  have hret : ∀ (pc : Nat) (ls : Array Slot) (H : Heap) (locs : List Loc), decode cX0_week pc = .ok (.ireturn, 1) → True → va_P G.1 vwCl (xW G.2 ad v_latestFault v_died v_leastWeight v_noticedBy v_noticed v_orderDied v_orderLeast v_imaged v_shelves res.2.1 v_ran v_bodies v_tweight v_tfright v_tage v_tasked v_told v_bestRow v_weight_a1 v_fright_a1 v_age_a1 v_asked_a1 v_weight_a2 v_fright_a2 v_age_a2 v_asked_a2 v_weight_a3 v_fright_a3 v_age_a3 v_asked_a3 v_weight_a4 v_fright_a4 v_age_a4 v_asked_a4 v_many res.2.2.1 res.2.2.2.1 v_seed res.2.2.2.2.1 res.2.2.2.2.2.1 res.2.2.2.2.2.2.1 v_asked v_homes v_marks res.2.2.2.2.2.2.2.1 v_allergic res.2.2.2.2.2.2.2.2) H → va_S (tA sz (xWV ad) []) s.heap H locs → W p l e ({ frames := 6, cells := 2, slots := 14, locals := 128 } : Room) s m args below meth c H locs 2 14 Q (F0 m pc ls [(.int res.1)]) := by
    intro pc ls H locs hd hφ hP hS
    rw [hQ]
    exact t_iret C0 hr hlocks hd hφ hP P_nil hS
  clear hQ
  obtain ⟨H, hH⟩ : ∃ H, H = s.heap := ⟨_, rfl⟩
  obtain ⟨locs, hlo⟩ : ∃ locs : List Loc, locs = [] := ⟨_, rfl⟩
  have hP : va_P G.1 vwCl (xW G.2 ad v_latestFault v_died v_leastWeight v_noticedBy v_noticed v_orderDied v_orderLeast v_imaged v_shelves v_refusals v_ran v_bodies v_tweight v_tfright v_tage v_tasked v_told v_bestRow v_weight_a1 v_fright_a1 v_age_a1 v_asked_a1 v_weight_a2 v_fright_a2 v_age_a2 v_asked_a2 v_weight_a3 v_fright_a3 v_age_a3 v_asked_a3 v_weight_a4 v_fright_a4 v_age_a4 v_asked_a4 v_many v_pets v_last v_seed v_weight v_fright v_age v_asked v_homes v_marks v_had v_allergic v_deaths) H := by rw [hH]; exact hP
  have hS : va_S (tA sz (xWV ad) []) s.heap H locs := by rw [hH, hlo]; exact hS
  suffices hZ : W p l e ({ frames := 6, cells := 2, slots := 14, locals := 128 } : Room) s m args below meth c H locs 0 0 Q (F0 m 0 ls []) by rw [hH, hlo] at hZ; exact hZ
  clear hH hlo
  unfold sC_HW_week at hE
  refine lv_iload_n C.1 C.2.1 dX0_week_0 rfl (lv_at hl 1 rfl) ?_
  refine lv_iconst (v := (-1)) C.1 C.2.1 dX0_week_1 (by decide) ?_
  obtain ⟨u2, hR, hE⟩ := it_b hE
  have hJ16u2 : u2 = true → ∀ (H : Heap) (locs : List Loc) (ls : Array Slot), va_P G.1 vwCl (xW G.2 ad v_latestFault v_died v_leastWeight v_noticedBy v_noticed v_orderDied v_orderLeast v_imaged v_shelves v_refusals v_ran v_bodies v_tweight v_tfright v_tage v_tasked v_told v_bestRow v_weight_a1 v_fright_a1 v_age_a1 v_asked_a1 v_weight_a2 v_fright_a2 v_age_a2 v_asked_a2 v_weight_a3 v_fright_a3 v_age_a3 v_asked_a3 v_weight_a4 v_fright_a4 v_age_a4 v_asked_a4 v_many v_pets v_last v_seed v_weight v_fright v_age v_asked v_homes v_marks v_had v_allergic v_deaths) H → va_S (tA sz (xWV ad) []) s.heap H locs → lv_has ls 3 [(0, .ref (ad 0)), (1, .int p1)] → W p l e ({ frames := 6, cells := 2, slots := 14, locals := 128 } : Room) s m args below meth c H locs 0 0 Q (F0 m 16 ls []) := by
    intro hu H locs ls hP hS hl
    have hE := it_t hu hE
    refine lv_iconst (v := 1) C.1 C.2.1 dX0_week_16 (by decide) ?_
    refine lv_goto (tgt := 21) C.1 C.2.1 dX0_week_17 (by decide) ?_
    refine lv_iconst (v := (-1)) C.1 C.2.1 dX0_week_21 (by decide) ?_
    refine t_after [] C0 D hP P_nil hS (vx_runS (As := [.int 1, .int (-1)]) (rest := []) ⟨C.1, C.2.1, hml, C.2.2.1, C.2.2.2.1⟩ (metC_HW_need l hfl G ad pl H.size 1 (-1) _ (need_eq _ _)) (va_cwS 2 C.2.2.2.1 (lw_S q397 q398 q80 q399) rfl rfl rfl (by decide +kernel) ⟨Nat.le_of_ble_eq_true rfl, Nat.le_of_ble_eq_true rfl⟩) (rr_preS C D hP hS [] rfl (by decide) rfl) rfl rfl hl.1 rfl (lv_room (Nat.le_of_ble_eq_true rfl)) dX0_week_22 ⟨Nat.le_of_ble_eq_true rfl, Nat.le_of_ble_eq_true rfl⟩) xW_av rfl rfl rfl (fun hφ H locs hP _ hS => ?_) (fun w q H locs hw hq hc hP _ hS => ?_)
    rotate_left
    · exact absurd (nd_x hw).1 (by decide)
    refine lv_iload_n C.1 C.2.1 dX0_week_25 rfl (lv_at hl 1 rfl) ?_
    refine lv_iconst (v := (-1)) C.1 C.2.1 dX0_week_26 (by decide) ?_
    obtain ⟨u8, hR, hE⟩ := it_b hE
    have hJ41u8 : u8 = true → ∀ (H : Heap) (locs : List Loc) (ls : Array Slot), va_P G.1 vwCl (xW G.2 ad v_latestFault v_died v_leastWeight v_noticedBy v_noticed v_orderDied v_orderLeast v_imaged v_shelves v_refusals v_ran v_bodies v_tweight v_tfright v_tage v_tasked v_told v_bestRow v_weight_a1 v_fright_a1 v_age_a1 v_asked_a1 v_weight_a2 v_fright_a2 v_age_a2 v_asked_a2 v_weight_a3 v_fright_a3 v_age_a3 v_asked_a3 v_weight_a4 v_fright_a4 v_age_a4 v_asked_a4 v_many v_pets v_last v_seed v_weight v_fright v_age v_asked v_homes v_marks v_had v_allergic v_deaths) H → va_S (tA sz (xWV ad) []) s.heap H locs → lv_has ls 3 [(0, .ref (ad 0)), (1, .int p1)] → W p l e ({ frames := 6, cells := 2, slots := 14, locals := 128 } : Room) s m args below meth c H locs 1 7 Q (F0 m 41 ls []) := by
      intro hu H locs ls hP hS hl
      have hE := it_t hu hE
      refine lv_iconst (v := 1) C.1 C.2.1 dX0_week_41 (by decide) ?_
      refine lv_goto (tgt := 46) C.1 C.2.1 dX0_week_42 (by decide) ?_
      refine lv_bipush (v := (-6)) C.1 C.2.1 dX0_week_46 (by decide) ?_
      refine t_after [] C0 D hP P_nil hS (vx_runS (As := [.int 1, .int (-6)]) (rest := []) ⟨C.1, C.2.1, hml, C.2.2.1, C.2.2.2.1⟩ (metC_HW_need l hfl G ad pl H.size 1 (-6) _ (need_eq _ _)) (va_cwS 2 C.2.2.2.1 (lw_S q397 q398 q80 q399) rfl rfl rfl (by decide +kernel) ⟨Nat.le_of_ble_eq_true rfl, Nat.le_of_ble_eq_true rfl⟩) (rr_preS C D hP hS [] rfl (by decide) rfl) rfl rfl hl.1 rfl (lv_room (Nat.le_of_ble_eq_true rfl)) dX0_week_48 ⟨Nat.le_of_ble_eq_true rfl, Nat.le_of_ble_eq_true rfl⟩) xW_av rfl rfl rfl (fun hφ H locs hP _ hS => ?_) (fun w q H locs hw hq hc hP _ hS => ?_)
      rotate_left
      · exact absurd (nd_x hw).1 (by decide)
      refine lv_aload_n C.1 C.2.1 dX0_week_51 rfl (lv_at hl 0 rfl) ?_
      refine xWg_0_6 q244 C hP dX0_week_52 ?_
      refine lv_iload_n C.1 C.2.1 dX0_week_55 rfl (lv_at hl 1 rfl) ?_
      obtain ⟨r13, hr13, hE⟩ := it_b hE
      refine n_after [18, 19, 20, 21, 22, 23, 24, 25] C.2.2.2.2.2.1 C.2.2.2.2.2.2.2.1 hP hS (va_runV (As := [.int p1]) (rest := []) ⟨C.1, C.2.1, hml, C.2.2.1, C.2.2.2.1⟩ (metC_Room_week l G (fun i => ad (18 + i)) pl hk hb _ _ _ _ _ _ _ _ _ _ _ _ _ hom p1  r13 hr13) (cwV (C := RX3) 1 C.2.2.2.1 (lw_V q1179 q977 q978 q83 q979) rfl rfl rfl (by decide +kernel) ⟨Nat.le_of_ble_eq_true rfl, Nat.le_of_ble_eq_true rfl⟩) (n_preV C hP hS [18, 19, 20, 21, 22, 23, 24, 25] sub_xW_rW_18 (by decide) rfl (va_recv C.2.2.2.2.1 hP (ci := 12) (q0 := 18) rfl rfl)) rfl rfl hl.1 rfl (lv_room (Nat.le_of_ble_eq_true rfl)) dX0_week_56 ⟨Nat.le_of_ble_eq_true rfl, Nat.le_of_ble_eq_true rfl⟩) xW_av rfl rfl mg_xW_rW_18 (fun H locs hP hS => ?_)
      refine lv_iconst (v := (-1)) C.1 C.2.1 dX0_week_59 (by decide) ?_
      refine lv_icmp_ne (tgt := 76) C.1 C.2.1 dX0_week_60 (by decide) (fun c14 => ?_) (fun c14 => ?_)
      · have hE := it_f c14 hE
        refine lv_iconst (v := (-1)) C.1 C.2.1 dX0_week_76 (by decide) ?_
        obtain rfl := Option.some.inj hE
        exact hret _ _ _ _ dX0_week_77 trivial hP hS
      · have hE := it_t c14 hE
        refine lv_aload_n C.1 C.2.1 dX0_week_63 rfl (lv_at hl 0 rfl) ?_
        refine xWg_0_6 q244 C hP dX0_week_64 ?_
        refine xWg_18_4 q191 C hP dX0_week_67 ?_
        refine xWg_19_0 q149 C hP dX0_week_70 ?_
        refine lv_goto (tgt := 77) C.1 C.2.1 dX0_week_73 (by decide) ?_
        obtain rfl := Option.some.inj hE
        exact hret _ _ _ _ dX0_week_77 trivial hP hS
    have hJ45u8 : ¬ u8 = true → ∀ (H : Heap) (locs : List Loc) (ls : Array Slot), va_P G.1 vwCl (xW G.2 ad v_latestFault v_died v_leastWeight v_noticedBy v_noticed v_orderDied v_orderLeast v_imaged v_shelves v_refusals v_ran v_bodies v_tweight v_tfright v_tage v_tasked v_told v_bestRow v_weight_a1 v_fright_a1 v_age_a1 v_asked_a1 v_weight_a2 v_fright_a2 v_age_a2 v_asked_a2 v_weight_a3 v_fright_a3 v_age_a3 v_asked_a3 v_weight_a4 v_fright_a4 v_age_a4 v_asked_a4 v_many v_pets v_last v_seed v_weight v_fright v_age v_asked v_homes v_marks v_had v_allergic v_deaths) H → va_S (tA sz (xWV ad) []) s.heap H locs → lv_has ls 3 [(0, .ref (ad 0)), (1, .int p1)] → W p l e ({ frames := 6, cells := 2, slots := 14, locals := 128 } : Room) s m args below meth c H locs 1 7 Q (F0 m 45 ls []) := by
      intro hu H locs ls hP hS hl
      have hE := it_f hu hE
      refine lv_iconst (v := 0) C.1 C.2.1 dX0_week_45 (by decide) ?_
      refine lv_bipush (v := (-6)) C.1 C.2.1 dX0_week_46 (by decide) ?_
      refine t_after [] C0 D hP P_nil hS (vx_runS (As := [.int 0, .int (-6)]) (rest := []) ⟨C.1, C.2.1, hml, C.2.2.1, C.2.2.2.1⟩ (metC_HW_need l hfl G ad pl H.size 0 (-6) _ (need_eq _ _)) (va_cwS 2 C.2.2.2.1 (lw_S q397 q398 q80 q399) rfl rfl rfl (by decide +kernel) ⟨Nat.le_of_ble_eq_true rfl, Nat.le_of_ble_eq_true rfl⟩) (rr_preS C D hP hS [] rfl (by decide) rfl) rfl rfl hl.1 rfl (lv_room (Nat.le_of_ble_eq_true rfl)) dX0_week_48 ⟨Nat.le_of_ble_eq_true rfl, Nat.le_of_ble_eq_true rfl⟩) xW_av rfl rfl rfl (fun hφ H locs hP _ hS => ?_) (fun w q H locs hw hq hc hP _ hS => ?_)
      · exact absurd rfl (nd_n hφ)
      obtain ⟨c15, rfl⟩ := nd_x hw
      obtain ⟨q16, rfl⟩ : ∃ z, z = q := ⟨_, rfl⟩
      obtain ⟨ce, g1, g2, g3⟩ := t_cell C0 hc rfl
      refine t_catch (name := "HamsterWeekends$Refused") (E := "HamsterWeekends$Refused") C0 D [] ⟨0, 77, 78, 21⟩ [] htab (fun z hz => nomatch hz) rfl (by decide) q291 (List.mem_of_getElem? (i := 1) rfl) g1 g2 g3 ?_
      refine W.eq (g2 := F0 m 78 ls [.ref q16]) rfl ?_
      refine lv_astore_n (lv' := [(2, .ref q16), (0, .ref (ad 0)), (1, .int p1)]) C.1 C.2.1 dX0_week_78 rfl hl (by decide) rfl (fun ls hl => ?_)
      refine lv_aload_n C.1 C.2.1 dX0_week_79 rfl (lv_at hl 1 rfl) ?_
      refine lv_aload_n C.1 C.2.1 dX0_week_80 rfl (lv_at hl 0 rfl) ?_
      obtain ⟨r17, hr17, hE⟩ := it_b hE
      refine n_afterS C.2.2.2.2.2.2.2.1 hS (va_runV (As := [.ref q16]) (rest := []) ⟨C.1, C.2.1, hml, C.2.2.1, C.2.2.2.1⟩ (metC_HW_refused l G ad [(q16, .inr (18, xF (-6)))] _ _ _ _ _ _ _ _ _ _ _ _ _ _ _ _ _ _ _ _ _ _ _ _ _ _ _ _ _ _ _ _ _ _ _ _ _ _ _ _ _ _ _ _ _ _ _ q16 (-6) (List.mem_singleton.mpr rfl) r17 hr17) (cwV (C := RX0) 1 C.2.2.2.1 (lw_V q466 q468 qs2 q80 q469) rfl rfl rfl (by decide +kernel) ⟨Nat.le_of_ble_eq_true rfl, Nat.le_of_ble_eq_true rfl⟩) (t_preX C0 hP hc hq.1 (va_recv C.2.2.2.2.1 hP (ci := 16) (q0 := 0) rfl rfl)) rfl rfl hl.1 rfl (lv_room (Nat.le_of_ble_eq_true rfl)) dX0_week_81 ⟨Nat.le_of_ble_eq_true rfl, Nat.le_of_ble_eq_true rfl⟩) (fun H locs hP hS => ?_)
      refine lv_bipush (v := 10) C.1 C.2.1 dX0_week_84 (by decide) ?_
      refine lv_isub C.1 C.2.1 dX0_week_86 ?_
      obtain rfl := Option.some.inj hE
      exact hret _ _ _ _ dX0_week_87 trivial hP hS
    have hE := hR
    refine lv_icmp_eq (tgt := 41) C.1 C.2.1 dX0_week_27 (by decide) (fun c7 => ?_) (fun c7 => ?_)
    · have hE := it_t c7 hE
      obtain rfl := Option.some.inj hE
      exact hJ41u8 rfl H locs ls hP hS (lv_sub hl [0, 1] rfl)
    · have hE := it_f c7 hE
      refine lv_aload_n C.1 C.2.1 dX0_week_30 rfl (lv_at hl 0 rfl) ?_
      refine xWg_0_6 q244 C hP dX0_week_31 ?_
      refine lv_iload_n C.1 C.2.1 dX0_week_34 rfl (lv_at hl 1 rfl) ?_
      obtain ⟨r9, hr9, hE⟩ := it_b hE
      refine n_after [18, 19, 20, 21, 22, 23, 24, 25] C.2.2.2.2.2.1 C.2.2.2.2.2.2.2.1 hP hS (va_runV (As := [.int p1]) (rest := []) ⟨C.1, C.2.1, hml, C.2.2.1, C.2.2.2.1⟩ (metC_Room_may l G (fun i => ad (18 + i)) pl _ _ _ _ _ _ _ _ _ _ _ _ _ p1  r9 hr9) (cwV (C := RX3) 1 C.2.2.2.1 (lw_V q1067 q972 q973 q83 q974) rfl rfl rfl (by decide +kernel) ⟨Nat.le_of_ble_eq_true rfl, Nat.le_of_ble_eq_true rfl⟩) (n_preV C hP hS [18, 19, 20, 21, 22, 23, 24, 25] sub_xW_rW_18 (by decide) rfl (va_recv C.2.2.2.2.1 hP (ci := 12) (q0 := 18) rfl rfl)) rfl rfl hl.1 rfl (lv_room (Nat.le_of_ble_eq_true rfl)) dX0_week_35 ⟨Nat.le_of_ble_eq_true rfl, Nat.le_of_ble_eq_true rfl⟩) xW_av rfl rfl mg_xW_rW_18 (fun H locs hP hS => ?_)
      refine lv_if_eq (tgt := 45) C.1 C.2.1 dX0_week_38 (by decide) (fun c10 => ?_) (fun c10 => ?_)
      · have hE := it_t c10 hE
        obtain rfl := Option.some.inj hE
        exact hJ45u8 (by decide) H locs ls hP hS (lv_sub hl [0, 1] rfl)
      · have hE := it_f c10 hE
        obtain rfl := Option.some.inj hE
        exact hJ41u8 rfl H locs ls hP hS (lv_sub hl [0, 1] rfl)
  have hJ20u2 : ¬ u2 = true → ∀ (H : Heap) (locs : List Loc) (ls : Array Slot), va_P G.1 vwCl (xW G.2 ad v_latestFault v_died v_leastWeight v_noticedBy v_noticed v_orderDied v_orderLeast v_imaged v_shelves v_refusals v_ran v_bodies v_tweight v_tfright v_tage v_tasked v_told v_bestRow v_weight_a1 v_fright_a1 v_age_a1 v_asked_a1 v_weight_a2 v_fright_a2 v_age_a2 v_asked_a2 v_weight_a3 v_fright_a3 v_age_a3 v_asked_a3 v_weight_a4 v_fright_a4 v_age_a4 v_asked_a4 v_many v_pets v_last v_seed v_weight v_fright v_age v_asked v_homes v_marks v_had v_allergic v_deaths) H → va_S (tA sz (xWV ad) []) s.heap H locs → lv_has ls 3 [(0, .ref (ad 0)), (1, .int p1)] → W p l e ({ frames := 6, cells := 2, slots := 14, locals := 128 } : Room) s m args below meth c H locs 0 0 Q (F0 m 20 ls []) := by
    intro hu H locs ls hP hS hl
    have hE := it_f hu hE
    refine lv_iconst (v := 0) C.1 C.2.1 dX0_week_20 (by decide) ?_
    refine lv_iconst (v := (-1)) C.1 C.2.1 dX0_week_21 (by decide) ?_
    refine t_after [] C0 D hP P_nil hS (vx_runS (As := [.int 0, .int (-1)]) (rest := []) ⟨C.1, C.2.1, hml, C.2.2.1, C.2.2.2.1⟩ (metC_HW_need l hfl G ad pl H.size 0 (-1) _ (need_eq _ _)) (va_cwS 2 C.2.2.2.1 (lw_S q397 q398 q80 q399) rfl rfl rfl (by decide +kernel) ⟨Nat.le_of_ble_eq_true rfl, Nat.le_of_ble_eq_true rfl⟩) (rr_preS C D hP hS [] rfl (by decide) rfl) rfl rfl hl.1 rfl (lv_room (Nat.le_of_ble_eq_true rfl)) dX0_week_22 ⟨Nat.le_of_ble_eq_true rfl, Nat.le_of_ble_eq_true rfl⟩) xW_av rfl rfl rfl (fun hφ H locs hP _ hS => ?_) (fun w q H locs hw hq hc hP _ hS => ?_)
    · exact absurd rfl (nd_n hφ)
    obtain ⟨c18, rfl⟩ := nd_x hw
    obtain ⟨q19, rfl⟩ : ∃ z, z = q := ⟨_, rfl⟩
    obtain ⟨ce, g1, g2, g3⟩ := t_cell C0 hc rfl
    refine t_catch (name := "HamsterWeekends$Refused") (E := "HamsterWeekends$Refused") C0 D [] ⟨0, 77, 78, 21⟩ [] htab (fun z hz => nomatch hz) rfl (by decide) q291 (List.mem_of_getElem? (i := 1) rfl) g1 g2 g3 ?_
    refine W.eq (g2 := F0 m 78 ls [.ref q19]) rfl ?_
    refine lv_astore_n (lv' := [(2, .ref q19), (0, .ref (ad 0)), (1, .int p1)]) C.1 C.2.1 dX0_week_78 rfl hl (by decide) rfl (fun ls hl => ?_)
    refine lv_aload_n C.1 C.2.1 dX0_week_79 rfl (lv_at hl 1 rfl) ?_
    refine lv_aload_n C.1 C.2.1 dX0_week_80 rfl (lv_at hl 0 rfl) ?_
    obtain ⟨r20, hr20, hE⟩ := it_b hE
    refine n_afterS C.2.2.2.2.2.2.2.1 hS (va_runV (As := [.ref q19]) (rest := []) ⟨C.1, C.2.1, hml, C.2.2.1, C.2.2.2.1⟩ (metC_HW_refused l G ad [(q19, .inr (18, xF (-1)))] _ _ _ _ _ _ _ _ _ _ _ _ _ _ _ _ _ _ _ _ _ _ _ _ _ _ _ _ _ _ _ _ _ _ _ _ _ _ _ _ _ _ _ _ _ _ _ q19 (-1) (List.mem_singleton.mpr rfl) r20 hr20) (cwV (C := RX0) 1 C.2.2.2.1 (lw_V q466 q468 qs2 q80 q469) rfl rfl rfl (by decide +kernel) ⟨Nat.le_of_ble_eq_true rfl, Nat.le_of_ble_eq_true rfl⟩) (t_preX C0 hP hc hq.1 (va_recv C.2.2.2.2.1 hP (ci := 16) (q0 := 0) rfl rfl)) rfl rfl hl.1 rfl (lv_room (Nat.le_of_ble_eq_true rfl)) dX0_week_81 ⟨Nat.le_of_ble_eq_true rfl, Nat.le_of_ble_eq_true rfl⟩) (fun H locs hP hS => ?_)
    refine lv_bipush (v := 10) C.1 C.2.1 dX0_week_84 (by decide) ?_
    refine lv_isub C.1 C.2.1 dX0_week_86 ?_
    obtain rfl := Option.some.inj hE
    refine W.widen (k := 2) (n := 14) (Nat.le_of_ble_eq_true rfl) (Nat.le_of_ble_eq_true rfl) ?_
    exact hret _ _ _ _ dX0_week_87 trivial hP hS
  have hE := hR
  refine lv_icmp_eq (tgt := 16) C.1 C.2.1 dX0_week_2 (by decide) (fun c1 => ?_) (fun c1 => ?_)
  · have hE := it_t c1 hE
    obtain rfl := Option.some.inj hE
    exact hJ16u2 rfl H locs ls hP hS (lv_sub hl [0, 1] rfl)
  · have hE := it_f c1 hE
    refine lv_aload_n C.1 C.2.1 dX0_week_5 rfl (lv_at hl 0 rfl) ?_
    refine xWg_0_6 q244 C hP dX0_week_6 ?_
    refine lv_iload_n C.1 C.2.1 dX0_week_9 rfl (lv_at hl 1 rfl) ?_
    obtain ⟨r3, hr3, hE⟩ := it_b hE
    refine n_after [18, 19, 20, 21, 22, 23, 24, 25] C.2.2.2.2.2.1 C.2.2.2.2.2.2.2.1 hP hS (va_runV (As := [.int p1]) (rest := []) ⟨C.1, C.2.1, hml, C.2.2.1, C.2.2.2.1⟩ (metC_Room_isHome l G (fun i => ad (18 + i)) pl _ _ _ _ _ _ _ _ _ _ _ _ _ p1  r3 hr3) (cwV (C := RX3) 1 C.2.2.2.1 (lw_V q581 q582 q583 q83 q584) rfl rfl rfl (by decide +kernel) ⟨Nat.le_of_ble_eq_true rfl, Nat.le_of_ble_eq_true rfl⟩) (n_preV C hP hS [18, 19, 20, 21, 22, 23, 24, 25] sub_xW_rW_18 (by decide) rfl (va_recv C.2.2.2.2.1 hP (ci := 12) (q0 := 18) rfl rfl)) rfl rfl hl.1 rfl (lv_room (Nat.le_of_ble_eq_true rfl)) dX0_week_10 ⟨Nat.le_of_ble_eq_true rfl, Nat.le_of_ble_eq_true rfl⟩) xW_av rfl rfl mg_xW_rW_18 (fun H locs hP hS => ?_)
    refine lv_if_eq (tgt := 20) C.1 C.2.1 dX0_week_13 (by decide) (fun c4 => ?_) (fun c4 => ?_)
    · have hE := it_t c4 hE
      obtain rfl := Option.some.inj hE
      exact hJ20u2 (by decide) H locs ls hP hS (lv_sub hl [0, 1] rfl)
    · have hE := it_f c4 hE
      obtain rfl := Option.some.inj hE
      exact hJ16u2 rfl H locs ls hP hS (lv_sub hl [0, 1] rfl)
def sC_HW_weeks_h41 (x1 : Int32) (x2 : Int32) (v_many : Int32) (v_asked : Nat → Int32) (v_homes : Nat → Option Nat) (v_marks : Nat → Int32) (v_allergic : Nat → Int32) (hk : Nat → Nat) (hb : Nat → Int32) : Nat → Int32 → Int32 → Int32 → Int32 → Int32 → Int32 → (Nat → Int32) → (Nat → Int32) → Option (Int32 × Int32 × Int32 × Int32 × Int32 × (Nat → Int32) × (Nat → Int32))
  | 0, _, _, _, _, _, _, _, _ => none
  | fuel + 1, x4, v_pets, v_last, v_weight, v_fright, v_age, v_had, v_deaths =>
    if x1 ≤ x4 then
      some (v_pets, v_last, v_weight, v_fright, v_age, v_had, v_deaths)
    else
      @Option.bind (Int32) _ (
        if x2 = 1 then
          some 1
        else
          some 0) fun u4203 =>
      (sC_Room_whose v_many v_marks v_had v_allergic u4203).bind fun r4204 =>
      (sC_Room_week v_many v_pets v_last v_weight v_fright v_age v_asked v_homes v_had v_deaths hk hb r4204).bind fun r4205 =>
      sC_HW_weeks_h41 x1 x2 v_many v_asked v_homes v_marks v_allergic hk hb fuel (x4 + 1) r4205.2.1 r4205.2.2.1 r4205.2.2.2.1 r4205.2.2.2.2.1 r4205.2.2.2.2.2.1 r4205.2.2.2.2.2.2.1 r4205.2.2.2.2.2.2.2
def sC_HW_weeks (v_refusals : Nat → Int32) (v_many : Int32) (v_pets : Int32) (v_last : Int32) (v_weight : Int32) (v_fright : Int32) (v_age : Int32) (v_asked : Nat → Int32) (v_homes : Nat → Option Nat) (v_marks : Nat → Int32) (v_had : Nat → Int32) (v_allergic : Nat → Int32) (v_deaths : Nat → Int32) (hk : Nat → Nat) (hb : Nat → Int32) (p1 : Int32) (p2 : Int32) : Option (Int32 × (Nat → Int32) × Int32 × Int32 × Int32 × Int32 × Int32 × (Nat → Int32) × (Nat → Int32)) :=
  (sC_HW_in ((p2 : Int32).toInt64) 0 1).bind fun r1 =>
  if r1 = 0 then
    (sC_HW_refused v_refusals (-5)).bind fun r12 =>
    some (r12.1, r12.2, v_pets, v_last, v_weight, v_fright, v_age, v_had, v_deaths)
  else
    (sC_HW_someMay v_many v_allergic).bind fun r4 =>
    if r4 = none then
      (sC_HW_in ((p1 : Int32).toInt64) 1 60).bind fun r6 =>
      if r6 = 0 then
        (sC_HW_refused v_refusals (-6)).bind fun r10 =>
        some (r10.1, r10.2, v_pets, v_last, v_weight, v_fright, v_age, v_had, v_deaths)
      else
        (sC_HW_weeks_h41 p1 p2 v_many v_asked v_homes v_marks v_allergic hk hb 2000 0 v_pets v_last v_weight v_fright v_age v_had v_deaths).bind fun u9 =>
        some ((u9.1 - v_pets), v_refusals, u9.1, u9.2.1, u9.2.2.1, u9.2.2.2.1, u9.2.2.2.2.1, u9.2.2.2.2.2.1, u9.2.2.2.2.2.2)
    else
      (sC_HW_refused v_refusals (r4.getD 0)).bind fun r11 =>
      some (r11.1, r11.2, v_pets, v_last, v_weight, v_fright, v_age, v_had, v_deaths)
set_option maxHeartbeats 4000000 in
theorem wC_HW_weeks_h41 {p : Program} {l : Launch} {e : Env} {s : State} {m : MethodId} {args : Array Value} {below : List Frame} {meth : Method} {c : Code} {Q : State → Prop} {G : kG} {ad : Nat → Nat} {pl : va_W} {hk : Nat → Nat} {hb : Nat → Int32} {sz : Nat} {v_latestFault : Int32} {v_died : Int32} {v_leastWeight : Int32} {v_noticedBy : Int32} {v_noticed : Int32} {v_orderDied : Int32} {v_orderLeast : Int32} {v_imaged : Option Nat} {v_shelves : Nat → Option Nat} {v_refusals : Nat → Int32} {v_ran : Int32} {v_bodies : Nat → Int32} {v_tweight : Int32} {v_tfright : Int32} {v_tage : Int32} {v_tasked : Nat → Int32} {v_told : Nat → Int32} {v_bestRow : Nat → Int32} {v_weight_a1 : Int32} {v_fright_a1 : Int32} {v_age_a1 : Int32} {v_asked_a1 : Nat → Int32} {v_weight_a2 : Int32} {v_fright_a2 : Int32} {v_age_a2 : Int32} {v_asked_a2 : Nat → Int32} {v_weight_a3 : Int32} {v_fright_a3 : Int32} {v_age_a3 : Int32} {v_asked_a3 : Nat → Int32} {v_weight_a4 : Int32} {v_fright_a4 : Int32} {v_age_a4 : Int32} {v_asked_a4 : Nat → Int32} {v_many : Int32} {v_seed : Int32} {v_asked : Nat → Int32} {v_homes : Nat → Option Nat} {v_marks : Nat → Int32} {v_allergic : Nat → Int32} (C : nC p s m args c cX0_weeks RX0 G (xWV ad) pl (tA sz (xWV ad) [])) (hml : c.maxLocals = 5)  (D : tD s (xWV ad) [] (tA sz (xWV ad) [])) (hom : homOK v_homes v_many hk hb pl) (x1 : Int32) (x2 : Int32) (x3 : Int32) (res : Int32 × Int32 × Int32 × Int32 × Int32 × (Nat → Int32) × (Nat → Int32)) :
    ∀ (fuel : Nat) (x4 : Int32) (v_pets : Int32) (v_last : Int32) (v_weight : Int32) (v_fright : Int32) (v_age : Int32) (v_had : Nat → Int32) (v_deaths : Nat → Int32) (H : Heap) (locs : List Loc) (ls : Array Slot), sC_HW_weeks_h41 x1 x2 v_many v_asked v_homes v_marks v_allergic hk hb fuel x4 v_pets v_last v_weight v_fright v_age v_had v_deaths = some res → va_P G.1 vwCl (xW G.2 ad v_latestFault v_died v_leastWeight v_noticedBy v_noticed v_orderDied v_orderLeast v_imaged v_shelves v_refusals v_ran v_bodies v_tweight v_tfright v_tage v_tasked v_told v_bestRow v_weight_a1 v_fright_a1 v_age_a1 v_asked_a1 v_weight_a2 v_fright_a2 v_age_a2 v_asked_a2 v_weight_a3 v_fright_a3 v_age_a3 v_asked_a3 v_weight_a4 v_fright_a4 v_age_a4 v_asked_a4 v_many v_pets v_last v_seed v_weight v_fright v_age v_asked v_homes v_marks v_had v_allergic v_deaths) H → va_S (tA sz (xWV ad) []) s.heap H locs → lv_has ls 5 [(0, .ref (ad 0)), (1, .int x1), (2, .int x2), (3, .int x3), (4, .int x4)] → (∀ (H : Heap) (locs : List Loc) (ls : Array Slot), va_P G.1 vwCl (xW G.2 ad v_latestFault v_died v_leastWeight v_noticedBy v_noticed v_orderDied v_orderLeast v_imaged v_shelves v_refusals v_ran v_bodies v_tweight v_tfright v_tage v_tasked v_told v_bestRow v_weight_a1 v_fright_a1 v_age_a1 v_asked_a1 v_weight_a2 v_fright_a2 v_age_a2 v_asked_a2 v_weight_a3 v_fright_a3 v_age_a3 v_asked_a3 v_weight_a4 v_fright_a4 v_age_a4 v_asked_a4 v_many res.1 res.2.1 v_seed res.2.2.1 res.2.2.2.1 res.2.2.2.2.1 v_asked v_homes v_marks res.2.2.2.2.2.1 v_allergic res.2.2.2.2.2.2) H → va_S (tA sz (xWV ad) []) s.heap H locs → lv_has ls 5 [(0, .ref (ad 0)), (3, .int x3)] → W p l e ({ frames := 6, cells := 3, slots := 21, locals := 142 } : Room) s m args below meth c H locs 3 21 Q (F0 m 78 ls [])) → W p l e ({ frames := 6, cells := 3, slots := 21, locals := 142 } : Room) s m args below meth c H locs 3 21 Q (F0 m 41 ls []) := by
  intro fuel
  induction fuel with
  | zero =>
    intro x4 v_pets v_last v_weight v_fright v_age v_had v_deaths H locs ls hE
    exact it_n hE
  | succ fuel ih =>
    intro x4 v_pets v_last v_weight v_fright v_age v_had v_deaths H locs ls hE hP hS hl hX
    rw [sC_HW_weeks_h41] at hE
    refine lv_iload C.1 C.2.1 dX0_weeks_41 (lv_at hl 4 rfl) ?_
    refine lv_iload_n C.1 C.2.1 dX0_weeks_43 rfl (lv_at hl 1 rfl) ?_
    refine lv_icmp_ge (tgt := 78) C.1 C.2.1 dX0_weeks_44 (by decide) (fun c4201 => ?_) (fun c4201 => ?_)
    · have hE := it_t c4201 hE
      obtain rfl := Option.some.inj hE
      exact hX H locs ls hP hS (lv_sub hl [0, 3] rfl)
    · have hE := it_f c4201 hE
      refine lv_aload_n C.1 C.2.1 dX0_weeks_47 rfl (lv_at hl 0 rfl) ?_
      refine xWg_0_6 q244 C hP dX0_weeks_48 ?_
      refine lv_aload_n C.1 C.2.1 dX0_weeks_51 rfl (lv_at hl 0 rfl) ?_
      refine xWg_0_6 q244 C hP dX0_weeks_52 ?_
      refine lv_iload_n C.1 C.2.1 dX0_weeks_55 rfl (lv_at hl 2 rfl) ?_
      refine lv_iconst (v := 1) C.1 C.2.1 dX0_weeks_56 (by decide) ?_
      obtain ⟨u4203, hR, hE⟩ := it_b hE
      have hJ65u4203 : ∀ (H : Heap) (locs : List Loc) (ls : Array Slot), va_P G.1 vwCl (xW G.2 ad v_latestFault v_died v_leastWeight v_noticedBy v_noticed v_orderDied v_orderLeast v_imaged v_shelves v_refusals v_ran v_bodies v_tweight v_tfright v_tage v_tasked v_told v_bestRow v_weight_a1 v_fright_a1 v_age_a1 v_asked_a1 v_weight_a2 v_fright_a2 v_age_a2 v_asked_a2 v_weight_a3 v_fright_a3 v_age_a3 v_asked_a3 v_weight_a4 v_fright_a4 v_age_a4 v_asked_a4 v_many v_pets v_last v_seed v_weight v_fright v_age v_asked v_homes v_marks v_had v_allergic v_deaths) H → va_S (tA sz (xWV ad) []) s.heap H locs → lv_has ls 5 [(0, .ref (ad 0)), (1, .int x1), (2, .int x2), (3, .int x3), (4, .int x4)] → W p l e ({ frames := 6, cells := 3, slots := 21, locals := 142 } : Room) s m args below meth c H locs 3 21 Q (F0 m 65 ls [.int u4203, .ref (ad 18), .ref (ad 18)]) := by
        intro H locs ls hP hS hl
        obtain ⟨r4204, hr4204, hE⟩ := it_b hE
        refine n_after [18, 19, 20, 21, 22, 23, 24, 25] C.2.2.2.2.2.1 C.2.2.2.2.2.2.2.1 hP hS (va_runV (As := [.int u4203]) (rest := [.ref (ad 18)]) ⟨C.1, C.2.1, hml, C.2.2.1, C.2.2.2.1⟩ (metC_Room_whose l G (fun i => ad (18 + i)) pl _ _ _ _ _ _ _ _ _ _ _ _ _ u4203  r4204 hr4204) (cwV (C := RX3) 1 C.2.2.2.1 (lw_V q1118 q1119 q1120 q83 q1121) rfl rfl rfl (by decide +kernel) ⟨Nat.le_of_ble_eq_true rfl, Nat.le_of_ble_eq_true rfl⟩) (n_preV C hP hS [18, 19, 20, 21, 22, 23, 24, 25] sub_xW_rW_18 (by decide) rfl (va_recv C.2.2.2.2.1 hP (ci := 12) (q0 := 18) rfl rfl)) rfl rfl hl.1 rfl (lv_room (Nat.le_of_ble_eq_true rfl)) dX0_weeks_65 ⟨Nat.le_of_ble_eq_true rfl, Nat.le_of_ble_eq_true rfl⟩) xW_av rfl rfl mg_xW_rW_18 (fun H locs hP hS => ?_)
        obtain ⟨r4205, hr4205, hE⟩ := it_b hE
        refine n_after [18, 19, 20, 21, 22, 23, 24, 25] C.2.2.2.2.2.1 C.2.2.2.2.2.2.2.1 hP hS (va_runV (As := [.int r4204]) (rest := []) ⟨C.1, C.2.1, hml, C.2.2.1, C.2.2.2.1⟩ (metC_Room_week l G (fun i => ad (18 + i)) pl hk hb _ _ _ _ _ _ _ _ _ _ _ _ _ hom r4204  r4205 hr4205) (cwV (C := RX3) 1 C.2.2.2.1 (lw_V q1179 q977 q978 q83 q979) rfl rfl rfl (by decide +kernel) ⟨Nat.le_of_ble_eq_true rfl, Nat.le_of_ble_eq_true rfl⟩) (n_preV C hP hS [18, 19, 20, 21, 22, 23, 24, 25] sub_xW_rW_18 (by decide) rfl (va_recv C.2.2.2.2.1 hP (ci := 12) (q0 := 18) rfl rfl)) rfl rfl hl.1 rfl (lv_room (Nat.le_of_ble_eq_true rfl)) dX0_weeks_68 ⟨Nat.le_of_ble_eq_true rfl, Nat.le_of_ble_eq_true rfl⟩) xW_av rfl rfl mg_xW_rW_18 (fun H locs hP hS => ?_)
        refine lv_pop C.1 C.2.1 dX0_weeks_71 rfl ?_
        refine lv_iinc (v := (x4 + 1)) (lv' := [(4, .int (x4 + 1)), (0, .ref (ad 0)), (1, .int x1), (2, .int x2), (3, .int x3)]) C.1 C.2.1 dX0_weeks_72 hl (k := 4) rfl rfl (by decide) rfl (fun ls hl => ?_)
        refine lv_goto (tgt := 41) C.1 C.2.1 dX0_weeks_75 (by decide) ?_
        exact ih (x4 + 1) r4205.2.1 r4205.2.2.1 r4205.2.2.2.1 r4205.2.2.2.2.1 r4205.2.2.2.2.2.1 r4205.2.2.2.2.2.2.1 r4205.2.2.2.2.2.2.2 _ _ _ hE hP hS (lv_sub hl [1, 2, 3, 4, 0] rfl) hX
      have hE := hR
      refine lv_icmp_ne (tgt := 64) C.1 C.2.1 dX0_weeks_57 (by decide) (fun c4202 => ?_) (fun c4202 => ?_)
      · have hE := it_f c4202 hE
        refine lv_iconst (v := 0) C.1 C.2.1 dX0_weeks_64 (by decide) ?_
        obtain rfl := Option.some.inj hE
        exact hJ65u4203 H locs ls hP hS (lv_sub hl [0, 1, 2, 3, 4] rfl)
      · have hE := it_t c4202 hE
        refine lv_iconst (v := 1) C.1 C.2.1 dX0_weeks_60 (by decide) ?_
        refine lv_goto (tgt := 65) C.1 C.2.1 dX0_weeks_61 (by decide) ?_
        obtain rfl := Option.some.inj hE
        exact hJ65u4203 H locs ls hP hS (lv_sub hl [0, 1, 2, 3, 4] rfl)
set_option maxHeartbeats 4000000 in
theorem metC_HW_weeks (l : Launch) (hfl : l.stackTraces = false) (G : kG) (ad : Nat → Nat) (pl : va_W) (hk : Nat → Nat) (hb : Nat → Int32) (sz : Nat) (v_latestFault : Int32) (v_died : Int32) (v_leastWeight : Int32) (v_noticedBy : Int32) (v_noticed : Int32) (v_orderDied : Int32) (v_orderLeast : Int32) (v_imaged : Option Nat) (v_shelves : Nat → Option Nat) (v_refusals : Nat → Int32) (v_ran : Int32) (v_bodies : Nat → Int32) (v_tweight : Int32) (v_tfright : Int32) (v_tage : Int32) (v_tasked : Nat → Int32) (v_told : Nat → Int32) (v_bestRow : Nat → Int32) (v_weight_a1 : Int32) (v_fright_a1 : Int32) (v_age_a1 : Int32) (v_asked_a1 : Nat → Int32) (v_weight_a2 : Int32) (v_fright_a2 : Int32) (v_age_a2 : Int32) (v_asked_a2 : Nat → Int32) (v_weight_a3 : Int32) (v_fright_a3 : Int32) (v_age_a3 : Int32) (v_asked_a3 : Nat → Int32) (v_weight_a4 : Int32) (v_fright_a4 : Int32) (v_age_a4 : Int32) (v_asked_a4 : Nat → Int32) (v_many : Int32) (v_pets : Int32) (v_last : Int32) (v_seed : Int32) (v_weight : Int32) (v_fright : Int32) (v_age : Int32) (v_asked : Nat → Int32) (v_homes : Nat → Option Nat) (v_marks : Nat → Int32) (v_had : Nat → Int32) (v_allergic : Nat → Int32) (v_deaths : Nat → Int32) (hom : homOK v_homes v_many hk hb pl) (p1 : Int32) (p2 : Int32) (res : Int32 × (Nat → Int32) × Int32 × Int32 × Int32 × Int32 × Int32 × (Nat → Int32) × (Nat → Int32)) (hE : sC_HW_weeks v_refusals v_many v_pets v_last v_weight v_fright v_age v_asked v_homes v_marks v_had v_allergic v_deaths hk hb p1 p2 = some res) : vx_Met l yX0_weeks (wsW_ yX0_weeks cX0_weeks 5 (some .int) [((0 : Nat), (87 : Nat), (88 : Nat), (21 : Nat))]) ({ frames := 6, cells := 3, slots := 21, locals := 142 } : Room) (rPc G (xW G.2 ad v_latestFault v_died v_leastWeight v_noticedBy v_noticed v_orderDied v_orderLeast v_imaged v_shelves v_refusals v_ran v_bodies v_tweight v_tfright v_tage v_tasked v_told v_bestRow v_weight_a1 v_fright_a1 v_age_a1 v_asked_a1 v_weight_a2 v_fright_a2 v_age_a2 v_asked_a2 v_weight_a3 v_fright_a3 v_age_a3 v_asked_a3 v_weight_a4 v_fright_a4 v_age_a4 v_asked_a4 v_many v_pets v_last v_seed v_weight v_fright v_age v_asked v_homes v_marks v_had v_allergic v_deaths) pl (xWV ad) sz [.ref (ad 0), .int p1, .int p2]) (tQc G (xW G.2 ad v_latestFault v_died v_leastWeight v_noticedBy v_noticed v_orderDied v_orderLeast v_imaged v_shelves res.2.1 v_ran v_bodies v_tweight v_tfright v_tage v_tasked v_told v_bestRow v_weight_a1 v_fright_a1 v_age_a1 v_asked_a1 v_weight_a2 v_fright_a2 v_age_a2 v_asked_a2 v_weight_a3 v_fright_a3 v_age_a3 v_asked_a3 v_weight_a4 v_fright_a4 v_age_a4 v_asked_a4 v_many res.2.2.1 res.2.2.2.1 v_seed res.2.2.2.2.1 res.2.2.2.2.2.1 res.2.2.2.2.2.2.1 v_asked v_homes v_marks res.2.2.2.2.2.2.2.1 v_allergic res.2.2.2.2.2.2.2.2) [] (tA sz (xWV ad) []) (True) (some (.int res.1))) (tXC G (xW G.2 ad v_latestFault v_died v_leastWeight v_noticedBy v_noticed v_orderDied v_orderLeast v_imaged v_shelves res.2.1 v_ran v_bodies v_tweight v_tfright v_tage v_tasked v_told v_bestRow v_weight_a1 v_fright_a1 v_age_a1 v_asked_a1 v_weight_a2 v_fright_a2 v_age_a2 v_asked_a2 v_weight_a3 v_fright_a3 v_age_a3 v_asked_a3 v_weight_a4 v_fright_a4 v_age_a4 v_asked_a4 v_many res.2.2.1 res.2.2.2.1 v_seed res.2.2.2.2.1 res.2.2.2.2.2.1 res.2.2.2.2.2.2.1 v_asked v_homes v_marks res.2.2.2.2.2.2.2.1 v_allergic res.2.2.2.2.2.2.2.2) [] (tA sz (xWV ad) []) 18 RX6 none sz) 3 21 (tA sz (xWV ad) []) := by
  refine r_ofWH (own := RX0) (by decide) rfl (Nat.le_of_ble_eq_true rfl) ?_
  intro p e s m args below meth c ls C C0 D hml htab hP hS hl hr hlocks hsz
  have hl : lv_has ls 5 [(0, .ref (ad 0)), (1, .int p1), (2, .int p2)] := hl
  obtain ⟨Q, hQ⟩ : ∃ Q, Q = vx_MQ below (tQc G (xW G.2 ad v_latestFault v_died v_leastWeight v_noticedBy v_noticed v_orderDied v_orderLeast v_imaged v_shelves res.2.1 v_ran v_bodies v_tweight v_tfright v_tage v_tasked v_told v_bestRow v_weight_a1 v_fright_a1 v_age_a1 v_asked_a1 v_weight_a2 v_fright_a2 v_age_a2 v_asked_a2 v_weight_a3 v_fright_a3 v_age_a3 v_asked_a3 v_weight_a4 v_fright_a4 v_age_a4 v_asked_a4 v_many res.2.2.1 res.2.2.2.1 v_seed res.2.2.2.2.1 res.2.2.2.2.2.1 res.2.2.2.2.2.2.1 v_asked v_homes v_marks res.2.2.2.2.2.2.2.1 v_allergic res.2.2.2.2.2.2.2.2) [] (tA sz (xWV ad) []) (True) (some (.int res.1))) (tXC G (xW G.2 ad v_latestFault v_died v_leastWeight v_noticedBy v_noticed v_orderDied v_orderLeast v_imaged v_shelves res.2.1 v_ran v_bodies v_tweight v_tfright v_tage v_tasked v_told v_bestRow v_weight_a1 v_fright_a1 v_age_a1 v_asked_a1 v_weight_a2 v_fright_a2 v_age_a2 v_asked_a2 v_weight_a3 v_fright_a3 v_age_a3 v_asked_a3 v_weight_a4 v_fright_a4 v_age_a4 v_asked_a4 v_many res.2.2.1 res.2.2.2.1 v_seed res.2.2.2.2.1 res.2.2.2.2.2.1 res.2.2.2.2.2.2.1 v_asked v_homes v_marks res.2.2.2.2.2.2.2.1 v_allergic res.2.2.2.2.2.2.2.2) [] (tA sz (xWV ad) []) 18 RX6 none sz) args s 3 21 (tA sz (xWV ad) []) := ⟨_, rfl⟩
  rw [← hQ]
  have hret : ∀ (pc : Nat) (ls : Array Slot) (H : Heap) (locs : List Loc), decode cX0_weeks pc = .ok (.ireturn, 1) → True → va_P G.1 vwCl (xW G.2 ad v_latestFault v_died v_leastWeight v_noticedBy v_noticed v_orderDied v_orderLeast v_imaged v_shelves res.2.1 v_ran v_bodies v_tweight v_tfright v_tage v_tasked v_told v_bestRow v_weight_a1 v_fright_a1 v_age_a1 v_asked_a1 v_weight_a2 v_fright_a2 v_age_a2 v_asked_a2 v_weight_a3 v_fright_a3 v_age_a3 v_asked_a3 v_weight_a4 v_fright_a4 v_age_a4 v_asked_a4 v_many res.2.2.1 res.2.2.2.1 v_seed res.2.2.2.2.1 res.2.2.2.2.2.1 res.2.2.2.2.2.2.1 v_asked v_homes v_marks res.2.2.2.2.2.2.2.1 v_allergic res.2.2.2.2.2.2.2.2) H → va_S (tA sz (xWV ad) []) s.heap H locs → W p l e ({ frames := 6, cells := 3, slots := 21, locals := 142 } : Room) s m args below meth c H locs 3 21 Q (F0 m pc ls [(.int res.1)]) := by
    intro pc ls H locs hd hφ hP hS
    rw [hQ]
    exact t_iret C0 hr hlocks hd hφ hP P_nil hS
  clear hQ
  obtain ⟨H, hH⟩ : ∃ H, H = s.heap := ⟨_, rfl⟩
  obtain ⟨locs, hlo⟩ : ∃ locs : List Loc, locs = [] := ⟨_, rfl⟩
  have hP : va_P G.1 vwCl (xW G.2 ad v_latestFault v_died v_leastWeight v_noticedBy v_noticed v_orderDied v_orderLeast v_imaged v_shelves v_refusals v_ran v_bodies v_tweight v_tfright v_tage v_tasked v_told v_bestRow v_weight_a1 v_fright_a1 v_age_a1 v_asked_a1 v_weight_a2 v_fright_a2 v_age_a2 v_asked_a2 v_weight_a3 v_fright_a3 v_age_a3 v_asked_a3 v_weight_a4 v_fright_a4 v_age_a4 v_asked_a4 v_many v_pets v_last v_seed v_weight v_fright v_age v_asked v_homes v_marks v_had v_allergic v_deaths) H := by rw [hH]; exact hP
  have hS : va_S (tA sz (xWV ad) []) s.heap H locs := by rw [hH, hlo]; exact hS
  suffices hZ : W p l e ({ frames := 6, cells := 3, slots := 21, locals := 142 } : Room) s m args below meth c H locs 0 0 Q (F0 m 0 ls []) by rw [hH, hlo] at hZ; exact hZ
  clear hH hlo
  unfold sC_HW_weeks at hE
  refine lv_iload_n C.1 C.2.1 dX0_weeks_0 rfl (lv_at hl 2 rfl) ?_
  refine lv_i2l C.1 C.2.1 dX0_weeks_1 rfl ?_
  refine lv_lconst (v := 0) C.1 C.2.1 dX0_weeks_2 (by decide) ?_
  refine lv_lconst (v := 1) C.1 C.2.1 dX0_weeks_3 (by decide) ?_
  obtain ⟨r1, hr1, hE⟩ := it_b hE
  refine n_after [] C.2.2.2.2.2.1 C.2.2.2.2.2.2.2.1 hP hS (va_runS (As := [.long ((p2 : Int32).toInt64), .long 0, .long 1]) (rest := []) ⟨C.1, C.2.1, hml, C.2.2.1, C.2.2.2.1⟩ (metC_HW_in l G ad pl  ((p2 : Int32).toInt64) 0 1  r1 hr1) (va_cwS 3 C.2.2.2.1 (lw_S q401 q402 q80 q403) rfl rfl rfl (by decide +kernel) ⟨Nat.le_of_ble_eq_true rfl, Nat.le_of_ble_eq_true rfl⟩) (n_preS C hP hS [] rfl (by decide) rfl) rfl rfl hl.1 rfl (lv_room (Nat.le_of_ble_eq_true rfl)) dX0_weeks_4 ⟨Nat.le_of_ble_eq_true rfl, Nat.le_of_ble_eq_true rfl⟩) xW_av rfl rfl rfl (fun H locs hP hS => ?_)
  refine lv_bipush (v := (-5)) C.1 C.2.1 dX0_weeks_7 (by decide) ?_
  refine t_after [] C0 D hP P_nil hS (vx_runS (As := [.int r1, .int (-5)]) (rest := []) ⟨C.1, C.2.1, hml, C.2.2.1, C.2.2.2.1⟩ (metC_HW_need l hfl G ad pl H.size r1 (-5) _ (need_eq _ _)) (va_cwS 2 C.2.2.2.1 (lw_S q397 q398 q80 q399) rfl rfl rfl (by decide +kernel) ⟨Nat.le_of_ble_eq_true rfl, Nat.le_of_ble_eq_true rfl⟩) (rr_preS C D hP hS [] rfl (by decide) rfl) rfl rfl hl.1 rfl (lv_room (Nat.le_of_ble_eq_true rfl)) dX0_weeks_9 ⟨Nat.le_of_ble_eq_true rfl, Nat.le_of_ble_eq_true rfl⟩) xW_av rfl rfl rfl (fun hφ H locs hP _ hS => ?_) (fun w q H locs hw hq hc hP _ hS => ?_)
  · have hE := it_f (nd_n hφ) hE
    refine lv_aload_n C.1 C.2.1 dX0_weeks_12 rfl (lv_at hl 0 rfl) ?_
    obtain ⟨r4, hr4, hE⟩ := it_b hE
    refine t_afterS C0 D hP P_nil hS (vx_runV (As := []) (rest := []) ⟨C.1, C.2.1, hml, C.2.2.1, C.2.2.2.1⟩ (metC_HW_someMay l hfl G ad pl H.size _ _ _ _ _ _ _ _ _ _ _ _ _ _ _ _ _ _ _ _ _ _ _ _ _ _ _ _ _ _ _ _ _ _ _ _ _ _ _ _ _ _ _ _ _ _ _  r4 hr4) (cwV (C := RX0) 0 C.2.2.2.1 (lw_V q1109 q1111 qs25 q80 q1112) rfl rfl rfl (by decide +kernel) ⟨Nat.le_of_ble_eq_true rfl, Nat.le_of_ble_eq_true rfl⟩) (rr_preV0 C D hP hS (va_recv C.2.2.2.2.1 hP (ci := 16) (q0 := 0) rfl rfl)) rfl rfl hl.1 rfl (lv_room (Nat.le_of_ble_eq_true rfl)) dX0_weeks_13 ⟨Nat.le_of_ble_eq_true rfl, Nat.le_of_ble_eq_true rfl⟩) xW_av (fun hφ H locs hP _ hS => ?_) (fun w q H locs hw hq hc hP _ hS => ?_)
    · have hE := it_t hφ hE
      refine lv_iload_n C.1 C.2.1 dX0_weeks_16 rfl (lv_at hl 1 rfl) ?_
      refine lv_i2l C.1 C.2.1 dX0_weeks_17 rfl ?_
      refine lv_lconst (v := 1) C.1 C.2.1 dX0_weeks_18 (by decide) ?_
      refine lv_ldc2 C.1 C.2.1 C.2.2.1 (C.2.2.2.1 _ q1184) dX0_weeks_19 ?_
      obtain ⟨r6, hr6, hE⟩ := it_b hE
      refine n_after [] C.2.2.2.2.2.1 C.2.2.2.2.2.2.2.1 hP hS (va_runS (As := [.long ((p1 : Int32).toInt64), .long 1, .long 60]) (rest := []) ⟨C.1, C.2.1, hml, C.2.2.1, C.2.2.2.1⟩ (metC_HW_in l G ad pl  ((p1 : Int32).toInt64) 1 60  r6 hr6) (va_cwS 3 C.2.2.2.1 (lw_S q401 q402 q80 q403) rfl rfl rfl (by decide +kernel) ⟨Nat.le_of_ble_eq_true rfl, Nat.le_of_ble_eq_true rfl⟩) (n_preS C hP hS [] rfl (by decide) rfl) rfl rfl hl.1 rfl (lv_room (Nat.le_of_ble_eq_true rfl)) dX0_weeks_22 ⟨Nat.le_of_ble_eq_true rfl, Nat.le_of_ble_eq_true rfl⟩) xW_av rfl rfl rfl (fun H locs hP hS => ?_)
      refine lv_bipush (v := (-6)) C.1 C.2.1 dX0_weeks_25 (by decide) ?_
      refine t_after [] C0 D hP P_nil hS (vx_runS (As := [.int r6, .int (-6)]) (rest := []) ⟨C.1, C.2.1, hml, C.2.2.1, C.2.2.2.1⟩ (metC_HW_need l hfl G ad pl H.size r6 (-6) _ (need_eq _ _)) (va_cwS 2 C.2.2.2.1 (lw_S q397 q398 q80 q399) rfl rfl rfl (by decide +kernel) ⟨Nat.le_of_ble_eq_true rfl, Nat.le_of_ble_eq_true rfl⟩) (rr_preS C D hP hS [] rfl (by decide) rfl) rfl rfl hl.1 rfl (lv_room (Nat.le_of_ble_eq_true rfl)) dX0_weeks_27 ⟨Nat.le_of_ble_eq_true rfl, Nat.le_of_ble_eq_true rfl⟩) xW_av rfl rfl rfl (fun hφ H locs hP _ hS => ?_) (fun w q H locs hw hq hc hP _ hS => ?_)
      · have hE := it_f (nd_n hφ) hE
        refine lv_aload_n C.1 C.2.1 dX0_weeks_30 rfl (lv_at hl 0 rfl) ?_
        refine xWg_0_6 q244 C hP dX0_weeks_31 ?_
        refine xWg_18_1 q184 C hP dX0_weeks_34 ?_
        refine lv_istore_n (lv' := [(3, .int v_pets), (0, .ref (ad 0)), (1, .int p1), (2, .int p2)]) C.1 C.2.1 dX0_weeks_37 rfl hl (by decide) rfl (fun ls hl => ?_)
        refine lv_iconst (v := 0) C.1 C.2.1 dX0_weeks_38 (by decide) ?_
        refine lv_istore (lv' := [(4, .int 0), (3, .int v_pets), (0, .ref (ad 0)), (1, .int p1), (2, .int p2)]) C.1 C.2.1 dX0_weeks_39 hl (by decide) rfl (fun ls hl => ?_)
        obtain ⟨u9, hu9, hE⟩ := it_b hE
        refine wC_HW_weeks_h41 C hml  D hom p1 p2 v_pets u9 2000 0 v_pets v_last v_weight v_fright v_age v_had v_deaths H locs ls hu9 hP hS (lv_sub hl [2, 3, 4, 1, 0] rfl) (fun H locs ls hP hS hl => ?_)
        refine lv_aload_n C.1 C.2.1 dX0_weeks_78 rfl (lv_at hl 0 rfl) ?_
        refine xWg_0_6 q244 C hP dX0_weeks_79 ?_
        refine xWg_18_1 q184 C hP dX0_weeks_82 ?_
        refine lv_iload_n C.1 C.2.1 dX0_weeks_85 rfl (lv_at hl 1 rfl) ?_
        refine lv_isub C.1 C.2.1 dX0_weeks_86 ?_
        obtain rfl := Option.some.inj hE
        exact hret _ _ _ _ dX0_weeks_87 trivial hP hS
      · obtain ⟨c7, rfl⟩ := nd_x hw
        obtain ⟨q8, rfl⟩ : ∃ z, z = q := ⟨_, rfl⟩
        have hE := it_t c7 hE
        obtain ⟨ce, g1, g2, g3⟩ := t_cell C0 hc rfl
        refine t_catch (name := "HamsterWeekends$Refused") (E := "HamsterWeekends$Refused") C0 D [] ⟨0, 87, 88, 21⟩ [] htab (fun z hz => nomatch hz) rfl (by decide) q291 (List.mem_of_getElem? (i := 1) rfl) g1 g2 g3 ?_
        refine W.eq (g2 := F0 m 88 ls [.ref q8]) rfl ?_
        refine lv_astore_n (lv' := [(3, .ref q8), (0, .ref (ad 0)), (1, .int p1), (2, .int p2)]) C.1 C.2.1 dX0_weeks_88 rfl hl (by decide) rfl (fun ls hl => ?_)
        refine lv_aload_n C.1 C.2.1 dX0_weeks_89 rfl (lv_at hl 1 rfl) ?_
        refine lv_aload_n C.1 C.2.1 dX0_weeks_90 rfl (lv_at hl 0 rfl) ?_
        obtain ⟨r10, hr10, hE⟩ := it_b hE
        refine n_afterS C.2.2.2.2.2.2.2.1 hS (va_runV (As := [.ref q8]) (rest := []) ⟨C.1, C.2.1, hml, C.2.2.1, C.2.2.2.1⟩ (metC_HW_refused l G ad [(q8, .inr (18, xF (-6)))] _ _ _ _ _ _ _ _ _ _ _ _ _ _ _ _ _ _ _ _ _ _ _ _ _ _ _ _ _ _ _ _ _ _ _ _ _ _ _ _ _ _ _ _ _ _ _ q8 (-6) (List.mem_singleton.mpr rfl) r10 hr10) (cwV (C := RX0) 1 C.2.2.2.1 (lw_V q466 q468 qs2 q80 q469) rfl rfl rfl (by decide +kernel) ⟨Nat.le_of_ble_eq_true rfl, Nat.le_of_ble_eq_true rfl⟩) (t_preX C0 hP hc hq.1 (va_recv C.2.2.2.2.1 hP (ci := 16) (q0 := 0) rfl rfl)) rfl rfl hl.1 rfl (lv_room (Nat.le_of_ble_eq_true rfl)) dX0_weeks_91 ⟨Nat.le_of_ble_eq_true rfl, Nat.le_of_ble_eq_true rfl⟩) (fun H locs hP hS => ?_)
        obtain rfl := Option.some.inj hE
        exact hret _ _ _ _ dX0_weeks_94 trivial hP hS
    · have hE := it_f (by rw [hw]; exact fun h => nomatch h) hE
      obtain ⟨q5, rfl⟩ : ∃ z, z = q := ⟨_, rfl⟩
      obtain rfl : w = (r4.getD 0) := by rw [hw]; rfl
      obtain ⟨ce, g1, g2, g3⟩ := t_cell C0 hc rfl
      refine t_catch (name := "HamsterWeekends$Refused") (E := "HamsterWeekends$Refused") C0 D [] ⟨0, 87, 88, 21⟩ [] htab (fun z hz => nomatch hz) rfl (by decide) q291 (List.mem_of_getElem? (i := 1) rfl) g1 g2 g3 ?_
      refine W.eq (g2 := F0 m 88 ls [.ref q5]) rfl ?_
      refine lv_astore_n (lv' := [(3, .ref q5), (0, .ref (ad 0)), (1, .int p1), (2, .int p2)]) C.1 C.2.1 dX0_weeks_88 rfl hl (by decide) rfl (fun ls hl => ?_)
      refine lv_aload_n C.1 C.2.1 dX0_weeks_89 rfl (lv_at hl 1 rfl) ?_
      refine lv_aload_n C.1 C.2.1 dX0_weeks_90 rfl (lv_at hl 0 rfl) ?_
      obtain ⟨r11, hr11, hE⟩ := it_b hE
      refine n_afterS C.2.2.2.2.2.2.2.1 hS (va_runV (As := [.ref q5]) (rest := []) ⟨C.1, C.2.1, hml, C.2.2.1, C.2.2.2.1⟩ (metC_HW_refused l G ad [(q5, .inr (18, xF (r4.getD 0)))] _ _ _ _ _ _ _ _ _ _ _ _ _ _ _ _ _ _ _ _ _ _ _ _ _ _ _ _ _ _ _ _ _ _ _ _ _ _ _ _ _ _ _ _ _ _ _ q5 (r4.getD 0) (List.mem_singleton.mpr rfl) r11 hr11) (cwV (C := RX0) 1 C.2.2.2.1 (lw_V q466 q468 qs2 q80 q469) rfl rfl rfl (by decide +kernel) ⟨Nat.le_of_ble_eq_true rfl, Nat.le_of_ble_eq_true rfl⟩) (t_preX C0 hP hc hq.1 (va_recv C.2.2.2.2.1 hP (ci := 16) (q0 := 0) rfl rfl)) rfl rfl hl.1 rfl (lv_room (Nat.le_of_ble_eq_true rfl)) dX0_weeks_91 ⟨Nat.le_of_ble_eq_true rfl, Nat.le_of_ble_eq_true rfl⟩) (fun H locs hP hS => ?_)
      obtain rfl := Option.some.inj hE
      refine W.widen (k := 3) (n := 21) (Nat.le_of_ble_eq_true rfl) (Nat.le_of_ble_eq_true rfl) ?_
      exact hret _ _ _ _ dX0_weeks_94 trivial hP hS
  · obtain ⟨c2, rfl⟩ := nd_x hw
    obtain ⟨q3, rfl⟩ : ∃ z, z = q := ⟨_, rfl⟩
    have hE := it_t c2 hE
    obtain ⟨ce, g1, g2, g3⟩ := t_cell C0 hc rfl
    refine t_catch (name := "HamsterWeekends$Refused") (E := "HamsterWeekends$Refused") C0 D [] ⟨0, 87, 88, 21⟩ [] htab (fun z hz => nomatch hz) rfl (by decide) q291 (List.mem_of_getElem? (i := 1) rfl) g1 g2 g3 ?_
    refine W.eq (g2 := F0 m 88 ls [.ref q3]) rfl ?_
    refine lv_astore_n (lv' := [(3, .ref q3), (0, .ref (ad 0)), (1, .int p1), (2, .int p2)]) C.1 C.2.1 dX0_weeks_88 rfl hl (by decide) rfl (fun ls hl => ?_)
    refine lv_aload_n C.1 C.2.1 dX0_weeks_89 rfl (lv_at hl 1 rfl) ?_
    refine lv_aload_n C.1 C.2.1 dX0_weeks_90 rfl (lv_at hl 0 rfl) ?_
    obtain ⟨r12, hr12, hE⟩ := it_b hE
    refine n_afterS C.2.2.2.2.2.2.2.1 hS (va_runV (As := [.ref q3]) (rest := []) ⟨C.1, C.2.1, hml, C.2.2.1, C.2.2.2.1⟩ (metC_HW_refused l G ad [(q3, .inr (18, xF (-5)))] _ _ _ _ _ _ _ _ _ _ _ _ _ _ _ _ _ _ _ _ _ _ _ _ _ _ _ _ _ _ _ _ _ _ _ _ _ _ _ _ _ _ _ _ _ _ _ q3 (-5) (List.mem_singleton.mpr rfl) r12 hr12) (cwV (C := RX0) 1 C.2.2.2.1 (lw_V q466 q468 qs2 q80 q469) rfl rfl rfl (by decide +kernel) ⟨Nat.le_of_ble_eq_true rfl, Nat.le_of_ble_eq_true rfl⟩) (t_preX C0 hP hc hq.1 (va_recv C.2.2.2.2.1 hP (ci := 16) (q0 := 0) rfl rfl)) rfl rfl hl.1 rfl (lv_room (Nat.le_of_ble_eq_true rfl)) dX0_weeks_91 ⟨Nat.le_of_ble_eq_true rfl, Nat.le_of_ble_eq_true rfl⟩) (fun H locs hP hS => ?_)
    obtain rfl := Option.some.inj hE
    refine W.widen (k := 3) (n := 21) (Nat.le_of_ble_eq_true rfl) (Nat.le_of_ble_eq_true rfl) ?_
    exact hret _ _ _ _ dX0_weeks_94 trivial hP hS
def sC_HW_term_h18 (x1 : Int32) (v_many : Int32) (v_asked : Nat → Int32) (v_homes : Nat → Option Nat) (v_allergic : Nat → Int32) (hk : Nat → Nat) (hb : Nat → Int32) : Nat → Int32 → Int32 → Int32 → Int32 → Int32 → Int32 → Int32 → Int32 → (Nat → Int32) → (Nat → Int32) → Option (Int32 × Int32 × Int32 × Int32 × Int32 × Int32 × Int32 × (Nat → Int32) × (Nat → Int32))
  | 0, _, _, _, _, _, _, _, _, _, _ => none
  | fuel + 1, x2, x3, v_pets, v_last, v_seed, v_weight, v_fright, v_age, v_had, v_deaths =>
    if x1 ≤ x3 then
      some (x2, v_pets, v_last, v_seed, v_weight, v_fright, v_age, v_had, v_deaths)
    else
      (sC_Room_goesDraw v_many v_pets v_last v_seed v_weight v_fright v_age v_asked v_homes v_had v_allergic v_deaths hk hb).bind fun r1902 =>
      @Option.bind (Int32) _ (
        if r1902.1 = 0 then
          some 0
        else
          some 1) fun u1904 =>
      sC_HW_term_h18 x1 v_many v_asked v_homes v_allergic hk hb fuel (x2 + u1904) (x3 + 1) r1902.2.1 r1902.2.2.1 r1902.2.2.2.1 r1902.2.2.2.2.1 r1902.2.2.2.2.2.1 r1902.2.2.2.2.2.2.1 r1902.2.2.2.2.2.2.2.1 r1902.2.2.2.2.2.2.2.2
def sC_HW_term (v_refusals : Nat → Int32) (v_many : Int32) (v_pets : Int32) (v_last : Int32) (v_seed : Int32) (v_weight : Int32) (v_fright : Int32) (v_age : Int32) (v_asked : Nat → Int32) (v_homes : Nat → Option Nat) (v_had : Nat → Int32) (v_allergic : Nat → Int32) (v_deaths : Nat → Int32) (hk : Nat → Nat) (hb : Nat → Int32) (p1 : Int32) : Option (Int32 × (Nat → Int32) × Int32 × Int32 × Int32 × Int32 × Int32 × Int32 × (Nat → Int32) × (Nat → Int32)) :=
  (sC_HW_in ((p1 : Int32).toInt64) 1 60).bind fun r1 =>
  if r1 = 0 then
    (sC_HW_refused v_refusals (-6)).bind fun r5 =>
    some (r5.1, r5.2, v_pets, v_last, v_seed, v_weight, v_fright, v_age, v_had, v_deaths)
  else
    (sC_HW_term_h18 p1 v_many v_asked v_homes v_allergic hk hb 2000 0 0 v_pets v_last v_seed v_weight v_fright v_age v_had v_deaths).bind fun u4 =>
    some (u4.1, v_refusals, u4.2.1, u4.2.2.1, u4.2.2.2.1, u4.2.2.2.2.1, u4.2.2.2.2.2.1, u4.2.2.2.2.2.2.1, u4.2.2.2.2.2.2.2.1, u4.2.2.2.2.2.2.2.2)
set_option maxHeartbeats 4000000 in
theorem wC_HW_term_h18 {p : Program} {l : Launch} {e : Env} {s : State} {m : MethodId} {args : Array Value} {below : List Frame} {meth : Method} {c : Code} {Q : State → Prop} {G : kG} {ad : Nat → Nat} {pl : va_W} {hk : Nat → Nat} {hb : Nat → Int32} {sz : Nat} {v_latestFault : Int32} {v_died : Int32} {v_leastWeight : Int32} {v_noticedBy : Int32} {v_noticed : Int32} {v_orderDied : Int32} {v_orderLeast : Int32} {v_imaged : Option Nat} {v_shelves : Nat → Option Nat} {v_refusals : Nat → Int32} {v_ran : Int32} {v_bodies : Nat → Int32} {v_tweight : Int32} {v_tfright : Int32} {v_tage : Int32} {v_tasked : Nat → Int32} {v_told : Nat → Int32} {v_bestRow : Nat → Int32} {v_weight_a1 : Int32} {v_fright_a1 : Int32} {v_age_a1 : Int32} {v_asked_a1 : Nat → Int32} {v_weight_a2 : Int32} {v_fright_a2 : Int32} {v_age_a2 : Int32} {v_asked_a2 : Nat → Int32} {v_weight_a3 : Int32} {v_fright_a3 : Int32} {v_age_a3 : Int32} {v_asked_a3 : Nat → Int32} {v_weight_a4 : Int32} {v_fright_a4 : Int32} {v_age_a4 : Int32} {v_asked_a4 : Nat → Int32} {v_many : Int32} {v_asked : Nat → Int32} {v_homes : Nat → Option Nat} {v_marks : Nat → Int32} {v_allergic : Nat → Int32} (C : nC p s m args c cX0_term RX0 G (xWV ad) pl (tA sz (xWV ad) [])) (hml : c.maxLocals = 4)  (D : tD s (xWV ad) [] (tA sz (xWV ad) [])) (hom : homOK v_homes v_many hk hb pl) (x1 : Int32) (res : Int32 × Int32 × Int32 × Int32 × Int32 × Int32 × Int32 × (Nat → Int32) × (Nat → Int32)) :
    ∀ (fuel : Nat) (x2 : Int32) (x3 : Int32) (v_pets : Int32) (v_last : Int32) (v_seed : Int32) (v_weight : Int32) (v_fright : Int32) (v_age : Int32) (v_had : Nat → Int32) (v_deaths : Nat → Int32) (H : Heap) (locs : List Loc) (ls : Array Slot), sC_HW_term_h18 x1 v_many v_asked v_homes v_allergic hk hb fuel x2 x3 v_pets v_last v_seed v_weight v_fright v_age v_had v_deaths = some res → va_P G.1 vwCl (xW G.2 ad v_latestFault v_died v_leastWeight v_noticedBy v_noticed v_orderDied v_orderLeast v_imaged v_shelves v_refusals v_ran v_bodies v_tweight v_tfright v_tage v_tasked v_told v_bestRow v_weight_a1 v_fright_a1 v_age_a1 v_asked_a1 v_weight_a2 v_fright_a2 v_age_a2 v_asked_a2 v_weight_a3 v_fright_a3 v_age_a3 v_asked_a3 v_weight_a4 v_fright_a4 v_age_a4 v_asked_a4 v_many v_pets v_last v_seed v_weight v_fright v_age v_asked v_homes v_marks v_had v_allergic v_deaths) H → va_S (tA sz (xWV ad) []) s.heap H locs → lv_has ls 4 [(0, .ref (ad 0)), (1, .int x1), (2, .int x2), (3, .int x3)] → (∀ (H : Heap) (locs : List Loc) (ls : Array Slot), va_P G.1 vwCl (xW G.2 ad v_latestFault v_died v_leastWeight v_noticedBy v_noticed v_orderDied v_orderLeast v_imaged v_shelves v_refusals v_ran v_bodies v_tweight v_tfright v_tage v_tasked v_told v_bestRow v_weight_a1 v_fright_a1 v_age_a1 v_asked_a1 v_weight_a2 v_fright_a2 v_age_a2 v_asked_a2 v_weight_a3 v_fright_a3 v_age_a3 v_asked_a3 v_weight_a4 v_fright_a4 v_age_a4 v_asked_a4 v_many res.2.1 res.2.2.1 res.2.2.2.1 res.2.2.2.2.1 res.2.2.2.2.2.1 res.2.2.2.2.2.2.1 v_asked v_homes v_marks res.2.2.2.2.2.2.2.1 v_allergic res.2.2.2.2.2.2.2.2) H → va_S (tA sz (xWV ad) []) s.heap H locs → lv_has ls 4 [(0, .ref (ad 0)), (2, .int res.1)] → W p l e ({ frames := 7, cells := 1, slots := 7, locals := 150 } : Room) s m args below meth c H locs 1 7 Q (F0 m 47 ls [])) → W p l e ({ frames := 7, cells := 1, slots := 7, locals := 150 } : Room) s m args below meth c H locs 1 7 Q (F0 m 18 ls []) := by
  intro fuel
  induction fuel with
  | zero =>
    intro x2 x3 v_pets v_last v_seed v_weight v_fright v_age v_had v_deaths H locs ls hE
    exact it_n hE
  | succ fuel ih =>
    intro x2 x3 v_pets v_last v_seed v_weight v_fright v_age v_had v_deaths H locs ls hE hP hS hl hX
    rw [sC_HW_term_h18] at hE
    refine lv_iload_n C.1 C.2.1 dX0_term_18 rfl (lv_at hl 3 rfl) ?_
    refine lv_iload_n C.1 C.2.1 dX0_term_19 rfl (lv_at hl 1 rfl) ?_
    refine lv_icmp_ge (tgt := 47) C.1 C.2.1 dX0_term_20 (by decide) (fun c1901 => ?_) (fun c1901 => ?_)
    · have hE := it_t c1901 hE
      obtain rfl := Option.some.inj hE
      exact hX H locs ls hP hS (lv_sub hl [0, 2] rfl)
    · have hE := it_f c1901 hE
      refine lv_iload_n C.1 C.2.1 dX0_term_23 rfl (lv_at hl 2 rfl) ?_
      refine lv_aload_n C.1 C.2.1 dX0_term_24 rfl (lv_at hl 0 rfl) ?_
      refine xWg_0_6 q244 C hP dX0_term_25 ?_
      obtain ⟨r1902, hr1902, hE⟩ := it_b hE
      refine n_after [18, 19, 20, 21, 22, 23, 24, 25] C.2.2.2.2.2.1 C.2.2.2.2.2.2.2.1 hP hS (va_runV (As := []) (rest := [.int x2]) ⟨C.1, C.2.1, hml, C.2.2.1, C.2.2.2.1⟩ (metC_Room_goesDraw l G (fun i => ad (18 + i)) pl hk hb _ _ _ _ _ _ _ _ _ _ _ _ _ hom   r1902 hr1902) (cwV (C := RX3) 0 C.2.2.2.1 (lw_V q1189 q1190 q1191 q83 q1192) rfl rfl rfl (by decide +kernel) ⟨Nat.le_of_ble_eq_true rfl, Nat.le_of_ble_eq_true rfl⟩) (n_preV C hP hS [18, 19, 20, 21, 22, 23, 24, 25] sub_xW_rW_18 (by decide) rfl (va_recv C.2.2.2.2.1 hP (ci := 12) (q0 := 18) rfl rfl)) rfl rfl hl.1 rfl (lv_room (Nat.le_of_ble_eq_true rfl)) dX0_term_28 ⟨Nat.le_of_ble_eq_true rfl, Nat.le_of_ble_eq_true rfl⟩) xW_av rfl rfl mg_xW_rW_18 (fun H locs hP hS => ?_)
      obtain ⟨u1904, hR, hE⟩ := it_b hE
      have hJ39u1904 : ∀ (H : Heap) (locs : List Loc) (ls : Array Slot), va_P G.1 vwCl (xW G.2 ad v_latestFault v_died v_leastWeight v_noticedBy v_noticed v_orderDied v_orderLeast v_imaged v_shelves v_refusals v_ran v_bodies v_tweight v_tfright v_tage v_tasked v_told v_bestRow v_weight_a1 v_fright_a1 v_age_a1 v_asked_a1 v_weight_a2 v_fright_a2 v_age_a2 v_asked_a2 v_weight_a3 v_fright_a3 v_age_a3 v_asked_a3 v_weight_a4 v_fright_a4 v_age_a4 v_asked_a4 v_many r1902.2.1 r1902.2.2.1 r1902.2.2.2.1 r1902.2.2.2.2.1 r1902.2.2.2.2.2.1 r1902.2.2.2.2.2.2.1 v_asked v_homes v_marks r1902.2.2.2.2.2.2.2.1 v_allergic r1902.2.2.2.2.2.2.2.2) H → va_S (tA sz (xWV ad) []) s.heap H locs → lv_has ls 4 [(0, .ref (ad 0)), (1, .int x1), (3, .int x3)] → W p l e ({ frames := 7, cells := 1, slots := 7, locals := 150 } : Room) s m args below meth c H locs 1 7 Q (F0 m 39 ls [.int u1904, .int x2]) := by
        intro H locs ls hP hS hl
        refine lv_iadd C.1 C.2.1 dX0_term_39 ?_
        refine lv_istore_n (lv' := [(2, .int (x2 + u1904)), (0, .ref (ad 0)), (1, .int x1), (3, .int x3)]) C.1 C.2.1 dX0_term_40 rfl hl (by decide) rfl (fun ls hl => ?_)
        refine lv_iinc (v := (x3 + 1)) (lv' := [(3, .int (x3 + 1)), (2, .int (x2 + u1904)), (0, .ref (ad 0)), (1, .int x1)]) C.1 C.2.1 dX0_term_41 hl (k := 3) rfl rfl (by decide) rfl (fun ls hl => ?_)
        refine lv_goto (tgt := 18) C.1 C.2.1 dX0_term_44 (by decide) ?_
        exact ih (x2 + u1904) (x3 + 1) r1902.2.1 r1902.2.2.1 r1902.2.2.2.1 r1902.2.2.2.2.1 r1902.2.2.2.2.2.1 r1902.2.2.2.2.2.2.1 r1902.2.2.2.2.2.2.2.1 r1902.2.2.2.2.2.2.2.2 _ _ _ hE hP hS (lv_sub hl [2, 3, 1, 0] rfl) hX
      have hE := hR
      refine lv_if_eq (tgt := 38) C.1 C.2.1 dX0_term_31 (by decide) (fun c1903 => ?_) (fun c1903 => ?_)
      · have hE := it_t c1903 hE
        refine lv_iconst (v := 0) C.1 C.2.1 dX0_term_38 (by decide) ?_
        obtain rfl := Option.some.inj hE
        exact hJ39u1904 H locs ls hP hS (lv_sub hl [0, 1, 3] rfl)
      · have hE := it_f c1903 hE
        refine lv_iconst (v := 1) C.1 C.2.1 dX0_term_34 (by decide) ?_
        refine lv_goto (tgt := 39) C.1 C.2.1 dX0_term_35 (by decide) ?_
        obtain rfl := Option.some.inj hE
        exact hJ39u1904 H locs ls hP hS (lv_sub hl [0, 1, 3] rfl)
set_option maxHeartbeats 4000000 in
theorem metC_HW_term (l : Launch) (hfl : l.stackTraces = false) (G : kG) (ad : Nat → Nat) (pl : va_W) (hk : Nat → Nat) (hb : Nat → Int32) (sz : Nat) (v_latestFault : Int32) (v_died : Int32) (v_leastWeight : Int32) (v_noticedBy : Int32) (v_noticed : Int32) (v_orderDied : Int32) (v_orderLeast : Int32) (v_imaged : Option Nat) (v_shelves : Nat → Option Nat) (v_refusals : Nat → Int32) (v_ran : Int32) (v_bodies : Nat → Int32) (v_tweight : Int32) (v_tfright : Int32) (v_tage : Int32) (v_tasked : Nat → Int32) (v_told : Nat → Int32) (v_bestRow : Nat → Int32) (v_weight_a1 : Int32) (v_fright_a1 : Int32) (v_age_a1 : Int32) (v_asked_a1 : Nat → Int32) (v_weight_a2 : Int32) (v_fright_a2 : Int32) (v_age_a2 : Int32) (v_asked_a2 : Nat → Int32) (v_weight_a3 : Int32) (v_fright_a3 : Int32) (v_age_a3 : Int32) (v_asked_a3 : Nat → Int32) (v_weight_a4 : Int32) (v_fright_a4 : Int32) (v_age_a4 : Int32) (v_asked_a4 : Nat → Int32) (v_many : Int32) (v_pets : Int32) (v_last : Int32) (v_seed : Int32) (v_weight : Int32) (v_fright : Int32) (v_age : Int32) (v_asked : Nat → Int32) (v_homes : Nat → Option Nat) (v_marks : Nat → Int32) (v_had : Nat → Int32) (v_allergic : Nat → Int32) (v_deaths : Nat → Int32) (hom : homOK v_homes v_many hk hb pl) (p1 : Int32) (res : Int32 × (Nat → Int32) × Int32 × Int32 × Int32 × Int32 × Int32 × Int32 × (Nat → Int32) × (Nat → Int32)) (hE : sC_HW_term v_refusals v_many v_pets v_last v_seed v_weight v_fright v_age v_asked v_homes v_had v_allergic v_deaths hk hb p1 = some res) : vx_Met l yX0_term (wsW_ yX0_term cX0_term 4 (some .int) [((0 : Nat), (48 : Nat), (49 : Nat), (21 : Nat))]) ({ frames := 7, cells := 1, slots := 7, locals := 150 } : Room) (rPc G (xW G.2 ad v_latestFault v_died v_leastWeight v_noticedBy v_noticed v_orderDied v_orderLeast v_imaged v_shelves v_refusals v_ran v_bodies v_tweight v_tfright v_tage v_tasked v_told v_bestRow v_weight_a1 v_fright_a1 v_age_a1 v_asked_a1 v_weight_a2 v_fright_a2 v_age_a2 v_asked_a2 v_weight_a3 v_fright_a3 v_age_a3 v_asked_a3 v_weight_a4 v_fright_a4 v_age_a4 v_asked_a4 v_many v_pets v_last v_seed v_weight v_fright v_age v_asked v_homes v_marks v_had v_allergic v_deaths) pl (xWV ad) sz [.ref (ad 0), .int p1]) (tQc G (xW G.2 ad v_latestFault v_died v_leastWeight v_noticedBy v_noticed v_orderDied v_orderLeast v_imaged v_shelves res.2.1 v_ran v_bodies v_tweight v_tfright v_tage v_tasked v_told v_bestRow v_weight_a1 v_fright_a1 v_age_a1 v_asked_a1 v_weight_a2 v_fright_a2 v_age_a2 v_asked_a2 v_weight_a3 v_fright_a3 v_age_a3 v_asked_a3 v_weight_a4 v_fright_a4 v_age_a4 v_asked_a4 v_many res.2.2.1 res.2.2.2.1 res.2.2.2.2.1 res.2.2.2.2.2.1 res.2.2.2.2.2.2.1 res.2.2.2.2.2.2.2.1 v_asked v_homes v_marks res.2.2.2.2.2.2.2.2.1 v_allergic res.2.2.2.2.2.2.2.2.2) [] (tA sz (xWV ad) []) (True) (some (.int res.1))) (tXC G (xW G.2 ad v_latestFault v_died v_leastWeight v_noticedBy v_noticed v_orderDied v_orderLeast v_imaged v_shelves res.2.1 v_ran v_bodies v_tweight v_tfright v_tage v_tasked v_told v_bestRow v_weight_a1 v_fright_a1 v_age_a1 v_asked_a1 v_weight_a2 v_fright_a2 v_age_a2 v_asked_a2 v_weight_a3 v_fright_a3 v_age_a3 v_asked_a3 v_weight_a4 v_fright_a4 v_age_a4 v_asked_a4 v_many res.2.2.1 res.2.2.2.1 res.2.2.2.2.1 res.2.2.2.2.2.1 res.2.2.2.2.2.2.1 res.2.2.2.2.2.2.2.1 v_asked v_homes v_marks res.2.2.2.2.2.2.2.2.1 v_allergic res.2.2.2.2.2.2.2.2.2) [] (tA sz (xWV ad) []) 18 RX6 none sz) 1 7 (tA sz (xWV ad) []) := by
  refine r_ofWH (own := RX0) (by decide) rfl (Nat.le_of_ble_eq_true rfl) ?_
  intro p e s m args below meth c ls C C0 D hml htab hP hS hl hr hlocks hsz
  have hl : lv_has ls 4 [(0, .ref (ad 0)), (1, .int p1)] := hl
  obtain ⟨Q, hQ⟩ : ∃ Q, Q = vx_MQ below (tQc G (xW G.2 ad v_latestFault v_died v_leastWeight v_noticedBy v_noticed v_orderDied v_orderLeast v_imaged v_shelves res.2.1 v_ran v_bodies v_tweight v_tfright v_tage v_tasked v_told v_bestRow v_weight_a1 v_fright_a1 v_age_a1 v_asked_a1 v_weight_a2 v_fright_a2 v_age_a2 v_asked_a2 v_weight_a3 v_fright_a3 v_age_a3 v_asked_a3 v_weight_a4 v_fright_a4 v_age_a4 v_asked_a4 v_many res.2.2.1 res.2.2.2.1 res.2.2.2.2.1 res.2.2.2.2.2.1 res.2.2.2.2.2.2.1 res.2.2.2.2.2.2.2.1 v_asked v_homes v_marks res.2.2.2.2.2.2.2.2.1 v_allergic res.2.2.2.2.2.2.2.2.2) [] (tA sz (xWV ad) []) (True) (some (.int res.1))) (tXC G (xW G.2 ad v_latestFault v_died v_leastWeight v_noticedBy v_noticed v_orderDied v_orderLeast v_imaged v_shelves res.2.1 v_ran v_bodies v_tweight v_tfright v_tage v_tasked v_told v_bestRow v_weight_a1 v_fright_a1 v_age_a1 v_asked_a1 v_weight_a2 v_fright_a2 v_age_a2 v_asked_a2 v_weight_a3 v_fright_a3 v_age_a3 v_asked_a3 v_weight_a4 v_fright_a4 v_age_a4 v_asked_a4 v_many res.2.2.1 res.2.2.2.1 res.2.2.2.2.1 res.2.2.2.2.2.1 res.2.2.2.2.2.2.1 res.2.2.2.2.2.2.2.1 v_asked v_homes v_marks res.2.2.2.2.2.2.2.2.1 v_allergic res.2.2.2.2.2.2.2.2.2) [] (tA sz (xWV ad) []) 18 RX6 none sz) args s 1 7 (tA sz (xWV ad) []) := ⟨_, rfl⟩
  rw [← hQ]
  have hret : ∀ (pc : Nat) (ls : Array Slot) (H : Heap) (locs : List Loc), decode cX0_term pc = .ok (.ireturn, 1) → True → va_P G.1 vwCl (xW G.2 ad v_latestFault v_died v_leastWeight v_noticedBy v_noticed v_orderDied v_orderLeast v_imaged v_shelves res.2.1 v_ran v_bodies v_tweight v_tfright v_tage v_tasked v_told v_bestRow v_weight_a1 v_fright_a1 v_age_a1 v_asked_a1 v_weight_a2 v_fright_a2 v_age_a2 v_asked_a2 v_weight_a3 v_fright_a3 v_age_a3 v_asked_a3 v_weight_a4 v_fright_a4 v_age_a4 v_asked_a4 v_many res.2.2.1 res.2.2.2.1 res.2.2.2.2.1 res.2.2.2.2.2.1 res.2.2.2.2.2.2.1 res.2.2.2.2.2.2.2.1 v_asked v_homes v_marks res.2.2.2.2.2.2.2.2.1 v_allergic res.2.2.2.2.2.2.2.2.2) H → va_S (tA sz (xWV ad) []) s.heap H locs → W p l e ({ frames := 7, cells := 1, slots := 7, locals := 150 } : Room) s m args below meth c H locs 1 7 Q (F0 m pc ls [(.int res.1)]) := by
    intro pc ls H locs hd hφ hP hS
    rw [hQ]
    exact t_iret C0 hr hlocks hd hφ hP P_nil hS
  clear hQ
  obtain ⟨H, hH⟩ : ∃ H, H = s.heap := ⟨_, rfl⟩
  obtain ⟨locs, hlo⟩ : ∃ locs : List Loc, locs = [] := ⟨_, rfl⟩
  have hP : va_P G.1 vwCl (xW G.2 ad v_latestFault v_died v_leastWeight v_noticedBy v_noticed v_orderDied v_orderLeast v_imaged v_shelves v_refusals v_ran v_bodies v_tweight v_tfright v_tage v_tasked v_told v_bestRow v_weight_a1 v_fright_a1 v_age_a1 v_asked_a1 v_weight_a2 v_fright_a2 v_age_a2 v_asked_a2 v_weight_a3 v_fright_a3 v_age_a3 v_asked_a3 v_weight_a4 v_fright_a4 v_age_a4 v_asked_a4 v_many v_pets v_last v_seed v_weight v_fright v_age v_asked v_homes v_marks v_had v_allergic v_deaths) H := by rw [hH]; exact hP
  have hS : va_S (tA sz (xWV ad) []) s.heap H locs := by rw [hH, hlo]; exact hS
  suffices hZ : W p l e ({ frames := 7, cells := 1, slots := 7, locals := 150 } : Room) s m args below meth c H locs 0 0 Q (F0 m 0 ls []) by rw [hH, hlo] at hZ; exact hZ
  clear hH hlo
  unfold sC_HW_term at hE
  refine lv_iload_n C.1 C.2.1 dX0_term_0 rfl (lv_at hl 1 rfl) ?_
  refine lv_i2l C.1 C.2.1 dX0_term_1 rfl ?_
  refine lv_lconst (v := 1) C.1 C.2.1 dX0_term_2 (by decide) ?_
  refine lv_ldc2 C.1 C.2.1 C.2.2.1 (C.2.2.2.1 _ q1184) dX0_term_3 ?_
  obtain ⟨r1, hr1, hE⟩ := it_b hE
  refine n_after [] C.2.2.2.2.2.1 C.2.2.2.2.2.2.2.1 hP hS (va_runS (As := [.long ((p1 : Int32).toInt64), .long 1, .long 60]) (rest := []) ⟨C.1, C.2.1, hml, C.2.2.1, C.2.2.2.1⟩ (metC_HW_in l G ad pl  ((p1 : Int32).toInt64) 1 60  r1 hr1) (va_cwS 3 C.2.2.2.1 (lw_S q401 q402 q80 q403) rfl rfl rfl (by decide +kernel) ⟨Nat.le_of_ble_eq_true rfl, Nat.le_of_ble_eq_true rfl⟩) (n_preS C hP hS [] rfl (by decide) rfl) rfl rfl hl.1 rfl (lv_room (Nat.le_of_ble_eq_true rfl)) dX0_term_6 ⟨Nat.le_of_ble_eq_true rfl, Nat.le_of_ble_eq_true rfl⟩) xW_av rfl rfl rfl (fun H locs hP hS => ?_)
  refine lv_bipush (v := (-6)) C.1 C.2.1 dX0_term_9 (by decide) ?_
  refine t_after [] C0 D hP P_nil hS (vx_runS (As := [.int r1, .int (-6)]) (rest := []) ⟨C.1, C.2.1, hml, C.2.2.1, C.2.2.2.1⟩ (metC_HW_need l hfl G ad pl H.size r1 (-6) _ (need_eq _ _)) (va_cwS 2 C.2.2.2.1 (lw_S q397 q398 q80 q399) rfl rfl rfl (by decide +kernel) ⟨Nat.le_of_ble_eq_true rfl, Nat.le_of_ble_eq_true rfl⟩) (rr_preS C D hP hS [] rfl (by decide) rfl) rfl rfl hl.1 rfl (lv_room (Nat.le_of_ble_eq_true rfl)) dX0_term_11 ⟨Nat.le_of_ble_eq_true rfl, Nat.le_of_ble_eq_true rfl⟩) xW_av rfl rfl rfl (fun hφ H locs hP _ hS => ?_) (fun w q H locs hw hq hc hP _ hS => ?_)
  · have hE := it_f (nd_n hφ) hE
    refine lv_iconst (v := 0) C.1 C.2.1 dX0_term_14 (by decide) ?_
    refine lv_istore_n (lv' := [(2, .int 0), (0, .ref (ad 0)), (1, .int p1)]) C.1 C.2.1 dX0_term_15 rfl hl (by decide) rfl (fun ls hl => ?_)
    refine lv_iconst (v := 0) C.1 C.2.1 dX0_term_16 (by decide) ?_
    refine lv_istore_n (lv' := [(3, .int 0), (2, .int 0), (0, .ref (ad 0)), (1, .int p1)]) C.1 C.2.1 dX0_term_17 rfl hl (by decide) rfl (fun ls hl => ?_)
    obtain ⟨u4, hu4, hE⟩ := it_b hE
    refine wC_HW_term_h18 C hml  D hom p1 u4 2000 0 0 v_pets v_last v_seed v_weight v_fright v_age v_had v_deaths H locs ls hu4 hP hS (lv_sub hl [2, 3, 1, 0] rfl) (fun H locs ls hP hS hl => ?_)
    refine lv_iload_n C.1 C.2.1 dX0_term_47 rfl (lv_at hl 1 rfl) ?_
    obtain rfl := Option.some.inj hE
    exact hret _ _ _ _ dX0_term_48 trivial hP hS
  · obtain ⟨c2, rfl⟩ := nd_x hw
    obtain ⟨q3, rfl⟩ : ∃ z, z = q := ⟨_, rfl⟩
    have hE := it_t c2 hE
    obtain ⟨ce, g1, g2, g3⟩ := t_cell C0 hc rfl
    refine t_catch (name := "HamsterWeekends$Refused") (E := "HamsterWeekends$Refused") C0 D [] ⟨0, 48, 49, 21⟩ [] htab (fun z hz => nomatch hz) rfl (by decide) q291 (List.mem_of_getElem? (i := 1) rfl) g1 g2 g3 ?_
    refine W.eq (g2 := F0 m 49 ls [.ref q3]) rfl ?_
    refine lv_astore_n (lv' := [(2, .ref q3), (0, .ref (ad 0)), (1, .int p1)]) C.1 C.2.1 dX0_term_49 rfl hl (by decide) rfl (fun ls hl => ?_)
    refine lv_aload_n C.1 C.2.1 dX0_term_50 rfl (lv_at hl 1 rfl) ?_
    refine lv_aload_n C.1 C.2.1 dX0_term_51 rfl (lv_at hl 0 rfl) ?_
    obtain ⟨r5, hr5, hE⟩ := it_b hE
    refine n_afterS C.2.2.2.2.2.2.2.1 hS (va_runV (As := [.ref q3]) (rest := []) ⟨C.1, C.2.1, hml, C.2.2.1, C.2.2.2.1⟩ (metC_HW_refused l G ad [(q3, .inr (18, xF (-6)))] _ _ _ _ _ _ _ _ _ _ _ _ _ _ _ _ _ _ _ _ _ _ _ _ _ _ _ _ _ _ _ _ _ _ _ _ _ _ _ _ _ _ _ _ _ _ _ q3 (-6) (List.mem_singleton.mpr rfl) r5 hr5) (cwV (C := RX0) 1 C.2.2.2.1 (lw_V q466 q468 qs2 q80 q469) rfl rfl rfl (by decide +kernel) ⟨Nat.le_of_ble_eq_true rfl, Nat.le_of_ble_eq_true rfl⟩) (t_preX C0 hP hc hq.1 (va_recv C.2.2.2.2.1 hP (ci := 16) (q0 := 0) rfl rfl)) rfl rfl hl.1 rfl (lv_room (Nat.le_of_ble_eq_true rfl)) dX0_term_52 ⟨Nat.le_of_ble_eq_true rfl, Nat.le_of_ble_eq_true rfl⟩) (fun H locs hP hS => ?_)
    obtain rfl := Option.some.inj hE
    exact hret _ _ _ _ dX0_term_55 trivial hP hS
