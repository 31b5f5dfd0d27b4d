set_option maxRecDepth 100000
def sC_HW_wrongIn_h2 (x2 : Int32) (v_many : Int32) (v_allergic : Nat → Int32) (qn : Nat) (qc : Nat → Int64) : Nat → Int32 → (Nat → Int32) → Option (Int32 × (Nat → Int32))
  | 0, _, _ => none
  | fuel + 1, x3, v_told =>
    if x2 ≤ x3 then
      some ((-1), v_told)
    else
      if gi x3 qn then
      if gi x3 40 then
      if gi x3 40 then
      if ((upd v_told (x3).toNatClampNeg ((qc (x3).toNatClampNeg).toInt32)) (x3).toNatClampNeg) = (-1) then
        sC_HW_wrongIn_h2 x2 v_many v_allergic qn qc fuel (x3 + 1) (upd v_told (x3).toNatClampNeg ((qc (x3).toNatClampNeg).toInt32))
      else
        if gi x3 40 then
        (sC_Room_may v_many v_allergic ((upd v_told (x3).toNatClampNeg ((qc (x3).toNatClampNeg).toInt32)) (x3).toNatClampNeg)).bind fun r307 =>
        if r307 = 0 then
          some (x3, (upd v_told (x3).toNatClampNeg ((qc (x3).toNatClampNeg).toInt32)))
        else
          sC_HW_wrongIn_h2 x2 v_many v_allergic qn qc fuel (x3 + 1) (upd v_told (x3).toNatClampNeg ((qc (x3).toNatClampNeg).toInt32))
        else none
      else none
      else none
      else none
def sC_HW_wrongIn (v_told : Nat → Int32) (v_many : Int32) (v_allergic : Nat → Int32) (qn : Nat) (qc : Nat → Int64) (p2 : Int32) : Option (Int32 × (Nat → Int32)) :=
  sC_HW_wrongIn_h2 p2 v_many v_allergic qn qc 2000 0 v_told
set_option maxHeartbeats 4000000 in
theorem wC_HW_wrongIn_h2 {p : Program} {l : Launch} {e : Env} {s : State} {m : MethodId} {args : Array Value} {below : List Frame} {meth : Method} {c : Code} {Q : State → Prop} {G : kG} {ad : Nat → Nat} {pl : va_W} {q qk qb qn : Nat} {qc : Nat → Int64} {sz : Nat} {v_latestFault : Int32} {v_died : Int32} {v_leastWeight : Int32} {v_noticedBy : Int32} {v_noticed : Int32} {v_orderDied : Int32} {v_orderLeast : Int32} {v_imaged : Option Nat} {v_shelves : Nat → Option Nat} {v_refusals : Nat → Int32} {v_ran : Int32} {v_bodies : Nat → Int32} {v_tweight : Int32} {v_tfright : Int32} {v_tage : Int32} {v_tasked : Nat → Int32} {v_bestRow : Nat → Int32} {v_weight_a1 : Int32} {v_fright_a1 : Int32} {v_age_a1 : Int32} {v_asked_a1 : Nat → Int32} {v_weight_a2 : Int32} {v_fright_a2 : Int32} {v_age_a2 : Int32} {v_asked_a2 : Nat → Int32} {v_weight_a3 : Int32} {v_fright_a3 : Int32} {v_age_a3 : Int32} {v_asked_a3 : Nat → Int32} {v_weight_a4 : Int32} {v_fright_a4 : Int32} {v_age_a4 : Int32} {v_asked_a4 : Nat → Int32} {v_many : Int32} {v_pets : Int32} {v_last : Int32} {v_seed : Int32} {v_weight : Int32} {v_fright : Int32} {v_age : Int32} {v_asked : Nat → Int32} {v_homes : Nat → Option Nat} {v_marks : Nat → Int32} {v_had : Nat → Int32} {v_allergic : Nat → Int32} {v_deaths : Nat → Int32} (C : nC p s m args c cX0_wrongIn RX0 G (xWV ad) pl (tA sz (xWV ad) [])) (hml : c.maxLocals = 4)  (D : tD s (xWV ad) [] (tA sz (xWV ad) [])) (hrw : rowIn G q qk qb qn qc pl) (x2 : Int32) (res : Int32 × (Nat → Int32)) :
    ∀ (fuel : Nat) (x3 : Int32) (v_told : Nat → Int32) (H : Heap) (locs : List Loc) (ls : Array Slot), sC_HW_wrongIn_h2 x2 v_many v_allergic qn qc fuel x3 v_told = some res → va_P G.1 vwCl (xW G.2 ad v_latestFault v_died v_leastWeight v_noticedBy v_noticed v_orderDied v_orderLeast v_imaged v_shelves v_refusals v_ran v_bodies v_tweight v_tfright v_tage v_tasked v_told v_bestRow v_weight_a1 v_fright_a1 v_age_a1 v_asked_a1 v_weight_a2 v_fright_a2 v_age_a2 v_asked_a2 v_weight_a3 v_fright_a3 v_age_a3 v_asked_a3 v_weight_a4 v_fright_a4 v_age_a4 v_asked_a4 v_many v_pets v_last v_seed v_weight v_fright v_age v_asked v_homes v_marks v_had v_allergic v_deaths) H → va_S (tA sz (xWV ad) []) s.heap H locs → lv_has ls 4 [(0, .ref (ad 0)), (1, .ref q), (2, .int x2), (3, .int x3)] → (∀ (pc : Nat) (ls : Array Slot) (H : Heap) (locs : List Loc), decode cX0_wrongIn pc = .ok (.ireturn, 1) → True → va_P G.1 vwCl (xW G.2 ad v_latestFault v_died v_leastWeight v_noticedBy v_noticed v_orderDied v_orderLeast v_imaged v_shelves v_refusals v_ran v_bodies v_tweight v_tfright v_tage v_tasked res.2 v_bestRow v_weight_a1 v_fright_a1 v_age_a1 v_asked_a1 v_weight_a2 v_fright_a2 v_age_a2 v_asked_a2 v_weight_a3 v_fright_a3 v_age_a3 v_asked_a3 v_weight_a4 v_fright_a4 v_age_a4 v_asked_a4 v_many v_pets v_last v_seed v_weight v_fright v_age v_asked v_homes v_marks v_had v_allergic v_deaths) H → va_S (tA sz (xWV ad) []) s.heap H locs → W p l e ({ frames := 3, cells := 0, slots := 0, locals := 67 } : Room) s m args below meth c H locs 0 0 Q (F0 m pc ls [(.int res.1)])) → W p l e ({ frames := 3, cells := 0, slots := 0, locals := 67 } : Room) s m args below meth c H locs 0 0 Q (F0 m 2 ls []) := by
  intro fuel
  induction fuel with
  | zero =>
    intro x3 v_told H locs ls hE
    exact it_n hE
  | succ fuel ih =>
    intro x3 v_told H locs ls hE hP hS hl hret
    rw [sC_HW_wrongIn_h2] at hE
    refine lv_iload_n C.1 C.2.1 dX0_wrongIn_2 rfl (lv_at hl 3 rfl) ?_
    refine lv_iload_n C.1 C.2.1 dX0_wrongIn_3 rfl (lv_at hl 2 rfl) ?_
    refine lv_icmp_ge (tgt := 52) C.1 C.2.1 dX0_wrongIn_4 (by decide) (fun c301 => ?_) (fun c301 => ?_)
    · have hE := it_t c301 hE
      refine lv_iconst (v := (-1)) C.1 C.2.1 dX0_wrongIn_52 (by decide) ?_
      obtain rfl := Option.some.inj hE
      exact hret _ _ _ _ dX0_wrongIn_53 trivial hP hS
    · have hE := it_f c301 hE
      refine lv_aload_n C.1 C.2.1 dX0_wrongIn_7 rfl (lv_at hl 0 rfl) ?_
      refine xWg_0_4 q242 C hP dX0_wrongIn_8 ?_
      refine lv_iload_n C.1 C.2.1 dX0_wrongIn_11 rfl (lv_at hl 3 rfl) ?_
      refine lv_aload_n C.1 C.2.1 dX0_wrongIn_12 rfl (lv_at hl 1 rfl) ?_
      refine lv_iload_n C.1 C.2.1 dX0_wrongIn_13 rfl (lv_at hl 3 rfl) ?_
      obtain ⟨g302, hE⟩ := it_g hE
      refine rw_asInt C D.2.2.2.2 hml hl.1 hP xW_av hS hrw g302 q1066 ⟨Nat.le_of_ble_eq_true rfl, Nat.le_of_ble_eq_true rfl, Nat.le_of_ble_eq_true rfl, Nat.le_of_ble_eq_true rfl⟩ (Nat.le_of_ble_eq_true rfl) dX0_wrongIn_14 (fun H locs hP hS => ?_)
      obtain ⟨g303, hE⟩ := it_g hE
      refine xWs_7 C hP hS (gi_in g303) dX0_wrongIn_17 (fun H locs hP hS => ?_)
      refine lv_aload_n C.1 C.2.1 dX0_wrongIn_18 rfl (lv_at hl 0 rfl) ?_
      refine xWg_0_4 q242 C hP dX0_wrongIn_19 ?_
      refine lv_iload_n C.1 C.2.1 dX0_wrongIn_22 rfl (lv_at hl 3 rfl) ?_
      obtain ⟨g304, hE⟩ := it_g hE
      refine xWl_7 (v := ((upd v_told (x3).toNatClampNeg ((qc (x3).toNatClampNeg).toInt32)) (x3).toNatClampNeg)) C hP (gi_in g304) rfl dX0_wrongIn_23 ?_
      refine lv_iconst (v := (-1)) C.1 C.2.1 dX0_wrongIn_24 (by decide) ?_
      refine lv_icmp_eq (tgt := 46) C.1 C.2.1 dX0_wrongIn_25 (by decide) (fun c305 => ?_) (fun c305 => ?_)
      · have hE := it_t c305 hE
        refine lv_iinc (v := (x3 + 1)) (lv' := [(3, .int (x3 + 1)), (0, .ref (ad 0)), (1, .ref q), (2, .int x2)]) C.1 C.2.1 dX0_wrongIn_46 hl (k := 3) rfl rfl (by decide) rfl (fun ls hl => ?_)
        refine lv_goto (tgt := 2) C.1 C.2.1 dX0_wrongIn_49 (by decide) ?_
        exact ih (x3 + 1) (upd v_told (x3).toNatClampNeg ((qc (x3).toNatClampNeg).toInt32)) _ _ _ hE hP hS (lv_sub hl [1, 2, 3, 0] rfl) hret
      · have hE := it_f c305 hE
        refine lv_aload_n C.1 C.2.1 dX0_wrongIn_28 rfl (lv_at hl 0 rfl) ?_
        refine xWg_0_6 q244 C hP dX0_wrongIn_29 ?_
        refine lv_aload_n C.1 C.2.1 dX0_wrongIn_32 rfl (lv_at hl 0 rfl) ?_
        refine xWg_0_4 q242 C hP dX0_wrongIn_33 ?_
        refine lv_iload_n C.1 C.2.1 dX0_wrongIn_36 rfl (lv_at hl 3 rfl) ?_
        obtain ⟨g306, hE⟩ := it_g hE
        refine xWl_7 (v := ((upd v_told (x3).toNatClampNeg ((qc (x3).toNatClampNeg).toInt32)) (x3).toNatClampNeg)) C hP (gi_in g306) rfl dX0_wrongIn_37 ?_
        obtain ⟨r307, hr307, hE⟩ := it_b hE
        refine n_after [18, 19, 20, 21, 22, 23, 24, 25] C.2.2.2.2.2.1 C.2.2.2.2.2.2.2.1 hP hS (va_runV (As := [.int ((upd v_told (x3).toNatClampNeg ((qc (x3).toNatClampNeg).toInt32)) (x3).toNatClampNeg)]) (rest := []) ⟨C.1, C.2.1, hml, C.2.2.1, C.2.2.2.1⟩ (metC_Room_may l G (fun i => ad (18 + i)) pl _ _ _ _ _ _ _ _ _ _ _ _ _ ((upd v_told (x3).toNatClampNeg ((qc (x3).toNatClampNeg).toInt32)) (x3).toNatClampNeg)  r307 hr307) (cwV (C := RX3) 1 C.2.2.2.1 (lw_V q1067 q972 q973 q83 q974) rfl rfl rfl (by decide +kernel) ⟨Nat.le_of_ble_eq_true rfl, Nat.le_of_ble_eq_true rfl⟩) (n_preV C hP hS [18, 19, 20, 21, 22, 23, 24, 25] sub_xW_rW_18 (by decide) rfl (va_recv C.2.2.2.2.1 hP (ci := 12) (q0 := 18) rfl rfl)) rfl rfl hl.1 rfl (lv_room (Nat.le_of_ble_eq_true rfl)) dX0_wrongIn_38 ⟨Nat.le_of_ble_eq_true rfl, Nat.le_of_ble_eq_true rfl⟩) xW_av rfl rfl mg_xW_rW_18 (fun H locs hP hS => ?_)
        refine lv_if_ne (tgt := 46) C.1 C.2.1 dX0_wrongIn_41 (by decide) (fun c308 => ?_) (fun c308 => ?_)
        · have hE := it_f c308 hE
          refine lv_iinc (v := (x3 + 1)) (lv' := [(3, .int (x3 + 1)), (0, .ref (ad 0)), (1, .ref q), (2, .int x2)]) C.1 C.2.1 dX0_wrongIn_46 hl (k := 3) rfl rfl (by decide) rfl (fun ls hl => ?_)
          refine lv_goto (tgt := 2) C.1 C.2.1 dX0_wrongIn_49 (by decide) ?_
          exact ih (x3 + 1) (upd v_told (x3).toNatClampNeg ((qc (x3).toNatClampNeg).toInt32)) _ _ _ hE hP hS (lv_sub hl [1, 2, 3, 0] rfl) hret
        · have hE := it_t c308 hE
          refine lv_iload_n C.1 C.2.1 dX0_wrongIn_44 rfl (lv_at hl 3 rfl) ?_
          obtain rfl := Option.some.inj hE
          exact hret _ _ _ _ dX0_wrongIn_45 trivial hP hS
set_option maxHeartbeats 4000000 in
theorem metC_HW_wrongIn (l : Launch) (hfl : l.stackTraces = false) (G : kG) (ad : Nat → Nat) (pl : va_W) (sz : Nat) (v_latestFault : Int32) (v_died : Int32) (v_leastWeight : Int32) (v_noticedBy : Int32) (v_noticed : Int32) (v_orderDied : Int32) (v_orderLeast : Int32) (v_imaged : Option Nat) (v_shelves : Nat → Option Nat) (v_refusals : Nat → Int32) (v_ran : Int32) (v_bodies : Nat → Int32) (v_tweight : Int32) (v_tfright : Int32) (v_tage : Int32) (v_tasked : Nat → Int32) (v_told : Nat → Int32) (v_bestRow : Nat → Int32) (v_weight_a1 : Int32) (v_fright_a1 : Int32) (v_age_a1 : Int32) (v_asked_a1 : Nat → Int32) (v_weight_a2 : Int32) (v_fright_a2 : Int32) (v_age_a2 : Int32) (v_asked_a2 : Nat → Int32) (v_weight_a3 : Int32) (v_fright_a3 : Int32) (v_age_a3 : Int32) (v_asked_a3 : Nat → Int32) (v_weight_a4 : Int32) (v_fright_a4 : Int32) (v_age_a4 : Int32) (v_asked_a4 : Nat → Int32) (v_many : Int32) (v_pets : Int32) (v_last : Int32) (v_seed : Int32) (v_weight : Int32) (v_fright : Int32) (v_age : Int32) (v_asked : Nat → Int32) (v_homes : Nat → Option Nat) (v_marks : Nat → Int32) (v_had : Nat → Int32) (v_allergic : Nat → Int32) (v_deaths : Nat → Int32) (q qk qb : Nat) (qn : Nat) (qc : Nat → Int64) (p2 : Int32) (hrw : rowIn G q qk qb qn qc pl) (res : Int32 × (Nat → Int32)) (hE : sC_HW_wrongIn v_told v_many v_allergic qn qc p2 = some res) : vx_Met l yX0_wrongIn (ws_ yX0_wrongIn cX0_wrongIn 4 (some .int)) ({ frames := 3, cells := 0, slots := 0, locals := 67 } : Room) (rPc G (xW G.2 ad v_latestFault v_died v_leastWeight v_noticedBy v_noticed v_orderDied v_orderLeast v_imaged v_shelves v_refusals v_ran v_bodies v_tweight v_tfright v_tage v_tasked v_told v_bestRow v_weight_a1 v_fright_a1 v_age_a1 v_asked_a1 v_weight_a2 v_fright_a2 v_age_a2 v_asked_a2 v_weight_a3 v_fright_a3 v_age_a3 v_asked_a3 v_weight_a4 v_fright_a4 v_age_a4 v_asked_a4 v_many v_pets v_last v_seed v_weight v_fright v_age v_asked v_homes v_marks v_had v_allergic v_deaths) pl (xWV ad) sz [.ref (ad 0), .ref q, .int p2]) (tQc G (xW G.2 ad v_latestFault v_died v_leastWeight v_noticedBy v_noticed v_orderDied v_orderLeast v_imaged v_shelves v_refusals v_ran v_bodies v_tweight v_tfright v_tage v_tasked res.2 v_bestRow v_weight_a1 v_fright_a1 v_age_a1 v_asked_a1 v_weight_a2 v_fright_a2 v_age_a2 v_asked_a2 v_weight_a3 v_fright_a3 v_age_a3 v_asked_a3 v_weight_a4 v_fright_a4 v_age_a4 v_asked_a4 v_many v_pets v_last v_seed v_weight v_fright v_age v_asked v_homes v_marks v_had v_allergic v_deaths) [] (tA sz (xWV ad) []) (True) (some (.int res.1))) (tXC G (xW G.2 ad v_latestFault v_died v_leastWeight v_noticedBy v_noticed v_orderDied v_orderLeast v_imaged v_shelves v_refusals v_ran v_bodies v_tweight v_tfright v_tage v_tasked res.2 v_bestRow v_weight_a1 v_fright_a1 v_age_a1 v_asked_a1 v_weight_a2 v_fright_a2 v_age_a2 v_asked_a2 v_weight_a3 v_fright_a3 v_age_a3 v_asked_a3 v_weight_a4 v_fright_a4 v_age_a4 v_asked_a4 v_many v_pets v_last v_seed v_weight v_fright v_age v_asked v_homes v_marks v_had v_allergic v_deaths) [] (tA sz (xWV ad) []) 18 RX6 none sz) 0 0 (tA sz (xWV ad) []) := by
  refine r_ofW (own := RX0) (by decide) rfl (Nat.le_of_ble_eq_true rfl) ?_
  intro p e s m args below meth c ls C C0 D hml htab hP hS hl hr hlocks hsz
  have hl : lv_has ls 4 [(0, .ref (ad 0)), (1, .ref q), (2, .int p2)] := hl
  obtain ⟨Q, hQ⟩ : ∃ Q, Q = vx_MQ below (tQc G (xW G.2 ad v_latestFault v_died v_leastWeight v_noticedBy v_noticed v_orderDied v_orderLeast v_imaged v_shelves v_refusals v_ran v_bodies v_tweight v_tfright v_tage v_tasked res.2 v_bestRow v_weight_a1 v_fright_a1 v_age_a1 v_asked_a1 v_weight_a2 v_fright_a2 v_age_a2 v_asked_a2 v_weight_a3 v_fright_a3 v_age_a3 v_asked_a3 v_weight_a4 v_fright_a4 v_age_a4 v_asked_a4 v_many v_pets v_last v_seed v_weight v_fright v_age v_asked v_homes v_marks v_had v_allergic v_deaths) [] (tA sz (xWV ad) []) (True) (some (.int res.1))) (tXC G (xW G.2 ad v_latestFault v_died v_leastWeight v_noticedBy v_noticed v_orderDied v_orderLeast v_imaged v_shelves v_refusals v_ran v_bodies v_tweight v_tfright v_tage v_tasked res.2 v_bestRow v_weight_a1 v_fright_a1 v_age_a1 v_asked_a1 v_weight_a2 v_fright_a2 v_age_a2 v_asked_a2 v_weight_a3 v_fright_a3 v_age_a3 v_asked_a3 v_weight_a4 v_fright_a4 v_age_a4 v_asked_a4 v_many v_pets v_last v_seed v_weight v_fright v_age v_asked v_homes v_marks v_had v_allergic v_deaths) [] (tA sz (xWV ad) []) 18 RX6 none sz) args s 0 0 (tA sz (xWV ad) []) := ⟨_, rfl⟩
  rw [← hQ]
  have hret : ∀ (pc : Nat) (ls : Array Slot) (H : Heap) (locs : List Loc), decode cX0_wrongIn pc = .ok (.ireturn, 1) → True → va_P G.1 vwCl (xW G.2 ad v_latestFault v_died v_leastWeight v_noticedBy v_noticed v_orderDied v_orderLeast v_imaged v_shelves v_refusals v_ran v_bodies v_tweight v_tfright v_tage v_tasked res.2 v_bestRow v_weight_a1 v_fright_a1 v_age_a1 v_asked_a1 v_weight_a2 v_fright_a2 v_age_a2 v_asked_a2 v_weight_a3 v_fright_a3 v_age_a3 v_asked_a3 v_weight_a4 v_fright_a4 v_age_a4 v_asked_a4 v_many v_pets v_last v_seed v_weight v_fright v_age v_asked v_homes v_marks v_had v_allergic v_deaths) H → va_S (tA sz (xWV ad) []) s.heap H locs → W p l e ({ frames := 3, cells := 0, slots := 0, locals := 67 } : Room) s m args below meth c H locs 0 0 Q (F0 m pc ls [(.int res.1)]) := by
    intro pc ls H locs hd hφ hP hS
    rw [hQ]
    exact t_iret C0 hr hlocks hd hφ hP P_nil hS
  clear hQ
  obtain ⟨H, hH⟩ : ∃ H, H = s.heap := ⟨_, rfl⟩
  obtain ⟨locs, hlo⟩ : ∃ locs : List Loc, locs = [] := ⟨_, rfl⟩
  have hP : va_P G.1 vwCl (xW G.2 ad v_latestFault v_died v_leastWeight v_noticedBy v_noticed v_orderDied v_orderLeast v_imaged v_shelves v_refusals v_ran v_bodies v_tweight v_tfright v_tage v_tasked v_told v_bestRow v_weight_a1 v_fright_a1 v_age_a1 v_asked_a1 v_weight_a2 v_fright_a2 v_age_a2 v_asked_a2 v_weight_a3 v_fright_a3 v_age_a3 v_asked_a3 v_weight_a4 v_fright_a4 v_age_a4 v_asked_a4 v_many v_pets v_last v_seed v_weight v_fright v_age v_asked v_homes v_marks v_had v_allergic v_deaths) H := by rw [hH]; exact hP
  have hS : va_S (tA sz (xWV ad) []) s.heap H locs := by rw [hH, hlo]; exact hS
  suffices hZ : W p l e ({ frames := 3, cells := 0, slots := 0, locals := 67 } : Room) s m args below meth c H locs 0 0 Q (F0 m 0 ls []) by rw [hH, hlo] at hZ; exact hZ
  clear hH hlo
  unfold sC_HW_wrongIn at hE
  refine lv_iconst (v := 0) C.1 C.2.1 dX0_wrongIn_0 (by decide) ?_
  refine lv_istore_n (lv' := [(3, .int 0), (0, .ref (ad 0)), (1, .ref q), (2, .int p2)]) C.1 C.2.1 dX0_wrongIn_1 rfl hl (by decide) rfl (fun ls hl => ?_)
  exact wC_HW_wrongIn_h2 C hml  D hrw p2 res 2000 0 v_told H locs ls hE hP hS (lv_sub hl [1, 2, 3, 0] rfl) hret
def sC_HW_toldAt (hd : Nat → Nat) (rs : Nat → Nat) (rn : Nat → Nat) (rc : Nat → Nat → Int64) (sk : Nat → Nat) (si : Nat → Int32) (sb : Nat → Int32) (p1 : Int32) (p2 : Int32) : Option (Option Int32) :=
  if gi p1 8 then
    if hd (p1).toNatClampNeg = 1 then
      @Option.bind (Int32) _ (
        if p2 < 0 then
          some 0
        else
          some 1) fun u8 =>
      if u8 = 0 then
        some (some (-4))
      else
        @Option.bind (Int32) _ (
          if (Int32.ofNat (rn (p1).toNatClampNeg)) < p2 then
            some 0
          else
            some 1) fun u12 =>
        if u12 = 0 then
          some (some (-5))
        else
          some (none)
    else
      some (some (shRw (hd (p1).toNatClampNeg)))
  else
    some (some (-1))
set_option maxHeartbeats 4000000 in
theorem metC_HW_toldAt (l : Launch) (hfl : l.stackTraces = false) (G : kG) (ad : Nat → Nat) (pl : va_W) (sa ra rb hd rs rn : Nat → Nat) (rc : Nat → Nat → Int64) (sk : Nat → Nat) (si sb : Nat → Int32) (sz : Nat) (v_latestFault : Int32) (v_died : Int32) (v_leastWeight : Int32) (v_noticedBy : Int32) (v_noticed : Int32) (v_orderDied : Int32) (v_orderLeast : Int32) (v_imaged : Option Nat) (v_shelves : Nat → Option Nat) (v_refusals : Nat → Int32) (v_ran : Int32) (v_bodies : Nat → Int32) (v_tweight : Int32) (v_tfright : Int32) (v_tage : Int32) (v_tasked : Nat → Int32) (v_told : Nat → Int32) (v_bestRow : Nat → Int32) (v_weight_a1 : Int32) (v_fright_a1 : Int32) (v_age_a1 : Int32) (v_asked_a1 : Nat → Int32) (v_weight_a2 : Int32) (v_fright_a2 : Int32) (v_age_a2 : Int32) (v_asked_a2 : Nat → Int32) (v_weight_a3 : Int32) (v_fright_a3 : Int32) (v_age_a3 : Int32) (v_asked_a3 : Nat → Int32) (v_weight_a4 : Int32) (v_fright_a4 : Int32) (v_age_a4 : Int32) (v_asked_a4 : Nat → Int32) (v_many : Int32) (v_pets : Int32) (v_last : Int32) (v_seed : Int32) (v_weight : Int32) (v_fright : Int32) (v_age : Int32) (v_asked : Nat → Int32) (v_homes : Nat → Option Nat) (v_marks : Nat → Int32) (v_had : Nat → Int32) (v_allergic : Nat → Int32) (v_deaths : Nat → Int32) (shok : shOK G v_shelves sa hd ra rb rs rn rc sk si sb pl) (p1 : Int32) (p2 : Int32) (res : Option Int32) (hE : sC_HW_toldAt hd rs rn rc sk si sb p1 p2 = some res) : vx_Met l yX0_toldAt (ws_ yX0_toldAt cX0_toldAt 4 (some (.object "HamsterWeekends$Row"))) ({ frames := 9, cells := 11, slots := 1227, locals := 10281 } : Room) (rPc G (xW G.2 ad v_latestFault v_died v_leastWeight v_noticedBy v_noticed v_orderDied v_orderLeast v_imaged v_shelves v_refusals v_ran v_bodies v_tweight v_tfright v_tage v_tasked v_told v_bestRow v_weight_a1 v_fright_a1 v_age_a1 v_asked_a1 v_weight_a2 v_fright_a2 v_age_a2 v_asked_a2 v_weight_a3 v_fright_a3 v_age_a3 v_asked_a3 v_weight_a4 v_fright_a4 v_age_a4 v_asked_a4 v_many v_pets v_last v_seed v_weight v_fright v_age v_asked v_homes v_marks v_had v_allergic v_deaths) pl (xWV ad) sz [.ref (ad 0), .int p1, .int p2]) (tQc G (xW G.2 ad v_latestFault v_died v_leastWeight v_noticedBy v_noticed v_orderDied v_orderLeast v_imaged v_shelves v_refusals v_ran v_bodies v_tweight v_tfright v_tage v_tasked v_told v_bestRow v_weight_a1 v_fright_a1 v_age_a1 v_asked_a1 v_weight_a2 v_fright_a2 v_age_a2 v_asked_a2 v_weight_a3 v_fright_a3 v_age_a3 v_asked_a3 v_weight_a4 v_fright_a4 v_age_a4 v_asked_a4 v_many v_pets v_last v_seed v_weight v_fright v_age v_asked v_homes v_marks v_had v_allergic v_deaths) [] (tA sz (xWV ad) []) (res = none) (some (.ref (ra (p1).toNatClampNeg)))) (tXC G (xW G.2 ad v_latestFault v_died v_leastWeight v_noticedBy v_noticed v_orderDied v_orderLeast v_imaged v_shelves v_refusals v_ran v_bodies v_tweight v_tfright v_tage v_tasked v_told v_bestRow v_weight_a1 v_fright_a1 v_age_a1 v_asked_a1 v_weight_a2 v_fright_a2 v_age_a2 v_asked_a2 v_weight_a3 v_fright_a3 v_age_a3 v_asked_a3 v_weight_a4 v_fright_a4 v_age_a4 v_asked_a4 v_many v_pets v_last v_seed v_weight v_fright v_age v_asked v_homes v_marks v_had v_allergic v_deaths) [] (tA sz (xWV ad) []) 18 RX6 res sz) 11 1227 (tA sz (xWV ad) []) := by
  refine r_ofW (own := RX0) (by decide) rfl (Nat.le_of_ble_eq_true rfl) ?_
  intro p e s m args below meth c ls C C0 D hml htab hP hS hl hr hlocks hsz
  have hl : lv_has ls 4 [(0, .ref (ad 0)), (1, .int p1), (2, .int p2)] := hl
  obtain ⟨Q, hQ⟩ : ∃ Q, Q = vx_MQ below (tQc G (xW G.2 ad v_latestFault v_died v_leastWeight v_noticedBy v_noticed v_orderDied v_orderLeast v_imaged v_shelves v_refusals v_ran v_bodies v_tweight v_tfright v_tage v_tasked v_told v_bestRow v_weight_a1 v_fright_a1 v_age_a1 v_asked_a1 v_weight_a2 v_fright_a2 v_age_a2 v_asked_a2 v_weight_a3 v_fright_a3 v_age_a3 v_asked_a3 v_weight_a4 v_fright_a4 v_age_a4 v_asked_a4 v_many v_pets v_last v_seed v_weight v_fright v_age v_asked v_homes v_marks v_had v_allergic v_deaths) [] (tA sz (xWV ad) []) (res = none) (some (.ref (ra (p1).toNatClampNeg)))) (tXC G (xW G.2 ad v_latestFault v_died v_leastWeight v_noticedBy v_noticed v_orderDied v_orderLeast v_imaged v_shelves v_refusals v_ran v_bodies v_tweight v_tfright v_tage v_tasked v_told v_bestRow v_weight_a1 v_fright_a1 v_age_a1 v_asked_a1 v_weight_a2 v_fright_a2 v_age_a2 v_asked_a2 v_weight_a3 v_fright_a3 v_age_a3 v_asked_a3 v_weight_a4 v_fright_a4 v_age_a4 v_asked_a4 v_many v_pets v_last v_seed v_weight v_fright v_age v_asked v_homes v_marks v_had v_allergic v_deaths) [] (tA sz (xWV ad) []) 18 RX6 res sz) args s 11 1227 (tA sz (xWV ad) []) := ⟨_, rfl⟩
  rw [← hQ]
  have hret : ∀ (pc : Nat) (ls : Array Slot) (H : Heap) (locs : List Loc), decode cX0_toldAt pc = .ok (.areturn, 1) → res = none → va_P G.1 vwCl (xW G.2 ad v_latestFault v_died v_leastWeight v_noticedBy v_noticed v_orderDied v_orderLeast v_imaged v_shelves v_refusals v_ran v_bodies v_tweight v_tfright v_tage v_tasked v_told v_bestRow v_weight_a1 v_fright_a1 v_age_a1 v_asked_a1 v_weight_a2 v_fright_a2 v_age_a2 v_asked_a2 v_weight_a3 v_fright_a3 v_age_a3 v_asked_a3 v_weight_a4 v_fright_a4 v_age_a4 v_asked_a4 v_many v_pets v_last v_seed v_weight v_fright v_age v_asked v_homes v_marks v_had v_allergic v_deaths) H → va_S (tA sz (xWV ad) []) s.heap H locs → W p l e ({ frames := 9, cells := 11, slots := 1227, locals := 10281 } : Room) s m args below meth c H locs 11 1227 Q (F0 m pc ls [(.ref (ra (p1).toNatClampNeg))]) := by
    intro pc ls H locs hd hφ hP hS
    rw [hQ]
    exact t_aret C0 hr (Or.inl ⟨_, rfl⟩) (Or.inr ⟨_, rfl⟩) hlocks hd hφ hP P_nil hS
  have hthr : ∀ (pc : Nat) (ls : Array Slot) (rest : List Value) (H : Heap) (locs : List Loc) (w : Int32) (q : Nat), (∀ x ∈ c.exceptionTable.toList, covers x pc = false) → res = some w → s.heap.size ≤ q → va_P G.1 vwCl [(q, .inr (18, xF w))] H → va_P G.1 vwCl (xW G.2 ad v_latestFault v_died v_leastWeight v_noticedBy v_noticed v_orderDied v_orderLeast v_imaged v_shelves v_refusals v_ran v_bodies v_tweight v_tfright v_tage v_tasked v_told v_bestRow v_weight_a1 v_fright_a1 v_age_a1 v_asked_a1 v_weight_a2 v_fright_a2 v_age_a2 v_asked_a2 v_weight_a3 v_fright_a3 v_age_a3 v_asked_a3 v_weight_a4 v_fright_a4 v_age_a4 v_asked_a4 v_many v_pets v_last v_seed v_weight v_fright v_age v_asked v_homes v_marks v_had v_allergic v_deaths) H → va_S (tA sz (xWV ad) []) s.heap H locs → vx_W p l e ({ frames := 9, cells := 11, slots := 1227, locals := 10281 } : Room) s m args below meth c H locs 11 1227 Q (F0 m pc ls rest) q := by
    intro pc ls rest H locs w q hout hw hq hc hP hS
    rw [hQ]
    exact t_out (r := (RX6, TX6, 7)) C0 rfl hout hlocks hw (by omega) hc hP P_nil hS
  clear hQ
  obtain ⟨H, hH⟩ : ∃ H, H = s.heap := ⟨_, rfl⟩
  obtain ⟨locs, hlo⟩ : ∃ locs : List Loc, locs = [] := ⟨_, rfl⟩
  have hP : va_P G.1 vwCl (xW G.2 ad v_latestFault v_died v_leastWeight v_noticedBy v_noticed v_orderDied v_orderLeast v_imaged v_shelves v_refusals v_ran v_bodies v_tweight v_tfright v_tage v_tasked v_told v_bestRow v_weight_a1 v_fright_a1 v_age_a1 v_asked_a1 v_weight_a2 v_fright_a2 v_age_a2 v_asked_a2 v_weight_a3 v_fright_a3 v_age_a3 v_asked_a3 v_weight_a4 v_fright_a4 v_age_a4 v_asked_a4 v_many v_pets v_last v_seed v_weight v_fright v_age v_asked v_homes v_marks v_had v_allergic v_deaths) H := by rw [hH]; exact hP
  have hS : va_S (tA sz (xWV ad) []) s.heap H locs := by rw [hH, hlo]; exact hS
  suffices hZ : W p l e ({ frames := 9, cells := 11, slots := 1227, locals := 10281 } : Room) s m args below meth c H locs 0 0 Q (F0 m 0 ls []) by rw [hH, hlo] at hZ; exact hZ
  clear hH hlo
  unfold sC_HW_toldAt at hE
  refine lv_aload_n C.1 C.2.1 dX0_toldAt_0 rfl (lv_at hl 0 rfl) ?_
  refine lv_iload_n C.1 C.2.1 dX0_toldAt_1 rfl (lv_at hl 1 rfl) ?_
  refine t_afterS C0 D hP P_nil hS (vx_runVX (As := [.int p1]) (rest := []) ⟨C.1, C.2.1, hml, C.2.2.1, C.2.2.2.1⟩ (metC_HW_shelf l hfl G ad pl H.size _ _ _ _ _ _ _ _ _ _ _ _ _ _ _ _ _ _ _ _ _ _ _ _ _ _ _ _ _ _ _ _ _ _ _ _ _ _ _ _ _ _ _ _ _ _ _ p1) (vx_cwVW (C := RX0) 1 C.2.2.2.1 (lw_VW q292 q294 qs0 q80 q295) rfl rfl rfl (by decide +kernel) ⟨Nat.le_of_ble_eq_true rfl, Nat.le_of_ble_eq_true rfl⟩) (rr_preV0 C D hP hS (va_recv C.2.2.2.2.1 hP (ci := 16) (q0 := 0) rfl rfl)) rfl rfl hl.1 rfl (lv_room (Nat.le_of_ble_eq_true rfl)) dX0_toldAt_2 ⟨Nat.le_of_ble_eq_true rfl, Nat.le_of_ble_eq_true rfl⟩) xW_av (fun hφ H locs hP _ hS => ?_) (fun w q H locs hw hq hc hP _ hS => ?_)
  · have hE := it_t hφ hE
    obtain ⟨hsag1, hshg1⟩ := shok _ (gi_lt hφ)
    rw [hsag1]
    refine t_after [] C0 D hP P_nil hS (vx_runVX (As := []) (rest := []) ⟨C.1, C.2.1, hml, C.2.2.1, C.2.2.2.1⟩ (metC_Shelf_row l hfl G pl H.size _ _ _ _ _ _ _ _ _ _ hshg1) (vx_cwVW (C := RX4) 0 C.2.2.2.1 (lw_VW q474 q475 q476 q84 q477) rfl rfl rfl (by decide +kernel) ⟨Nat.le_of_ble_eq_true rfl, Nat.le_of_ble_eq_true rfl⟩) (rr_preV C D hP hS [] rfl (by decide) rfl (sh_recv C hS hshg1)) rfl rfl hl.1 rfl (lv_room (Nat.le_of_ble_eq_true rfl)) dX0_toldAt_5 ⟨Nat.le_of_ble_eq_true rfl, Nat.le_of_ble_eq_true rfl⟩) xW_av rfl rfl rfl (fun hφ H locs hP _ hS => ?_) (fun w q H locs hw hq hc hP _ hS => ?_)
    · have hE := it_t hφ hE
      have hrwg4 := (shAt_1 hshg1 hφ).2
      refine lv_astore_n (lv' := [(3, .ref (ra (p1).toNatClampNeg)), (0, .ref (ad 0)), (1, .int p1), (2, .int p2)]) C.1 C.2.1 dX0_toldAt_8 rfl hl (by decide) rfl (fun ls hl => ?_)
      refine lv_iload_n C.1 C.2.1 dX0_toldAt_9 rfl (lv_at hl 3 rfl) ?_
      obtain ⟨u8, hR, hE⟩ := it_b hE
      have hJ18u8 : ∀ (H : Heap) (locs : List Loc) (ls : Array Slot), va_P G.1 vwCl (xW G.2 ad v_latestFault v_died v_leastWeight v_noticedBy v_noticed v_orderDied v_orderLeast v_imaged v_shelves v_refusals v_ran v_bodies v_tweight v_tfright v_tage v_tasked v_told v_bestRow v_weight_a1 v_fright_a1 v_age_a1 v_asked_a1 v_weight_a2 v_fright_a2 v_age_a2 v_asked_a2 v_weight_a3 v_fright_a3 v_age_a3 v_asked_a3 v_weight_a4 v_fright_a4 v_age_a4 v_asked_a4 v_many v_pets v_last v_seed v_weight v_fright v_age v_asked v_homes v_marks v_had v_allergic v_deaths) H → va_S (tA sz (xWV ad) []) s.heap H locs → lv_has ls 4 [(2, .int p2), (3, .ref (ra (p1).toNatClampNeg))] → W p l e ({ frames := 9, cells := 11, slots := 1227, locals := 10281 } : Room) s m args below meth c H locs 9 1213 Q (F0 m 18 ls [.int u8]) := by
        intro H locs ls hP hS hl
        refine lv_bipush (v := (-4)) C.1 C.2.1 dX0_toldAt_18 (by decide) ?_
        refine t_after [] C0 D hP P_nil hS (vx_runS (As := [.int u8, .int (-4)]) (rest := []) ⟨C.1, C.2.1, hml, C.2.2.1, C.2.2.2.1⟩ (metC_HW_need l hfl G ad pl H.size u8 (-4) _ (need_eq _ _)) (va_cwS 2 C.2.2.2.1 (lw_S q397 q398 q80 q399) rfl rfl rfl (by decide +kernel) ⟨Nat.le_of_ble_eq_true rfl, Nat.le_of_ble_eq_true rfl⟩) (rr_preS C D hP hS [] rfl (by decide) rfl) rfl rfl hl.1 rfl (lv_room (Nat.le_of_ble_eq_true rfl)) dX0_toldAt_20 ⟨Nat.le_of_ble_eq_true rfl, Nat.le_of_ble_eq_true rfl⟩) xW_av rfl rfl rfl (fun hφ H locs hP _ hS => ?_) (fun w q H locs hw hq hc hP _ hS => ?_)
        · have hE := it_f (nd_n hφ) hE
          refine lv_iload_n C.1 C.2.1 dX0_toldAt_23 rfl (lv_at hl 0 rfl) ?_
          refine lv_aload_n C.1 C.2.1 dX0_toldAt_24 rfl (lv_at hl 1 rfl) ?_
          refine rw_len C D.2.2.2.2 hml hl.1 hP xW_av hS hrwg4 q1061 ⟨Nat.le_of_ble_eq_true rfl, Nat.le_of_ble_eq_true rfl, Nat.le_of_ble_eq_true rfl, Nat.le_of_ble_eq_true rfl⟩ (Nat.le_of_ble_eq_true rfl) dX0_toldAt_25 (fun H locs hP hS => ?_)
          obtain ⟨u12, hR, hE⟩ := it_b hE
          have hJ36u12 : ∀ (H : Heap) (locs : List Loc) (ls : Array Slot), va_P G.1 vwCl (xW G.2 ad v_latestFault v_died v_leastWeight v_noticedBy v_noticed v_orderDied v_orderLeast v_imaged v_shelves v_refusals v_ran v_bodies v_tweight v_tfright v_tage v_tasked v_told v_bestRow v_weight_a1 v_fright_a1 v_age_a1 v_asked_a1 v_weight_a2 v_fright_a2 v_age_a2 v_asked_a2 v_weight_a3 v_fright_a3 v_age_a3 v_asked_a3 v_weight_a4 v_fright_a4 v_age_a4 v_asked_a4 v_many v_pets v_last v_seed v_weight v_fright v_age v_asked v_homes v_marks v_had v_allergic v_deaths) H → va_S (tA sz (xWV ad) []) s.heap H locs → lv_has ls 4 [(3, .ref (ra (p1).toNatClampNeg))] → W p l e ({ frames := 9, cells := 11, slots := 1227, locals := 10281 } : Room) s m args below meth c H locs 10 1220 Q (F0 m 36 ls [.int u12]) := by
            intro H locs ls hP hS hl
            refine lv_bipush (v := (-5)) C.1 C.2.1 dX0_toldAt_36 (by decide) ?_
            refine t_after [] C0 D hP P_nil hS (vx_runS (As := [.int u12, .int (-5)]) (rest := []) ⟨C.1, C.2.1, hml, C.2.2.1, C.2.2.2.1⟩ (metC_HW_need l hfl G ad pl H.size u12 (-5) _ (need_eq _ _)) (va_cwS 2 C.2.2.2.1 (lw_S q397 q398 q80 q399) rfl rfl rfl (by decide +kernel) ⟨Nat.le_of_ble_eq_true rfl, Nat.le_of_ble_eq_true rfl⟩) (rr_preS C D hP hS [] rfl (by decide) rfl) rfl rfl hl.1 rfl (lv_room (Nat.le_of_ble_eq_true rfl)) dX0_toldAt_38 ⟨Nat.le_of_ble_eq_true rfl, Nat.le_of_ble_eq_true rfl⟩) xW_av rfl rfl rfl (fun hφ H locs hP _ hS => ?_) (fun w q H locs hw hq hc hP _ hS => ?_)
            · have hE := it_f (nd_n hφ) hE
              refine lv_aload_n C.1 C.2.1 dX0_toldAt_41 rfl (lv_at hl 0 rfl) ?_
              obtain rfl := Option.some.inj hE
              exact hret _ _ _ _ dX0_toldAt_42 rfl hP hS
            · obtain ⟨c13, rfl⟩ := nd_x hw
              obtain ⟨q14, rfl⟩ : ∃ z, z = q := ⟨_, rfl⟩
              have hE := it_t c13 hE
              obtain rfl := Option.some.inj hE
              refine vx_widen (k := 11) (n := 1227) (Nat.le_of_ble_eq_true rfl) (Nat.le_of_ble_eq_true rfl) ?_
              exact hthr _ _ _ _ _ _ _ (fun x hx => (htab x hx).elim) rfl hq.2.2 hc hP hS
          have hE := hR
          refine lv_icmp_gt (tgt := 35) C.1 C.2.1 dX0_toldAt_28 (by decide) (fun c11 => ?_) (fun c11 => ?_)
          · have hE := it_t c11 hE
            refine lv_iconst (v := 0) C.1 C.2.1 dX0_toldAt_35 (by decide) ?_
            obtain rfl := Option.some.inj hE
            exact hJ36u12 H locs ls hP hS (lv_sub hl [1] rfl)
          · have hE := it_f c11 hE
            refine lv_iconst (v := 1) C.1 C.2.1 dX0_toldAt_31 (by decide) ?_
            refine lv_goto (tgt := 36) C.1 C.2.1 dX0_toldAt_32 (by decide) ?_
            obtain rfl := Option.some.inj hE
            exact hJ36u12 H locs ls hP hS (lv_sub hl [1] rfl)
        · obtain ⟨c9, rfl⟩ := nd_x hw
          obtain ⟨q10, rfl⟩ : ∃ z, z = q := ⟨_, rfl⟩
          have hE := it_t c9 hE
          obtain rfl := Option.some.inj hE
          refine vx_widen (k := 11) (n := 1227) (Nat.le_of_ble_eq_true rfl) (Nat.le_of_ble_eq_true rfl) ?_
          exact hthr _ _ _ _ _ _ _ (fun x hx => (htab x hx).elim) rfl hq.2.2 hc hP hS
      have hE := hR
      refine lv_if_lt (tgt := 17) C.1 C.2.1 dX0_toldAt_10 (by decide) (fun c7 => ?_) (fun c7 => ?_)
      · have hE := it_t c7 hE
        refine lv_iconst (v := 0) C.1 C.2.1 dX0_toldAt_17 (by decide) ?_
        obtain rfl := Option.some.inj hE
        exact hJ18u8 H locs ls hP hS (lv_sub hl [3, 0] rfl)
      · have hE := it_f c7 hE
        refine lv_iconst (v := 1) C.1 C.2.1 dX0_toldAt_13 (by decide) ?_
        refine lv_goto (tgt := 18) C.1 C.2.1 dX0_toldAt_14 (by decide) ?_
        obtain rfl := Option.some.inj hE
        exact hJ18u8 H locs ls hP hS (lv_sub hl [3, 0] rfl)
    · obtain ⟨c5, rfl⟩ := shR_x hw
      have hE := it_f c5 hE
      obtain ⟨q6, rfl⟩ : ∃ z, z = q := ⟨_, rfl⟩
      obtain rfl := Option.some.inj hE
      refine vx_widen (k := 11) (n := 1227) (Nat.le_of_ble_eq_true rfl) (Nat.le_of_ble_eq_true rfl) ?_
      exact hthr _ _ _ _ _ _ _ (fun x hx => (htab x hx).elim) rfl hq.2.2 hc hP hS
  · obtain ⟨c2, rfl⟩ := shO_x hw
    have hE := it_f c2 hE
    obtain ⟨q3, rfl⟩ : ∃ z, z = q := ⟨_, rfl⟩
    obtain rfl := Option.some.inj hE
    refine vx_widen (k := 11) (n := 1227) (Nat.le_of_ble_eq_true rfl) (Nat.le_of_ble_eq_true rfl) ?_
    exact hthr _ _ _ _ _ _ _ (fun x hx => (htab x hx).elim) rfl hq.2.2 hc hP hS
theorem told_ok {hd rs rn : Nat → Nat} {rc : Nat → Nat → Int64} {sk : Nat → Nat} {si sb : Nat → Int32} {p1 p2 : Int32} {res : Option Int32} (h : sC_HW_toldAt hd rs rn rc sk si sb p1 p2 = some res) (hn : res = none) : gi p1 8 ∧ hd p1.toNatClampNeg = 1 := by
  subst hn
  unfold sC_HW_toldAt at h
  by_cases h1 : gi p1 8
  · rw [if_pos h1] at h
    by_cases h2 : hd p1.toNatClampNeg = 1
    · exact ⟨h1, h2⟩
    · rw [if_neg h2] at h
      cases h
  · rw [if_neg h1] at h
    cases h
def sC_HW_mustBeRight (v_told : Nat → Int32) (v_many : Int32) (v_allergic : Nat → Int32) (qn : Nat) (qc : Nat → Int64) (p2 : Int32) : Option (Option Int32 × (Nat → Int32)) :=
  @Option.bind (Int32 × (Nat → Int32)) _ (
    if 40 < p2 then
      some (0, v_told)
    else
      (sC_HW_wrongIn v_told v_many v_allergic qn qc p2).bind fun r3 =>
      if r3.1 = (-1) then
        some (1, r3.2)
      else
        some (0, r3.2)) fun u2 =>
  if u2.1 = 0 then
    some (some (-6), u2.2)
  else
    some (none, u2.2)
set_option maxHeartbeats 4000000 in
theorem metC_HW_mustBeRight (l : Launch) (hfl : l.stackTraces = false) (G : kG) (ad : Nat → Nat) (pl : va_W) (sz : Nat) (v_latestFault : Int32) (v_died : Int32) (v_leastWeight : Int32) (v_noticedBy : Int32) (v_noticed : Int32) (v_orderDied : Int32) (v_orderLeast : Int32) (v_imaged : Option Nat) (v_shelves : Nat → Option Nat) (v_refusals : Nat → Int32) (v_ran : Int32) (v_bodies : Nat → Int32) (v_tweight : Int32) (v_tfright : Int32) (v_tage : Int32) (v_tasked : Nat → Int32) (v_told : Nat → Int32) (v_bestRow : Nat → Int32) (v_weight_a1 : Int32) (v_fright_a1 : Int32) (v_age_a1 : Int32) (v_asked_a1 : Nat → Int32) (v_weight_a2 : Int32) (v_fright_a2 : Int32) (v_age_a2 : Int32) (v_asked_a2 : Nat → Int32) (v_weight_a3 : Int32) (v_fright_a3 : Int32) (v_age_a3 : Int32) (v_asked_a3 : Nat → Int32) (v_weight_a4 : Int32) (v_fright_a4 : Int32) (v_age_a4 : Int32) (v_asked_a4 : Nat → Int32) (v_many : Int32) (v_pets : Int32) (v_last : Int32) (v_seed : Int32) (v_weight : Int32) (v_fright : Int32) (v_age : Int32) (v_asked : Nat → Int32) (v_homes : Nat → Option Nat) (v_marks : Nat → Int32) (v_had : Nat → Int32) (v_allergic : Nat → Int32) (v_deaths : Nat → Int32) (q qk qb : Nat) (qn : Nat) (qc : Nat → Int64) (p2 : Int32) (hrw : rowIn G q qk qb qn qc pl) (res : Option Int32 × (Nat → Int32)) (hE : sC_HW_mustBeRight v_told v_many v_allergic qn qc p2 = some res) : vx_Met l yX0_mustBeRight (ws_ yX0_mustBeRight cX0_mustBeRight 3 none) ({ frames := 5, cells := 1, slots := 7, locals := 122 } : Room) (rPc G (xW G.2 ad v_latestFault v_died v_leastWeight v_noticedBy v_noticed v_orderDied v_orderLeast v_imaged v_shelves v_refusals v_ran v_bodies v_tweight v_tfright v_tage v_tasked v_told v_bestRow v_weight_a1 v_fright_a1 v_age_a1 v_asked_a1 v_weight_a2 v_fright_a2 v_age_a2 v_asked_a2 v_weight_a3 v_fright_a3 v_age_a3 v_asked_a3 v_weight_a4 v_fright_a4 v_age_a4 v_asked_a4 v_many v_pets v_last v_seed v_weight v_fright v_age v_asked v_homes v_marks v_had v_allergic v_deaths) pl (xWV ad) sz [.ref (ad 0), .ref q, .int p2]) (tQc G (xW G.2 ad v_latestFault v_died v_leastWeight v_noticedBy v_noticed v_orderDied v_orderLeast v_imaged v_shelves v_refusals v_ran v_bodies v_tweight v_tfright v_tage v_tasked res.2 v_bestRow v_weight_a1 v_fright_a1 v_age_a1 v_asked_a1 v_weight_a2 v_fright_a2 v_age_a2 v_asked_a2 v_weight_a3 v_fright_a3 v_age_a3 v_asked_a3 v_weight_a4 v_fright_a4 v_age_a4 v_asked_a4 v_many v_pets v_last v_seed v_weight v_fright v_age v_asked v_homes v_marks v_had v_allergic v_deaths) [] (tA sz (xWV ad) []) (res.1 = none) none) (tXC G (xW G.2 ad v_latestFault v_died v_leastWeight v_noticedBy v_noticed v_orderDied v_orderLeast v_imaged v_shelves v_refusals v_ran v_bodies v_tweight v_tfright v_tage v_tasked res.2 v_bestRow v_weight_a1 v_fright_a1 v_age_a1 v_asked_a1 v_weight_a2 v_fright_a2 v_age_a2 v_asked_a2 v_weight_a3 v_fright_a3 v_age_a3 v_asked_a3 v_weight_a4 v_fright_a4 v_age_a4 v_asked_a4 v_many v_pets v_last v_seed v_weight v_fright v_age v_asked v_homes v_marks v_had v_allergic v_deaths) [] (tA sz (xWV ad) []) 18 RX6 res.1 sz) 1 7 (tA sz (xWV ad) []) := by
  refine r_ofW (own := RX0) (by decide) rfl (Nat.le_of_ble_eq_true rfl) ?_
  intro p e s m args below meth c ls C C0 D hml htab hP hS hl hr hlocks hsz
  have hl : lv_has ls 3 [(0, .ref (ad 0)), (1, .ref q), (2, .int p2)] := hl
  obtain ⟨Q, hQ⟩ : ∃ Q, Q = vx_MQ below (tQc G (xW G.2 ad v_latestFault v_died v_leastWeight v_noticedBy v_noticed v_orderDied v_orderLeast v_imaged v_shelves v_refusals v_ran v_bodies v_tweight v_tfright v_tage v_tasked res.2 v_bestRow v_weight_a1 v_fright_a1 v_age_a1 v_asked_a1 v_weight_a2 v_fright_a2 v_age_a2 v_asked_a2 v_weight_a3 v_fright_a3 v_age_a3 v_asked_a3 v_weight_a4 v_fright_a4 v_age_a4 v_asked_a4 v_many v_pets v_last v_seed v_weight v_fright v_age v_asked v_homes v_marks v_had v_allergic v_deaths) [] (tA sz (xWV ad) []) (res.1 = none) none) (tXC G (xW G.2 ad v_latestFault v_died v_leastWeight v_noticedBy v_noticed v_orderDied v_orderLeast v_imaged v_shelves v_refusals v_ran v_bodies v_tweight v_tfright v_tage v_tasked res.2 v_bestRow v_weight_a1 v_fright_a1 v_age_a1 v_asked_a1 v_weight_a2 v_fright_a2 v_age_a2 v_asked_a2 v_weight_a3 v_fright_a3 v_age_a3 v_asked_a3 v_weight_a4 v_fright_a4 v_age_a4 v_asked_a4 v_many v_pets v_last v_seed v_weight v_fright v_age v_asked v_homes v_marks v_had v_allergic v_deaths) [] (tA sz (xWV ad) []) 18 RX6 res.1 sz) args s 1 7 (tA sz (xWV ad) []) := ⟨_, rfl⟩
  rw [← hQ]
  have hret : ∀ (pc : Nat) (ls : Array Slot) (H : Heap) (locs : List Loc), decode cX0_mustBeRight pc = .ok (.return_, 1) → res.1 = none → va_P G.1 vwCl (xW G.2 ad v_latestFault v_died v_leastWeight v_noticedBy v_noticed v_orderDied v_orderLeast v_imaged v_shelves v_refusals v_ran v_bodies v_tweight v_tfright v_tage v_tasked res.2 v_bestRow v_weight_a1 v_fright_a1 v_age_a1 v_asked_a1 v_weight_a2 v_fright_a2 v_age_a2 v_asked_a2 v_weight_a3 v_fright_a3 v_age_a3 v_asked_a3 v_weight_a4 v_fright_a4 v_age_a4 v_asked_a4 v_many v_pets v_last v_seed v_weight v_fright v_age v_asked v_homes v_marks v_had v_allergic v_deaths) H → va_S (tA sz (xWV ad) []) s.heap H locs → W p l e ({ frames := 5, cells := 1, slots := 7, locals := 122 } : Room) s m args below meth c H locs 1 7 Q (F0 m pc ls []) := by
    intro pc ls H locs hd hφ hP hS
    rw [hQ]
    exact t_vret C0 hr hlocks hd hφ hP P_nil hS
  have hthr : ∀ (pc : Nat) (ls : Array Slot) (rest : List Value) (H : Heap) (locs : List Loc) (w : Int32) (q : Nat), (∀ x ∈ c.exceptionTable.toList, covers x pc = false) → res.1 = some w → s.heap.size ≤ q → va_P G.1 vwCl [(q, .inr (18, xF w))] H → va_P G.1 vwCl (xW G.2 ad v_latestFault v_died v_leastWeight v_noticedBy v_noticed v_orderDied v_orderLeast v_imaged v_shelves v_refusals v_ran v_bodies v_tweight v_tfright v_tage v_tasked res.2 v_bestRow v_weight_a1 v_fright_a1 v_age_a1 v_asked_a1 v_weight_a2 v_fright_a2 v_age_a2 v_asked_a2 v_weight_a3 v_fright_a3 v_age_a3 v_asked_a3 v_weight_a4 v_fright_a4 v_age_a4 v_asked_a4 v_many v_pets v_last v_seed v_weight v_fright v_age v_asked v_homes v_marks v_had v_allergic v_deaths) H → va_S (tA sz (xWV ad) []) s.heap H locs → vx_W p l e ({ frames := 5, cells := 1, slots := 7, locals := 122 } : Room) s m args below meth c H locs 1 7 Q (F0 m pc ls rest) q := by
    intro pc ls rest H locs w q hout hw hq hc hP hS
    rw [hQ]
    exact t_out (r := (RX6, TX6, 7)) C0 rfl hout hlocks hw (by omega) hc hP P_nil hS
  clear hQ
  obtain ⟨H, hH⟩ : ∃ H, H = s.heap := ⟨_, rfl⟩
  obtain ⟨locs, hlo⟩ : ∃ locs : List Loc, locs = [] := ⟨_, rfl⟩
  have hP : va_P G.1 vwCl (xW G.2 ad v_latestFault v_died v_leastWeight v_noticedBy v_noticed v_orderDied v_orderLeast v_imaged v_shelves v_refusals v_ran v_bodies v_tweight v_tfright v_tage v_tasked v_told v_bestRow v_weight_a1 v_fright_a1 v_age_a1 v_asked_a1 v_weight_a2 v_fright_a2 v_age_a2 v_asked_a2 v_weight_a3 v_fright_a3 v_age_a3 v_asked_a3 v_weight_a4 v_fright_a4 v_age_a4 v_asked_a4 v_many v_pets v_last v_seed v_weight v_fright v_age v_asked v_homes v_marks v_had v_allergic v_deaths) H := by rw [hH]; exact hP
  have hS : va_S (tA sz (xWV ad) []) s.heap H locs := by rw [hH, hlo]; exact hS
  suffices hZ : W p l e ({ frames := 5, cells := 1, slots := 7, locals := 122 } : Room) s m args below meth c H locs 0 0 Q (F0 m 0 ls []) by rw [hH, hlo] at hZ; exact hZ
  clear hH hlo
  unfold sC_HW_mustBeRight at hE
  refine lv_iload_n C.1 C.2.1 dX0_mustBeRight_0 rfl (lv_at hl 2 rfl) ?_
  refine lv_bipush (v := 40) C.1 C.2.1 dX0_mustBeRight_1 (by decide) ?_
  obtain ⟨u2, hR, hE⟩ := it_b hE
  have hJ21u2 : ∀ (H : Heap) (locs : List Loc) (ls : Array Slot), va_P G.1 vwCl (xW G.2 ad v_latestFault v_died v_leastWeight v_noticedBy v_noticed v_orderDied v_orderLeast v_imaged v_shelves v_refusals v_ran v_bodies v_tweight v_tfright v_tage v_tasked u2.2 v_bestRow v_weight_a1 v_fright_a1 v_age_a1 v_asked_a1 v_weight_a2 v_fright_a2 v_age_a2 v_asked_a2 v_weight_a3 v_fright_a3 v_age_a3 v_asked_a3 v_weight_a4 v_fright_a4 v_age_a4 v_asked_a4 v_many v_pets v_last v_seed v_weight v_fright v_age v_asked v_homes v_marks v_had v_allergic v_deaths) H → va_S (tA sz (xWV ad) []) s.heap H locs → lv_has ls 3 [] → W p l e ({ frames := 5, cells := 1, slots := 7, locals := 122 } : Room) s m args below meth c H locs 0 0 Q (F0 m 21 ls [.int u2.1]) := by
    intro H locs ls hP hS hl
    refine lv_bipush (v := (-6)) C.1 C.2.1 dX0_mustBeRight_21 (by decide) ?_
    refine t_after [] C0 D hP P_nil hS (vx_runS (As := [.int u2.1, .int (-6)]) (rest := []) ⟨C.1, C.2.1, hml, C.2.2.1, C.2.2.2.1⟩ (metC_HW_need l hfl G ad pl H.size u2.1 (-6) _ (need_eq _ _)) (va_cwS 2 C.2.2.2.1 (lw_S q397 q398 q80 q399) rfl rfl rfl (by decide +kernel) ⟨Nat.le_of_ble_eq_true rfl, Nat.le_of_ble_eq_true rfl⟩) (rr_preS C D hP hS [] rfl (by decide) rfl) rfl rfl hl.1 rfl (lv_room (Nat.le_of_ble_eq_true rfl)) dX0_mustBeRight_23 ⟨Nat.le_of_ble_eq_true rfl, Nat.le_of_ble_eq_true rfl⟩) xW_av rfl rfl rfl (fun hφ H locs hP _ hS => ?_) (fun w q H locs hw hq hc hP _ hS => ?_)
    · have hE := it_f (nd_n hφ) hE
      obtain rfl := Option.some.inj hE
      exact hret _ _ _ _ dX0_mustBeRight_26 rfl hP hS
    · obtain ⟨c5, rfl⟩ := nd_x hw
      obtain ⟨q6, rfl⟩ : ∃ z, z = q := ⟨_, rfl⟩
      have hE := it_t c5 hE
      obtain rfl := Option.some.inj hE
      refine vx_widen (k := 1) (n := 7) (Nat.le_of_ble_eq_true rfl) (Nat.le_of_ble_eq_true rfl) ?_
      exact hthr _ _ _ _ _ _ _ (fun x hx => (htab x hx).elim) rfl hq.2.2 hc hP hS
  have hE := hR
  refine lv_icmp_gt (tgt := 20) C.1 C.2.1 dX0_mustBeRight_3 (by decide) (fun c1 => ?_) (fun c1 => ?_)
  · have hE := it_t c1 hE
    refine lv_iconst (v := 0) C.1 C.2.1 dX0_mustBeRight_20 (by decide) ?_
    obtain rfl := Option.some.inj hE
    exact hJ21u2 H locs ls hP hS (lv_sub hl [] rfl)
  · have hE := it_f c1 hE
    refine lv_aload_n C.1 C.2.1 dX0_mustBeRight_6 rfl (lv_at hl 0 rfl) ?_
    refine lv_aload_n C.1 C.2.1 dX0_mustBeRight_7 rfl (lv_at hl 1 rfl) ?_
    refine lv_iload_n C.1 C.2.1 dX0_mustBeRight_8 rfl (lv_at hl 2 rfl) ?_
    obtain ⟨r3, hr3, hE⟩ := it_b hE
    refine t_afterS C0 D hP P_nil hS (vx_runV (As := [.ref q, .int p2]) (rest := []) ⟨C.1, C.2.1, hml, C.2.2.1, C.2.2.2.1⟩ (metC_HW_wrongIn l hfl G ad pl H.size _ _ _ _ _ _ _ _ _ _ _ _ _ _ _ _ _ _ _ _ _ _ _ _ _ _ _ _ _ _ _ _ _ _ _ _ _ _ _ _ _ _ _ _ _ _ _ q qk qb qn qc p2 hrw r3 hr3) (cwV (C := RX0) 2 C.2.2.2.1 (lw_V q1062 q1064 qs21 q80 q1065) rfl rfl rfl (by decide +kernel) ⟨Nat.le_of_ble_eq_true rfl, Nat.le_of_ble_eq_true rfl⟩) (rr_preV0 C D hP hS (va_recv C.2.2.2.2.1 hP (ci := 16) (q0 := 0) rfl rfl)) rfl rfl hl.1 rfl (lv_room (Nat.le_of_ble_eq_true rfl)) dX0_mustBeRight_9 ⟨Nat.le_of_ble_eq_true rfl, Nat.le_of_ble_eq_true rfl⟩) xW_av (fun hφ H locs hP _ hS => ?_) (fun w q H locs hw hq hc hP _ hS => nomatch hw)
    refine lv_iconst (v := (-1)) C.1 C.2.1 dX0_mustBeRight_12 (by decide) ?_
    refine lv_icmp_ne (tgt := 20) C.1 C.2.1 dX0_mustBeRight_13 (by decide) (fun c4 => ?_) (fun c4 => ?_)
    · have hE := it_f c4 hE
      refine lv_iconst (v := 0) C.1 C.2.1 dX0_mustBeRight_20 (by decide) ?_
      obtain rfl := Option.some.inj hE
      exact hJ21u2 H locs ls hP hS (lv_sub hl [] rfl)
    · have hE := it_t c4 hE
      refine lv_iconst (v := 1) C.1 C.2.1 dX0_mustBeRight_16 (by decide) ?_
      refine lv_goto (tgt := 21) C.1 C.2.1 dX0_mustBeRight_17 (by decide) ?_
      obtain rfl := Option.some.inj hE
      exact hJ21u2 H locs ls hP hS (lv_sub hl [] rfl)
def sC_HW_judge (v_refusals : Nat → Int32) (v_told : Nat → Int32) (v_many : Int32) (v_allergic : Nat → Int32) (hd : Nat → Nat) (rs : Nat → Nat) (rn : Nat → Nat) (rc : Nat → Nat → Int64) (sk : Nat → Nat) (si : Nat → Int32) (sb : Nat → Int32) (p1 : Int32) (p2 : Int32) : Option (Int32 × (Nat → Int32) × (Nat → Int32)) :=
  (sC_HW_toldAt hd rs rn rc sk si sb p1 p2).bind fun r1 =>
  if r1 = none then
    @Option.bind (Int32) _ (
      if 40 < p2 then
        some 0
      else
        some 1) fun u5 =>
    if u5 = 0 then
      (sC_HW_refused v_refusals (-6)).bind fun r9 =>
      some ((r9.1 - 10), r9.2, v_told)
    else
      (sC_HW_wrongIn v_told v_many v_allergic (rn (p1).toNatClampNeg) (rc (p1).toNatClampNeg) p2).bind fun r8 =>
      some (r8.1, v_refusals, r8.2)
  else
    (sC_HW_refused v_refusals (r1.getD 0)).bind fun r10 =>
    some ((r10.1 - 10), r10.2, v_told)
set_option maxHeartbeats 4000000 in
theorem metC_HW_judge (l : Launch) (hfl : l.stackTraces = false) (G : kG) (ad : Nat → Nat) (pl : va_W) (sa ra rb hd rs rn : Nat → Nat) (rc : Nat → Nat → Int64) (sk : Nat → Nat) (si sb : Nat → Int32) (sz : Nat) (v_latestFault : Int32) (v_died : Int32) (v_leastWeight : Int32) (v_noticedBy : Int32) (v_noticed : Int32) (v_orderDied : Int32) (v_orderLeast : Int32) (v_imaged : Option Nat) (v_shelves : Nat → Option Nat) (v_refusals : Nat → Int32) (v_ran : Int32) (v_bodies : Nat → Int32) (v_tweight : Int32) (v_tfright : Int32) (v_tage : Int32) (v_tasked : Nat → Int32) (v_told : Nat → Int32) (v_bestRow : Nat → Int32) (v_weight_a1 : Int32) (v_fright_a1 : Int32) (v_age_a1 : Int32) (v_asked_a1 : Nat → Int32) (v_weight_a2 : Int32) (v_fright_a2 : Int32) (v_age_a2 : Int32) (v_asked_a2 : Nat → Int32) (v_weight_a3 : Int32) (v_fright_a3 : Int32) (v_age_a3 : Int32) (v_asked_a3 : Nat → Int32) (v_weight_a4 : Int32) (v_fright_a4 : Int32) (v_age_a4 : Int32) (v_asked_a4 : Nat → Int32) (v_many : Int32) (v_pets : Int32) (v_last : Int32) (v_seed : Int32) (v_weight : Int32) (v_fright : Int32) (v_age : Int32) (v_asked : Nat → Int32) (v_homes : Nat → Option Nat) (v_marks : Nat → Int32) (v_had : Nat → Int32) (v_allergic : Nat → Int32) (v_deaths : Nat → Int32) (shok : shOK G v_shelves sa hd ra rb rs rn rc sk si sb pl) (p1 : Int32) (p2 : Int32) (res : Int32 × (Nat → Int32) × (Nat → Int32)) (hE : sC_HW_judge v_refusals v_told v_many v_allergic hd rs rn rc sk si sb p1 p2 = some res) : vx_Met l yX0_judge (wsW_ yX0_judge cX0_judge 4 (some .int) [((0 : Nat), (29 : Nat), (30 : Nat), (21 : Nat))]) ({ frames := 10, cells := 12, slots := 1234, locals := 10304 } : Room) (rPc G (xW G.2 ad v_latestFault v_died v_leastWeight v_noticedBy v_noticed v_orderDied v_orderLeast v_imaged v_shelves v_refusals v_ran v_bodies v_tweight v_tfright v_tage v_tasked v_told v_bestRow v_weight_a1 v_fright_a1 v_age_a1 v_asked_a1 v_weight_a2 v_fright_a2 v_age_a2 v_asked_a2 v_weight_a3 v_fright_a3 v_age_a3 v_asked_a3 v_weight_a4 v_fright_a4 v_age_a4 v_asked_a4 v_many v_pets v_last v_seed v_weight v_fright v_age v_asked v_homes v_marks v_had v_allergic v_deaths) pl (xWV ad) sz [.ref (ad 0), .int p1, .int p2]) (tQc G (xW G.2 ad v_latestFault v_died v_leastWeight v_noticedBy v_noticed v_orderDied v_orderLeast v_imaged v_shelves res.2.1 v_ran v_bodies v_tweight v_tfright v_tage v_tasked res.2.2 v_bestRow v_weight_a1 v_fright_a1 v_age_a1 v_asked_a1 v_weight_a2 v_fright_a2 v_age_a2 v_asked_a2 v_weight_a3 v_fright_a3 v_age_a3 v_asked_a3 v_weight_a4 v_fright_a4 v_age_a4 v_asked_a4 v_many v_pets v_last v_seed v_weight v_fright v_age v_asked v_homes v_marks v_had v_allergic v_deaths) [] (tA sz (xWV ad) []) (True) (some (.int res.1))) (tXC G (xW G.2 ad v_latestFault v_died v_leastWeight v_noticedBy v_noticed v_orderDied v_orderLeast v_imaged v_shelves res.2.1 v_ran v_bodies v_tweight v_tfright v_tage v_tasked res.2.2 v_bestRow v_weight_a1 v_fright_a1 v_age_a1 v_asked_a1 v_weight_a2 v_fright_a2 v_age_a2 v_asked_a2 v_weight_a3 v_fright_a3 v_age_a3 v_asked_a3 v_weight_a4 v_fright_a4 v_age_a4 v_asked_a4 v_many v_pets v_last v_seed v_weight v_fright v_age v_asked v_homes v_marks v_had v_allergic v_deaths) [] (tA sz (xWV ad) []) 18 RX6 none sz) 12 1234 (tA sz (xWV ad) []) := by
  refine r_ofWH (own := RX0) (by decide) rfl (Nat.le_of_ble_eq_true rfl) ?_
  intro p e s m args below meth c ls C C0 D hml htab hP hS hl hr hlocks hsz
  have hl : lv_has ls 4 [(0, .ref (ad 0)), (1, .int p1), (2, .int p2)] := hl
  obtain ⟨Q, hQ⟩ : ∃ Q, Q = vx_MQ below (tQc G (xW G.2 ad v_latestFault v_died v_leastWeight v_noticedBy v_noticed v_orderDied v_orderLeast v_imaged v_shelves res.2.1 v_ran v_bodies v_tweight v_tfright v_tage v_tasked res.2.2 v_bestRow v_weight_a1 v_fright_a1 v_age_a1 v_asked_a1 v_weight_a2 v_fright_a2 v_age_a2 v_asked_a2 v_weight_a3 v_fright_a3 v_age_a3 v_asked_a3 v_weight_a4 v_fright_a4 v_age_a4 v_asked_a4 v_many v_pets v_last v_seed v_weight v_fright v_age v_asked v_homes v_marks v_had v_allergic v_deaths) [] (tA sz (xWV ad) []) (True) (some (.int res.1))) (tXC G (xW G.2 ad v_latestFault v_died v_leastWeight v_noticedBy v_noticed v_orderDied v_orderLeast v_imaged v_shelves res.2.1 v_ran v_bodies v_tweight v_tfright v_tage v_tasked res.2.2 v_bestRow v_weight_a1 v_fright_a1 v_age_a1 v_asked_a1 v_weight_a2 v_fright_a2 v_age_a2 v_asked_a2 v_weight_a3 v_fright_a3 v_age_a3 v_asked_a3 v_weight_a4 v_fright_a4 v_age_a4 v_asked_a4 v_many v_pets v_last v_seed v_weight v_fright v_age v_asked v_homes v_marks v_had v_allergic v_deaths) [] (tA sz (xWV ad) []) 18 RX6 none sz) args s 12 1234 (tA sz (xWV ad) []) := ⟨_, rfl⟩
  rw [← hQ]
  have hret : ∀ (pc : Nat) (ls : Array Slot) (H : Heap) (locs : List Loc), decode cX0_judge pc = .ok (.ireturn, 1) → True → va_P G.1 vwCl (xW G.2 ad v_latestFault v_died v_leastWeight v_noticedBy v_noticed v_orderDied v_orderLeast v_imaged v_shelves res.2.1 v_ran v_bodies v_tweight v_tfright v_tage v_tasked res.2.2 v_bestRow v_weight_a1 v_fright_a1 v_age_a1 v_asked_a1 v_weight_a2 v_fright_a2 v_age_a2 v_asked_a2 v_weight_a3 v_fright_a3 v_age_a3 v_asked_a3 v_weight_a4 v_fright_a4 v_age_a4 v_asked_a4 v_many v_pets v_last v_seed v_weight v_fright v_age v_asked v_homes v_marks v_had v_allergic v_deaths) H → va_S (tA sz (xWV ad) []) s.heap H locs → W p l e ({ frames := 10, cells := 12, slots := 1234, locals := 10304 } : Room) s m args below meth c H locs 12 1234 Q (F0 m pc ls [(.int res.1)]) := by
    intro pc ls H locs hd hφ hP hS
    rw [hQ]
    exact t_iret C0 hr hlocks hd hφ hP P_nil hS
  clear hQ
  obtain ⟨H, hH⟩ : ∃ H, H = s.heap := ⟨_, rfl⟩
  obtain ⟨locs, hlo⟩ : ∃ locs : List Loc, locs = [] := ⟨_, rfl⟩
  have hP : va_P G.1 vwCl (xW G.2 ad v_latestFault v_died v_leastWeight v_noticedBy v_noticed v_orderDied v_orderLeast v_imaged v_shelves v_refusals v_ran v_bodies v_tweight v_tfright v_tage v_tasked v_told v_bestRow v_weight_a1 v_fright_a1 v_age_a1 v_asked_a1 v_weight_a2 v_fright_a2 v_age_a2 v_asked_a2 v_weight_a3 v_fright_a3 v_age_a3 v_asked_a3 v_weight_a4 v_fright_a4 v_age_a4 v_asked_a4 v_many v_pets v_last v_seed v_weight v_fright v_age v_asked v_homes v_marks v_had v_allergic v_deaths) H := by rw [hH]; exact hP
  have hS : va_S (tA sz (xWV ad) []) s.heap H locs := by rw [hH, hlo]; exact hS
  suffices hZ : W p l e ({ frames := 10, cells := 12, slots := 1234, locals := 10304 } : Room) s m args below meth c H locs 0 0 Q (F0 m 0 ls []) by rw [hH, hlo] at hZ; exact hZ
  clear hH hlo
  unfold sC_HW_judge at hE
  refine lv_aload_n C.1 C.2.1 dX0_judge_0 rfl (lv_at hl 0 rfl) ?_
  refine lv_iload_n C.1 C.2.1 dX0_judge_1 rfl (lv_at hl 1 rfl) ?_
  refine lv_iload_n C.1 C.2.1 dX0_judge_2 rfl (lv_at hl 2 rfl) ?_
  obtain ⟨r1, hr1, hE⟩ := it_b hE
  refine t_afterS C0 D hP P_nil hS (vx_runV (As := [.int p1, .int p2]) (rest := []) ⟨C.1, C.2.1, hml, C.2.2.1, C.2.2.2.1⟩ (metC_HW_toldAt l hfl G ad pl sa ra rb hd rs rn rc sk si sb H.size _ _ _ _ _ _ _ _ _ _ _ _ _ _ _ _ _ _ _ _ _ _ _ _ _ _ _ _ _ _ _ _ _ _ _ _ _ _ _ _ _ _ _ _ _ _ _ shok p1 p2 r1 hr1) (cwV (C := RX0) 2 C.2.2.2.1 (lw_V q1057 q1059 qs20 q80 q1060) rfl rfl rfl (by decide +kernel) ⟨Nat.le_of_ble_eq_true rfl, Nat.le_of_ble_eq_true rfl⟩) (rr_preV0 C D hP hS (va_recv C.2.2.2.2.1 hP (ci := 16) (q0 := 0) rfl rfl)) rfl rfl hl.1 rfl (lv_room (Nat.le_of_ble_eq_true rfl)) dX0_judge_3 ⟨Nat.le_of_ble_eq_true rfl, Nat.le_of_ble_eq_true rfl⟩) xW_av (fun hφ H locs hP _ hS => ?_) (fun w q H locs hw hq hc hP _ hS => ?_)
  · have hE := it_t hφ hE
    obtain ⟨hgg3, hdg3⟩ := told_ok hr1 hφ
    obtain ⟨hsag3, hshg3⟩ := shok _ (gi_lt hgg3)
    have hrwg3 := (shAt_1 hshg3 hdg3).2
    refine lv_astore_n (lv' := [(3, .ref (ra (p1).toNatClampNeg)), (0, .ref (ad 0)), (1, .int p1), (2, .int p2)]) C.1 C.2.1 dX0_judge_6 rfl hl (by decide) rfl (fun ls hl => ?_)
    refine lv_iload_n C.1 C.2.1 dX0_judge_7 rfl (lv_at hl 3 rfl) ?_
    refine lv_bipush (v := 40) C.1 C.2.1 dX0_judge_8 (by decide) ?_
    obtain ⟨u5, hR, hE⟩ := it_b hE
    have hJ18u5 : ∀ (H : Heap) (locs : List Loc) (ls : Array Slot), va_P G.1 vwCl (xW G.2 ad v_latestFault v_died v_leastWeight v_noticedBy v_noticed v_orderDied v_orderLeast v_imaged v_shelves v_refusals v_ran v_bodies v_tweight v_tfright v_tage v_tasked v_told v_bestRow v_weight_a1 v_fright_a1 v_age_a1 v_asked_a1 v_weight_a2 v_fright_a2 v_age_a2 v_asked_a2 v_weight_a3 v_fright_a3 v_age_a3 v_asked_a3 v_weight_a4 v_fright_a4 v_age_a4 v_asked_a4 v_many v_pets v_last v_seed v_weight v_fright v_age v_asked v_homes v_marks v_had v_allergic v_deaths) H → va_S (tA sz (xWV ad) []) s.heap H locs → lv_has ls 4 [(0, .ref (ad 0)), (2, .int p2), (3, .ref (ra (p1).toNatClampNeg))] → W p l e ({ frames := 10, cells := 12, slots := 1234, locals := 10304 } : Room) s m args below meth c H locs 11 1227 Q (F0 m 18 ls [.int u5]) := by
      intro H locs ls hP hS hl
      refine lv_bipush (v := (-6)) C.1 C.2.1 dX0_judge_18 (by decide) ?_
      refine t_after [] C0 D hP P_nil hS (vx_runS (As := [.int u5, .int (-6)]) (rest := []) ⟨C.1, C.2.1, hml, C.2.2.1, C.2.2.2.1⟩ (metC_HW_need l hfl G ad pl H.size u5 (-6) _ (need_eq _ _)) (va_cwS 2 C.2.2.2.1 (lw_S q397 q398 q80 q399) rfl rfl rfl (by decide +kernel) ⟨Nat.le_of_ble_eq_true rfl, Nat.le_of_ble_eq_true rfl⟩) (rr_preS C D hP hS [] rfl (by decide) rfl) rfl rfl hl.1 rfl (lv_room (Nat.le_of_ble_eq_true rfl)) dX0_judge_20 ⟨Nat.le_of_ble_eq_true rfl, Nat.le_of_ble_eq_true rfl⟩) xW_av rfl rfl rfl (fun hφ H locs hP _ hS => ?_) (fun w q H locs hw hq hc hP _ hS => ?_)
      · have hE := it_f (nd_n hφ) hE
        refine lv_aload_n C.1 C.2.1 dX0_judge_23 rfl (lv_at hl 0 rfl) ?_
        refine lv_aload_n C.1 C.2.1 dX0_judge_24 rfl (lv_at hl 2 rfl) ?_
        refine lv_iload_n C.1 C.2.1 dX0_judge_25 rfl (lv_at hl 1 rfl) ?_
        obtain ⟨r8, hr8, hE⟩ := it_b hE
        refine t_afterS C0 D hP P_nil hS (vx_runV (As := [.ref (ra (p1).toNatClampNeg), .int p2]) (rest := []) ⟨C.1, C.2.1, hml, C.2.2.1, C.2.2.2.1⟩ (metC_HW_wrongIn l hfl G ad pl H.size _ _ _ _ _ _ _ _ _ _ _ _ _ _ _ _ _ _ _ _ _ _ _ _ _ _ _ _ _ _ _ _ _ _ _ _ _ _ _ _ _ _ _ _ _ _ _ (ra (p1).toNatClampNeg) (rs (p1).toNatClampNeg) (rb (p1).toNatClampNeg) (rn (p1).toNatClampNeg) (rc (p1).toNatClampNeg) p2 hrwg3 r8 hr8) (cwV (C := RX0) 2 C.2.2.2.1 (lw_V q1062 q1064 qs21 q80 q1065) rfl rfl rfl (by decide +kernel) ⟨Nat.le_of_ble_eq_true rfl, Nat.le_of_ble_eq_true rfl⟩) (rr_preV0 C D hP hS (va_recv C.2.2.2.2.1 hP (ci := 16) (q0 := 0) rfl rfl)) rfl rfl hl.1 rfl (lv_room (Nat.le_of_ble_eq_true rfl)) dX0_judge_26 ⟨Nat.le_of_ble_eq_true rfl, Nat.le_of_ble_eq_true rfl⟩) xW_av (fun hφ H locs hP _ hS => ?_) (fun w q H locs hw hq hc hP _ hS => nomatch hw)
        obtain rfl := Option.some.inj hE
        exact hret _ _ _ _ dX0_judge_29 trivial hP hS
      · obtain ⟨c6, rfl⟩ := nd_x hw
        obtain ⟨q7, rfl⟩ : ∃ z, z = q := ⟨_, rfl⟩
        have hE := it_t c6 hE
        obtain ⟨ce, g1, g2, g3⟩ := t_cell C0 hc rfl
        refine t_catch (name := "HamsterWeekends$Refused") (E := "HamsterWeekends$Refused") C0 D [] ⟨0, 29, 30, 21⟩ [] htab (fun z hz => nomatch hz) rfl (by decide) q291 (List.mem_of_getElem? (i := 1) rfl) g1 g2 g3 ?_
        refine W.eq (g2 := F0 m 30 ls [.ref q7]) rfl ?_
        refine lv_astore_n (lv' := [(3, .ref q7), (0, .ref (ad 0)), (2, .int p2)]) C.1 C.2.1 dX0_judge_30 rfl hl (by decide) rfl (fun ls hl => ?_)
        refine lv_aload_n C.1 C.2.1 dX0_judge_31 rfl (lv_at hl 1 rfl) ?_
        refine lv_aload_n C.1 C.2.1 dX0_judge_32 rfl (lv_at hl 0 rfl) ?_
        obtain ⟨r9, hr9, hE⟩ := it_b hE
        refine n_afterS C.2.2.2.2.2.2.2.1 hS (va_runV (As := [.ref q7]) (rest := []) ⟨C.1, C.2.1, hml, C.2.2.1, C.2.2.2.1⟩ (metC_HW_refused l G ad [(q7, .inr (18, xF (-6)))] _ _ _ _ _ _ _ _ _ _ _ _ _ _ _ _ _ _ _ _ _ _ _ _ _ _ _ _ _ _ _ _ _ _ _ _ _ _ _ _ _ _ _ _ _ _ _ q7 (-6) (List.mem_singleton.mpr rfl) r9 hr9) (cwV (C := RX0) 1 C.2.2.2.1 (lw_V q466 q468 qs2 q80 q469) rfl rfl rfl (by decide +kernel) ⟨Nat.le_of_ble_eq_true rfl, Nat.le_of_ble_eq_true rfl⟩) (t_preX C0 hP hc hq.1 (va_recv C.2.2.2.2.1 hP (ci := 16) (q0 := 0) rfl rfl)) rfl rfl hl.1 rfl (lv_room (Nat.le_of_ble_eq_true rfl)) dX0_judge_33 ⟨Nat.le_of_ble_eq_true rfl, Nat.le_of_ble_eq_true rfl⟩) (fun H locs hP hS => ?_)
        refine lv_bipush (v := 10) C.1 C.2.1 dX0_judge_36 (by decide) ?_
        refine lv_isub C.1 C.2.1 dX0_judge_38 ?_
        obtain rfl := Option.some.inj hE
        exact hret _ _ _ _ dX0_judge_39 trivial hP hS
    have hE := hR
    refine lv_icmp_gt (tgt := 17) C.1 C.2.1 dX0_judge_10 (by decide) (fun c4 => ?_) (fun c4 => ?_)
    · have hE := it_t c4 hE
      refine lv_iconst (v := 0) C.1 C.2.1 dX0_judge_17 (by decide) ?_
      obtain rfl := Option.some.inj hE
      exact hJ18u5 H locs ls hP hS (lv_sub hl [1, 3, 0] rfl)
    · have hE := it_f c4 hE
      refine lv_iconst (v := 1) C.1 C.2.1 dX0_judge_13 (by decide) ?_
      refine lv_goto (tgt := 18) C.1 C.2.1 dX0_judge_14 (by decide) ?_
      obtain rfl := Option.some.inj hE
      exact hJ18u5 H locs ls hP hS (lv_sub hl [1, 3, 0] rfl)
  · have hE := it_f (by rw [hw]; exact fun h => nomatch h) hE
    obtain ⟨q2, rfl⟩ : ∃ z, z = q := ⟨_, rfl⟩
    obtain rfl : w = (r1.getD 0) := by rw [hw]; rfl
    obtain ⟨ce, g1, g2, g3⟩ := t_cell C0 hc rfl
    refine t_catch (name := "HamsterWeekends$Refused") (E := "HamsterWeekends$Refused") C0 D [] ⟨0, 29, 30, 21⟩ [] htab (fun z hz => nomatch hz) rfl (by decide) q291 (List.mem_of_getElem? (i := 1) rfl) g1 g2 g3 ?_
    refine W.eq (g2 := F0 m 30 ls [.ref q2]) rfl ?_
    refine lv_astore_n (lv' := [(3, .ref q2), (0, .ref (ad 0)), (1, .int p1), (2, .int p2)]) C.1 C.2.1 dX0_judge_30 rfl hl (by decide) rfl (fun ls hl => ?_)
    refine lv_aload_n C.1 C.2.1 dX0_judge_31 rfl (lv_at hl 1 rfl) ?_
    refine lv_aload_n C.1 C.2.1 dX0_judge_32 rfl (lv_at hl 0 rfl) ?_
    obtain ⟨r10, hr10, hE⟩ := it_b hE
    refine n_afterS C.2.2.2.2.2.2.2.1 hS (va_runV (As := [.ref q2]) (rest := []) ⟨C.1, C.2.1, hml, C.2.2.1, C.2.2.2.1⟩ (metC_HW_refused l G ad [(q2, .inr (18, xF (r1.getD 0)))] _ _ _ _ _ _ _ _ _ _ _ _ _ _ _ _ _ _ _ _ _ _ _ _ _ _ _ _ _ _ _ _ _ _ _ _ _ _ _ _ _ _ _ _ _ _ _ q2 (r1.getD 0) (List.mem_singleton.mpr rfl) r10 hr10) (cwV (C := RX0) 1 C.2.2.2.1 (lw_V q466 q468 qs2 q80 q469) rfl rfl rfl (by decide +kernel) ⟨Nat.le_of_ble_eq_true rfl, Nat.le_of_ble_eq_true rfl⟩) (t_preX C0 hP hc hq.1 (va_recv C.2.2.2.2.1 hP (ci := 16) (q0 := 0) rfl rfl)) rfl rfl hl.1 rfl (lv_room (Nat.le_of_ble_eq_true rfl)) dX0_judge_33 ⟨Nat.le_of_ble_eq_true rfl, Nat.le_of_ble_eq_true rfl⟩) (fun H locs hP hS => ?_)
    refine lv_bipush (v := 10) C.1 C.2.1 dX0_judge_36 (by decide) ?_
    refine lv_isub C.1 C.2.1 dX0_judge_38 ?_
    obtain rfl := Option.some.inj hE
    refine W.widen (k := 12) (n := 1234) (Nat.le_of_ble_eq_true rfl) (Nat.le_of_ble_eq_true rfl) ?_
    exact hret _ _ _ _ dX0_judge_39 trivial hP hS
