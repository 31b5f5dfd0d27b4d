set_option maxRecDepth 100000
def sC_HW_need (p0 : Int32) (p1 : Int32) : Option (Option Int32) :=
  if p0 = 0 then
    some (some p1)
  else
    some (none)
set_option maxHeartbeats 4000000 in
theorem metC_HW_need (l : Launch) (hfl : l.stackTraces = false) (G : kG) (ad : Nat → Nat) (pl : va_W) (sz : Nat)  (p0 : Int32) (p1 : Int32) (res : Option Int32) (hE : sC_HW_need p0 p1 = some res) : vx_Met l yX0_need (ws_ yX0_need cX0_need 2 none) ({ frames := 4, cells := 1, slots := 7, locals := 101 } : Room) (rPc G [] pl [] sz [.int p0, .int p1]) (tQc G [] [] (tA sz [] []) (res = none) none) (tXC G [] [] (tA sz [] []) 18 RX6 res sz) 1 7 (tA sz [] []) := by
  refine r_ofW (own := RX0) (by decide) rfl (Nat.le_of_ble_eq_true rfl) ?_
  intro p e s m args below meth c ls C C0 D hml htab hP hS hl hr hlocks hsz
  have hl : lv_has ls 2 [(0, .int p0), (1, .int p1)] := hl
  obtain ⟨Q, hQ⟩ : ∃ Q, Q = vx_MQ below (tQc G [] [] (tA sz [] []) (res = none) none) (tXC G [] [] (tA sz [] []) 18 RX6 res sz) args s 1 7 (tA sz [] []) := ⟨_, rfl⟩
  rw [← hQ]
  have hret : ∀ (pc : Nat) (ls : Array Slot) (H : Heap) (locs : List Loc), decode cX0_need pc = .ok (.return_, 1) → res = none → va_P G.1 vwCl [] H → va_S (tA sz [] []) s.heap H locs → W p l e ({ frames := 4, cells := 1, slots := 7, locals := 101 } : Room) s m args below meth c H locs 1 7 Q (F0 m pc ls []) := by
    intro pc ls H locs hd hφ hP hS
    rw [hQ]
    exact t_vret C0 hr hlocks hd hφ hP P_nil hS
  have hthr : ∀ (pc : Nat) (ls : Array Slot) (rest : List Value) (H : Heap) (locs : List Loc) (w : Int32) (q : Nat), (∀ x ∈ c.exceptionTable.toList, covers x pc = false) → res = some w → s.heap.size ≤ q → va_P G.1 vwCl [(q, .inr (18, xF w))] H → va_P G.1 vwCl [] H → va_S (tA sz [] []) s.heap H locs → vx_W p l e ({ frames := 4, cells := 1, slots := 7, locals := 101 } : Room) s m args below meth c H locs 1 7 Q (F0 m pc ls rest) q := by
    intro pc ls rest H locs w q hout hw hq hc hP hS
    rw [hQ]
    exact t_out (r := (RX6, TX6, 7)) C0 rfl hout hlocks hw (by omega) hc hP P_nil hS
  clear hQ
  obtain ⟨H, hH⟩ : ∃ H, H = s.heap := ⟨_, rfl⟩
  obtain ⟨locs, hlo⟩ : ∃ locs : List Loc, locs = [] := ⟨_, rfl⟩
  have hP : va_P G.1 vwCl [] H := by rw [hH]; exact hP
  have hS : va_S (tA sz [] []) s.heap H locs := by rw [hH, hlo]; exact hS
  suffices hZ : W p l e ({ frames := 4, cells := 1, slots := 7, locals := 101 } : Room) s m args below meth c H locs 0 0 Q (F0 m 0 ls []) by rw [hH, hlo] at hZ; exact hZ
  clear hH hlo
  unfold sC_HW_need at hE
  refine lv_iload_n C.1 C.2.1 dX0_need_0 rfl (lv_at hl 0 rfl) ?_
  refine lv_if_ne (tgt := 13) C.1 C.2.1 dX0_need_1 (by decide) (fun c1 => ?_) (fun c1 => ?_)
  · have hE := it_f c1 hE
    obtain rfl := Option.some.inj hE
    refine W.widen (k := 1) (n := 7) (Nat.le_of_ble_eq_true rfl) (Nat.le_of_ble_eq_true rfl) ?_
    exact hret _ _ _ _ dX0_need_13 rfl hP hS
  · have hE := it_t c1 hE
    obtain ⟨q2, hq2e⟩ : ∃ q, q = H.size := ⟨_, rfl⟩
    refine t_refuse18 (w := p1) (kp := 1) C0 D hml hl.1 hP rfl P_nil hS q291 q382 dX0_need_4 dX0_need_7 (fun kk => lv_iload_n C.1 C.2.1 dX0_need_8 rfl (lv_at hl 1 rfl) kk) dX0_need_9 dX0_need_12 ⟨Nat.le_of_ble_eq_true rfl, Nat.le_of_ble_eq_true rfl, Nat.le_of_ble_eq_true rfl, Nat.le_of_ble_eq_true rfl⟩ (fun H locs hq hc hP _ hS => ?_)
    rw [← hq2e] at hq hc ⊢
    obtain rfl := Option.some.inj hE
    refine vx_widen (k := 1) (n := 7) (Nat.le_of_ble_eq_true rfl) (Nat.le_of_ble_eq_true rfl) ?_
    exact hthr _ _ _ _ _ _ _ (fun x hx => (htab x hx).elim) rfl hq.2.2 hc hP hS
theorem need_eq (v w : Int32) : sC_HW_need v w = some (nd v w) := by
  unfold sC_HW_need nd
  by_cases h : v = 0
  · rw [if_pos h, if_pos h]
  · rw [if_neg h, if_neg h]
def sC_HW_refused (v_refusals : Nat → Int32) (p1 : Int32) : Option (Int32 × (Nat → Int32)) :=
  if gi (-p1) 8 then
  if gi (-p1) 8 then
  some (p1, (upd v_refusals ((-p1)).toNatClampNeg ((v_refusals ((-p1)).toNatClampNeg) + 1)))
  else none
  else none
set_option maxHeartbeats 4000000 in
theorem metC_HW_refused (l : Launch) (G : kG) (ad : Nat → Nat) (pl : va_W) (v_latestFault : Int32) (v_died : Int32) (v_leastWeight : Int32) (v_noticedBy : Int32) (v_noticed : Int32) (v_orderDied : Int32) (v_orderLeast : Int32) (v_imaged : Option Nat) (v_shelves : Nat → Option Nat) (v_refusals : Nat → Int32) (v_ran : Int32) (v_bodies : Nat → Int32) (v_tweight : Int32) (v_tfright : Int32) (v_tage : Int32) (v_tasked : Nat → Int32) (v_told : Nat → Int32) (v_bestRow : Nat → Int32) (v_weight_a1 : Int32) (v_fright_a1 : Int32) (v_age_a1 : Int32) (v_asked_a1 : Nat → Int32) (v_weight_a2 : Int32) (v_fright_a2 : Int32) (v_age_a2 : Int32) (v_asked_a2 : Nat → Int32) (v_weight_a3 : Int32) (v_fright_a3 : Int32) (v_age_a3 : Int32) (v_asked_a3 : Nat → Int32) (v_weight_a4 : Int32) (v_fright_a4 : Int32) (v_age_a4 : Int32) (v_asked_a4 : Nat → Int32) (v_many : Int32) (v_pets : Int32) (v_last : Int32) (v_seed : Int32) (v_weight : Int32) (v_fright : Int32) (v_age : Int32) (v_asked : Nat → Int32) (v_homes : Nat → Option Nat) (v_marks : Nat → Int32) (v_had : Nat → Int32) (v_allergic : Nat → Int32) (v_deaths : Nat → Int32) (q : Nat) (p1 : Int32) (hq : (q, .inr (18, xF p1)) ∈ pl) (res : Int32 × (Nat → Int32)) (hE : sC_HW_refused v_refusals p1 = some res) : Met l yX0_refused (ws_ yX0_refused cX0_refused 2 (some .int)) ({ frames := 0, cells := 0, slots := 0, locals := 0 } : Room) (nPc G (xW G.2 ad v_latestFault v_died v_leastWeight v_noticedBy v_noticed v_orderDied v_orderLeast v_imaged v_shelves v_refusals v_ran v_bodies v_tweight v_tfright v_tage v_tasked v_told v_bestRow v_weight_a1 v_fright_a1 v_age_a1 v_asked_a1 v_weight_a2 v_fright_a2 v_age_a2 v_asked_a2 v_weight_a3 v_fright_a3 v_age_a3 v_asked_a3 v_weight_a4 v_fright_a4 v_age_a4 v_asked_a4 v_many v_pets v_last v_seed v_weight v_fright v_age v_asked v_homes v_marks v_had v_allergic v_deaths) pl (xWV ad) [.ref (ad 0), .ref q]) (nQc G (xW G.2 ad v_latestFault v_died v_leastWeight v_noticedBy v_noticed v_orderDied v_orderLeast v_imaged v_shelves res.2 v_ran v_bodies v_tweight v_tfright v_tage v_tasked v_told v_bestRow v_weight_a1 v_fright_a1 v_age_a1 v_asked_a1 v_weight_a2 v_fright_a2 v_age_a2 v_asked_a2 v_weight_a3 v_fright_a3 v_age_a3 v_asked_a3 v_weight_a4 v_fright_a4 v_age_a4 v_asked_a4 v_many v_pets v_last v_seed v_weight v_fright v_age v_asked v_homes v_marks v_had v_allergic v_deaths) (xWV ad) (some (.int res.1))) 0 0 (nA (xWV ad)) := by
  refine n_ofW (own := RX0) (by decide) rfl (Nat.le_of_ble_eq_true rfl) ?_
  intro p e s m args below meth c ls C hml hP hS hl hr hlocks
  have hl : lv_has ls 2 [(0, .ref (ad 0)), (1, .ref q)] := hl
  obtain ⟨Q, hQ⟩ : ∃ Q, Q = MQ below (nQc G (xW G.2 ad v_latestFault v_died v_leastWeight v_noticedBy v_noticed v_orderDied v_orderLeast v_imaged v_shelves res.2 v_ran v_bodies v_tweight v_tfright v_tage v_tasked v_told v_bestRow v_weight_a1 v_fright_a1 v_age_a1 v_asked_a1 v_weight_a2 v_fright_a2 v_age_a2 v_asked_a2 v_weight_a3 v_fright_a3 v_age_a3 v_asked_a3 v_weight_a4 v_fright_a4 v_age_a4 v_asked_a4 v_many v_pets v_last v_seed v_weight v_fright v_age v_asked v_homes v_marks v_had v_allergic v_deaths) (xWV ad) (some (.int res.1))) args s 0 0 (nA (xWV ad)) := ⟨_, rfl⟩
  rw [← hQ]
  have hret : ∀ (pc : Nat) (ls : Array Slot) (H : Heap) (locs : List Loc), decode cX0_refused pc = .ok (.ireturn, 1) → va_P G.1 vwCl (xW G.2 ad v_latestFault v_died v_leastWeight v_noticedBy v_noticed v_orderDied v_orderLeast v_imaged v_shelves res.2 v_ran v_bodies v_tweight v_tfright v_tage v_tasked v_told v_bestRow v_weight_a1 v_fright_a1 v_age_a1 v_asked_a1 v_weight_a2 v_fright_a2 v_age_a2 v_asked_a2 v_weight_a3 v_fright_a3 v_age_a3 v_asked_a3 v_weight_a4 v_fright_a4 v_age_a4 v_asked_a4 v_many v_pets v_last v_seed v_weight v_fright v_age v_asked v_homes v_marks v_had v_allergic v_deaths) H → va_S (nA (xWV ad)) s.heap H locs → W p l e ({ frames := 0, cells := 0, slots := 0, locals := 0 } : Room) s m args below meth c H locs 0 0 Q (F0 m pc ls [(.int res.1)]) := by
    intro pc ls H locs hd hP hS
    rw [hQ]
    exact n_iret C hr hlocks hd hP hS
  clear hQ
  obtain ⟨H, hH⟩ : ∃ H, H = s.heap := ⟨_, rfl⟩
  obtain ⟨locs, hlo⟩ : ∃ locs : List Loc, locs = [] := ⟨_, rfl⟩
  have hP : va_P G.1 vwCl (xW G.2 ad v_latestFault v_died v_leastWeight v_noticedBy v_noticed v_orderDied v_orderLeast v_imaged v_shelves v_refusals v_ran v_bodies v_tweight v_tfright v_tage v_tasked v_told v_bestRow v_weight_a1 v_fright_a1 v_age_a1 v_asked_a1 v_weight_a2 v_fright_a2 v_age_a2 v_asked_a2 v_weight_a3 v_fright_a3 v_age_a3 v_asked_a3 v_weight_a4 v_fright_a4 v_age_a4 v_asked_a4 v_many v_pets v_last v_seed v_weight v_fright v_age v_asked v_homes v_marks v_had v_allergic v_deaths) H := by rw [hH]; exact hP
  have hS : va_S (nA (xWV ad)) s.heap H locs := by rw [hH, hlo]; exact hS
  suffices hZ : W p l e ({ frames := 0, cells := 0, slots := 0, locals := 0 } : Room) s m args below meth c H locs 0 0 Q (F0 m 0 ls []) by rw [hH, hlo] at hZ; exact hZ
  clear hH hlo
  unfold sC_HW_refused at hE
  refine lv_aload_n C.1 C.2.1 dX0_refused_0 rfl (lv_at hl 0 rfl) ?_
  refine xWg_0_1 q239 C hP dX0_refused_1 ?_
  refine lv_aload_n C.1 C.2.1 dX0_refused_4 rfl (lv_at hl 1 rfl) ?_
  refine x_get C hS hq q392 dX0_refused_5 ?_
  refine lv_ineg C.1 C.2.1 dX0_refused_8 ?_
  refine lv_dup2_11 C.1 C.2.1 dX0_refused_9 rfl rfl ?_
  obtain ⟨g1, hE⟩ := it_g hE
  refine xWl_2 (v := (v_refusals ((-p1)).toNatClampNeg)) C hP (gi_in g1) rfl dX0_refused_10 ?_
  refine lv_iconst (v := 1) C.1 C.2.1 dX0_refused_11 (by decide) ?_
  refine lv_iadd C.1 C.2.1 dX0_refused_12 ?_
  obtain ⟨g2, hE⟩ := it_g hE
  refine xWs_2 C hP hS (gi_in g2) dX0_refused_13 (fun H locs hP hS => ?_)
  refine lv_aload_n C.1 C.2.1 dX0_refused_14 rfl (lv_at hl 1 rfl) ?_
  refine x_get C hS hq q392 dX0_refused_15 ?_
  obtain rfl := Option.some.inj hE
  exact hret _ _ _ _ dX0_refused_18 hP hS
def sC_HW_mustHome (v_many : Int32) (p1 : Int32) : Option (Option Int32) :=
  (sC_Room_isHome v_many p1).bind fun r1 =>
  if r1 = 0 then
    some (some (-1))
  else
    some (none)
set_option maxHeartbeats 4000000 in
theorem metC_HW_mustHome (l : Launch) (hfl : l.stackTraces = false) (G : kG) (ad : Nat → Nat) (pl : va_W) (sz : Nat) (v_latestFault : Int32) (v_died : Int32) (v_leastWeight : Int32) (v_noticedBy : Int32) (v_noticed : Int32) (v_orderDied : Int32) (v_orderLeast : Int32) (v_imaged : Option Nat) (v_shelves : Nat → Option Nat) (v_refusals : Nat → Int32) (v_ran : Int32) (v_bodies : Nat → Int32) (v_tweight : Int32) (v_tfright : Int32) (v_tage : Int32) (v_tasked : Nat → Int32) (v_told : Nat → Int32) (v_bestRow : Nat → Int32) (v_weight_a1 : Int32) (v_fright_a1 : Int32) (v_age_a1 : Int32) (v_asked_a1 : Nat → Int32) (v_weight_a2 : Int32) (v_fright_a2 : Int32) (v_age_a2 : Int32) (v_asked_a2 : Nat → Int32) (v_weight_a3 : Int32) (v_fright_a3 : Int32) (v_age_a3 : Int32) (v_asked_a3 : Nat → Int32) (v_weight_a4 : Int32) (v_fright_a4 : Int32) (v_age_a4 : Int32) (v_asked_a4 : Nat → Int32) (v_many : Int32) (v_pets : Int32) (v_last : Int32) (v_seed : Int32) (v_weight : Int32) (v_fright : Int32) (v_age : Int32) (v_asked : Nat → Int32) (v_homes : Nat → Option Nat) (v_marks : Nat → Int32) (v_had : Nat → Int32) (v_allergic : Nat → Int32) (v_deaths : Nat → Int32) (p1 : Int32) (res : Option Int32) (hE : sC_HW_mustHome v_many p1 = some res) : vx_Met l yX0_mustHome (ws_ yX0_mustHome cX0_mustHome 2 none) ({ frames := 5, cells := 1, slots := 7, locals := 122 } : Room) (rPc G (xW G.2 ad v_latestFault v_died v_leastWeight v_noticedBy v_noticed v_orderDied v_orderLeast v_imaged v_shelves v_refusals v_ran v_bodies v_tweight v_tfright v_tage v_tasked v_told v_bestRow v_weight_a1 v_fright_a1 v_age_a1 v_asked_a1 v_weight_a2 v_fright_a2 v_age_a2 v_asked_a2 v_weight_a3 v_fright_a3 v_age_a3 v_asked_a3 v_weight_a4 v_fright_a4 v_age_a4 v_asked_a4 v_many v_pets v_last v_seed v_weight v_fright v_age v_asked v_homes v_marks v_had v_allergic v_deaths) pl (xWV ad) sz [.ref (ad 0), .int p1]) (tQc G (xW G.2 ad v_latestFault v_died v_leastWeight v_noticedBy v_noticed v_orderDied v_orderLeast v_imaged v_shelves v_refusals v_ran v_bodies v_tweight v_tfright v_tage v_tasked v_told v_bestRow v_weight_a1 v_fright_a1 v_age_a1 v_asked_a1 v_weight_a2 v_fright_a2 v_age_a2 v_asked_a2 v_weight_a3 v_fright_a3 v_age_a3 v_asked_a3 v_weight_a4 v_fright_a4 v_age_a4 v_asked_a4 v_many v_pets v_last v_seed v_weight v_fright v_age v_asked v_homes v_marks v_had v_allergic v_deaths) [] (tA sz (xWV ad) []) (res = none) none) (tXC G (xW G.2 ad v_latestFault v_died v_leastWeight v_noticedBy v_noticed v_orderDied v_orderLeast v_imaged v_shelves v_refusals v_ran v_bodies v_tweight v_tfright v_tage v_tasked v_told v_bestRow v_weight_a1 v_fright_a1 v_age_a1 v_asked_a1 v_weight_a2 v_fright_a2 v_age_a2 v_asked_a2 v_weight_a3 v_fright_a3 v_age_a3 v_asked_a3 v_weight_a4 v_fright_a4 v_age_a4 v_asked_a4 v_many v_pets v_last v_seed v_weight v_fright v_age v_asked v_homes v_marks v_had v_allergic v_deaths) [] (tA sz (xWV ad) []) 18 RX6 res sz) 1 7 (tA sz (xWV ad) []) := by
  refine r_ofW (own := RX0) (by decide) rfl (Nat.le_of_ble_eq_true rfl) ?_
  intro p e s m args below meth c ls C C0 D hml htab hP hS hl hr hlocks hsz
  have hl : lv_has ls 2 [(0, .ref (ad 0)), (1, .int p1)] := hl
  obtain ⟨Q, hQ⟩ : ∃ Q, Q = vx_MQ below (tQc G (xW G.2 ad v_latestFault v_died v_leastWeight v_noticedBy v_noticed v_orderDied v_orderLeast v_imaged v_shelves v_refusals v_ran v_bodies v_tweight v_tfright v_tage v_tasked v_told v_bestRow v_weight_a1 v_fright_a1 v_age_a1 v_asked_a1 v_weight_a2 v_fright_a2 v_age_a2 v_asked_a2 v_weight_a3 v_fright_a3 v_age_a3 v_asked_a3 v_weight_a4 v_fright_a4 v_age_a4 v_asked_a4 v_many v_pets v_last v_seed v_weight v_fright v_age v_asked v_homes v_marks v_had v_allergic v_deaths) [] (tA sz (xWV ad) []) (res = none) none) (tXC G (xW G.2 ad v_latestFault v_died v_leastWeight v_noticedBy v_noticed v_orderDied v_orderLeast v_imaged v_shelves v_refusals v_ran v_bodies v_tweight v_tfright v_tage v_tasked v_told v_bestRow v_weight_a1 v_fright_a1 v_age_a1 v_asked_a1 v_weight_a2 v_fright_a2 v_age_a2 v_asked_a2 v_weight_a3 v_fright_a3 v_age_a3 v_asked_a3 v_weight_a4 v_fright_a4 v_age_a4 v_asked_a4 v_many v_pets v_last v_seed v_weight v_fright v_age v_asked v_homes v_marks v_had v_allergic v_deaths) [] (tA sz (xWV ad) []) 18 RX6 res sz) args s 1 7 (tA sz (xWV ad) []) := ⟨_, rfl⟩
  rw [← hQ]
  have hret : ∀ (pc : Nat) (ls : Array Slot) (H : Heap) (locs : List Loc), decode cX0_mustHome pc = .ok (.return_, 1) → res = none → va_P G.1 vwCl (xW G.2 ad v_latestFault v_died v_leastWeight v_noticedBy v_noticed v_orderDied v_orderLeast v_imaged v_shelves v_refusals v_ran v_bodies v_tweight v_tfright v_tage v_tasked v_told v_bestRow v_weight_a1 v_fright_a1 v_age_a1 v_asked_a1 v_weight_a2 v_fright_a2 v_age_a2 v_asked_a2 v_weight_a3 v_fright_a3 v_age_a3 v_asked_a3 v_weight_a4 v_fright_a4 v_age_a4 v_asked_a4 v_many v_pets v_last v_seed v_weight v_fright v_age v_asked v_homes v_marks v_had v_allergic v_deaths) H → va_S (tA sz (xWV ad) []) s.heap H locs → W p l e ({ frames := 5, cells := 1, slots := 7, locals := 122 } : Room) s m args below meth c H locs 1 7 Q (F0 m pc ls []) := by
    intro pc ls H locs hd hφ hP hS
    rw [hQ]
    exact t_vret C0 hr hlocks hd hφ hP P_nil hS
  have hthr : ∀ (pc : Nat) (ls : Array Slot) (rest : List Value) (H : Heap) (locs : List Loc) (w : Int32) (q : Nat), (∀ x ∈ c.exceptionTable.toList, covers x pc = false) → res = some w → s.heap.size ≤ q → va_P G.1 vwCl [(q, .inr (18, xF w))] H → va_P G.1 vwCl (xW G.2 ad v_latestFault v_died v_leastWeight v_noticedBy v_noticed v_orderDied v_orderLeast v_imaged v_shelves v_refusals v_ran v_bodies v_tweight v_tfright v_tage v_tasked v_told v_bestRow v_weight_a1 v_fright_a1 v_age_a1 v_asked_a1 v_weight_a2 v_fright_a2 v_age_a2 v_asked_a2 v_weight_a3 v_fright_a3 v_age_a3 v_asked_a3 v_weight_a4 v_fright_a4 v_age_a4 v_asked_a4 v_many v_pets v_last v_seed v_weight v_fright v_age v_asked v_homes v_marks v_had v_allergic v_deaths) H → va_S (tA sz (xWV ad) []) s.heap H locs → vx_W p l e ({ frames := 5, cells := 1, slots := 7, locals := 122 } : Room) s m args below meth c H locs 1 7 Q (F0 m pc ls rest) q := by
    intro pc ls rest H locs w q hout hw hq hc hP hS
    rw [hQ]
    exact t_out (r := (RX6, TX6, 7)) C0 rfl hout hlocks hw (by omega) hc hP P_nil hS
  clear hQ
  obtain ⟨H, hH⟩ : ∃ H, H = s.heap := ⟨_, rfl⟩
  obtain ⟨locs, hlo⟩ : ∃ locs : List Loc, locs = [] := ⟨_, rfl⟩
  have hP : va_P G.1 vwCl (xW G.2 ad v_latestFault v_died v_leastWeight v_noticedBy v_noticed v_orderDied v_orderLeast v_imaged v_shelves v_refusals v_ran v_bodies v_tweight v_tfright v_tage v_tasked v_told v_bestRow v_weight_a1 v_fright_a1 v_age_a1 v_asked_a1 v_weight_a2 v_fright_a2 v_age_a2 v_asked_a2 v_weight_a3 v_fright_a3 v_age_a3 v_asked_a3 v_weight_a4 v_fright_a4 v_age_a4 v_asked_a4 v_many v_pets v_last v_seed v_weight v_fright v_age v_asked v_homes v_marks v_had v_allergic v_deaths) H := by rw [hH]; exact hP
  have hS : va_S (tA sz (xWV ad) []) s.heap H locs := by rw [hH, hlo]; exact hS
  suffices hZ : W p l e ({ frames := 5, cells := 1, slots := 7, locals := 122 } : Room) s m args below meth c H locs 0 0 Q (F0 m 0 ls []) by rw [hH, hlo] at hZ; exact hZ
  clear hH hlo
  unfold sC_HW_mustHome at hE
  refine lv_aload_n C.1 C.2.1 dX0_mustHome_0 rfl (lv_at hl 0 rfl) ?_
  refine xWg_0_6 q244 C hP dX0_mustHome_1 ?_
  refine lv_iload_n C.1 C.2.1 dX0_mustHome_4 rfl (lv_at hl 1 rfl) ?_
  obtain ⟨r1, hr1, hE⟩ := it_b hE
  refine n_after [18, 19, 20, 21, 22, 23, 24, 25] C.2.2.2.2.2.1 C.2.2.2.2.2.2.2.1 hP hS (va_runV (As := [.int p1]) (rest := []) ⟨C.1, C.2.1, hml, C.2.2.1, C.2.2.2.1⟩ (metC_Room_isHome l G (fun i => ad (18 + i)) pl _ _ _ _ _ _ _ _ _ _ _ _ _ p1  r1 hr1) (cwV (C := RX3) 1 C.2.2.2.1 (lw_V q581 q582 q583 q83 q584) rfl rfl rfl (by decide +kernel) ⟨Nat.le_of_ble_eq_true rfl, Nat.le_of_ble_eq_true rfl⟩) (n_preV C hP hS [18, 19, 20, 21, 22, 23, 24, 25] sub_xW_rW_18 (by decide) rfl (va_recv C.2.2.2.2.1 hP (ci := 12) (q0 := 18) rfl rfl)) rfl rfl hl.1 rfl (lv_room (Nat.le_of_ble_eq_true rfl)) dX0_mustHome_5 ⟨Nat.le_of_ble_eq_true rfl, Nat.le_of_ble_eq_true rfl⟩) xW_av rfl rfl mg_xW_rW_18 (fun H locs hP hS => ?_)
  refine lv_iconst (v := (-1)) C.1 C.2.1 dX0_mustHome_8 (by decide) ?_
  refine t_after [] C0 D hP P_nil hS (vx_runS (As := [.int r1, .int (-1)]) (rest := []) ⟨C.1, C.2.1, hml, C.2.2.1, C.2.2.2.1⟩ (metC_HW_need l hfl G ad pl H.size r1 (-1) _ (need_eq _ _)) (va_cwS 2 C.2.2.2.1 (lw_S q397 q398 q80 q399) rfl rfl rfl (by decide +kernel) ⟨Nat.le_of_ble_eq_true rfl, Nat.le_of_ble_eq_true rfl⟩) (rr_preS C D hP hS [] rfl (by decide) rfl) rfl rfl hl.1 rfl (lv_room (Nat.le_of_ble_eq_true rfl)) dX0_mustHome_9 ⟨Nat.le_of_ble_eq_true rfl, Nat.le_of_ble_eq_true rfl⟩) xW_av rfl rfl rfl (fun hφ H locs hP _ hS => ?_) (fun w q H locs hw hq hc hP _ hS => ?_)
  · have hE := it_f (nd_n hφ) hE
    obtain rfl := Option.some.inj hE
    exact hret _ _ _ _ dX0_mustHome_12 rfl hP hS
  · obtain ⟨c2, rfl⟩ := nd_x hw
    obtain ⟨q3, rfl⟩ : ∃ z, z = q := ⟨_, rfl⟩
    have hE := it_t c2 hE
    obtain rfl := Option.some.inj hE
    refine vx_widen (k := 1) (n := 7) (Nat.le_of_ble_eq_true rfl) (Nat.le_of_ble_eq_true rfl) ?_
    exact hthr _ _ _ _ _ _ _ (fun x hx => (htab x hx).elim) rfl hq.2.2 hc hP hS
def sC_HW_someMay (v_many : Int32) (v_allergic : Nat → Int32) : Option (Option Int32) :=
  (sC_Room_mayMany v_many v_allergic).bind fun r1 =>
  @Option.bind (Int32) _ (
    if r1 ≤ 0 then
      some 0
    else
      some 1) fun u3 =>
  if u3 = 0 then
    some (some (-5))
  else
    some (none)
set_option maxHeartbeats 4000000 in
theorem metC_HW_someMay (l : Launch) (hfl : l.stackTraces = false) (G : kG) (ad : Nat → Nat) (pl : va_W) (sz : Nat) (v_latestFault : Int32) (v_died : Int32) (v_leastWeight : Int32) (v_noticedBy : Int32) (v_noticed : Int32) (v_orderDied : Int32) (v_orderLeast : Int32) (v_imaged : Option Nat) (v_shelves : Nat → Option Nat) (v_refusals : Nat → Int32) (v_ran : Int32) (v_bodies : Nat → Int32) (v_tweight : Int32) (v_tfright : Int32) (v_tage : Int32) (v_tasked : Nat → Int32) (v_told : Nat → Int32) (v_bestRow : Nat → Int32) (v_weight_a1 : Int32) (v_fright_a1 : Int32) (v_age_a1 : Int32) (v_asked_a1 : Nat → Int32) (v_weight_a2 : Int32) (v_fright_a2 : Int32) (v_age_a2 : Int32) (v_asked_a2 : Nat → Int32) (v_weight_a3 : Int32) (v_fright_a3 : Int32) (v_age_a3 : Int32) (v_asked_a3 : Nat → Int32) (v_weight_a4 : Int32) (v_fright_a4 : Int32) (v_age_a4 : Int32) (v_asked_a4 : Nat → Int32) (v_many : Int32) (v_pets : Int32) (v_last : Int32) (v_seed : Int32) (v_weight : Int32) (v_fright : Int32) (v_age : Int32) (v_asked : Nat → Int32) (v_homes : Nat → Option Nat) (v_marks : Nat → Int32) (v_had : Nat → Int32) (v_allergic : Nat → Int32) (v_deaths : Nat → Int32)  (res : Option Int32) (hE : sC_HW_someMay v_many v_allergic = some res) : vx_Met l yX0_someMay (ws_ yX0_someMay cX0_someMay 1 none) ({ frames := 5, cells := 1, slots := 7, locals := 122 } : Room) (rPc G (xW G.2 ad v_latestFault v_died v_leastWeight v_noticedBy v_noticed v_orderDied v_orderLeast v_imaged v_shelves v_refusals v_ran v_bodies v_tweight v_tfright v_tage v_tasked v_told v_bestRow v_weight_a1 v_fright_a1 v_age_a1 v_asked_a1 v_weight_a2 v_fright_a2 v_age_a2 v_asked_a2 v_weight_a3 v_fright_a3 v_age_a3 v_asked_a3 v_weight_a4 v_fright_a4 v_age_a4 v_asked_a4 v_many v_pets v_last v_seed v_weight v_fright v_age v_asked v_homes v_marks v_had v_allergic v_deaths) pl (xWV ad) sz [.ref (ad 0)]) (tQc G (xW G.2 ad v_latestFault v_died v_leastWeight v_noticedBy v_noticed v_orderDied v_orderLeast v_imaged v_shelves v_refusals v_ran v_bodies v_tweight v_tfright v_tage v_tasked v_told v_bestRow v_weight_a1 v_fright_a1 v_age_a1 v_asked_a1 v_weight_a2 v_fright_a2 v_age_a2 v_asked_a2 v_weight_a3 v_fright_a3 v_age_a3 v_asked_a3 v_weight_a4 v_fright_a4 v_age_a4 v_asked_a4 v_many v_pets v_last v_seed v_weight v_fright v_age v_asked v_homes v_marks v_had v_allergic v_deaths) [] (tA sz (xWV ad) []) (res = none) none) (tXC G (xW G.2 ad v_latestFault v_died v_leastWeight v_noticedBy v_noticed v_orderDied v_orderLeast v_imaged v_shelves v_refusals v_ran v_bodies v_tweight v_tfright v_tage v_tasked v_told v_bestRow v_weight_a1 v_fright_a1 v_age_a1 v_asked_a1 v_weight_a2 v_fright_a2 v_age_a2 v_asked_a2 v_weight_a3 v_fright_a3 v_age_a3 v_asked_a3 v_weight_a4 v_fright_a4 v_age_a4 v_asked_a4 v_many v_pets v_last v_seed v_weight v_fright v_age v_asked v_homes v_marks v_had v_allergic v_deaths) [] (tA sz (xWV ad) []) 18 RX6 res sz) 1 7 (tA sz (xWV ad) []) := by
  refine r_ofW (own := RX0) (by decide) rfl (Nat.le_of_ble_eq_true rfl) ?_
  intro p e s m args below meth c ls C C0 D hml htab hP hS hl hr hlocks hsz
  have hl : lv_has ls 1 [(0, .ref (ad 0))] := hl
  obtain ⟨Q, hQ⟩ : ∃ Q, Q = vx_MQ below (tQc G (xW G.2 ad v_latestFault v_died v_leastWeight v_noticedBy v_noticed v_orderDied v_orderLeast v_imaged v_shelves v_refusals v_ran v_bodies v_tweight v_tfright v_tage v_tasked v_told v_bestRow v_weight_a1 v_fright_a1 v_age_a1 v_asked_a1 v_weight_a2 v_fright_a2 v_age_a2 v_asked_a2 v_weight_a3 v_fright_a3 v_age_a3 v_asked_a3 v_weight_a4 v_fright_a4 v_age_a4 v_asked_a4 v_many v_pets v_last v_seed v_weight v_fright v_age v_asked v_homes v_marks v_had v_allergic v_deaths) [] (tA sz (xWV ad) []) (res = none) none) (tXC G (xW G.2 ad v_latestFault v_died v_leastWeight v_noticedBy v_noticed v_orderDied v_orderLeast v_imaged v_shelves v_refusals v_ran v_bodies v_tweight v_tfright v_tage v_tasked v_told v_bestRow v_weight_a1 v_fright_a1 v_age_a1 v_asked_a1 v_weight_a2 v_fright_a2 v_age_a2 v_asked_a2 v_weight_a3 v_fright_a3 v_age_a3 v_asked_a3 v_weight_a4 v_fright_a4 v_age_a4 v_asked_a4 v_many v_pets v_last v_seed v_weight v_fright v_age v_asked v_homes v_marks v_had v_allergic v_deaths) [] (tA sz (xWV ad) []) 18 RX6 res sz) args s 1 7 (tA sz (xWV ad) []) := ⟨_, rfl⟩
  rw [← hQ]
  have hret : ∀ (pc : Nat) (ls : Array Slot) (H : Heap) (locs : List Loc), decode cX0_someMay pc = .ok (.return_, 1) → res = none → va_P G.1 vwCl (xW G.2 ad v_latestFault v_died v_leastWeight v_noticedBy v_noticed v_orderDied v_orderLeast v_imaged v_shelves v_refusals v_ran v_bodies v_tweight v_tfright v_tage v_tasked v_told v_bestRow v_weight_a1 v_fright_a1 v_age_a1 v_asked_a1 v_weight_a2 v_fright_a2 v_age_a2 v_asked_a2 v_weight_a3 v_fright_a3 v_age_a3 v_asked_a3 v_weight_a4 v_fright_a4 v_age_a4 v_asked_a4 v_many v_pets v_last v_seed v_weight v_fright v_age v_asked v_homes v_marks v_had v_allergic v_deaths) H → va_S (tA sz (xWV ad) []) s.heap H locs → W p l e ({ frames := 5, cells := 1, slots := 7, locals := 122 } : Room) s m args below meth c H locs 1 7 Q (F0 m pc ls []) := by
    intro pc ls H locs hd hφ hP hS
    rw [hQ]
    exact t_vret C0 hr hlocks hd hφ hP P_nil hS
  have hthr : ∀ (pc : Nat) (ls : Array Slot) (rest : List Value) (H : Heap) (locs : List Loc) (w : Int32) (q : Nat), (∀ x ∈ c.exceptionTable.toList, covers x pc = false) → res = some w → s.heap.size ≤ q → va_P G.1 vwCl [(q, .inr (18, xF w))] H → va_P G.1 vwCl (xW G.2 ad v_latestFault v_died v_leastWeight v_noticedBy v_noticed v_orderDied v_orderLeast v_imaged v_shelves v_refusals v_ran v_bodies v_tweight v_tfright v_tage v_tasked v_told v_bestRow v_weight_a1 v_fright_a1 v_age_a1 v_asked_a1 v_weight_a2 v_fright_a2 v_age_a2 v_asked_a2 v_weight_a3 v_fright_a3 v_age_a3 v_asked_a3 v_weight_a4 v_fright_a4 v_age_a4 v_asked_a4 v_many v_pets v_last v_seed v_weight v_fright v_age v_asked v_homes v_marks v_had v_allergic v_deaths) H → va_S (tA sz (xWV ad) []) s.heap H locs → vx_W p l e ({ frames := 5, cells := 1, slots := 7, locals := 122 } : Room) s m args below meth c H locs 1 7 Q (F0 m pc ls rest) q := by
    intro pc ls rest H locs w q hout hw hq hc hP hS
    rw [hQ]
    exact t_out (r := (RX6, TX6, 7)) C0 rfl hout hlocks hw (by omega) hc hP P_nil hS
  clear hQ
  obtain ⟨H, hH⟩ : ∃ H, H = s.heap := ⟨_, rfl⟩
  obtain ⟨locs, hlo⟩ : ∃ locs : List Loc, locs = [] := ⟨_, rfl⟩
  have hP : va_P G.1 vwCl (xW G.2 ad v_latestFault v_died v_leastWeight v_noticedBy v_noticed v_orderDied v_orderLeast v_imaged v_shelves v_refusals v_ran v_bodies v_tweight v_tfright v_tage v_tasked v_told v_bestRow v_weight_a1 v_fright_a1 v_age_a1 v_asked_a1 v_weight_a2 v_fright_a2 v_age_a2 v_asked_a2 v_weight_a3 v_fright_a3 v_age_a3 v_asked_a3 v_weight_a4 v_fright_a4 v_age_a4 v_asked_a4 v_many v_pets v_last v_seed v_weight v_fright v_age v_asked v_homes v_marks v_had v_allergic v_deaths) H := by rw [hH]; exact hP
  have hS : va_S (tA sz (xWV ad) []) s.heap H locs := by rw [hH, hlo]; exact hS
  suffices hZ : W p l e ({ frames := 5, cells := 1, slots := 7, locals := 122 } : Room) s m args below meth c H locs 0 0 Q (F0 m 0 ls []) by rw [hH, hlo] at hZ; exact hZ
  clear hH hlo
  unfold sC_HW_someMay at hE
  refine lv_aload_n C.1 C.2.1 dX0_someMay_0 rfl (lv_at hl 0 rfl) ?_
  refine xWg_0_6 q244 C hP dX0_someMay_1 ?_
  obtain ⟨r1, hr1, hE⟩ := it_b hE
  refine n_after [18, 19, 20, 21, 22, 23, 24, 25] C.2.2.2.2.2.1 C.2.2.2.2.2.2.2.1 hP hS (va_runV (As := []) (rest := []) ⟨C.1, C.2.1, hml, C.2.2.1, C.2.2.2.1⟩ (metC_Room_mayMany l G (fun i => ad (18 + i)) pl _ _ _ _ _ _ _ _ _ _ _ _ _   r1 hr1) (cwV (C := RX3) 0 C.2.2.2.1 (lw_V q1113 q1114 q1115 q83 q1116) rfl rfl rfl (by decide +kernel) ⟨Nat.le_of_ble_eq_true rfl, Nat.le_of_ble_eq_true rfl⟩) (n_preV C hP hS [18, 19, 20, 21, 22, 23, 24, 25] sub_xW_rW_18 (by decide) rfl (va_recv C.2.2.2.2.1 hP (ci := 12) (q0 := 18) rfl rfl)) rfl rfl hl.1 rfl (lv_room (Nat.le_of_ble_eq_true rfl)) dX0_someMay_4 ⟨Nat.le_of_ble_eq_true rfl, Nat.le_of_ble_eq_true rfl⟩) xW_av rfl rfl mg_xW_rW_18 (fun H locs hP hS => ?_)
  obtain ⟨u3, hR, hE⟩ := it_b hE
  have hJ15u3 : ∀ (H : Heap) (locs : List Loc) (ls : Array Slot), va_P G.1 vwCl (xW G.2 ad v_latestFault v_died v_leastWeight v_noticedBy v_noticed v_orderDied v_orderLeast v_imaged v_shelves v_refusals v_ran v_bodies v_tweight v_tfright v_tage v_tasked v_told v_bestRow v_weight_a1 v_fright_a1 v_age_a1 v_asked_a1 v_weight_a2 v_fright_a2 v_age_a2 v_asked_a2 v_weight_a3 v_fright_a3 v_age_a3 v_asked_a3 v_weight_a4 v_fright_a4 v_age_a4 v_asked_a4 v_many v_pets v_last v_seed v_weight v_fright v_age v_asked v_homes v_marks v_had v_allergic v_deaths) H → va_S (tA sz (xWV ad) []) s.heap H locs → lv_has ls 1 [] → W p l e ({ frames := 5, cells := 1, slots := 7, locals := 122 } : Room) s m args below meth c H locs 0 0 Q (F0 m 15 ls [.int u3]) := by
    intro H locs ls hP hS hl
    refine lv_bipush (v := (-5)) C.1 C.2.1 dX0_someMay_15 (by decide) ?_
    refine t_after [] C0 D hP P_nil hS (vx_runS (As := [.int u3, .int (-5)]) (rest := []) ⟨C.1, C.2.1, hml, C.2.2.1, C.2.2.2.1⟩ (metC_HW_need l hfl G ad pl H.size u3 (-5) _ (need_eq _ _)) (va_cwS 2 C.2.2.2.1 (lw_S q397 q398 q80 q399) rfl rfl rfl (by decide +kernel) ⟨Nat.le_of_ble_eq_true rfl, Nat.le_of_ble_eq_true rfl⟩) (rr_preS C D hP hS [] rfl (by decide) rfl) rfl rfl hl.1 rfl (lv_room (Nat.le_of_ble_eq_true rfl)) dX0_someMay_17 ⟨Nat.le_of_ble_eq_true rfl, Nat.le_of_ble_eq_true rfl⟩) xW_av rfl rfl rfl (fun hφ H locs hP _ hS => ?_) (fun w q H locs hw hq hc hP _ hS => ?_)
    · have hE := it_f (nd_n hφ) hE
      obtain rfl := Option.some.inj hE
      exact hret _ _ _ _ dX0_someMay_20 rfl hP hS
    · obtain ⟨c4, rfl⟩ := nd_x hw
      obtain ⟨q5, rfl⟩ : ∃ z, z = q := ⟨_, rfl⟩
      have hE := it_t c4 hE
      obtain rfl := Option.some.inj hE
      refine vx_widen (k := 1) (n := 7) (Nat.le_of_ble_eq_true rfl) (Nat.le_of_ble_eq_true rfl) ?_
      exact hthr _ _ _ _ _ _ _ (fun x hx => (htab x hx).elim) rfl hq.2.2 hc hP hS
  have hE := hR
  refine lv_if_le (tgt := 14) C.1 C.2.1 dX0_someMay_7 (by decide) (fun c2 => ?_) (fun c2 => ?_)
  · have hE := it_t c2 hE
    refine lv_iconst (v := 0) C.1 C.2.1 dX0_someMay_14 (by decide) ?_
    obtain rfl := Option.some.inj hE
    exact hJ15u3 H locs ls hP hS (lv_sub hl [] rfl)
  · have hE := it_f c2 hE
    refine lv_iconst (v := 1) C.1 C.2.1 dX0_someMay_10 (by decide) ?_
    refine lv_goto (tgt := 15) C.1 C.2.1 dX0_someMay_11 (by decide) ?_
    obtain rfl := Option.some.inj hE
    exact hJ15u3 H locs ls hP hS (lv_sub hl [] rfl)
def sC_HW_findOrder (v_died : Int32) (v_leastWeight : Int32) (v_noticedBy : Int32) (v_noticed : Int32) (v_orderDied : Int32) (v_orderLeast : Int32) (v_tweight : Int32) (v_tfright : Int32) (v_tage : Int32) (v_tasked : Nat → Int32) (v_told : Nat → Int32) (v_bestRow : Nat → Int32) (v_many : Int32) (v_weight : Int32) (v_fright : Int32) (v_age : Int32) (v_asked : Nat → Int32) (v_homes : Nat → Option Nat) (v_allergic : Nat → Int32) (hk : Nat → Nat) (hb : Nat → Int32) : Option (Option Int32 × Int32 × Int32 × Int32 × Int32 × Int32 × Int32 × Int32 × Int32 × Int32 × (Nat → Int32) × (Nat → Int32) × (Nat → Int32)) :=
  (sC_Room_mayMany v_many v_allergic).bind fun r1 =>
  @Option.bind (Int32) _ (
    if 6 < r1 then
      some 0
    else
      some 1) fun u3 =>
  if u3 = 0 then
    some (some (-7), 0, v_died, v_leastWeight, v_noticed, v_orderDied, v_orderLeast, v_tweight, v_tfright, v_tage, v_tasked, v_told, v_bestRow)
  else
    (sC_HW_seekOrder_7 v_died v_leastWeight v_noticedBy v_noticed (-1) 0 v_tweight v_tfright v_tage v_tasked v_told v_bestRow v_many v_weight v_fright v_age v_asked v_homes v_allergic hk hb 0 0 r1).bind fun r6 =>
    some (none, r1, r6.1, r6.2.1, r6.2.2.1, r6.2.2.2.1, r6.2.2.2.2.1, r6.2.2.2.2.2.1, r6.2.2.2.2.2.2.1, r6.2.2.2.2.2.2.2.1, r6.2.2.2.2.2.2.2.2.1, r6.2.2.2.2.2.2.2.2.2.1, r6.2.2.2.2.2.2.2.2.2.2)
set_option maxHeartbeats 4000000 in
theorem metC_HW_findOrder (l : Launch) (hfl : l.stackTraces = false) (G : kG) (ad : Nat → Nat) (pl : va_W) (hk : Nat → Nat) (hb : Nat → Int32) (sz : Nat) (v_latestFault : Int32) (v_died : Int32) (v_leastWeight : Int32) (v_noticedBy : Int32) (v_noticed : Int32) (v_orderDied : Int32) (v_orderLeast : Int32) (v_imaged : Option Nat) (v_shelves : Nat → Option Nat) (v_refusals : Nat → Int32) (v_ran : Int32) (v_bodies : Nat → Int32) (v_tweight : Int32) (v_tfright : Int32) (v_tage : Int32) (v_tasked : Nat → Int32) (v_told : Nat → Int32) (v_bestRow : Nat → Int32) (v_weight_a1 : Int32) (v_fright_a1 : Int32) (v_age_a1 : Int32) (v_asked_a1 : Nat → Int32) (v_weight_a2 : Int32) (v_fright_a2 : Int32) (v_age_a2 : Int32) (v_asked_a2 : Nat → Int32) (v_weight_a3 : Int32) (v_fright_a3 : Int32) (v_age_a3 : Int32) (v_asked_a3 : Nat → Int32) (v_weight_a4 : Int32) (v_fright_a4 : Int32) (v_age_a4 : Int32) (v_asked_a4 : Nat → Int32) (v_many : Int32) (v_pets : Int32) (v_last : Int32) (v_seed : Int32) (v_weight : Int32) (v_fright : Int32) (v_age : Int32) (v_asked : Nat → Int32) (v_homes : Nat → Option Nat) (v_marks : Nat → Int32) (v_had : Nat → Int32) (v_allergic : Nat → Int32) (v_deaths : Nat → Int32) (hom : homOK v_homes v_many hk hb pl)  (res : Option Int32 × Int32 × Int32 × Int32 × Int32 × Int32 × Int32 × Int32 × Int32 × Int32 × (Nat → Int32) × (Nat → Int32) × (Nat → Int32)) (hE : sC_HW_findOrder v_died v_leastWeight v_noticedBy v_noticed v_orderDied v_orderLeast v_tweight v_tfright v_tage v_tasked v_told v_bestRow v_many v_weight v_fright v_age v_asked v_homes v_allergic hk hb = some res) : vx_Met l yX0_findOrder (ws_ yX0_findOrder cX0_findOrder 2 (some .int)) ({ frames := 14, cells := 1, slots := 7, locals := 321 } : Room) (rPc G (xW G.2 ad v_latestFault v_died v_leastWeight v_noticedBy v_noticed v_orderDied v_orderLeast v_imaged v_shelves v_refusals v_ran v_bodies v_tweight v_tfright v_tage v_tasked v_told v_bestRow v_weight_a1 v_fright_a1 v_age_a1 v_asked_a1 v_weight_a2 v_fright_a2 v_age_a2 v_asked_a2 v_weight_a3 v_fright_a3 v_age_a3 v_asked_a3 v_weight_a4 v_fright_a4 v_age_a4 v_asked_a4 v_many v_pets v_last v_seed v_weight v_fright v_age v_asked v_homes v_marks v_had v_allergic v_deaths) pl (xWV ad) sz [.ref (ad 0)]) (tQc G (xW G.2 ad v_latestFault res.2.2.1 res.2.2.2.1 v_noticedBy res.2.2.2.2.1 res.2.2.2.2.2.1 res.2.2.2.2.2.2.1 v_imaged v_shelves v_refusals v_ran v_bodies res.2.2.2.2.2.2.2.1 res.2.2.2.2.2.2.2.2.1 res.2.2.2.2.2.2.2.2.2.1 res.2.2.2.2.2.2.2.2.2.2.1 res.2.2.2.2.2.2.2.2.2.2.2.1 res.2.2.2.2.2.2.2.2.2.2.2.2 v_weight_a1 v_fright_a1 v_age_a1 v_asked_a1 v_weight_a2 v_fright_a2 v_age_a2 v_asked_a2 v_weight_a3 v_fright_a3 v_age_a3 v_asked_a3 v_weight_a4 v_fright_a4 v_age_a4 v_asked_a4 v_many v_pets v_last v_seed v_weight v_fright v_age v_asked v_homes v_marks v_had v_allergic v_deaths) [] (tA sz (xWV ad) []) (res.1 = none) (some (.int res.2.1))) (tXC G (xW G.2 ad v_latestFault res.2.2.1 res.2.2.2.1 v_noticedBy res.2.2.2.2.1 res.2.2.2.2.2.1 res.2.2.2.2.2.2.1 v_imaged v_shelves v_refusals v_ran v_bodies res.2.2.2.2.2.2.2.1 res.2.2.2.2.2.2.2.2.1 res.2.2.2.2.2.2.2.2.2.1 res.2.2.2.2.2.2.2.2.2.2.1 res.2.2.2.2.2.2.2.2.2.2.2.1 res.2.2.2.2.2.2.2.2.2.2.2.2 v_weight_a1 v_fright_a1 v_age_a1 v_asked_a1 v_weight_a2 v_fright_a2 v_age_a2 v_asked_a2 v_weight_a3 v_fright_a3 v_age_a3 v_asked_a3 v_weight_a4 v_fright_a4 v_age_a4 v_asked_a4 v_many v_pets v_last v_seed v_weight v_fright v_age v_asked v_homes v_marks v_had v_allergic v_deaths) [] (tA sz (xWV ad) []) 18 RX6 res.1 sz) 1 7 (tA sz (xWV ad) []) := by
  refine r_ofW (own := RX0) (by decide) rfl (Nat.le_of_ble_eq_true rfl) ?_
  intro p e s m args below meth c ls C C0 D hml htab hP hS hl hr hlocks hsz
  have hl : lv_has ls 2 [(0, .ref (ad 0))] := hl
  obtain ⟨Q, hQ⟩ : ∃ Q, Q = vx_MQ below (tQc G (xW G.2 ad v_latestFault res.2.2.1 res.2.2.2.1 v_noticedBy res.2.2.2.2.1 res.2.2.2.2.2.1 res.2.2.2.2.2.2.1 v_imaged v_shelves v_refusals v_ran v_bodies res.2.2.2.2.2.2.2.1 res.2.2.2.2.2.2.2.2.1 res.2.2.2.2.2.2.2.2.2.1 res.2.2.2.2.2.2.2.2.2.2.1 res.2.2.2.2.2.2.2.2.2.2.2.1 res.2.2.2.2.2.2.2.2.2.2.2.2 v_weight_a1 v_fright_a1 v_age_a1 v_asked_a1 v_weight_a2 v_fright_a2 v_age_a2 v_asked_a2 v_weight_a3 v_fright_a3 v_age_a3 v_asked_a3 v_weight_a4 v_fright_a4 v_age_a4 v_asked_a4 v_many v_pets v_last v_seed v_weight v_fright v_age v_asked v_homes v_marks v_had v_allergic v_deaths) [] (tA sz (xWV ad) []) (res.1 = none) (some (.int res.2.1))) (tXC G (xW G.2 ad v_latestFault res.2.2.1 res.2.2.2.1 v_noticedBy res.2.2.2.2.1 res.2.2.2.2.2.1 res.2.2.2.2.2.2.1 v_imaged v_shelves v_refusals v_ran v_bodies res.2.2.2.2.2.2.2.1 res.2.2.2.2.2.2.2.2.1 res.2.2.2.2.2.2.2.2.2.1 res.2.2.2.2.2.2.2.2.2.2.1 res.2.2.2.2.2.2.2.2.2.2.2.1 res.2.2.2.2.2.2.2.2.2.2.2.2 v_weight_a1 v_fright_a1 v_age_a1 v_asked_a1 v_weight_a2 v_fright_a2 v_age_a2 v_asked_a2 v_weight_a3 v_fright_a3 v_age_a3 v_asked_a3 v_weight_a4 v_fright_a4 v_age_a4 v_asked_a4 v_many v_pets v_last v_seed v_weight v_fright v_age v_asked v_homes v_marks v_had v_allergic v_deaths) [] (tA sz (xWV ad) []) 18 RX6 res.1 sz) args s 1 7 (tA sz (xWV ad) []) := ⟨_, rfl⟩
  rw [← hQ]
  have hret : ∀ (pc : Nat) (ls : Array Slot) (H : Heap) (locs : List Loc), decode cX0_findOrder pc = .ok (.ireturn, 1) → res.1 = none → va_P G.1 vwCl (xW G.2 ad v_latestFault res.2.2.1 res.2.2.2.1 v_noticedBy res.2.2.2.2.1 res.2.2.2.2.2.1 res.2.2.2.2.2.2.1 v_imaged v_shelves v_refusals v_ran v_bodies res.2.2.2.2.2.2.2.1 res.2.2.2.2.2.2.2.2.1 res.2.2.2.2.2.2.2.2.2.1 res.2.2.2.2.2.2.2.2.2.2.1 res.2.2.2.2.2.2.2.2.2.2.2.1 res.2.2.2.2.2.2.2.2.2.2.2.2 v_weight_a1 v_fright_a1 v_age_a1 v_asked_a1 v_weight_a2 v_fright_a2 v_age_a2 v_asked_a2 v_weight_a3 v_fright_a3 v_age_a3 v_asked_a3 v_weight_a4 v_fright_a4 v_age_a4 v_asked_a4 v_many v_pets v_last v_seed v_weight v_fright v_age v_asked v_homes v_marks v_had v_allergic v_deaths) H → va_S (tA sz (xWV ad) []) s.heap H locs → W p l e ({ frames := 14, cells := 1, slots := 7, locals := 321 } : Room) s m args below meth c H locs 1 7 Q (F0 m pc ls [(.int res.2.1)]) := by
    intro pc ls H locs hd hφ hP hS
    rw [hQ]
    exact t_iret C0 hr hlocks hd hφ hP P_nil hS
  have hthr : ∀ (pc : Nat) (ls : Array Slot) (rest : List Value) (H : Heap) (locs : List Loc) (w : Int32) (q : Nat), (∀ x ∈ c.exceptionTable.toList, covers x pc = false) → res.1 = some w → s.heap.size ≤ q → va_P G.1 vwCl [(q, .inr (18, xF w))] H → va_P G.1 vwCl (xW G.2 ad v_latestFault res.2.2.1 res.2.2.2.1 v_noticedBy res.2.2.2.2.1 res.2.2.2.2.2.1 res.2.2.2.2.2.2.1 v_imaged v_shelves v_refusals v_ran v_bodies res.2.2.2.2.2.2.2.1 res.2.2.2.2.2.2.2.2.1 res.2.2.2.2.2.2.2.2.2.1 res.2.2.2.2.2.2.2.2.2.2.1 res.2.2.2.2.2.2.2.2.2.2.2.1 res.2.2.2.2.2.2.2.2.2.2.2.2 v_weight_a1 v_fright_a1 v_age_a1 v_asked_a1 v_weight_a2 v_fright_a2 v_age_a2 v_asked_a2 v_weight_a3 v_fright_a3 v_age_a3 v_asked_a3 v_weight_a4 v_fright_a4 v_age_a4 v_asked_a4 v_many v_pets v_last v_seed v_weight v_fright v_age v_asked v_homes v_marks v_had v_allergic v_deaths) H → va_S (tA sz (xWV ad) []) s.heap H locs → vx_W p l e ({ frames := 14, cells := 1, slots := 7, locals := 321 } : Room) s m args below meth c H locs 1 7 Q (F0 m pc ls rest) q := by
    intro pc ls rest H locs w q hout hw hq hc hP hS
    rw [hQ]
    exact t_out (r := (RX6, TX6, 7)) C0 rfl hout hlocks hw (by omega) hc hP P_nil hS
  clear hQ
  obtain ⟨H, hH⟩ : ∃ H, H = s.heap := ⟨_, rfl⟩
  obtain ⟨locs, hlo⟩ : ∃ locs : List Loc, locs = [] := ⟨_, rfl⟩
  have hP : va_P G.1 vwCl (xW G.2 ad v_latestFault v_died v_leastWeight v_noticedBy v_noticed v_orderDied v_orderLeast v_imaged v_shelves v_refusals v_ran v_bodies v_tweight v_tfright v_tage v_tasked v_told v_bestRow v_weight_a1 v_fright_a1 v_age_a1 v_asked_a1 v_weight_a2 v_fright_a2 v_age_a2 v_asked_a2 v_weight_a3 v_fright_a3 v_age_a3 v_asked_a3 v_weight_a4 v_fright_a4 v_age_a4 v_asked_a4 v_many v_pets v_last v_seed v_weight v_fright v_age v_asked v_homes v_marks v_had v_allergic v_deaths) H := by rw [hH]; exact hP
  have hS : va_S (tA sz (xWV ad) []) s.heap H locs := by rw [hH, hlo]; exact hS
  suffices hZ : W p l e ({ frames := 14, cells := 1, slots := 7, locals := 321 } : Room) s m args below meth c H locs 0 0 Q (F0 m 0 ls []) by rw [hH, hlo] at hZ; exact hZ
  clear hH hlo
  unfold sC_HW_findOrder at hE
  refine lv_aload_n C.1 C.2.1 dX0_findOrder_0 rfl (lv_at hl 0 rfl) ?_
  refine xWg_0_6 q244 C hP dX0_findOrder_1 ?_
  obtain ⟨r1, hr1, hE⟩ := it_b hE
  refine n_after [18, 19, 20, 21, 22, 23, 24, 25] C.2.2.2.2.2.1 C.2.2.2.2.2.2.2.1 hP hS (va_runV (As := []) (rest := []) ⟨C.1, C.2.1, hml, C.2.2.1, C.2.2.2.1⟩ (metC_Room_mayMany l G (fun i => ad (18 + i)) pl _ _ _ _ _ _ _ _ _ _ _ _ _   r1 hr1) (cwV (C := RX3) 0 C.2.2.2.1 (lw_V q1113 q1114 q1115 q83 q1116) rfl rfl rfl (by decide +kernel) ⟨Nat.le_of_ble_eq_true rfl, Nat.le_of_ble_eq_true rfl⟩) (n_preV C hP hS [18, 19, 20, 21, 22, 23, 24, 25] sub_xW_rW_18 (by decide) rfl (va_recv C.2.2.2.2.1 hP (ci := 12) (q0 := 18) rfl rfl)) rfl rfl hl.1 rfl (lv_room (Nat.le_of_ble_eq_true rfl)) dX0_findOrder_4 ⟨Nat.le_of_ble_eq_true rfl, Nat.le_of_ble_eq_true rfl⟩) xW_av rfl rfl mg_xW_rW_18 (fun H locs hP hS => ?_)
  refine lv_istore_n (lv' := [(1, .int r1), (0, .ref (ad 0))]) C.1 C.2.1 dX0_findOrder_7 rfl hl (by decide) rfl (fun ls hl => ?_)
  refine lv_iload_n C.1 C.2.1 dX0_findOrder_8 rfl (lv_at hl 0 rfl) ?_
  refine lv_bipush (v := 6) C.1 C.2.1 dX0_findOrder_9 (by decide) ?_
  obtain ⟨u3, hR, hE⟩ := it_b hE
  have hJ19u3 : ∀ (H : Heap) (locs : List Loc) (ls : Array Slot), va_P G.1 vwCl (xW G.2 ad v_latestFault v_died v_leastWeight v_noticedBy v_noticed v_orderDied v_orderLeast v_imaged v_shelves v_refusals v_ran v_bodies v_tweight v_tfright v_tage v_tasked v_told v_bestRow v_weight_a1 v_fright_a1 v_age_a1 v_asked_a1 v_weight_a2 v_fright_a2 v_age_a2 v_asked_a2 v_weight_a3 v_fright_a3 v_age_a3 v_asked_a3 v_weight_a4 v_fright_a4 v_age_a4 v_asked_a4 v_many v_pets v_last v_seed v_weight v_fright v_age v_asked v_homes v_marks v_had v_allergic v_deaths) H → va_S (tA sz (xWV ad) []) s.heap H locs → lv_has ls 2 [(0, .ref (ad 0)), (1, .int r1)] → W p l e ({ frames := 14, cells := 1, slots := 7, locals := 321 } : Room) s m args below meth c H locs 0 0 Q (F0 m 19 ls [.int u3]) := by
    intro H locs ls hP hS hl
    refine lv_bipush (v := (-7)) C.1 C.2.1 dX0_findOrder_19 (by decide) ?_
    refine t_after [] C0 D hP P_nil hS (vx_runS (As := [.int u3, .int (-7)]) (rest := []) ⟨C.1, C.2.1, hml, C.2.2.1, C.2.2.2.1⟩ (metC_HW_need l hfl G ad pl H.size u3 (-7) _ (need_eq _ _)) (va_cwS 2 C.2.2.2.1 (lw_S q397 q398 q80 q399) rfl rfl rfl (by decide +kernel) ⟨Nat.le_of_ble_eq_true rfl, Nat.le_of_ble_eq_true rfl⟩) (rr_preS C D hP hS [] rfl (by decide) rfl) rfl rfl hl.1 rfl (lv_room (Nat.le_of_ble_eq_true rfl)) dX0_findOrder_21 ⟨Nat.le_of_ble_eq_true rfl, Nat.le_of_ble_eq_true rfl⟩) xW_av rfl rfl rfl (fun hφ H locs hP _ hS => ?_) (fun w q H locs hw hq hc hP _ hS => ?_)
    · have hE := it_f (nd_n hφ) hE
      refine lv_aload_n C.1 C.2.1 dX0_findOrder_24 rfl (lv_at hl 0 rfl) ?_
      refine lv_iconst (v := (-1)) C.1 C.2.1 dX0_findOrder_25 (by decide) ?_
      refine xWp_0_13 q251 C hP hS dX0_findOrder_26 (fun H locs hP hS => ?_)
      refine lv_aload_n C.1 C.2.1 dX0_findOrder_29 rfl (lv_at hl 0 rfl) ?_
      refine lv_iconst (v := 0) C.1 C.2.1 dX0_findOrder_30 (by decide) ?_
      refine xWp_0_14 q252 C hP hS dX0_findOrder_31 (fun H locs hP hS => ?_)
      refine lv_aload_n C.1 C.2.1 dX0_findOrder_34 rfl (lv_at hl 0 rfl) ?_
      refine lv_iconst (v := 0) C.1 C.2.1 dX0_findOrder_35 (by decide) ?_
      refine lv_iconst (v := 0) C.1 C.2.1 dX0_findOrder_36 (by decide) ?_
      refine lv_iload_n C.1 C.2.1 dX0_findOrder_37 rfl (lv_at hl 1 rfl) ?_
      obtain ⟨r6, hr6, hE⟩ := it_b hE
      refine n_afterS C.2.2.2.2.2.2.2.1 hS (va_runV (As := [.int 0, .int 0, .int r1]) (rest := []) ⟨C.1, C.2.1, hml, C.2.2.1, C.2.2.2.1⟩ (metC_HW_seekOrder_7 l G ad pl hk hb _ _ _ _ _ _ _ _ _ _ _ _ _ _ _ _ _ _ _ _ _ _ _ _ _ _ _ _ _ _ _ _ _ _ _ _ _ _ _ _ _ _ _ _ _ _ _ hom 0 0 r1  r6 hr6) (cwV (C := RX0) 3 C.2.2.2.1 (lw_V q1131 q1133 qs27 q80 q1134) rfl rfl rfl (by decide +kernel) ⟨Nat.le_of_ble_eq_true rfl, Nat.le_of_ble_eq_true rfl⟩) (n_preV0 C hP hS (va_recv C.2.2.2.2.1 hP (ci := 16) (q0 := 0) rfl rfl)) rfl rfl hl.1 rfl (lv_room (Nat.le_of_ble_eq_true rfl)) dX0_findOrder_38 ⟨Nat.le_of_ble_eq_true rfl, Nat.le_of_ble_eq_true rfl⟩) (fun H locs hP hS => ?_)
      refine lv_iload_n C.1 C.2.1 dX0_findOrder_41 rfl (lv_at hl 1 rfl) ?_
      obtain rfl := Option.some.inj hE
      exact hret _ _ _ _ dX0_findOrder_42 rfl hP hS
    · obtain ⟨c4, rfl⟩ := nd_x hw
      obtain ⟨q5, rfl⟩ : ∃ z, z = q := ⟨_, rfl⟩
      have hE := it_t c4 hE
      obtain rfl := Option.some.inj hE
      refine vx_widen (k := 1) (n := 7) (Nat.le_of_ble_eq_true rfl) (Nat.le_of_ble_eq_true rfl) ?_
      exact hthr _ _ _ _ _ _ _ (fun x hx => (htab x hx).elim) rfl hq.2.2 hc hP hS
  have hE := hR
  refine lv_icmp_gt (tgt := 18) C.1 C.2.1 dX0_findOrder_11 (by decide) (fun c2 => ?_) (fun c2 => ?_)
  · have hE := it_t c2 hE
    refine lv_iconst (v := 0) C.1 C.2.1 dX0_findOrder_18 (by decide) ?_
    obtain rfl := Option.some.inj hE
    exact hJ19u3 H locs ls hP hS (lv_sub hl [1, 0] rfl)
  · have hE := it_f c2 hE
    refine lv_iconst (v := 1) C.1 C.2.1 dX0_findOrder_14 (by decide) ?_
    refine lv_goto (tgt := 19) C.1 C.2.1 dX0_findOrder_15 (by decide) ?_
    obtain rfl := Option.some.inj hE
    exact hJ19u3 H locs ls hP hS (lv_sub hl [1, 0] rfl)
