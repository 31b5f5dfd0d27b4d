set_option maxRecDepth 100000
def sC_HW_seekOrder_0 (v_died : Int32) (v_leastWeight : Int32) (v_noticedBy : Int32) (v_noticed : Int32) (v_orderDied : Int32) (v_orderLeast : Int32) (v_tweight : Int32) (v_tfright : Int32) (v_tage : Int32) (v_tasked : Nat → Int32) (v_told : Nat → Int32) (v_bestRow : Nat → Int32) (v_many : Int32) (v_weight : Int32) (v_fright : Int32) (v_age : Int32) (v_asked : Nat → Int32) (v_homes : Nat → Option Nat) (v_allergic : Nat → Int32) (hk : Nat → Nat) (hb : Nat → Int32) (p1 : Int32) (p2 : Int32) (p3 : Int32) : Option (Int32 × Int32 × Int32 × Int32 × Int32 × Int32 × Int32 × Int32 × (Nat → Int32) × (Nat → Int32) × (Nat → Int32)) :=
  none
set_option maxHeartbeats 4000000 in
theorem metC_HW_seekOrder_0 (l : Launch) (G : kG) (ad : Nat → Nat) (pl : va_W) (hk : Nat → Nat) (hb : Nat → Int32) (v_latestFault : Int32) (v_died : Int32) (v_leastWeight : Int32) (v_noticedBy : Int32) (v_noticed : Int32) (v_orderDied : Int32) (v_orderLeast : Int32) (v_imaged : Option Nat) (v_shelves : Nat → Option Nat) (v_refusals : Nat → Int32) (v_ran : Int32) (v_bodies : Nat → Int32) (v_tweight : Int32) (v_tfright : Int32) (v_tage : Int32) (v_tasked : Nat → Int32) (v_told : Nat → Int32) (v_bestRow : Nat → Int32) (v_weight_a1 : Int32) (v_fright_a1 : Int32) (v_age_a1 : Int32) (v_asked_a1 : Nat → Int32) (v_weight_a2 : Int32) (v_fright_a2 : Int32) (v_age_a2 : Int32) (v_asked_a2 : Nat → Int32) (v_weight_a3 : Int32) (v_fright_a3 : Int32) (v_age_a3 : Int32) (v_asked_a3 : Nat → Int32) (v_weight_a4 : Int32) (v_fright_a4 : Int32) (v_age_a4 : Int32) (v_asked_a4 : Nat → Int32) (v_many : Int32) (v_pets : Int32) (v_last : Int32) (v_seed : Int32) (v_weight : Int32) (v_fright : Int32) (v_age : Int32) (v_asked : Nat → Int32) (v_homes : Nat → Option Nat) (v_marks : Nat → Int32) (v_had : Nat → Int32) (v_allergic : Nat → Int32) (v_deaths : Nat → Int32) (hom : homOK v_homes v_many hk hb pl) (p1 : Int32) (p2 : Int32) (p3 : Int32) (res : Int32 × Int32 × Int32 × Int32 × Int32 × Int32 × Int32 × Int32 × (Nat → Int32) × (Nat → Int32) × (Nat → Int32)) (hE : sC_HW_seekOrder_0 v_died v_leastWeight v_noticedBy v_noticed v_orderDied v_orderLeast v_tweight v_tfright v_tage v_tasked v_told v_bestRow v_many v_weight v_fright v_age v_asked v_homes v_allergic hk hb p1 p2 p3 = some res) : Met l yX0_seekOrder (ws_ yX0_seekOrder cX0_seekOrder 5 none) ({ frames := 6, cells := 0, slots := 0, locals := 129 } : Room) (nPc G (xW G.2 ad v_latestFault v_died v_leastWeight v_noticedBy v_noticed v_orderDied v_orderLeast v_imaged v_shelves v_refusals v_ran v_bodies v_tweight v_tfright v_tage v_tasked v_told v_bestRow v_weight_a1 v_fright_a1 v_age_a1 v_asked_a1 v_weight_a2 v_fright_a2 v_age_a2 v_asked_a2 v_weight_a3 v_fright_a3 v_age_a3 v_asked_a3 v_weight_a4 v_fright_a4 v_age_a4 v_asked_a4 v_many v_pets v_last v_seed v_weight v_fright v_age v_asked v_homes v_marks v_had v_allergic v_deaths) pl (xWV ad) [.ref (ad 0), .int p1, .int p2, .int p3]) (nQc G (xW G.2 ad v_latestFault res.1 res.2.1 v_noticedBy res.2.2.1 res.2.2.2.1 res.2.2.2.2.1 v_imaged v_shelves v_refusals v_ran v_bodies res.2.2.2.2.2.1 res.2.2.2.2.2.2.1 res.2.2.2.2.2.2.2.1 res.2.2.2.2.2.2.2.2.1 res.2.2.2.2.2.2.2.2.2.1 res.2.2.2.2.2.2.2.2.2.2 v_weight_a1 v_fright_a1 v_age_a1 v_asked_a1 v_weight_a2 v_fright_a2 v_age_a2 v_asked_a2 v_weight_a3 v_fright_a3 v_age_a3 v_asked_a3 v_weight_a4 v_fright_a4 v_age_a4 v_asked_a4 v_many v_pets v_last v_seed v_weight v_fright v_age v_asked v_homes v_marks v_had v_allergic v_deaths) (xWV ad) none) 0 0 (nA (xWV ad)) := by
  refine n_ofW (own := RX0) (by decide) rfl (Nat.le_of_ble_eq_true rfl) ?_
  intro p e s m args below meth c ls C hml hP hS hl hr hlocks
  have hl : lv_has ls 5 [(0, .ref (ad 0)), (1, .int p1), (2, .int p2), (3, .int p3)] := hl
  obtain ⟨Q, hQ⟩ : ∃ Q, Q = MQ below (nQc G (xW G.2 ad v_latestFault res.1 res.2.1 v_noticedBy res.2.2.1 res.2.2.2.1 res.2.2.2.2.1 v_imaged v_shelves v_refusals v_ran v_bodies res.2.2.2.2.2.1 res.2.2.2.2.2.2.1 res.2.2.2.2.2.2.2.1 res.2.2.2.2.2.2.2.2.1 res.2.2.2.2.2.2.2.2.2.1 res.2.2.2.2.2.2.2.2.2.2 v_weight_a1 v_fright_a1 v_age_a1 v_asked_a1 v_weight_a2 v_fright_a2 v_age_a2 v_asked_a2 v_weight_a3 v_fright_a3 v_age_a3 v_asked_a3 v_weight_a4 v_fright_a4 v_age_a4 v_asked_a4 v_many v_pets v_last v_seed v_weight v_fright v_age v_asked v_homes v_marks v_had v_allergic v_deaths) (xWV ad) none) args s 0 0 (nA (xWV ad)) := ⟨_, rfl⟩
  rw [← hQ]
  have hret : ∀ (pc : Nat) (ls : Array Slot) (H : Heap) (locs : List Loc), decode cX0_seekOrder pc = .ok (.return_, 1) → va_P G.1 vwCl (xW G.2 ad v_latestFault res.1 res.2.1 v_noticedBy res.2.2.1 res.2.2.2.1 res.2.2.2.2.1 v_imaged v_shelves v_refusals v_ran v_bodies res.2.2.2.2.2.1 res.2.2.2.2.2.2.1 res.2.2.2.2.2.2.2.1 res.2.2.2.2.2.2.2.2.1 res.2.2.2.2.2.2.2.2.2.1 res.2.2.2.2.2.2.2.2.2.2 v_weight_a1 v_fright_a1 v_age_a1 v_asked_a1 v_weight_a2 v_fright_a2 v_age_a2 v_asked_a2 v_weight_a3 v_fright_a3 v_age_a3 v_asked_a3 v_weight_a4 v_fright_a4 v_age_a4 v_asked_a4 v_many v_pets v_last v_seed v_weight v_fright v_age v_asked v_homes v_marks v_had v_allergic v_deaths) H → va_S (nA (xWV ad)) s.heap H locs → W p l e ({ frames := 6, cells := 0, slots := 0, locals := 129 } : Room) s m args below meth c H locs 0 0 Q (F0 m pc ls []) := by
    intro pc ls H locs hd hP hS
    rw [hQ]
    exact n_vret C hr hlocks hd hP hS
  clear hQ
  obtain ⟨H, hH⟩ : ∃ H, H = s.heap := ⟨_, rfl⟩
  obtain ⟨locs, hlo⟩ : ∃ locs : List Loc, locs = [] := ⟨_, rfl⟩
  have hP : va_P G.1 vwCl (xW G.2 ad v_latestFault v_died v_leastWeight v_noticedBy v_noticed v_orderDied v_orderLeast v_imaged v_shelves v_refusals v_ran v_bodies v_tweight v_tfright v_tage v_tasked v_told v_bestRow v_weight_a1 v_fright_a1 v_age_a1 v_asked_a1 v_weight_a2 v_fright_a2 v_age_a2 v_asked_a2 v_weight_a3 v_fright_a3 v_age_a3 v_asked_a3 v_weight_a4 v_fright_a4 v_age_a4 v_asked_a4 v_many v_pets v_last v_seed v_weight v_fright v_age v_asked v_homes v_marks v_had v_allergic v_deaths) H := by rw [hH]; exact hP
  have hS : va_S (nA (xWV ad)) s.heap H locs := by rw [hH, hlo]; exact hS
  suffices hZ : W p l e ({ frames := 6, cells := 0, slots := 0, locals := 129 } : Room) s m args below meth c H locs 0 0 Q (F0 m 0 ls []) by rw [hH, hlo] at hZ; exact hZ
  clear hH hlo
  unfold sC_HW_seekOrder_0 at hE
  exact it_n hE
def sC_HW_seekOrder_1_h100 (x1 : Int32) (x2 : Int32) (x3 : Int32) (v_noticedBy : Int32) (v_many : Int32) (v_weight : Int32) (v_fright : Int32) (v_age : Int32) (v_asked : Nat → Int32) (v_homes : Nat → Option Nat) (v_allergic : Nat → Int32) (hk : Nat → Nat) (hb : Nat → Int32) : Nat → Int32 → Int32 → Int32 → Int32 → Int32 → Int32 → Int32 → Int32 → Int32 → (Nat → Int32) → (Nat → Int32) → (Nat → Int32) → Option (Int32 × Int32 × Int32 × Int32 × Int32 × Int32 × Int32 × Int32 × (Nat → Int32) × (Nat → Int32) × (Nat → Int32))
  | 0, _, _, _, _, _, _, _, _, _, _, _, _ => none
  | fuel + 1, x4, v_died, v_leastWeight, v_noticed, v_orderDied, v_orderLeast, v_tweight, v_tfright, v_tage, v_tasked, v_told, v_bestRow =>
    if v_many ≤ x4 then
      some (v_died, v_leastWeight, v_noticed, v_orderDied, v_orderLeast, v_tweight, v_tfright, v_tage, v_tasked, v_told, v_bestRow)
    else
      (sC_Room_may v_many v_allergic x4).bind fun r10102 =>
      @Option.bind (Int32 × Int32 × Int32 × Int32 × Int32 × Int32 × Int32 × Int32 × (Nat → Int32) × (Nat → Int32) × (Nat → Int32)) _ (
        if r10102 = 0 then
          some (v_died, v_leastWeight, v_noticed, v_orderDied, v_orderLeast, v_tweight, v_tfright, v_tage, v_tasked, v_told, v_bestRow)
        else
          if ((x2 >>> (x4 &&& 31)) &&& 1) = 0 then
            if gi x1 40 then
            (sC_HW_seekOrder_0 v_died v_leastWeight v_noticedBy v_noticed v_orderDied v_orderLeast v_tweight v_tfright v_tage v_tasked (upd v_told (x1).toNatClampNeg x4) v_bestRow v_many v_weight v_fright v_age v_asked v_homes v_allergic hk hb (x1 + 1) (x2 ||| (1 <<< (x4 &&& 31))) x3).bind fun r10107 =>
            some (r10107.1, r10107.2.1, r10107.2.2.1, r10107.2.2.2.1, r10107.2.2.2.2.1, r10107.2.2.2.2.2.1, r10107.2.2.2.2.2.2.1, r10107.2.2.2.2.2.2.2.1, r10107.2.2.2.2.2.2.2.2.1, r10107.2.2.2.2.2.2.2.2.2.1, r10107.2.2.2.2.2.2.2.2.2.2)
            else none
          else
            some (v_died, v_leastWeight, v_noticed, v_orderDied, v_orderLeast, v_tweight, v_tfright, v_tage, v_tasked, v_told, v_bestRow)) fun u10104 =>
      sC_HW_seekOrder_1_h100 x1 x2 x3 v_noticedBy v_many v_weight v_fright v_age v_asked v_homes v_allergic hk hb fuel (x4 + 1) u10104.1 u10104.2.1 u10104.2.2.1 u10104.2.2.2.1 u10104.2.2.2.2.1 u10104.2.2.2.2.2.1 u10104.2.2.2.2.2.2.1 u10104.2.2.2.2.2.2.2.1 u10104.2.2.2.2.2.2.2.2.1 u10104.2.2.2.2.2.2.2.2.2.1 u10104.2.2.2.2.2.2.2.2.2.2
def sC_HW_seekOrder_1 (v_died : Int32) (v_leastWeight : Int32) (v_noticedBy : Int32) (v_noticed : Int32) (v_orderDied : Int32) (v_orderLeast : Int32) (v_tweight : Int32) (v_tfright : Int32) (v_tage : Int32) (v_tasked : Nat → Int32) (v_told : Nat → Int32) (v_bestRow : Nat → Int32) (v_many : Int32) (v_weight : Int32) (v_fright : Int32) (v_age : Int32) (v_asked : Nat → Int32) (v_homes : Nat → Option Nat) (v_allergic : Nat → Int32) (hk : Nat → Nat) (hb : Nat → Int32) (p1 : Int32) (p2 : Int32) (p3 : Int32) : Option (Int32 × Int32 × Int32 × Int32 × Int32 × Int32 × Int32 × Int32 × (Nat → Int32) × (Nat → Int32) × (Nat → Int32)) :=
  if p1 = p3 then
    (sC_Pet_take v_tweight v_tfright v_tage v_tasked v_weight v_fright v_age v_asked).bind fun r3 =>
    (sC_HW_goesRow v_died v_leastWeight v_noticedBy v_noticed r3.1 r3.2.1 r3.2.2.1 r3.2.2.2 v_told v_many v_homes hk hb p1).bind fun r4 =>
    if v_orderDied = (-1) then
      if ¬ p1 < 0 then
      if 0 + (p1).toNatClampNeg ≤ 40 then
      if 0 + (p1).toNatClampNeg ≤ 6 then
      some (r4.1, r4.2.1, r4.2.2.1, r4.1, r4.2.1, r4.2.2.2.1, r4.2.2.2.2.1, r4.2.2.2.2.2, r3.2.2.2, v_told, (va_cpy v_told v_bestRow 0 0 (p1).toNatClampNeg))
      else none
      else none
      else none
    else
      if r4.1 < v_orderDied then
        if ¬ p1 < 0 then
        if 0 + (p1).toNatClampNeg ≤ 40 then
        if 0 + (p1).toNatClampNeg ≤ 6 then
        some (r4.1, r4.2.1, r4.2.2.1, r4.1, r4.2.1, r4.2.2.2.1, r4.2.2.2.2.1, r4.2.2.2.2.2, r3.2.2.2, v_told, (va_cpy v_told v_bestRow 0 0 (p1).toNatClampNeg))
        else none
        else none
        else none
      else
        if r4.1 = v_orderDied then
          if r4.2.1 ≤ v_orderLeast then
            some (r4.1, r4.2.1, r4.2.2.1, v_orderDied, v_orderLeast, r4.2.2.2.1, r4.2.2.2.2.1, r4.2.2.2.2.2, r3.2.2.2, v_told, v_bestRow)
          else
            if ¬ p1 < 0 then
            if 0 + (p1).toNatClampNeg ≤ 40 then
            if 0 + (p1).toNatClampNeg ≤ 6 then
            some (r4.1, r4.2.1, r4.2.2.1, r4.1, r4.2.1, r4.2.2.2.1, r4.2.2.2.2.1, r4.2.2.2.2.2, r3.2.2.2, v_told, (va_cpy v_told v_bestRow 0 0 (p1).toNatClampNeg))
            else none
            else none
            else none
        else
          some (r4.1, r4.2.1, r4.2.2.1, v_orderDied, v_orderLeast, r4.2.2.2.1, r4.2.2.2.2.1, r4.2.2.2.2.2, r3.2.2.2, v_told, v_bestRow)
  else
    (sC_HW_seekOrder_1_h100 p1 p2 p3 v_noticedBy v_many v_weight v_fright v_age v_asked v_homes v_allergic hk hb 2000 0 v_died v_leastWeight v_noticed v_orderDied v_orderLeast v_tweight v_tfright v_tage v_tasked v_told v_bestRow).bind fun u2 =>
    some (u2.1, u2.2.1, u2.2.2.1, u2.2.2.2.1, u2.2.2.2.2.1, u2.2.2.2.2.2.1, u2.2.2.2.2.2.2.1, u2.2.2.2.2.2.2.2.1, u2.2.2.2.2.2.2.2.2.1, u2.2.2.2.2.2.2.2.2.2.1, u2.2.2.2.2.2.2.2.2.2.2)
set_option maxHeartbeats 4000000 in
theorem wC_HW_seekOrder_1_h100 {p : Program} {l : Launch} {e : Env} {s : State} {m : MethodId} {args : Array Value} {below : List Frame} {meth : Method} {c : Code} {Q : State → Prop} {G : kG} {ad : Nat → Nat} {pl : va_W} {hk : Nat → Nat} {hb : Nat → Int32} {v_latestFault : Int32} {v_noticedBy : Int32} {v_imaged : Option Nat} {v_shelves : Nat → Option Nat} {v_refusals : Nat → Int32} {v_ran : Int32} {v_bodies : Nat → Int32} {v_weight_a1 : Int32} {v_fright_a1 : Int32} {v_age_a1 : Int32} {v_asked_a1 : Nat → Int32} {v_weight_a2 : Int32} {v_fright_a2 : Int32} {v_age_a2 : Int32} {v_asked_a2 : Nat → Int32} {v_weight_a3 : Int32} {v_fright_a3 : Int32} {v_age_a3 : Int32} {v_asked_a3 : Nat → Int32} {v_weight_a4 : Int32} {v_fright_a4 : Int32} {v_age_a4 : Int32} {v_asked_a4 : Nat → Int32} {v_many : Int32} {v_pets : Int32} {v_last : Int32} {v_seed : Int32} {v_weight : Int32} {v_fright : Int32} {v_age : Int32} {v_asked : Nat → Int32} {v_homes : Nat → Option Nat} {v_marks : Nat → Int32} {v_had : Nat → Int32} {v_allergic : Nat → Int32} {v_deaths : Nat → Int32} (C : nC p s m args c cX0_seekOrder RX0 G (xWV ad) pl (nA (xWV ad))) (hml : c.maxLocals = 5)  (hom : homOK v_homes v_many hk hb pl) (x1 : Int32) (x2 : Int32) (x3 : Int32) (res : Int32 × Int32 × Int32 × Int32 × Int32 × Int32 × Int32 × Int32 × (Nat → Int32) × (Nat → Int32) × (Nat → Int32)) :
    ∀ (fuel : Nat) (x4 : Int32) (v_died : Int32) (v_leastWeight : Int32) (v_noticed : Int32) (v_orderDied : Int32) (v_orderLeast : Int32) (v_tweight : Int32) (v_tfright : Int32) (v_tage : Int32) (v_tasked : Nat → Int32) (v_told : Nat → Int32) (v_bestRow : Nat → Int32) (H : Heap) (locs : List Loc) (ls : Array Slot), sC_HW_seekOrder_1_h100 x1 x2 x3 v_noticedBy v_many v_weight v_fright v_age v_asked v_homes v_allergic hk hb fuel x4 v_died v_leastWeight v_noticed v_orderDied v_orderLeast v_tweight v_tfright v_tage v_tasked v_told v_bestRow = some res → va_P G.1 vwCl (xW G.2 ad v_latestFault v_died v_leastWeight v_noticedBy v_noticed v_orderDied v_orderLeast v_imaged v_shelves v_refusals v_ran v_bodies v_tweight v_tfright v_tage v_tasked v_told v_bestRow v_weight_a1 v_fright_a1 v_age_a1 v_asked_a1 v_weight_a2 v_fright_a2 v_age_a2 v_asked_a2 v_weight_a3 v_fright_a3 v_age_a3 v_asked_a3 v_weight_a4 v_fright_a4 v_age_a4 v_asked_a4 v_many v_pets v_last v_seed v_weight v_fright v_age v_asked v_homes v_marks v_had v_allergic v_deaths) H → va_S (nA (xWV ad)) s.heap H locs → lv_has ls 5 [(0, .ref (ad 0)), (1, .int x1), (2, .int x2), (3, .int x3), (4, .int x4)] → (∀ (H : Heap) (locs : List Loc) (ls : Array Slot), va_P G.1 vwCl (xW G.2 ad v_latestFault res.1 res.2.1 v_noticedBy res.2.2.1 res.2.2.2.1 res.2.2.2.2.1 v_imaged v_shelves v_refusals v_ran v_bodies res.2.2.2.2.2.1 res.2.2.2.2.2.2.1 res.2.2.2.2.2.2.2.1 res.2.2.2.2.2.2.2.2.1 res.2.2.2.2.2.2.2.2.2.1 res.2.2.2.2.2.2.2.2.2.2 v_weight_a1 v_fright_a1 v_age_a1 v_asked_a1 v_weight_a2 v_fright_a2 v_age_a2 v_asked_a2 v_weight_a3 v_fright_a3 v_age_a3 v_asked_a3 v_weight_a4 v_fright_a4 v_age_a4 v_asked_a4 v_many v_pets v_last v_seed v_weight v_fright v_age v_asked v_homes v_marks v_had v_allergic v_deaths) H → va_S (nA (xWV ad)) s.heap H locs → lv_has ls 5 [] → W p l e ({ frames := 7, cells := 0, slots := 0, locals := 153 } : Room) s m args below meth c H locs 0 0 Q (F0 m 161 ls [])) → W p l e ({ frames := 7, cells := 0, slots := 0, locals := 153 } : Room) s m args below meth c H locs 0 0 Q (F0 m 100 ls []) := by
  intro fuel
  induction fuel with
  | zero =>
    intro x4 v_died v_leastWeight v_noticed v_orderDied v_orderLeast v_tweight v_tfright v_tage v_tasked v_told v_bestRow H locs ls hE
    exact it_n hE
  | succ fuel ih =>
    intro x4 v_died v_leastWeight v_noticed v_orderDied v_orderLeast v_tweight v_tfright v_tage v_tasked v_told v_bestRow H locs ls hE hP hS hl hX
    rw [sC_HW_seekOrder_1_h100] at hE
    refine lv_iload C.1 C.2.1 dX0_seekOrder_100 (lv_at hl 4 rfl) ?_
    refine lv_aload_n C.1 C.2.1 dX0_seekOrder_102 rfl (lv_at hl 0 rfl) ?_
    refine xWg_0_6 q244 C hP dX0_seekOrder_103 ?_
    refine xWg_18_0 q182 C hP dX0_seekOrder_106 ?_
    refine lv_icmp_ge (tgt := 161) C.1 C.2.1 dX0_seekOrder_109 (by decide) (fun c10101 => ?_) (fun c10101 => ?_)
    · have hE := it_t c10101 hE
      obtain rfl := Option.some.inj hE
      exact hX H locs ls hP hS (lv_sub hl [] rfl)
    · have hE := it_f c10101 hE
      refine lv_aload_n C.1 C.2.1 dX0_seekOrder_112 rfl (lv_at hl 0 rfl) ?_
      refine xWg_0_6 q244 C hP dX0_seekOrder_113 ?_
      refine lv_iload C.1 C.2.1 dX0_seekOrder_116 (lv_at hl 4 rfl) ?_
      obtain ⟨r10102, hr10102, hE⟩ := it_b hE
      refine n_after [18, 19, 20, 21, 22, 23, 24, 25] C.2.2.2.2.2.1 C.2.2.2.2.2.2.2.1 hP hS (va_runV (As := [.int x4]) (rest := []) ⟨C.1, C.2.1, hml, C.2.2.1, C.2.2.2.1⟩ (metC_Room_may l G (fun i => ad (18 + i)) pl _ _ _ _ _ _ _ _ _ _ _ _ _ x4  r10102 hr10102) (cwV (C := RX3) 1 C.2.2.2.1 (lw_V q1067 q972 q973 q83 q974) rfl rfl rfl (by decide +kernel) ⟨Nat.le_of_ble_eq_true rfl, Nat.le_of_ble_eq_true rfl⟩) (n_preV C hP hS [18, 19, 20, 21, 22, 23, 24, 25] sub_xW_rW_18 (by decide) rfl (va_recv C.2.2.2.2.1 hP (ci := 12) (q0 := 18) rfl rfl)) rfl rfl hl.1 rfl (lv_room (Nat.le_of_ble_eq_true rfl)) dX0_seekOrder_118 ⟨Nat.le_refl _, Nat.le_refl _⟩) xW_av rfl rfl mg_xW_rW_18 (fun H locs hP hS => ?_)
      obtain ⟨u10104, hR, hE⟩ := it_b hE
      have hJ155u10104 : ∀ (H : Heap) (locs : List Loc) (ls : Array Slot), va_P G.1 vwCl (xW G.2 ad v_latestFault u10104.1 u10104.2.1 v_noticedBy u10104.2.2.1 u10104.2.2.2.1 u10104.2.2.2.2.1 v_imaged v_shelves v_refusals v_ran v_bodies u10104.2.2.2.2.2.1 u10104.2.2.2.2.2.2.1 u10104.2.2.2.2.2.2.2.1 u10104.2.2.2.2.2.2.2.2.1 u10104.2.2.2.2.2.2.2.2.2.1 u10104.2.2.2.2.2.2.2.2.2.2 v_weight_a1 v_fright_a1 v_age_a1 v_asked_a1 v_weight_a2 v_fright_a2 v_age_a2 v_asked_a2 v_weight_a3 v_fright_a3 v_age_a3 v_asked_a3 v_weight_a4 v_fright_a4 v_age_a4 v_asked_a4 v_many v_pets v_last v_seed v_weight v_fright v_age v_asked v_homes v_marks v_had v_allergic v_deaths) H → va_S (nA (xWV ad)) s.heap H locs → lv_has ls 5 [(0, .ref (ad 0)), (1, .int x1), (2, .int x2), (3, .int x3), (4, .int x4)] → W p l e ({ frames := 7, cells := 0, slots := 0, locals := 153 } : Room) s m args below meth c H locs 0 0 Q (F0 m 155 ls []) := by
        intro H locs ls hP hS hl
        refine lv_iinc (v := (x4 + 1)) (lv' := [(4, .int (x4 + 1)), (0, .ref (ad 0)), (1, .int x1), (2, .int x2), (3, .int x3)]) C.1 C.2.1 dX0_seekOrder_155 hl (k := 4) rfl rfl (by decide) rfl (fun ls hl => ?_)
        refine lv_goto (tgt := 100) C.1 C.2.1 dX0_seekOrder_158 (by decide) ?_
        exact ih (x4 + 1) u10104.1 u10104.2.1 u10104.2.2.1 u10104.2.2.2.1 u10104.2.2.2.2.1 u10104.2.2.2.2.2.1 u10104.2.2.2.2.2.2.1 u10104.2.2.2.2.2.2.2.1 u10104.2.2.2.2.2.2.2.2.1 u10104.2.2.2.2.2.2.2.2.2.1 u10104.2.2.2.2.2.2.2.2.2.2 _ _ _ hE hP hS (lv_sub hl [1, 2, 3, 4, 0] rfl) hX
      have hE := hR
      refine lv_if_eq (tgt := 155) C.1 C.2.1 dX0_seekOrder_121 (by decide) (fun c10103 => ?_) (fun c10103 => ?_)
      · have hE := it_t c10103 hE
        obtain rfl := Option.some.inj hE
        exact hJ155u10104 H locs ls hP hS (lv_sub hl [0, 1, 2, 3, 4] rfl)
      · have hE := it_f c10103 hE
        refine lv_iload_n C.1 C.2.1 dX0_seekOrder_124 rfl (lv_at hl 2 rfl) ?_
        refine lv_iload C.1 C.2.1 dX0_seekOrder_125 (lv_at hl 4 rfl) ?_
        refine lv_ishr C.1 C.2.1 dX0_seekOrder_127 ?_
        refine lv_iconst (v := 1) C.1 C.2.1 dX0_seekOrder_128 (by decide) ?_
        refine lv_iand C.1 C.2.1 dX0_seekOrder_129 ?_
        refine lv_if_ne (tgt := 155) C.1 C.2.1 dX0_seekOrder_130 (by decide) (fun c10105 => ?_) (fun c10105 => ?_)
        · have hE := it_f c10105 hE
          obtain rfl := Option.some.inj hE
          exact hJ155u10104 H locs ls hP hS (lv_sub hl [0, 1, 2, 3, 4] rfl)
        · have hE := it_t c10105 hE
          refine lv_aload_n C.1 C.2.1 dX0_seekOrder_133 rfl (lv_at hl 0 rfl) ?_
          refine xWg_0_4 q242 C hP dX0_seekOrder_134 ?_
          refine lv_iload_n C.1 C.2.1 dX0_seekOrder_137 rfl (lv_at hl 1 rfl) ?_
          refine lv_iload C.1 C.2.1 dX0_seekOrder_138 (lv_at hl 4 rfl) ?_
          obtain ⟨g10106, hE⟩ := it_g hE
          refine xWs_7 C hP hS (gi_in g10106) dX0_seekOrder_140 (fun H locs hP hS => ?_)
          refine lv_aload_n C.1 C.2.1 dX0_seekOrder_141 rfl (lv_at hl 0 rfl) ?_
          refine lv_iload_n C.1 C.2.1 dX0_seekOrder_142 rfl (lv_at hl 1 rfl) ?_
          refine lv_iconst (v := 1) C.1 C.2.1 dX0_seekOrder_143 (by decide) ?_
          refine lv_iadd C.1 C.2.1 dX0_seekOrder_144 ?_
          refine lv_iload_n C.1 C.2.1 dX0_seekOrder_145 rfl (lv_at hl 2 rfl) ?_
          refine lv_iconst (v := 1) C.1 C.2.1 dX0_seekOrder_146 (by decide) ?_
          refine lv_iload C.1 C.2.1 dX0_seekOrder_147 (lv_at hl 4 rfl) ?_
          refine lv_ishl C.1 C.2.1 dX0_seekOrder_149 ?_
          refine lv_ior C.1 C.2.1 dX0_seekOrder_150 ?_
          refine lv_iload_n C.1 C.2.1 dX0_seekOrder_151 rfl (lv_at hl 3 rfl) ?_
          obtain ⟨r10107, hr10107, hE⟩ := it_b hE
          refine n_afterS C.2.2.2.2.2.2.2.1 hS (va_runV (As := [.int (x1 + 1), .int (x2 ||| (1 <<< (x4 &&& 31))), .int x3]) (rest := []) ⟨C.1, C.2.1, hml, C.2.2.1, C.2.2.2.1⟩ (metC_HW_seekOrder_0 l G ad pl hk hb _ _ _ _ _ _ _ _ _ _ _ _ _ _ _ _ _ _ _ _ _ _ _ _ _ _ _ _ _ _ _ _ _ _ _ _ _ _ _ _ _ _ _ _ _ _ _ hom (x1 + 1) (x2 ||| (1 <<< (x4 &&& 31))) x3  r10107 hr10107) (cwV (C := RX0) 3 C.2.2.2.1 (lw_V q1131 q1133 qs27 q80 q1134) rfl rfl rfl (by decide +kernel) ⟨Nat.le_of_ble_eq_true rfl, Nat.le_of_ble_eq_true rfl⟩) (n_preV0 C hP hS (va_recv C.2.2.2.2.1 hP (ci := 16) (q0 := 0) rfl rfl)) rfl rfl hl.1 rfl (lv_room (Nat.le_of_ble_eq_true rfl)) dX0_seekOrder_152 ⟨Nat.le_refl _, Nat.le_refl _⟩) (fun H locs hP hS => ?_)
          obtain rfl := Option.some.inj hE
          exact hJ155u10104 H locs ls hP hS (lv_sub hl [0, 1, 2, 3, 4] rfl)
set_option maxHeartbeats 4000000 in
theorem metC_HW_seekOrder_1 (l : Launch) (G : kG) (ad : Nat → Nat) (pl : va_W) (hk : Nat → Nat) (hb : Nat → Int32) (v_latestFault : Int32) (v_died : Int32) (v_leastWeight : Int32) (v_noticedBy : Int32) (v_noticed : Int32) (v_orderDied : Int32) (v_orderLeast : Int32) (v_imaged : Option Nat) (v_shelves : Nat → Option Nat) (v_refusals : Nat → Int32) (v_ran : Int32) (v_bodies : Nat → Int32) (v_tweight : Int32) (v_tfright : Int32) (v_tage : Int32) (v_tasked : Nat → Int32) (v_told : Nat → Int32) (v_bestRow : Nat → Int32) (v_weight_a1 : Int32) (v_fright_a1 : Int32) (v_age_a1 : Int32) (v_asked_a1 : Nat → Int32) (v_weight_a2 : Int32) (v_fright_a2 : Int32) (v_age_a2 : Int32) (v_asked_a2 : Nat → Int32) (v_weight_a3 : Int32) (v_fright_a3 : Int32) (v_age_a3 : Int32) (v_asked_a3 : Nat → Int32) (v_weight_a4 : Int32) (v_fright_a4 : Int32) (v_age_a4 : Int32) (v_asked_a4 : Nat → Int32) (v_many : Int32) (v_pets : Int32) (v_last : Int32) (v_seed : Int32) (v_weight : Int32) (v_fright : Int32) (v_age : Int32) (v_asked : Nat → Int32) (v_homes : Nat → Option Nat) (v_marks : Nat → Int32) (v_had : Nat → Int32) (v_allergic : Nat → Int32) (v_deaths : Nat → Int32) (hom : homOK v_homes v_many hk hb pl) (p1 : Int32) (p2 : Int32) (p3 : Int32) (res : Int32 × Int32 × Int32 × Int32 × Int32 × Int32 × Int32 × Int32 × (Nat → Int32) × (Nat → Int32) × (Nat → Int32)) (hE : sC_HW_seekOrder_1 v_died v_leastWeight v_noticedBy v_noticed v_orderDied v_orderLeast v_tweight v_tfright v_tage v_tasked v_told v_bestRow v_many v_weight v_fright v_age v_asked v_homes v_allergic hk hb p1 p2 p3 = some res) : Met l yX0_seekOrder (ws_ yX0_seekOrder cX0_seekOrder 5 none) ({ frames := 7, cells := 0, slots := 0, locals := 153 } : Room) (nPc G (xW G.2 ad v_latestFault v_died v_leastWeight v_noticedBy v_noticed v_orderDied v_orderLeast v_imaged v_shelves v_refusals v_ran v_bodies v_tweight v_tfright v_tage v_tasked v_told v_bestRow v_weight_a1 v_fright_a1 v_age_a1 v_asked_a1 v_weight_a2 v_fright_a2 v_age_a2 v_asked_a2 v_weight_a3 v_fright_a3 v_age_a3 v_asked_a3 v_weight_a4 v_fright_a4 v_age_a4 v_asked_a4 v_many v_pets v_last v_seed v_weight v_fright v_age v_asked v_homes v_marks v_had v_allergic v_deaths) pl (xWV ad) [.ref (ad 0), .int p1, .int p2, .int p3]) (nQc G (xW G.2 ad v_latestFault res.1 res.2.1 v_noticedBy res.2.2.1 res.2.2.2.1 res.2.2.2.2.1 v_imaged v_shelves v_refusals v_ran v_bodies res.2.2.2.2.2.1 res.2.2.2.2.2.2.1 res.2.2.2.2.2.2.2.1 res.2.2.2.2.2.2.2.2.1 res.2.2.2.2.2.2.2.2.2.1 res.2.2.2.2.2.2.2.2.2.2 v_weight_a1 v_fright_a1 v_age_a1 v_asked_a1 v_weight_a2 v_fright_a2 v_age_a2 v_asked_a2 v_weight_a3 v_fright_a3 v_age_a3 v_asked_a3 v_weight_a4 v_fright_a4 v_age_a4 v_asked_a4 v_many v_pets v_last v_seed v_weight v_fright v_age v_asked v_homes v_marks v_had v_allergic v_deaths) (xWV ad) none) 0 0 (nA (xWV ad)) := by
  refine n_ofW (own := RX0) (by decide) rfl (Nat.le_of_ble_eq_true rfl) ?_
  intro p e s m args below meth c ls C hml hP hS hl hr hlocks
  have hl : lv_has ls 5 [(0, .ref (ad 0)), (1, .int p1), (2, .int p2), (3, .int p3)] := hl
  obtain ⟨Q, hQ⟩ : ∃ Q, Q = MQ below (nQc G (xW G.2 ad v_latestFault res.1 res.2.1 v_noticedBy res.2.2.1 res.2.2.2.1 res.2.2.2.2.1 v_imaged v_shelves v_refusals v_ran v_bodies res.2.2.2.2.2.1 res.2.2.2.2.2.2.1 res.2.2.2.2.2.2.2.1 res.2.2.2.2.2.2.2.2.1 res.2.2.2.2.2.2.2.2.2.1 res.2.2.2.2.2.2.2.2.2.2 v_weight_a1 v_fright_a1 v_age_a1 v_asked_a1 v_weight_a2 v_fright_a2 v_age_a2 v_asked_a2 v_weight_a3 v_fright_a3 v_age_a3 v_asked_a3 v_weight_a4 v_fright_a4 v_age_a4 v_asked_a4 v_many v_pets v_last v_seed v_weight v_fright v_age v_asked v_homes v_marks v_had v_allergic v_deaths) (xWV ad) none) args s 0 0 (nA (xWV ad)) := ⟨_, rfl⟩
  rw [← hQ]
  have hret : ∀ (pc : Nat) (ls : Array Slot) (H : Heap) (locs : List Loc), decode cX0_seekOrder pc = .ok (.return_, 1) → va_P G.1 vwCl (xW G.2 ad v_latestFault res.1 res.2.1 v_noticedBy res.2.2.1 res.2.2.2.1 res.2.2.2.2.1 v_imaged v_shelves v_refusals v_ran v_bodies res.2.2.2.2.2.1 res.2.2.2.2.2.2.1 res.2.2.2.2.2.2.2.1 res.2.2.2.2.2.2.2.2.1 res.2.2.2.2.2.2.2.2.2.1 res.2.2.2.2.2.2.2.2.2.2 v_weight_a1 v_fright_a1 v_age_a1 v_asked_a1 v_weight_a2 v_fright_a2 v_age_a2 v_asked_a2 v_weight_a3 v_fright_a3 v_age_a3 v_asked_a3 v_weight_a4 v_fright_a4 v_age_a4 v_asked_a4 v_many v_pets v_last v_seed v_weight v_fright v_age v_asked v_homes v_marks v_had v_allergic v_deaths) H → va_S (nA (xWV ad)) s.heap H locs → W p l e ({ frames := 7, cells := 0, slots := 0, locals := 153 } : Room) s m args below meth c H locs 0 0 Q (F0 m pc ls []) := by
    intro pc ls H locs hd hP hS
    rw [hQ]
    exact n_vret C hr hlocks hd hP hS
  clear hQ
  obtain ⟨H, hH⟩ : ∃ H, H = s.heap := ⟨_, rfl⟩
  obtain ⟨locs, hlo⟩ : ∃ locs : List Loc, locs = [] := ⟨_, rfl⟩
  have hP : va_P G.1 vwCl (xW G.2 ad v_latestFault v_died v_leastWeight v_noticedBy v_noticed v_orderDied v_orderLeast v_imaged v_shelves v_refusals v_ran v_bodies v_tweight v_tfright v_tage v_tasked v_told v_bestRow v_weight_a1 v_fright_a1 v_age_a1 v_asked_a1 v_weight_a2 v_fright_a2 v_age_a2 v_asked_a2 v_weight_a3 v_fright_a3 v_age_a3 v_asked_a3 v_weight_a4 v_fright_a4 v_age_a4 v_asked_a4 v_many v_pets v_last v_seed v_weight v_fright v_age v_asked v_homes v_marks v_had v_allergic v_deaths) H := by rw [hH]; exact hP
  have hS : va_S (nA (xWV ad)) s.heap H locs := by rw [hH, hlo]; exact hS
  suffices hZ : W p l e ({ frames := 7, cells := 0, slots := 0, locals := 153 } : Room) s m args below meth c H locs 0 0 Q (F0 m 0 ls []) by rw [hH, hlo] at hZ; exact hZ
  clear hH hlo
  unfold sC_HW_seekOrder_1 at hE
  refine lv_iload_n C.1 C.2.1 dX0_seekOrder_0 rfl (lv_at hl 1 rfl) ?_
  refine lv_iload_n C.1 C.2.1 dX0_seekOrder_1 rfl (lv_at hl 3 rfl) ?_
  refine lv_icmp_ne (tgt := 97) C.1 C.2.1 dX0_seekOrder_2 (by decide) (fun c1 => ?_) (fun c1 => ?_)
  · have hE := it_f c1 hE
    refine lv_iconst (v := 0) C.1 C.2.1 dX0_seekOrder_97 (by decide) ?_
    refine lv_istore (lv' := [(4, .int 0), (0, .ref (ad 0)), (1, .int p1), (2, .int p2), (3, .int p3)]) C.1 C.2.1 dX0_seekOrder_98 hl (by decide) rfl (fun ls hl => ?_)
    obtain ⟨u2, hu2, hE⟩ := it_b hE
    refine wC_HW_seekOrder_1_h100 C hml  hom p1 p2 p3 u2 2000 0 v_died v_leastWeight v_noticed v_orderDied v_orderLeast v_tweight v_tfright v_tage v_tasked v_told v_bestRow H locs ls hu2 hP hS (lv_sub hl [1, 2, 3, 4, 0] rfl) (fun H locs ls hP hS hl => ?_)
    obtain rfl := Option.some.inj hE
    exact hret _ _ _ _ dX0_seekOrder_161 hP hS
  · have hE := it_t c1 hE
    refine lv_aload_n C.1 C.2.1 dX0_seekOrder_5 rfl (lv_at hl 0 rfl) ?_
    refine xWg_0_3 q241 C hP dX0_seekOrder_6 ?_
    refine lv_aload_n C.1 C.2.1 dX0_seekOrder_9 rfl (lv_at hl 0 rfl) ?_
    refine xWg_0_6 q244 C hP dX0_seekOrder_10 ?_
    refine xWg_18_4 q191 C hP dX0_seekOrder_13 ?_
    obtain ⟨r3, hr3, hE⟩ := it_b hE
    refine n_after [5, 6, 19, 20] C.2.2.2.2.2.1 C.2.2.2.2.2.2.2.1 hP hS (va_runV (As := [.ref (ad 19)]) (rest := []) ⟨C.1, C.2.1, hml, C.2.2.1, C.2.2.2.1⟩ (metC_Pet_take l G (fun i => ad (if i < 2 then 5 + i else 19 + (i - 2))) pl _ _ _ _ _ _ _ _   r3 hr3) (cwV (C := RX2) 1 C.2.2.2.1 (lw_V q1076 q796 q797 q82 q798) rfl rfl rfl (by decide +kernel) ⟨Nat.le_of_ble_eq_true rfl, Nat.le_of_ble_eq_true rfl⟩) (n_preV C hP hS [5, 6, 19, 20] sub_xW_ppW_5_19 (by decide) rfl (va_recv C.2.2.2.2.1 hP (ci := 11) (q0 := 5) rfl rfl)) rfl rfl hl.1 rfl (lv_room (Nat.le_of_ble_eq_true rfl)) dX0_seekOrder_16 ⟨Nat.le_refl _, Nat.le_refl _⟩) xW_av rfl rfl mg_xW_ppW_5_19 (fun H locs hP hS => ?_)
    refine lv_pop C.1 C.2.1 dX0_seekOrder_19 rfl ?_
    refine lv_aload_n C.1 C.2.1 dX0_seekOrder_20 rfl (lv_at hl 0 rfl) ?_
    refine lv_iload_n C.1 C.2.1 dX0_seekOrder_21 rfl (lv_at hl 1 rfl) ?_
    obtain ⟨r4, hr4, hE⟩ := it_b hE
    refine n_afterS C.2.2.2.2.2.2.2.1 hS (va_runV (As := [.int p1]) (rest := []) ⟨C.1, C.2.1, hml, C.2.2.1, C.2.2.2.1⟩ (metC_HW_goesRow l G ad pl hk hb _ _ _ _ _ _ _ _ _ _ _ _ _ _ _ _ _ _ _ _ _ _ _ _ _ _ _ _ _ _ _ _ _ _ _ _ _ _ _ _ _ _ _ _ _ _ _ hom p1  r4 hr4) (cwV (C := RX0) 1 C.2.2.2.1 (lw_V q1077 q1079 qs23 q80 q1080) rfl rfl rfl (by decide +kernel) ⟨Nat.le_of_ble_eq_true rfl, Nat.le_of_ble_eq_true rfl⟩) (n_preV0 C hP hS (va_recv C.2.2.2.2.1 hP (ci := 16) (q0 := 0) rfl rfl)) rfl rfl hl.1 rfl (lv_room (Nat.le_of_ble_eq_true rfl)) dX0_seekOrder_22 ⟨Nat.le_refl _, Nat.le_refl _⟩) (fun H locs hP hS => ?_)
    refine lv_aload_n C.1 C.2.1 dX0_seekOrder_25 rfl (lv_at hl 0 rfl) ?_
    refine xWg_0_13 q251 C hP dX0_seekOrder_26 ?_
    refine lv_iconst (v := (-1)) C.1 C.2.1 dX0_seekOrder_29 (by decide) ?_
    refine lv_icmp_eq (tgt := 66) C.1 C.2.1 dX0_seekOrder_30 (by decide) (fun c5 => ?_) (fun c5 => ?_)
    · have hE := it_t c5 hE
      refine lv_aload_n C.1 C.2.1 dX0_seekOrder_66 rfl (lv_at hl 0 rfl) ?_
      refine lv_aload_n C.1 C.2.1 dX0_seekOrder_67 rfl (lv_at hl 0 rfl) ?_
      refine xWg_0_9 q247 C hP dX0_seekOrder_68 ?_
      refine xWp_0_13 q251 C hP hS dX0_seekOrder_71 (fun H locs hP hS => ?_)
      refine lv_aload_n C.1 C.2.1 dX0_seekOrder_74 rfl (lv_at hl 0 rfl) ?_
      refine lv_aload_n C.1 C.2.1 dX0_seekOrder_75 rfl (lv_at hl 0 rfl) ?_
      refine xWg_0_10 q248 C hP dX0_seekOrder_76 ?_
      refine xWp_0_14 q252 C hP hS dX0_seekOrder_79 (fun H locs hP hS => ?_)
      refine lv_aload_n C.1 C.2.1 dX0_seekOrder_82 rfl (lv_at hl 0 rfl) ?_
      refine xWg_0_4 q242 C hP dX0_seekOrder_83 ?_
      refine lv_iconst (v := 0) C.1 C.2.1 dX0_seekOrder_86 (by decide) ?_
      refine lv_aload_n C.1 C.2.1 dX0_seekOrder_87 rfl (lv_at hl 0 rfl) ?_
      refine xWg_0_5 q243 C hP dX0_seekOrder_88 ?_
      refine lv_iconst (v := 0) C.1 C.2.1 dX0_seekOrder_91 (by decide) ?_
      refine lv_iload_n C.1 C.2.1 dX0_seekOrder_92 rfl (lv_at hl 1 rfl) ?_
      obtain ⟨g6, hE⟩ := it_g hE
      obtain ⟨g7, hE⟩ := it_g hE
      obtain ⟨g8, hE⟩ := it_g hE
      refine va_copyi C.1 C.2.1 (by rw [hml]; exact hl.1.symm) C.2.2.1 (C.2.2.2.1 _ q551) (C.2.2.2.1 _ q553) (C.2.2.2.1 _ q552) (C.2.2.2.1 _ q100) C.2.2.2.2.1 hP (nD_of (nd_left C.2.2.2.2.2.1) C.2.2.2.2.2.2.2.1 xW_av) hS 7 8 0 0 rfl rfl rfl rfl rfl (by decide) (by decide) g6 g7 g8 (fun _ _ => rfl) (Nat.le_of_ble_eq_true rfl) (Nat.le_of_ble_eq_true rfl) dX0_seekOrder_93 (fun H locs hP _ hS => ?_)
      obtain rfl := Option.some.inj hE
      exact hret _ _ _ _ dX0_seekOrder_96 hP hS
    · have hE := it_f c5 hE
      refine lv_aload_n C.1 C.2.1 dX0_seekOrder_33 rfl (lv_at hl 0 rfl) ?_
      refine xWg_0_9 q247 C hP dX0_seekOrder_34 ?_
      refine lv_aload_n C.1 C.2.1 dX0_seekOrder_37 rfl (lv_at hl 0 rfl) ?_
      refine xWg_0_13 q251 C hP dX0_seekOrder_38 ?_
      refine lv_icmp_lt (tgt := 66) C.1 C.2.1 dX0_seekOrder_41 (by decide) (fun c9 => ?_) (fun c9 => ?_)
      · have hE := it_t c9 hE
        refine lv_aload_n C.1 C.2.1 dX0_seekOrder_66 rfl (lv_at hl 0 rfl) ?_
        refine lv_aload_n C.1 C.2.1 dX0_seekOrder_67 rfl (lv_at hl 0 rfl) ?_
        refine xWg_0_9 q247 C hP dX0_seekOrder_68 ?_
        refine xWp_0_13 q251 C hP hS dX0_seekOrder_71 (fun H locs hP hS => ?_)
        refine lv_aload_n C.1 C.2.1 dX0_seekOrder_74 rfl (lv_at hl 0 rfl) ?_
        refine lv_aload_n C.1 C.2.1 dX0_seekOrder_75 rfl (lv_at hl 0 rfl) ?_
        refine xWg_0_10 q248 C hP dX0_seekOrder_76 ?_
        refine xWp_0_14 q252 C hP hS dX0_seekOrder_79 (fun H locs hP hS => ?_)
        refine lv_aload_n C.1 C.2.1 dX0_seekOrder_82 rfl (lv_at hl 0 rfl) ?_
        refine xWg_0_4 q242 C hP dX0_seekOrder_83 ?_
        refine lv_iconst (v := 0) C.1 C.2.1 dX0_seekOrder_86 (by decide) ?_
        refine lv_aload_n C.1 C.2.1 dX0_seekOrder_87 rfl (lv_at hl 0 rfl) ?_
        refine xWg_0_5 q243 C hP dX0_seekOrder_88 ?_
        refine lv_iconst (v := 0) C.1 C.2.1 dX0_seekOrder_91 (by decide) ?_
        refine lv_iload_n C.1 C.2.1 dX0_seekOrder_92 rfl (lv_at hl 1 rfl) ?_
        obtain ⟨g10, hE⟩ := it_g hE
        obtain ⟨g11, hE⟩ := it_g hE
        obtain ⟨g12, hE⟩ := it_g hE
        refine va_copyi C.1 C.2.1 (by rw [hml]; exact hl.1.symm) C.2.2.1 (C.2.2.2.1 _ q551) (C.2.2.2.1 _ q553) (C.2.2.2.1 _ q552) (C.2.2.2.1 _ q100) C.2.2.2.2.1 hP (nD_of (nd_left C.2.2.2.2.2.1) C.2.2.2.2.2.2.2.1 xW_av) hS 7 8 0 0 rfl rfl rfl rfl rfl (by decide) (by decide) g10 g11 g12 (fun _ _ => rfl) (Nat.le_of_ble_eq_true rfl) (Nat.le_of_ble_eq_true rfl) dX0_seekOrder_93 (fun H locs hP _ hS => ?_)
        obtain rfl := Option.some.inj hE
        exact hret _ _ _ _ dX0_seekOrder_96 hP hS
      · have hE := it_f c9 hE
        refine lv_aload_n C.1 C.2.1 dX0_seekOrder_44 rfl (lv_at hl 0 rfl) ?_
        refine xWg_0_9 q247 C hP dX0_seekOrder_45 ?_
        refine lv_aload_n C.1 C.2.1 dX0_seekOrder_48 rfl (lv_at hl 0 rfl) ?_
        refine xWg_0_13 q251 C hP dX0_seekOrder_49 ?_
        refine lv_icmp_ne (tgt := 96) C.1 C.2.1 dX0_seekOrder_52 (by decide) (fun c13 => ?_) (fun c13 => ?_)
        · have hE := it_f c13 hE
          obtain rfl := Option.some.inj hE
          exact hret _ _ _ _ dX0_seekOrder_96 hP hS
        · have hE := it_t c13 hE
          refine lv_aload_n C.1 C.2.1 dX0_seekOrder_55 rfl (lv_at hl 0 rfl) ?_
          refine xWg_0_10 q248 C hP dX0_seekOrder_56 ?_
          refine lv_aload_n C.1 C.2.1 dX0_seekOrder_59 rfl (lv_at hl 0 rfl) ?_
          refine xWg_0_14 q252 C hP dX0_seekOrder_60 ?_
          refine lv_icmp_le (tgt := 96) C.1 C.2.1 dX0_seekOrder_63 (by decide) (fun c14 => ?_) (fun c14 => ?_)
          · have hE := it_t c14 hE
            obtain rfl := Option.some.inj hE
            exact hret _ _ _ _ dX0_seekOrder_96 hP hS
          · have hE := it_f c14 hE
            refine lv_aload_n C.1 C.2.1 dX0_seekOrder_66 rfl (lv_at hl 0 rfl) ?_
            refine lv_aload_n C.1 C.2.1 dX0_seekOrder_67 rfl (lv_at hl 0 rfl) ?_
            refine xWg_0_9 q247 C hP dX0_seekOrder_68 ?_
            refine xWp_0_13 q251 C hP hS dX0_seekOrder_71 (fun H locs hP hS => ?_)
            refine lv_aload_n C.1 C.2.1 dX0_seekOrder_74 rfl (lv_at hl 0 rfl) ?_
            refine lv_aload_n C.1 C.2.1 dX0_seekOrder_75 rfl (lv_at hl 0 rfl) ?_
            refine xWg_0_10 q248 C hP dX0_seekOrder_76 ?_
            refine xWp_0_14 q252 C hP hS dX0_seekOrder_79 (fun H locs hP hS => ?_)
            refine lv_aload_n C.1 C.2.1 dX0_seekOrder_82 rfl (lv_at hl 0 rfl) ?_
            refine xWg_0_4 q242 C hP dX0_seekOrder_83 ?_
            refine lv_iconst (v := 0) C.1 C.2.1 dX0_seekOrder_86 (by decide) ?_
            refine lv_aload_n C.1 C.2.1 dX0_seekOrder_87 rfl (lv_at hl 0 rfl) ?_
            refine xWg_0_5 q243 C hP dX0_seekOrder_88 ?_
            refine lv_iconst (v := 0) C.1 C.2.1 dX0_seekOrder_91 (by decide) ?_
            refine lv_iload_n C.1 C.2.1 dX0_seekOrder_92 rfl (lv_at hl 1 rfl) ?_
            obtain ⟨g15, hE⟩ := it_g hE
            obtain ⟨g16, hE⟩ := it_g hE
            obtain ⟨g17, hE⟩ := it_g hE
            refine va_copyi C.1 C.2.1 (by rw [hml]; exact hl.1.symm) C.2.2.1 (C.2.2.2.1 _ q551) (C.2.2.2.1 _ q553) (C.2.2.2.1 _ q552) (C.2.2.2.1 _ q100) C.2.2.2.2.1 hP (nD_of (nd_left C.2.2.2.2.2.1) C.2.2.2.2.2.2.2.1 xW_av) hS 7 8 0 0 rfl rfl rfl rfl rfl (by decide) (by decide) g15 g16 g17 (fun _ _ => rfl) (Nat.le_of_ble_eq_true rfl) (Nat.le_of_ble_eq_true rfl) dX0_seekOrder_93 (fun H locs hP _ hS => ?_)
            obtain rfl := Option.some.inj hE
            exact hret _ _ _ _ dX0_seekOrder_96 hP hS
def sC_HW_seekOrder_2_h100 (x1 : Int32) (x2 : Int32) (x3 : Int32) (v_noticedBy : Int32) (v_many : Int32) (v_weight : Int32) (v_fright : Int32) (v_age : Int32) (v_asked : Nat → Int32) (v_homes : Nat → Option Nat) (v_allergic : Nat → Int32) (hk : Nat → Nat) (hb : Nat → Int32) : Nat → Int32 → Int32 → Int32 → Int32 → Int32 → Int32 → Int32 → Int32 → Int32 → (Nat → Int32) → (Nat → Int32) → (Nat → Int32) → Option (Int32 × Int32 × Int32 × Int32 × Int32 × Int32 × Int32 × Int32 × (Nat → Int32) × (Nat → Int32) × (Nat → Int32))
  | 0, _, _, _, _, _, _, _, _, _, _, _, _ => none
  | fuel + 1, x4, v_died, v_leastWeight, v_noticed, v_orderDied, v_orderLeast, v_tweight, v_tfright, v_tage, v_tasked, v_told, v_bestRow =>
    if v_many ≤ x4 then
      some (v_died, v_leastWeight, v_noticed, v_orderDied, v_orderLeast, v_tweight, v_tfright, v_tage, v_tasked, v_told, v_bestRow)
    else
      (sC_Room_may v_many v_allergic x4).bind fun r10102 =>
      @Option.bind (Int32 × Int32 × Int32 × Int32 × Int32 × Int32 × Int32 × Int32 × (Nat → Int32) × (Nat → Int32) × (Nat → Int32)) _ (
        if r10102 = 0 then
          some (v_died, v_leastWeight, v_noticed, v_orderDied, v_orderLeast, v_tweight, v_tfright, v_tage, v_tasked, v_told, v_bestRow)
        else
          if ((x2 >>> (x4 &&& 31)) &&& 1) = 0 then
            if gi x1 40 then
            (sC_HW_seekOrder_1 v_died v_leastWeight v_noticedBy v_noticed v_orderDied v_orderLeast v_tweight v_tfright v_tage v_tasked (upd v_told (x1).toNatClampNeg x4) v_bestRow v_many v_weight v_fright v_age v_asked v_homes v_allergic hk hb (x1 + 1) (x2 ||| (1 <<< (x4 &&& 31))) x3).bind fun r10107 =>
            some (r10107.1, r10107.2.1, r10107.2.2.1, r10107.2.2.2.1, r10107.2.2.2.2.1, r10107.2.2.2.2.2.1, r10107.2.2.2.2.2.2.1, r10107.2.2.2.2.2.2.2.1, r10107.2.2.2.2.2.2.2.2.1, r10107.2.2.2.2.2.2.2.2.2.1, r10107.2.2.2.2.2.2.2.2.2.2)
            else none
          else
            some (v_died, v_leastWeight, v_noticed, v_orderDied, v_orderLeast, v_tweight, v_tfright, v_tage, v_tasked, v_told, v_bestRow)) fun u10104 =>
      sC_HW_seekOrder_2_h100 x1 x2 x3 v_noticedBy v_many v_weight v_fright v_age v_asked v_homes v_allergic hk hb fuel (x4 + 1) u10104.1 u10104.2.1 u10104.2.2.1 u10104.2.2.2.1 u10104.2.2.2.2.1 u10104.2.2.2.2.2.1 u10104.2.2.2.2.2.2.1 u10104.2.2.2.2.2.2.2.1 u10104.2.2.2.2.2.2.2.2.1 u10104.2.2.2.2.2.2.2.2.2.1 u10104.2.2.2.2.2.2.2.2.2.2
def sC_HW_seekOrder_2 (v_died : Int32) (v_leastWeight : Int32) (v_noticedBy : Int32) (v_noticed : Int32) (v_orderDied : Int32) (v_orderLeast : Int32) (v_tweight : Int32) (v_tfright : Int32) (v_tage : Int32) (v_tasked : Nat → Int32) (v_told : Nat → Int32) (v_bestRow : Nat → Int32) (v_many : Int32) (v_weight : Int32) (v_fright : Int32) (v_age : Int32) (v_asked : Nat → Int32) (v_homes : Nat → Option Nat) (v_allergic : Nat → Int32) (hk : Nat → Nat) (hb : Nat → Int32) (p1 : Int32) (p2 : Int32) (p3 : Int32) : Option (Int32 × Int32 × Int32 × Int32 × Int32 × Int32 × Int32 × Int32 × (Nat → Int32) × (Nat → Int32) × (Nat → Int32)) :=
  if p1 = p3 then
    (sC_Pet_take v_tweight v_tfright v_tage v_tasked v_weight v_fright v_age v_asked).bind fun r3 =>
    (sC_HW_goesRow v_died v_leastWeight v_noticedBy v_noticed r3.1 r3.2.1 r3.2.2.1 r3.2.2.2 v_told v_many v_homes hk hb p1).bind fun r4 =>
    if v_orderDied = (-1) then
      if ¬ p1 < 0 then
      if 0 + (p1).toNatClampNeg ≤ 40 then
      if 0 + (p1).toNatClampNeg ≤ 6 then
      some (r4.1, r4.2.1, r4.2.2.1, r4.1, r4.2.1, r4.2.2.2.1, r4.2.2.2.2.1, r4.2.2.2.2.2, r3.2.2.2, v_told, (va_cpy v_told v_bestRow 0 0 (p1).toNatClampNeg))
      else none
      else none
      else none
    else
      if r4.1 < v_orderDied then
        if ¬ p1 < 0 then
        if 0 + (p1).toNatClampNeg ≤ 40 then
        if 0 + (p1).toNatClampNeg ≤ 6 then
        some (r4.1, r4.2.1, r4.2.2.1, r4.1, r4.2.1, r4.2.2.2.1, r4.2.2.2.2.1, r4.2.2.2.2.2, r3.2.2.2, v_told, (va_cpy v_told v_bestRow 0 0 (p1).toNatClampNeg))
        else none
        else none
        else none
      else
        if r4.1 = v_orderDied then
          if r4.2.1 ≤ v_orderLeast then
            some (r4.1, r4.2.1, r4.2.2.1, v_orderDied, v_orderLeast, r4.2.2.2.1, r4.2.2.2.2.1, r4.2.2.2.2.2, r3.2.2.2, v_told, v_bestRow)
          else
            if ¬ p1 < 0 then
            if 0 + (p1).toNatClampNeg ≤ 40 then
            if 0 + (p1).toNatClampNeg ≤ 6 then
            some (r4.1, r4.2.1, r4.2.2.1, r4.1, r4.2.1, r4.2.2.2.1, r4.2.2.2.2.1, r4.2.2.2.2.2, r3.2.2.2, v_told, (va_cpy v_told v_bestRow 0 0 (p1).toNatClampNeg))
            else none
            else none
            else none
        else
          some (r4.1, r4.2.1, r4.2.2.1, v_orderDied, v_orderLeast, r4.2.2.2.1, r4.2.2.2.2.1, r4.2.2.2.2.2, r3.2.2.2, v_told, v_bestRow)
  else
    (sC_HW_seekOrder_2_h100 p1 p2 p3 v_noticedBy v_many v_weight v_fright v_age v_asked v_homes v_allergic hk hb 2000 0 v_died v_leastWeight v_noticed v_orderDied v_orderLeast v_tweight v_tfright v_tage v_tasked v_told v_bestRow).bind fun u2 =>
    some (u2.1, u2.2.1, u2.2.2.1, u2.2.2.2.1, u2.2.2.2.2.1, u2.2.2.2.2.2.1, u2.2.2.2.2.2.2.1, u2.2.2.2.2.2.2.2.1, u2.2.2.2.2.2.2.2.2.1, u2.2.2.2.2.2.2.2.2.2.1, u2.2.2.2.2.2.2.2.2.2.2)
set_option maxHeartbeats 4000000 in
theorem wC_HW_seekOrder_2_h100 {p : Program} {l : Launch} {e : Env} {s : State} {m : MethodId} {args : Array Value} {below : List Frame} {meth : Method} {c : Code} {Q : State → Prop} {G : kG} {ad : Nat → Nat} {pl : va_W} {hk : Nat → Nat} {hb : Nat → Int32} {v_latestFault : Int32} {v_noticedBy : Int32} {v_imaged : Option Nat} {v_shelves : Nat → Option Nat} {v_refusals : Nat → Int32} {v_ran : Int32} {v_bodies : Nat → Int32} {v_weight_a1 : Int32} {v_fright_a1 : Int32} {v_age_a1 : Int32} {v_asked_a1 : Nat → Int32} {v_weight_a2 : Int32} {v_fright_a2 : Int32} {v_age_a2 : Int32} {v_asked_a2 : Nat → Int32} {v_weight_a3 : Int32} {v_fright_a3 : Int32} {v_age_a3 : Int32} {v_asked_a3 : Nat → Int32} {v_weight_a4 : Int32} {v_fright_a4 : Int32} {v_age_a4 : Int32} {v_asked_a4 : Nat → Int32} {v_many : Int32} {v_pets : Int32} {v_last : Int32} {v_seed : Int32} {v_weight : Int32} {v_fright : Int32} {v_age : Int32} {v_asked : Nat → Int32} {v_homes : Nat → Option Nat} {v_marks : Nat → Int32} {v_had : Nat → Int32} {v_allergic : Nat → Int32} {v_deaths : Nat → Int32} (C : nC p s m args c cX0_seekOrder RX0 G (xWV ad) pl (nA (xWV ad))) (hml : c.maxLocals = 5)  (hom : homOK v_homes v_many hk hb pl) (x1 : Int32) (x2 : Int32) (x3 : Int32) (res : Int32 × Int32 × Int32 × Int32 × Int32 × Int32 × Int32 × Int32 × (Nat → Int32) × (Nat → Int32) × (Nat → Int32)) :
    ∀ (fuel : Nat) (x4 : Int32) (v_died : Int32) (v_leastWeight : Int32) (v_noticed : Int32) (v_orderDied : Int32) (v_orderLeast : Int32) (v_tweight : Int32) (v_tfright : Int32) (v_tage : Int32) (v_tasked : Nat → Int32) (v_told : Nat → Int32) (v_bestRow : Nat → Int32) (H : Heap) (locs : List Loc) (ls : Array Slot), sC_HW_seekOrder_2_h100 x1 x2 x3 v_noticedBy v_many v_weight v_fright v_age v_asked v_homes v_allergic hk hb fuel x4 v_died v_leastWeight v_noticed v_orderDied v_orderLeast v_tweight v_tfright v_tage v_tasked v_told v_bestRow = some res → va_P G.1 vwCl (xW G.2 ad v_latestFault v_died v_leastWeight v_noticedBy v_noticed v_orderDied v_orderLeast v_imaged v_shelves v_refusals v_ran v_bodies v_tweight v_tfright v_tage v_tasked v_told v_bestRow v_weight_a1 v_fright_a1 v_age_a1 v_asked_a1 v_weight_a2 v_fright_a2 v_age_a2 v_asked_a2 v_weight_a3 v_fright_a3 v_age_a3 v_asked_a3 v_weight_a4 v_fright_a4 v_age_a4 v_asked_a4 v_many v_pets v_last v_seed v_weight v_fright v_age v_asked v_homes v_marks v_had v_allergic v_deaths) H → va_S (nA (xWV ad)) s.heap H locs → lv_has ls 5 [(0, .ref (ad 0)), (1, .int x1), (2, .int x2), (3, .int x3), (4, .int x4)] → (∀ (H : Heap) (locs : List Loc) (ls : Array Slot), va_P G.1 vwCl (xW G.2 ad v_latestFault res.1 res.2.1 v_noticedBy res.2.2.1 res.2.2.2.1 res.2.2.2.2.1 v_imaged v_shelves v_refusals v_ran v_bodies res.2.2.2.2.2.1 res.2.2.2.2.2.2.1 res.2.2.2.2.2.2.2.1 res.2.2.2.2.2.2.2.2.1 res.2.2.2.2.2.2.2.2.2.1 res.2.2.2.2.2.2.2.2.2.2 v_weight_a1 v_fright_a1 v_age_a1 v_asked_a1 v_weight_a2 v_fright_a2 v_age_a2 v_asked_a2 v_weight_a3 v_fright_a3 v_age_a3 v_asked_a3 v_weight_a4 v_fright_a4 v_age_a4 v_asked_a4 v_many v_pets v_last v_seed v_weight v_fright v_age v_asked v_homes v_marks v_had v_allergic v_deaths) H → va_S (nA (xWV ad)) s.heap H locs → lv_has ls 5 [] → W p l e ({ frames := 8, cells := 0, slots := 0, locals := 177 } : Room) s m args below meth c H locs 0 0 Q (F0 m 161 ls [])) → W p l e ({ frames := 8, cells := 0, slots := 0, locals := 177 } : Room) s m args below meth c H locs 0 0 Q (F0 m 100 ls []) := by
  intro fuel
  induction fuel with
  | zero =>
    intro x4 v_died v_leastWeight v_noticed v_orderDied v_orderLeast v_tweight v_tfright v_tage v_tasked v_told v_bestRow H locs ls hE
    exact it_n hE
  | succ fuel ih =>
    intro x4 v_died v_leastWeight v_noticed v_orderDied v_orderLeast v_tweight v_tfright v_tage v_tasked v_told v_bestRow H locs ls hE hP hS hl hX
    rw [sC_HW_seekOrder_2_h100] at hE
    refine lv_iload C.1 C.2.1 dX0_seekOrder_100 (lv_at hl 4 rfl) ?_
    refine lv_aload_n C.1 C.2.1 dX0_seekOrder_102 rfl (lv_at hl 0 rfl) ?_
    refine xWg_0_6 q244 C hP dX0_seekOrder_103 ?_
    refine xWg_18_0 q182 C hP dX0_seekOrder_106 ?_
    refine lv_icmp_ge (tgt := 161) C.1 C.2.1 dX0_seekOrder_109 (by decide) (fun c10101 => ?_) (fun c10101 => ?_)
    · have hE := it_t c10101 hE
      obtain rfl := Option.some.inj hE
      exact hX H locs ls hP hS (lv_sub hl [] rfl)
    · have hE := it_f c10101 hE
      refine lv_aload_n C.1 C.2.1 dX0_seekOrder_112 rfl (lv_at hl 0 rfl) ?_
      refine xWg_0_6 q244 C hP dX0_seekOrder_113 ?_
      refine lv_iload C.1 C.2.1 dX0_seekOrder_116 (lv_at hl 4 rfl) ?_
      obtain ⟨r10102, hr10102, hE⟩ := it_b hE
      refine n_after [18, 19, 20, 21, 22, 23, 24, 25] C.2.2.2.2.2.1 C.2.2.2.2.2.2.2.1 hP hS (va_runV (As := [.int x4]) (rest := []) ⟨C.1, C.2.1, hml, C.2.2.1, C.2.2.2.1⟩ (metC_Room_may l G (fun i => ad (18 + i)) pl _ _ _ _ _ _ _ _ _ _ _ _ _ x4  r10102 hr10102) (cwV (C := RX3) 1 C.2.2.2.1 (lw_V q1067 q972 q973 q83 q974) rfl rfl rfl (by decide +kernel) ⟨Nat.le_of_ble_eq_true rfl, Nat.le_of_ble_eq_true rfl⟩) (n_preV C hP hS [18, 19, 20, 21, 22, 23, 24, 25] sub_xW_rW_18 (by decide) rfl (va_recv C.2.2.2.2.1 hP (ci := 12) (q0 := 18) rfl rfl)) rfl rfl hl.1 rfl (lv_room (Nat.le_of_ble_eq_true rfl)) dX0_seekOrder_118 ⟨Nat.le_refl _, Nat.le_refl _⟩) xW_av rfl rfl mg_xW_rW_18 (fun H locs hP hS => ?_)
      obtain ⟨u10104, hR, hE⟩ := it_b hE
      have hJ155u10104 : ∀ (H : Heap) (locs : List Loc) (ls : Array Slot), va_P G.1 vwCl (xW G.2 ad v_latestFault u10104.1 u10104.2.1 v_noticedBy u10104.2.2.1 u10104.2.2.2.1 u10104.2.2.2.2.1 v_imaged v_shelves v_refusals v_ran v_bodies u10104.2.2.2.2.2.1 u10104.2.2.2.2.2.2.1 u10104.2.2.2.2.2.2.2.1 u10104.2.2.2.2.2.2.2.2.1 u10104.2.2.2.2.2.2.2.2.2.1 u10104.2.2.2.2.2.2.2.2.2.2 v_weight_a1 v_fright_a1 v_age_a1 v_asked_a1 v_weight_a2 v_fright_a2 v_age_a2 v_asked_a2 v_weight_a3 v_fright_a3 v_age_a3 v_asked_a3 v_weight_a4 v_fright_a4 v_age_a4 v_asked_a4 v_many v_pets v_last v_seed v_weight v_fright v_age v_asked v_homes v_marks v_had v_allergic v_deaths) H → va_S (nA (xWV ad)) s.heap H locs → lv_has ls 5 [(0, .ref (ad 0)), (1, .int x1), (2, .int x2), (3, .int x3), (4, .int x4)] → W p l e ({ frames := 8, cells := 0, slots := 0, locals := 177 } : Room) s m args below meth c H locs 0 0 Q (F0 m 155 ls []) := by
        intro H locs ls hP hS hl
        refine lv_iinc (v := (x4 + 1)) (lv' := [(4, .int (x4 + 1)), (0, .ref (ad 0)), (1, .int x1), (2, .int x2), (3, .int x3)]) C.1 C.2.1 dX0_seekOrder_155 hl (k := 4) rfl rfl (by decide) rfl (fun ls hl => ?_)
        refine lv_goto (tgt := 100) C.1 C.2.1 dX0_seekOrder_158 (by decide) ?_
        exact ih (x4 + 1) u10104.1 u10104.2.1 u10104.2.2.1 u10104.2.2.2.1 u10104.2.2.2.2.1 u10104.2.2.2.2.2.1 u10104.2.2.2.2.2.2.1 u10104.2.2.2.2.2.2.2.1 u10104.2.2.2.2.2.2.2.2.1 u10104.2.2.2.2.2.2.2.2.2.1 u10104.2.2.2.2.2.2.2.2.2.2 _ _ _ hE hP hS (lv_sub hl [1, 2, 3, 4, 0] rfl) hX
      have hE := hR
      refine lv_if_eq (tgt := 155) C.1 C.2.1 dX0_seekOrder_121 (by decide) (fun c10103 => ?_) (fun c10103 => ?_)
      · have hE := it_t c10103 hE
        obtain rfl := Option.some.inj hE
        exact hJ155u10104 H locs ls hP hS (lv_sub hl [0, 1, 2, 3, 4] rfl)
      · have hE := it_f c10103 hE
        refine lv_iload_n C.1 C.2.1 dX0_seekOrder_124 rfl (lv_at hl 2 rfl) ?_
        refine lv_iload C.1 C.2.1 dX0_seekOrder_125 (lv_at hl 4 rfl) ?_
        refine lv_ishr C.1 C.2.1 dX0_seekOrder_127 ?_
        refine lv_iconst (v := 1) C.1 C.2.1 dX0_seekOrder_128 (by decide) ?_
        refine lv_iand C.1 C.2.1 dX0_seekOrder_129 ?_
        refine lv_if_ne (tgt := 155) C.1 C.2.1 dX0_seekOrder_130 (by decide) (fun c10105 => ?_) (fun c10105 => ?_)
        · have hE := it_f c10105 hE
          obtain rfl := Option.some.inj hE
          exact hJ155u10104 H locs ls hP hS (lv_sub hl [0, 1, 2, 3, 4] rfl)
        · have hE := it_t c10105 hE
          refine lv_aload_n C.1 C.2.1 dX0_seekOrder_133 rfl (lv_at hl 0 rfl) ?_
          refine xWg_0_4 q242 C hP dX0_seekOrder_134 ?_
          refine lv_iload_n C.1 C.2.1 dX0_seekOrder_137 rfl (lv_at hl 1 rfl) ?_
          refine lv_iload C.1 C.2.1 dX0_seekOrder_138 (lv_at hl 4 rfl) ?_
          obtain ⟨g10106, hE⟩ := it_g hE
          refine xWs_7 C hP hS (gi_in g10106) dX0_seekOrder_140 (fun H locs hP hS => ?_)
          refine lv_aload_n C.1 C.2.1 dX0_seekOrder_141 rfl (lv_at hl 0 rfl) ?_
          refine lv_iload_n C.1 C.2.1 dX0_seekOrder_142 rfl (lv_at hl 1 rfl) ?_
          refine lv_iconst (v := 1) C.1 C.2.1 dX0_seekOrder_143 (by decide) ?_
          refine lv_iadd C.1 C.2.1 dX0_seekOrder_144 ?_
          refine lv_iload_n C.1 C.2.1 dX0_seekOrder_145 rfl (lv_at hl 2 rfl) ?_
          refine lv_iconst (v := 1) C.1 C.2.1 dX0_seekOrder_146 (by decide) ?_
          refine lv_iload C.1 C.2.1 dX0_seekOrder_147 (lv_at hl 4 rfl) ?_
          refine lv_ishl C.1 C.2.1 dX0_seekOrder_149 ?_
          refine lv_ior C.1 C.2.1 dX0_seekOrder_150 ?_
          refine lv_iload_n C.1 C.2.1 dX0_seekOrder_151 rfl (lv_at hl 3 rfl) ?_
          obtain ⟨r10107, hr10107, hE⟩ := it_b hE
          refine n_afterS C.2.2.2.2.2.2.2.1 hS (va_runV (As := [.int (x1 + 1), .int (x2 ||| (1 <<< (x4 &&& 31))), .int x3]) (rest := []) ⟨C.1, C.2.1, hml, C.2.2.1, C.2.2.2.1⟩ (metC_HW_seekOrder_1 l G ad pl hk hb _ _ _ _ _ _ _ _ _ _ _ _ _ _ _ _ _ _ _ _ _ _ _ _ _ _ _ _ _ _ _ _ _ _ _ _ _ _ _ _ _ _ _ _ _ _ _ hom (x1 + 1) (x2 ||| (1 <<< (x4 &&& 31))) x3  r10107 hr10107) (cwV (C := RX0) 3 C.2.2.2.1 (lw_V q1131 q1133 qs27 q80 q1134) rfl rfl rfl (by decide +kernel) ⟨Nat.le_of_ble_eq_true rfl, Nat.le_of_ble_eq_true rfl⟩) (n_preV0 C hP hS (va_recv C.2.2.2.2.1 hP (ci := 16) (q0 := 0) rfl rfl)) rfl rfl hl.1 rfl (lv_room (Nat.le_of_ble_eq_true rfl)) dX0_seekOrder_152 ⟨Nat.le_refl _, Nat.le_refl _⟩) (fun H locs hP hS => ?_)
          obtain rfl := Option.some.inj hE
          exact hJ155u10104 H locs ls hP hS (lv_sub hl [0, 1, 2, 3, 4] rfl)
set_option maxHeartbeats 4000000 in
theorem metC_HW_seekOrder_2 (l : Launch) (G : kG) (ad : Nat → Nat) (pl : va_W) (hk : Nat → Nat) (hb : Nat → Int32) (v_latestFault : Int32) (v_died : Int32) (v_leastWeight : Int32) (v_noticedBy : Int32) (v_noticed : Int32) (v_orderDied : Int32) (v_orderLeast : Int32) (v_imaged : Option Nat) (v_shelves : Nat → Option Nat) (v_refusals : Nat → Int32) (v_ran : Int32) (v_bodies : Nat → Int32) (v_tweight : Int32) (v_tfright : Int32) (v_tage : Int32) (v_tasked : Nat → Int32) (v_told : Nat → Int32) (v_bestRow : Nat → Int32) (v_weight_a1 : Int32) (v_fright_a1 : Int32) (v_age_a1 : Int32) (v_asked_a1 : Nat → Int32) (v_weight_a2 : Int32) (v_fright_a2 : Int32) (v_age_a2 : Int32) (v_asked_a2 : Nat → Int32) (v_weight_a3 : Int32) (v_fright_a3 : Int32) (v_age_a3 : Int32) (v_asked_a3 : Nat → Int32) (v_weight_a4 : Int32) (v_fright_a4 : Int32) (v_age_a4 : Int32) (v_asked_a4 : Nat → Int32) (v_many : Int32) (v_pets : Int32) (v_last : Int32) (v_seed : Int32) (v_weight : Int32) (v_fright : Int32) (v_age : Int32) (v_asked : Nat → Int32) (v_homes : Nat → Option Nat) (v_marks : Nat → Int32) (v_had : Nat → Int32) (v_allergic : Nat → Int32) (v_deaths : Nat → Int32) (hom : homOK v_homes v_many hk hb pl) (p1 : Int32) (p2 : Int32) (p3 : Int32) (res : Int32 × Int32 × Int32 × Int32 × Int32 × Int32 × Int32 × Int32 × (Nat → Int32) × (Nat → Int32) × (Nat → Int32)) (hE : sC_HW_seekOrder_2 v_died v_leastWeight v_noticedBy v_noticed v_orderDied v_orderLeast v_tweight v_tfright v_tage v_tasked v_told v_bestRow v_many v_weight v_fright v_age v_asked v_homes v_allergic hk hb p1 p2 p3 = some res) : Met l yX0_seekOrder (ws_ yX0_seekOrder cX0_seekOrder 5 none) ({ frames := 8, cells := 0, slots := 0, locals := 177 } : Room) (nPc G (xW G.2 ad v_latestFault v_died v_leastWeight v_noticedBy v_noticed v_orderDied v_orderLeast v_imaged v_shelves v_refusals v_ran v_bodies v_tweight v_tfright v_tage v_tasked v_told v_bestRow v_weight_a1 v_fright_a1 v_age_a1 v_asked_a1 v_weight_a2 v_fright_a2 v_age_a2 v_asked_a2 v_weight_a3 v_fright_a3 v_age_a3 v_asked_a3 v_weight_a4 v_fright_a4 v_age_a4 v_asked_a4 v_many v_pets v_last v_seed v_weight v_fright v_age v_asked v_homes v_marks v_had v_allergic v_deaths) pl (xWV ad) [.ref (ad 0), .int p1, .int p2, .int p3]) (nQc G (xW G.2 ad v_latestFault res.1 res.2.1 v_noticedBy res.2.2.1 res.2.2.2.1 res.2.2.2.2.1 v_imaged v_shelves v_refusals v_ran v_bodies res.2.2.2.2.2.1 res.2.2.2.2.2.2.1 res.2.2.2.2.2.2.2.1 res.2.2.2.2.2.2.2.2.1 res.2.2.2.2.2.2.2.2.2.1 res.2.2.2.2.2.2.2.2.2.2 v_weight_a1 v_fright_a1 v_age_a1 v_asked_a1 v_weight_a2 v_fright_a2 v_age_a2 v_asked_a2 v_weight_a3 v_fright_a3 v_age_a3 v_asked_a3 v_weight_a4 v_fright_a4 v_age_a4 v_asked_a4 v_many v_pets v_last v_seed v_weight v_fright v_age v_asked v_homes v_marks v_had v_allergic v_deaths) (xWV ad) none) 0 0 (nA (xWV ad)) := by
  refine n_ofW (own := RX0) (by decide) rfl (Nat.le_of_ble_eq_true rfl) ?_
  intro p e s m args below meth c ls C hml hP hS hl hr hlocks
  have hl : lv_has ls 5 [(0, .ref (ad 0)), (1, .int p1), (2, .int p2), (3, .int p3)] := hl
  obtain ⟨Q, hQ⟩ : ∃ Q, Q = MQ below (nQc G (xW G.2 ad v_latestFault res.1 res.2.1 v_noticedBy res.2.2.1 res.2.2.2.1 res.2.2.2.2.1 v_imaged v_shelves v_refusals v_ran v_bodies res.2.2.2.2.2.1 res.2.2.2.2.2.2.1 res.2.2.2.2.2.2.2.1 res.2.2.2.2.2.2.2.2.1 res.2.2.2.2.2.2.2.2.2.1 res.2.2.2.2.2.2.2.2.2.2 v_weight_a1 v_fright_a1 v_age_a1 v_asked_a1 v_weight_a2 v_fright_a2 v_age_a2 v_asked_a2 v_weight_a3 v_fright_a3 v_age_a3 v_asked_a3 v_weight_a4 v_fright_a4 v_age_a4 v_asked_a4 v_many v_pets v_last v_seed v_weight v_fright v_age v_asked v_homes v_marks v_had v_allergic v_deaths) (xWV ad) none) args s 0 0 (nA (xWV ad)) := ⟨_, rfl⟩
  rw [← hQ]
  have hret : ∀ (pc : Nat) (ls : Array Slot) (H : Heap) (locs : List Loc), decode cX0_seekOrder pc = .ok (.return_, 1) → va_P G.1 vwCl (xW G.2 ad v_latestFault res.1 res.2.1 v_noticedBy res.2.2.1 res.2.2.2.1 res.2.2.2.2.1 v_imaged v_shelves v_refusals v_ran v_bodies res.2.2.2.2.2.1 res.2.2.2.2.2.2.1 res.2.2.2.2.2.2.2.1 res.2.2.2.2.2.2.2.2.1 res.2.2.2.2.2.2.2.2.2.1 res.2.2.2.2.2.2.2.2.2.2 v_weight_a1 v_fright_a1 v_age_a1 v_asked_a1 v_weight_a2 v_fright_a2 v_age_a2 v_asked_a2 v_weight_a3 v_fright_a3 v_age_a3 v_asked_a3 v_weight_a4 v_fright_a4 v_age_a4 v_asked_a4 v_many v_pets v_last v_seed v_weight v_fright v_age v_asked v_homes v_marks v_had v_allergic v_deaths) H → va_S (nA (xWV ad)) s.heap H locs → W p l e ({ frames := 8, cells := 0, slots := 0, locals := 177 } : Room) s m args below meth c H locs 0 0 Q (F0 m pc ls []) := by
    intro pc ls H locs hd hP hS
    rw [hQ]
    exact n_vret C hr hlocks hd hP hS
  clear hQ
  obtain ⟨H, hH⟩ : ∃ H, H = s.heap := ⟨_, rfl⟩
  obtain ⟨locs, hlo⟩ : ∃ locs : List Loc, locs = [] := ⟨_, rfl⟩
  have hP : va_P G.1 vwCl (xW G.2 ad v_latestFault v_died v_leastWeight v_noticedBy v_noticed v_orderDied v_orderLeast v_imaged v_shelves v_refusals v_ran v_bodies v_tweight v_tfright v_tage v_tasked v_told v_bestRow v_weight_a1 v_fright_a1 v_age_a1 v_asked_a1 v_weight_a2 v_fright_a2 v_age_a2 v_asked_a2 v_weight_a3 v_fright_a3 v_age_a3 v_asked_a3 v_weight_a4 v_fright_a4 v_age_a4 v_asked_a4 v_many v_pets v_last v_seed v_weight v_fright v_age v_asked v_homes v_marks v_had v_allergic v_deaths) H := by rw [hH]; exact hP
  have hS : va_S (nA (xWV ad)) s.heap H locs := by rw [hH, hlo]; exact hS
  suffices hZ : W p l e ({ frames := 8, cells := 0, slots := 0, locals := 177 } : Room) s m args below meth c H locs 0 0 Q (F0 m 0 ls []) by rw [hH, hlo] at hZ; exact hZ
  clear hH hlo
  unfold sC_HW_seekOrder_2 at hE
  refine lv_iload_n C.1 C.2.1 dX0_seekOrder_0 rfl (lv_at hl 1 rfl) ?_
  refine lv_iload_n C.1 C.2.1 dX0_seekOrder_1 rfl (lv_at hl 3 rfl) ?_
  refine lv_icmp_ne (tgt := 97) C.1 C.2.1 dX0_seekOrder_2 (by decide) (fun c1 => ?_) (fun c1 => ?_)
  · have hE := it_f c1 hE
    refine lv_iconst (v := 0) C.1 C.2.1 dX0_seekOrder_97 (by decide) ?_
    refine lv_istore (lv' := [(4, .int 0), (0, .ref (ad 0)), (1, .int p1), (2, .int p2), (3, .int p3)]) C.1 C.2.1 dX0_seekOrder_98 hl (by decide) rfl (fun ls hl => ?_)
    obtain ⟨u2, hu2, hE⟩ := it_b hE
    refine wC_HW_seekOrder_2_h100 C hml  hom p1 p2 p3 u2 2000 0 v_died v_leastWeight v_noticed v_orderDied v_orderLeast v_tweight v_tfright v_tage v_tasked v_told v_bestRow H locs ls hu2 hP hS (lv_sub hl [1, 2, 3, 4, 0] rfl) (fun H locs ls hP hS hl => ?_)
    obtain rfl := Option.some.inj hE
    exact hret _ _ _ _ dX0_seekOrder_161 hP hS
  · have hE := it_t c1 hE
    refine lv_aload_n C.1 C.2.1 dX0_seekOrder_5 rfl (lv_at hl 0 rfl) ?_
    refine xWg_0_3 q241 C hP dX0_seekOrder_6 ?_
    refine lv_aload_n C.1 C.2.1 dX0_seekOrder_9 rfl (lv_at hl 0 rfl) ?_
    refine xWg_0_6 q244 C hP dX0_seekOrder_10 ?_
    refine xWg_18_4 q191 C hP dX0_seekOrder_13 ?_
    obtain ⟨r3, hr3, hE⟩ := it_b hE
    refine n_after [5, 6, 19, 20] C.2.2.2.2.2.1 C.2.2.2.2.2.2.2.1 hP hS (va_runV (As := [.ref (ad 19)]) (rest := []) ⟨C.1, C.2.1, hml, C.2.2.1, C.2.2.2.1⟩ (metC_Pet_take l G (fun i => ad (if i < 2 then 5 + i else 19 + (i - 2))) pl _ _ _ _ _ _ _ _   r3 hr3) (cwV (C := RX2) 1 C.2.2.2.1 (lw_V q1076 q796 q797 q82 q798) rfl rfl rfl (by decide +kernel) ⟨Nat.le_of_ble_eq_true rfl, Nat.le_of_ble_eq_true rfl⟩) (n_preV C hP hS [5, 6, 19, 20] sub_xW_ppW_5_19 (by decide) rfl (va_recv C.2.2.2.2.1 hP (ci := 11) (q0 := 5) rfl rfl)) rfl rfl hl.1 rfl (lv_room (Nat.le_of_ble_eq_true rfl)) dX0_seekOrder_16 ⟨Nat.le_refl _, Nat.le_refl _⟩) xW_av rfl rfl mg_xW_ppW_5_19 (fun H locs hP hS => ?_)
    refine lv_pop C.1 C.2.1 dX0_seekOrder_19 rfl ?_
    refine lv_aload_n C.1 C.2.1 dX0_seekOrder_20 rfl (lv_at hl 0 rfl) ?_
    refine lv_iload_n C.1 C.2.1 dX0_seekOrder_21 rfl (lv_at hl 1 rfl) ?_
    obtain ⟨r4, hr4, hE⟩ := it_b hE
    refine n_afterS C.2.2.2.2.2.2.2.1 hS (va_runV (As := [.int p1]) (rest := []) ⟨C.1, C.2.1, hml, C.2.2.1, C.2.2.2.1⟩ (metC_HW_goesRow l G ad pl hk hb _ _ _ _ _ _ _ _ _ _ _ _ _ _ _ _ _ _ _ _ _ _ _ _ _ _ _ _ _ _ _ _ _ _ _ _ _ _ _ _ _ _ _ _ _ _ _ hom p1  r4 hr4) (cwV (C := RX0) 1 C.2.2.2.1 (lw_V q1077 q1079 qs23 q80 q1080) rfl rfl rfl (by decide +kernel) ⟨Nat.le_of_ble_eq_true rfl, Nat.le_of_ble_eq_true rfl⟩) (n_preV0 C hP hS (va_recv C.2.2.2.2.1 hP (ci := 16) (q0 := 0) rfl rfl)) rfl rfl hl.1 rfl (lv_room (Nat.le_of_ble_eq_true rfl)) dX0_seekOrder_22 ⟨Nat.le_refl _, Nat.le_refl _⟩) (fun H locs hP hS => ?_)
    refine lv_aload_n C.1 C.2.1 dX0_seekOrder_25 rfl (lv_at hl 0 rfl) ?_
    refine xWg_0_13 q251 C hP dX0_seekOrder_26 ?_
    refine lv_iconst (v := (-1)) C.1 C.2.1 dX0_seekOrder_29 (by decide) ?_
    refine lv_icmp_eq (tgt := 66) C.1 C.2.1 dX0_seekOrder_30 (by decide) (fun c5 => ?_) (fun c5 => ?_)
    · have hE := it_t c5 hE
      refine lv_aload_n C.1 C.2.1 dX0_seekOrder_66 rfl (lv_at hl 0 rfl) ?_
      refine lv_aload_n C.1 C.2.1 dX0_seekOrder_67 rfl (lv_at hl 0 rfl) ?_
      refine xWg_0_9 q247 C hP dX0_seekOrder_68 ?_
      refine xWp_0_13 q251 C hP hS dX0_seekOrder_71 (fun H locs hP hS => ?_)
      refine lv_aload_n C.1 C.2.1 dX0_seekOrder_74 rfl (lv_at hl 0 rfl) ?_
      refine lv_aload_n C.1 C.2.1 dX0_seekOrder_75 rfl (lv_at hl 0 rfl) ?_
      refine xWg_0_10 q248 C hP dX0_seekOrder_76 ?_
      refine xWp_0_14 q252 C hP hS dX0_seekOrder_79 (fun H locs hP hS => ?_)
      refine lv_aload_n C.1 C.2.1 dX0_seekOrder_82 rfl (lv_at hl 0 rfl) ?_
      refine xWg_0_4 q242 C hP dX0_seekOrder_83 ?_
      refine lv_iconst (v := 0) C.1 C.2.1 dX0_seekOrder_86 (by decide) ?_
      refine lv_aload_n C.1 C.2.1 dX0_seekOrder_87 rfl (lv_at hl 0 rfl) ?_
      refine xWg_0_5 q243 C hP dX0_seekOrder_88 ?_
      refine lv_iconst (v := 0) C.1 C.2.1 dX0_seekOrder_91 (by decide) ?_
      refine lv_iload_n C.1 C.2.1 dX0_seekOrder_92 rfl (lv_at hl 1 rfl) ?_
      obtain ⟨g6, hE⟩ := it_g hE
      obtain ⟨g7, hE⟩ := it_g hE
      obtain ⟨g8, hE⟩ := it_g hE
      refine va_copyi C.1 C.2.1 (by rw [hml]; exact hl.1.symm) C.2.2.1 (C.2.2.2.1 _ q551) (C.2.2.2.1 _ q553) (C.2.2.2.1 _ q552) (C.2.2.2.1 _ q100) C.2.2.2.2.1 hP (nD_of (nd_left C.2.2.2.2.2.1) C.2.2.2.2.2.2.2.1 xW_av) hS 7 8 0 0 rfl rfl rfl rfl rfl (by decide) (by decide) g6 g7 g8 (fun _ _ => rfl) (Nat.le_of_ble_eq_true rfl) (Nat.le_of_ble_eq_true rfl) dX0_seekOrder_93 (fun H locs hP _ hS => ?_)
      obtain rfl := Option.some.inj hE
      exact hret _ _ _ _ dX0_seekOrder_96 hP hS
    · have hE := it_f c5 hE
      refine lv_aload_n C.1 C.2.1 dX0_seekOrder_33 rfl (lv_at hl 0 rfl) ?_
      refine xWg_0_9 q247 C hP dX0_seekOrder_34 ?_
      refine lv_aload_n C.1 C.2.1 dX0_seekOrder_37 rfl (lv_at hl 0 rfl) ?_
      refine xWg_0_13 q251 C hP dX0_seekOrder_38 ?_
      refine lv_icmp_lt (tgt := 66) C.1 C.2.1 dX0_seekOrder_41 (by decide) (fun c9 => ?_) (fun c9 => ?_)
      · have hE := it_t c9 hE
        refine lv_aload_n C.1 C.2.1 dX0_seekOrder_66 rfl (lv_at hl 0 rfl) ?_
        refine lv_aload_n C.1 C.2.1 dX0_seekOrder_67 rfl (lv_at hl 0 rfl) ?_
        refine xWg_0_9 q247 C hP dX0_seekOrder_68 ?_
        refine xWp_0_13 q251 C hP hS dX0_seekOrder_71 (fun H locs hP hS => ?_)
        refine lv_aload_n C.1 C.2.1 dX0_seekOrder_74 rfl (lv_at hl 0 rfl) ?_
        refine lv_aload_n C.1 C.2.1 dX0_seekOrder_75 rfl (lv_at hl 0 rfl) ?_
        refine xWg_0_10 q248 C hP dX0_seekOrder_76 ?_
        refine xWp_0_14 q252 C hP hS dX0_seekOrder_79 (fun H locs hP hS => ?_)
        refine lv_aload_n C.1 C.2.1 dX0_seekOrder_82 rfl (lv_at hl 0 rfl) ?_
        refine xWg_0_4 q242 C hP dX0_seekOrder_83 ?_
        refine lv_iconst (v := 0) C.1 C.2.1 dX0_seekOrder_86 (by decide) ?_
        refine lv_aload_n C.1 C.2.1 dX0_seekOrder_87 rfl (lv_at hl 0 rfl) ?_
        refine xWg_0_5 q243 C hP dX0_seekOrder_88 ?_
        refine lv_iconst (v := 0) C.1 C.2.1 dX0_seekOrder_91 (by decide) ?_
        refine lv_iload_n C.1 C.2.1 dX0_seekOrder_92 rfl (lv_at hl 1 rfl) ?_
        obtain ⟨g10, hE⟩ := it_g hE
        obtain ⟨g11, hE⟩ := it_g hE
        obtain ⟨g12, hE⟩ := it_g hE
        refine va_copyi C.1 C.2.1 (by rw [hml]; exact hl.1.symm) C.2.2.1 (C.2.2.2.1 _ q551) (C.2.2.2.1 _ q553) (C.2.2.2.1 _ q552) (C.2.2.2.1 _ q100) C.2.2.2.2.1 hP (nD_of (nd_left C.2.2.2.2.2.1) C.2.2.2.2.2.2.2.1 xW_av) hS 7 8 0 0 rfl rfl rfl rfl rfl (by decide) (by decide) g10 g11 g12 (fun _ _ => rfl) (Nat.le_of_ble_eq_true rfl) (Nat.le_of_ble_eq_true rfl) dX0_seekOrder_93 (fun H locs hP _ hS => ?_)
        obtain rfl := Option.some.inj hE
        exact hret _ _ _ _ dX0_seekOrder_96 hP hS
      · have hE := it_f c9 hE
        refine lv_aload_n C.1 C.2.1 dX0_seekOrder_44 rfl (lv_at hl 0 rfl) ?_
        refine xWg_0_9 q247 C hP dX0_seekOrder_45 ?_
        refine lv_aload_n C.1 C.2.1 dX0_seekOrder_48 rfl (lv_at hl 0 rfl) ?_
        refine xWg_0_13 q251 C hP dX0_seekOrder_49 ?_
        refine lv_icmp_ne (tgt := 96) C.1 C.2.1 dX0_seekOrder_52 (by decide) (fun c13 => ?_) (fun c13 => ?_)
        · have hE := it_f c13 hE
          obtain rfl := Option.some.inj hE
          exact hret _ _ _ _ dX0_seekOrder_96 hP hS
        · have hE := it_t c13 hE
          refine lv_aload_n C.1 C.2.1 dX0_seekOrder_55 rfl (lv_at hl 0 rfl) ?_
          refine xWg_0_10 q248 C hP dX0_seekOrder_56 ?_
          refine lv_aload_n C.1 C.2.1 dX0_seekOrder_59 rfl (lv_at hl 0 rfl) ?_
          refine xWg_0_14 q252 C hP dX0_seekOrder_60 ?_
          refine lv_icmp_le (tgt := 96) C.1 C.2.1 dX0_seekOrder_63 (by decide) (fun c14 => ?_) (fun c14 => ?_)
          · have hE := it_t c14 hE
            obtain rfl := Option.some.inj hE
            exact hret _ _ _ _ dX0_seekOrder_96 hP hS
          · have hE := it_f c14 hE
            refine lv_aload_n C.1 C.2.1 dX0_seekOrder_66 rfl (lv_at hl 0 rfl) ?_
            refine lv_aload_n C.1 C.2.1 dX0_seekOrder_67 rfl (lv_at hl 0 rfl) ?_
            refine xWg_0_9 q247 C hP dX0_seekOrder_68 ?_
            refine xWp_0_13 q251 C hP hS dX0_seekOrder_71 (fun H locs hP hS => ?_)
            refine lv_aload_n C.1 C.2.1 dX0_seekOrder_74 rfl (lv_at hl 0 rfl) ?_
            refine lv_aload_n C.1 C.2.1 dX0_seekOrder_75 rfl (lv_at hl 0 rfl) ?_
            refine xWg_0_10 q248 C hP dX0_seekOrder_76 ?_
            refine xWp_0_14 q252 C hP hS dX0_seekOrder_79 (fun H locs hP hS => ?_)
            refine lv_aload_n C.1 C.2.1 dX0_seekOrder_82 rfl (lv_at hl 0 rfl) ?_
            refine xWg_0_4 q242 C hP dX0_seekOrder_83 ?_
            refine lv_iconst (v := 0) C.1 C.2.1 dX0_seekOrder_86 (by decide) ?_
            refine lv_aload_n C.1 C.2.1 dX0_seekOrder_87 rfl (lv_at hl 0 rfl) ?_
            refine xWg_0_5 q243 C hP dX0_seekOrder_88 ?_
            refine lv_iconst (v := 0) C.1 C.2.1 dX0_seekOrder_91 (by decide) ?_
            refine lv_iload_n C.1 C.2.1 dX0_seekOrder_92 rfl (lv_at hl 1 rfl) ?_
            obtain ⟨g15, hE⟩ := it_g hE
            obtain ⟨g16, hE⟩ := it_g hE
            obtain ⟨g17, hE⟩ := it_g hE
            refine va_copyi C.1 C.2.1 (by rw [hml]; exact hl.1.symm) C.2.2.1 (C.2.2.2.1 _ q551) (C.2.2.2.1 _ q553) (C.2.2.2.1 _ q552) (C.2.2.2.1 _ q100) C.2.2.2.2.1 hP (nD_of (nd_left C.2.2.2.2.2.1) C.2.2.2.2.2.2.2.1 xW_av) hS 7 8 0 0 rfl rfl rfl rfl rfl (by decide) (by decide) g15 g16 g17 (fun _ _ => rfl) (Nat.le_of_ble_eq_true rfl) (Nat.le_of_ble_eq_true rfl) dX0_seekOrder_93 (fun H locs hP _ hS => ?_)
            obtain rfl := Option.some.inj hE
            exact hret _ _ _ _ dX0_seekOrder_96 hP hS
def sC_HW_seekOrder_3_h100 (x1 : Int32) (x2 : Int32) (x3 : Int32) (v_noticedBy : Int32) (v_many : Int32) (v_weight : Int32) (v_fright : Int32) (v_age : Int32) (v_asked : Nat → Int32) (v_homes : Nat → Option Nat) (v_allergic : Nat → Int32) (hk : Nat → Nat) (hb : Nat → Int32) : Nat → Int32 → Int32 → Int32 → Int32 → Int32 → Int32 → Int32 → Int32 → Int32 → (Nat → Int32) → (Nat → Int32) → (Nat → Int32) → Option (Int32 × Int32 × Int32 × Int32 × Int32 × Int32 × Int32 × Int32 × (Nat → Int32) × (Nat → Int32) × (Nat → Int32))
  | 0, _, _, _, _, _, _, _, _, _, _, _, _ => none
  | fuel + 1, x4, v_died, v_leastWeight, v_noticed, v_orderDied, v_orderLeast, v_tweight, v_tfright, v_tage, v_tasked, v_told, v_bestRow =>
    if v_many ≤ x4 then
      some (v_died, v_leastWeight, v_noticed, v_orderDied, v_orderLeast, v_tweight, v_tfright, v_tage, v_tasked, v_told, v_bestRow)
    else
      (sC_Room_may v_many v_allergic x4).bind fun r10102 =>
      @Option.bind (Int32 × Int32 × Int32 × Int32 × Int32 × Int32 × Int32 × Int32 × (Nat → Int32) × (Nat → Int32) × (Nat → Int32)) _ (
        if r10102 = 0 then
          some (v_died, v_leastWeight, v_noticed, v_orderDied, v_orderLeast, v_tweight, v_tfright, v_tage, v_tasked, v_told, v_bestRow)
        else
          if ((x2 >>> (x4 &&& 31)) &&& 1) = 0 then
            if gi x1 40 then
            (sC_HW_seekOrder_2 v_died v_leastWeight v_noticedBy v_noticed v_orderDied v_orderLeast v_tweight v_tfright v_tage v_tasked (upd v_told (x1).toNatClampNeg x4) v_bestRow v_many v_weight v_fright v_age v_asked v_homes v_allergic hk hb (x1 + 1) (x2 ||| (1 <<< (x4 &&& 31))) x3).bind fun r10107 =>
            some (r10107.1, r10107.2.1, r10107.2.2.1, r10107.2.2.2.1, r10107.2.2.2.2.1, r10107.2.2.2.2.2.1, r10107.2.2.2.2.2.2.1, r10107.2.2.2.2.2.2.2.1, r10107.2.2.2.2.2.2.2.2.1, r10107.2.2.2.2.2.2.2.2.2.1, r10107.2.2.2.2.2.2.2.2.2.2)
            else none
          else
            some (v_died, v_leastWeight, v_noticed, v_orderDied, v_orderLeast, v_tweight, v_tfright, v_tage, v_tasked, v_told, v_bestRow)) fun u10104 =>
      sC_HW_seekOrder_3_h100 x1 x2 x3 v_noticedBy v_many v_weight v_fright v_age v_asked v_homes v_allergic hk hb fuel (x4 + 1) u10104.1 u10104.2.1 u10104.2.2.1 u10104.2.2.2.1 u10104.2.2.2.2.1 u10104.2.2.2.2.2.1 u10104.2.2.2.2.2.2.1 u10104.2.2.2.2.2.2.2.1 u10104.2.2.2.2.2.2.2.2.1 u10104.2.2.2.2.2.2.2.2.2.1 u10104.2.2.2.2.2.2.2.2.2.2
def sC_HW_seekOrder_3 (v_died : Int32) (v_leastWeight : Int32) (v_noticedBy : Int32) (v_noticed : Int32) (v_orderDied : Int32) (v_orderLeast : Int32) (v_tweight : Int32) (v_tfright : Int32) (v_tage : Int32) (v_tasked : Nat → Int32) (v_told : Nat → Int32) (v_bestRow : Nat → Int32) (v_many : Int32) (v_weight : Int32) (v_fright : Int32) (v_age : Int32) (v_asked : Nat → Int32) (v_homes : Nat → Option Nat) (v_allergic : Nat → Int32) (hk : Nat → Nat) (hb : Nat → Int32) (p1 : Int32) (p2 : Int32) (p3 : Int32) : Option (Int32 × Int32 × Int32 × Int32 × Int32 × Int32 × Int32 × Int32 × (Nat → Int32) × (Nat → Int32) × (Nat → Int32)) :=
  if p1 = p3 then
    (sC_Pet_take v_tweight v_tfright v_tage v_tasked v_weight v_fright v_age v_asked).bind fun r3 =>
    (sC_HW_goesRow v_died v_leastWeight v_noticedBy v_noticed r3.1 r3.2.1 r3.2.2.1 r3.2.2.2 v_told v_many v_homes hk hb p1).bind fun r4 =>
    if v_orderDied = (-1) then
      if ¬ p1 < 0 then
      if 0 + (p1).toNatClampNeg ≤ 40 then
      if 0 + (p1).toNatClampNeg ≤ 6 then
      some (r4.1, r4.2.1, r4.2.2.1, r4.1, r4.2.1, r4.2.2.2.1, r4.2.2.2.2.1, r4.2.2.2.2.2, r3.2.2.2, v_told, (va_cpy v_told v_bestRow 0 0 (p1).toNatClampNeg))
      else none
      else none
      else none
    else
      if r4.1 < v_orderDied then
        if ¬ p1 < 0 then
        if 0 + (p1).toNatClampNeg ≤ 40 then
        if 0 + (p1).toNatClampNeg ≤ 6 then
        some (r4.1, r4.2.1, r4.2.2.1, r4.1, r4.2.1, r4.2.2.2.1, r4.2.2.2.2.1, r4.2.2.2.2.2, r3.2.2.2, v_told, (va_cpy v_told v_bestRow 0 0 (p1).toNatClampNeg))
        else none
        else none
        else none
      else
        if r4.1 = v_orderDied then
          if r4.2.1 ≤ v_orderLeast then
            some (r4.1, r4.2.1, r4.2.2.1, v_orderDied, v_orderLeast, r4.2.2.2.1, r4.2.2.2.2.1, r4.2.2.2.2.2, r3.2.2.2, v_told, v_bestRow)
          else
            if ¬ p1 < 0 then
            if 0 + (p1).toNatClampNeg ≤ 40 then
            if 0 + (p1).toNatClampNeg ≤ 6 then
            some (r4.1, r4.2.1, r4.2.2.1, r4.1, r4.2.1, r4.2.2.2.1, r4.2.2.2.2.1, r4.2.2.2.2.2, r3.2.2.2, v_told, (va_cpy v_told v_bestRow 0 0 (p1).toNatClampNeg))
            else none
            else none
            else none
        else
          some (r4.1, r4.2.1, r4.2.2.1, v_orderDied, v_orderLeast, r4.2.2.2.1, r4.2.2.2.2.1, r4.2.2.2.2.2, r3.2.2.2, v_told, v_bestRow)
  else
    (sC_HW_seekOrder_3_h100 p1 p2 p3 v_noticedBy v_many v_weight v_fright v_age v_asked v_homes v_allergic hk hb 2000 0 v_died v_leastWeight v_noticed v_orderDied v_orderLeast v_tweight v_tfright v_tage v_tasked v_told v_bestRow).bind fun u2 =>
    some (u2.1, u2.2.1, u2.2.2.1, u2.2.2.2.1, u2.2.2.2.2.1, u2.2.2.2.2.2.1, u2.2.2.2.2.2.2.1, u2.2.2.2.2.2.2.2.1, u2.2.2.2.2.2.2.2.2.1, u2.2.2.2.2.2.2.2.2.2.1, u2.2.2.2.2.2.2.2.2.2.2)
set_option maxHeartbeats 4000000 in
theorem wC_HW_seekOrder_3_h100 {p : Program} {l : Launch} {e : Env} {s : State} {m : MethodId} {args : Array Value} {below : List Frame} {meth : Method} {c : Code} {Q : State → Prop} {G : kG} {ad : Nat → Nat} {pl : va_W} {hk : Nat → Nat} {hb : Nat → Int32} {v_latestFault : Int32} {v_noticedBy : Int32} {v_imaged : Option Nat} {v_shelves : Nat → Option Nat} {v_refusals : Nat → Int32} {v_ran : Int32} {v_bodies : Nat → Int32} {v_weight_a1 : Int32} {v_fright_a1 : Int32} {v_age_a1 : Int32} {v_asked_a1 : Nat → Int32} {v_weight_a2 : Int32} {v_fright_a2 : Int32} {v_age_a2 : Int32} {v_asked_a2 : Nat → Int32} {v_weight_a3 : Int32} {v_fright_a3 : Int32} {v_age_a3 : Int32} {v_asked_a3 : Nat → Int32} {v_weight_a4 : Int32} {v_fright_a4 : Int32} {v_age_a4 : Int32} {v_asked_a4 : Nat → Int32} {v_many : Int32} {v_pets : Int32} {v_last : Int32} {v_seed : Int32} {v_weight : Int32} {v_fright : Int32} {v_age : Int32} {v_asked : Nat → Int32} {v_homes : Nat → Option Nat} {v_marks : Nat → Int32} {v_had : Nat → Int32} {v_allergic : Nat → Int32} {v_deaths : Nat → Int32} (C : nC p s m args c cX0_seekOrder RX0 G (xWV ad) pl (nA (xWV ad))) (hml : c.maxLocals = 5)  (hom : homOK v_homes v_many hk hb pl) (x1 : Int32) (x2 : Int32) (x3 : Int32) (res : Int32 × Int32 × Int32 × Int32 × Int32 × Int32 × Int32 × Int32 × (Nat → Int32) × (Nat → Int32) × (Nat → Int32)) :
    ∀ (fuel : Nat) (x4 : Int32) (v_died : Int32) (v_leastWeight : Int32) (v_noticed : Int32) (v_orderDied : Int32) (v_orderLeast : Int32) (v_tweight : Int32) (v_tfright : Int32) (v_tage : Int32) (v_tasked : Nat → Int32) (v_told : Nat → Int32) (v_bestRow : Nat → Int32) (H : Heap) (locs : List Loc) (ls : Array Slot), sC_HW_seekOrder_3_h100 x1 x2 x3 v_noticedBy v_many v_weight v_fright v_age v_asked v_homes v_allergic hk hb fuel x4 v_died v_leastWeight v_noticed v_orderDied v_orderLeast v_tweight v_tfright v_tage v_tasked v_told v_bestRow = some res → va_P G.1 vwCl (xW G.2 ad v_latestFault v_died v_leastWeight v_noticedBy v_noticed v_orderDied v_orderLeast v_imaged v_shelves v_refusals v_ran v_bodies v_tweight v_tfright v_tage v_tasked v_told v_bestRow v_weight_a1 v_fright_a1 v_age_a1 v_asked_a1 v_weight_a2 v_fright_a2 v_age_a2 v_asked_a2 v_weight_a3 v_fright_a3 v_age_a3 v_asked_a3 v_weight_a4 v_fright_a4 v_age_a4 v_asked_a4 v_many v_pets v_last v_seed v_weight v_fright v_age v_asked v_homes v_marks v_had v_allergic v_deaths) H → va_S (nA (xWV ad)) s.heap H locs → lv_has ls 5 [(0, .ref (ad 0)), (1, .int x1), (2, .int x2), (3, .int x3), (4, .int x4)] → (∀ (H : Heap) (locs : List Loc) (ls : Array Slot), va_P G.1 vwCl (xW G.2 ad v_latestFault res.1 res.2.1 v_noticedBy res.2.2.1 res.2.2.2.1 res.2.2.2.2.1 v_imaged v_shelves v_refusals v_ran v_bodies res.2.2.2.2.2.1 res.2.2.2.2.2.2.1 res.2.2.2.2.2.2.2.1 res.2.2.2.2.2.2.2.2.1 res.2.2.2.2.2.2.2.2.2.1 res.2.2.2.2.2.2.2.2.2.2 v_weight_a1 v_fright_a1 v_age_a1 v_asked_a1 v_weight_a2 v_fright_a2 v_age_a2 v_asked_a2 v_weight_a3 v_fright_a3 v_age_a3 v_asked_a3 v_weight_a4 v_fright_a4 v_age_a4 v_asked_a4 v_many v_pets v_last v_seed v_weight v_fright v_age v_asked v_homes v_marks v_had v_allergic v_deaths) H → va_S (nA (xWV ad)) s.heap H locs → lv_has ls 5 [] → W p l e ({ frames := 9, cells := 0, slots := 0, locals := 201 } : Room) s m args below meth c H locs 0 0 Q (F0 m 161 ls [])) → W p l e ({ frames := 9, cells := 0, slots := 0, locals := 201 } : Room) s m args below meth c H locs 0 0 Q (F0 m 100 ls []) := by
  intro fuel
  induction fuel with
  | zero =>
    intro x4 v_died v_leastWeight v_noticed v_orderDied v_orderLeast v_tweight v_tfright v_tage v_tasked v_told v_bestRow H locs ls hE
    exact it_n hE
  | succ fuel ih =>
    intro x4 v_died v_leastWeight v_noticed v_orderDied v_orderLeast v_tweight v_tfright v_tage v_tasked v_told v_bestRow H locs ls hE hP hS hl hX
    rw [sC_HW_seekOrder_3_h100] at hE
    refine lv_iload C.1 C.2.1 dX0_seekOrder_100 (lv_at hl 4 rfl) ?_
    refine lv_aload_n C.1 C.2.1 dX0_seekOrder_102 rfl (lv_at hl 0 rfl) ?_
    refine xWg_0_6 q244 C hP dX0_seekOrder_103 ?_
    refine xWg_18_0 q182 C hP dX0_seekOrder_106 ?_
    refine lv_icmp_ge (tgt := 161) C.1 C.2.1 dX0_seekOrder_109 (by decide) (fun c10101 => ?_) (fun c10101 => ?_)
    · have hE := it_t c10101 hE
      obtain rfl := Option.some.inj hE
      exact hX H locs ls hP hS (lv_sub hl [] rfl)
    · have hE := it_f c10101 hE
      refine lv_aload_n C.1 C.2.1 dX0_seekOrder_112 rfl (lv_at hl 0 rfl) ?_
      refine xWg_0_6 q244 C hP dX0_seekOrder_113 ?_
      refine lv_iload C.1 C.2.1 dX0_seekOrder_116 (lv_at hl 4 rfl) ?_
      obtain ⟨r10102, hr10102, hE⟩ := it_b hE
      refine n_after [18, 19, 20, 21, 22, 23, 24, 25] C.2.2.2.2.2.1 C.2.2.2.2.2.2.2.1 hP hS (va_runV (As := [.int x4]) (rest := []) ⟨C.1, C.2.1, hml, C.2.2.1, C.2.2.2.1⟩ (metC_Room_may l G (fun i => ad (18 + i)) pl _ _ _ _ _ _ _ _ _ _ _ _ _ x4  r10102 hr10102) (cwV (C := RX3) 1 C.2.2.2.1 (lw_V q1067 q972 q973 q83 q974) rfl rfl rfl (by decide +kernel) ⟨Nat.le_of_ble_eq_true rfl, Nat.le_of_ble_eq_true rfl⟩) (n_preV C hP hS [18, 19, 20, 21, 22, 23, 24, 25] sub_xW_rW_18 (by decide) rfl (va_recv C.2.2.2.2.1 hP (ci := 12) (q0 := 18) rfl rfl)) rfl rfl hl.1 rfl (lv_room (Nat.le_of_ble_eq_true rfl)) dX0_seekOrder_118 ⟨Nat.le_refl _, Nat.le_refl _⟩) xW_av rfl rfl mg_xW_rW_18 (fun H locs hP hS => ?_)
      obtain ⟨u10104, hR, hE⟩ := it_b hE
      have hJ155u10104 : ∀ (H : Heap) (locs : List Loc) (ls : Array Slot), va_P G.1 vwCl (xW G.2 ad v_latestFault u10104.1 u10104.2.1 v_noticedBy u10104.2.2.1 u10104.2.2.2.1 u10104.2.2.2.2.1 v_imaged v_shelves v_refusals v_ran v_bodies u10104.2.2.2.2.2.1 u10104.2.2.2.2.2.2.1 u10104.2.2.2.2.2.2.2.1 u10104.2.2.2.2.2.2.2.2.1 u10104.2.2.2.2.2.2.2.2.2.1 u10104.2.2.2.2.2.2.2.2.2.2 v_weight_a1 v_fright_a1 v_age_a1 v_asked_a1 v_weight_a2 v_fright_a2 v_age_a2 v_asked_a2 v_weight_a3 v_fright_a3 v_age_a3 v_asked_a3 v_weight_a4 v_fright_a4 v_age_a4 v_asked_a4 v_many v_pets v_last v_seed v_weight v_fright v_age v_asked v_homes v_marks v_had v_allergic v_deaths) H → va_S (nA (xWV ad)) s.heap H locs → lv_has ls 5 [(0, .ref (ad 0)), (1, .int x1), (2, .int x2), (3, .int x3), (4, .int x4)] → W p l e ({ frames := 9, cells := 0, slots := 0, locals := 201 } : Room) s m args below meth c H locs 0 0 Q (F0 m 155 ls []) := by
        intro H locs ls hP hS hl
        refine lv_iinc (v := (x4 + 1)) (lv' := [(4, .int (x4 + 1)), (0, .ref (ad 0)), (1, .int x1), (2, .int x2), (3, .int x3)]) C.1 C.2.1 dX0_seekOrder_155 hl (k := 4) rfl rfl (by decide) rfl (fun ls hl => ?_)
        refine lv_goto (tgt := 100) C.1 C.2.1 dX0_seekOrder_158 (by decide) ?_
        exact ih (x4 + 1) u10104.1 u10104.2.1 u10104.2.2.1 u10104.2.2.2.1 u10104.2.2.2.2.1 u10104.2.2.2.2.2.1 u10104.2.2.2.2.2.2.1 u10104.2.2.2.2.2.2.2.1 u10104.2.2.2.2.2.2.2.2.1 u10104.2.2.2.2.2.2.2.2.2.1 u10104.2.2.2.2.2.2.2.2.2.2 _ _ _ hE hP hS (lv_sub hl [1, 2, 3, 4, 0] rfl) hX
      have hE := hR
      refine lv_if_eq (tgt := 155) C.1 C.2.1 dX0_seekOrder_121 (by decide) (fun c10103 => ?_) (fun c10103 => ?_)
      · have hE := it_t c10103 hE
        obtain rfl := Option.some.inj hE
        exact hJ155u10104 H locs ls hP hS (lv_sub hl [0, 1, 2, 3, 4] rfl)
      · have hE := it_f c10103 hE
        refine lv_iload_n C.1 C.2.1 dX0_seekOrder_124 rfl (lv_at hl 2 rfl) ?_
        refine lv_iload C.1 C.2.1 dX0_seekOrder_125 (lv_at hl 4 rfl) ?_
        refine lv_ishr C.1 C.2.1 dX0_seekOrder_127 ?_
        refine lv_iconst (v := 1) C.1 C.2.1 dX0_seekOrder_128 (by decide) ?_
        refine lv_iand C.1 C.2.1 dX0_seekOrder_129 ?_
        refine lv_if_ne (tgt := 155) C.1 C.2.1 dX0_seekOrder_130 (by decide) (fun c10105 => ?_) (fun c10105 => ?_)
        · have hE := it_f c10105 hE
          obtain rfl := Option.some.inj hE
          exact hJ155u10104 H locs ls hP hS (lv_sub hl [0, 1, 2, 3, 4] rfl)
        · have hE := it_t c10105 hE
          refine lv_aload_n C.1 C.2.1 dX0_seekOrder_133 rfl (lv_at hl 0 rfl) ?_
          refine xWg_0_4 q242 C hP dX0_seekOrder_134 ?_
          refine lv_iload_n C.1 C.2.1 dX0_seekOrder_137 rfl (lv_at hl 1 rfl) ?_
          refine lv_iload C.1 C.2.1 dX0_seekOrder_138 (lv_at hl 4 rfl) ?_
          obtain ⟨g10106, hE⟩ := it_g hE
          refine xWs_7 C hP hS (gi_in g10106) dX0_seekOrder_140 (fun H locs hP hS => ?_)
          refine lv_aload_n C.1 C.2.1 dX0_seekOrder_141 rfl (lv_at hl 0 rfl) ?_
          refine lv_iload_n C.1 C.2.1 dX0_seekOrder_142 rfl (lv_at hl 1 rfl) ?_
          refine lv_iconst (v := 1) C.1 C.2.1 dX0_seekOrder_143 (by decide) ?_
          refine lv_iadd C.1 C.2.1 dX0_seekOrder_144 ?_
          refine lv_iload_n C.1 C.2.1 dX0_seekOrder_145 rfl (lv_at hl 2 rfl) ?_
          refine lv_iconst (v := 1) C.1 C.2.1 dX0_seekOrder_146 (by decide) ?_
          refine lv_iload C.1 C.2.1 dX0_seekOrder_147 (lv_at hl 4 rfl) ?_
          refine lv_ishl C.1 C.2.1 dX0_seekOrder_149 ?_
          refine lv_ior C.1 C.2.1 dX0_seekOrder_150 ?_
          refine lv_iload_n C.1 C.2.1 dX0_seekOrder_151 rfl (lv_at hl 3 rfl) ?_
          obtain ⟨r10107, hr10107, hE⟩ := it_b hE
          refine n_afterS C.2.2.2.2.2.2.2.1 hS (va_runV (As := [.int (x1 + 1), .int (x2 ||| (1 <<< (x4 &&& 31))), .int x3]) (rest := []) ⟨C.1, C.2.1, hml, C.2.2.1, C.2.2.2.1⟩ (metC_HW_seekOrder_2 l G ad pl hk hb _ _ _ _ _ _ _ _ _ _ _ _ _ _ _ _ _ _ _ _ _ _ _ _ _ _ _ _ _ _ _ _ _ _ _ _ _ _ _ _ _ _ _ _ _ _ _ hom (x1 + 1) (x2 ||| (1 <<< (x4 &&& 31))) x3  r10107 hr10107) (cwV (C := RX0) 3 C.2.2.2.1 (lw_V q1131 q1133 qs27 q80 q1134) rfl rfl rfl (by decide +kernel) ⟨Nat.le_of_ble_eq_true rfl, Nat.le_of_ble_eq_true rfl⟩) (n_preV0 C hP hS (va_recv C.2.2.2.2.1 hP (ci := 16) (q0 := 0) rfl rfl)) rfl rfl hl.1 rfl (lv_room (Nat.le_of_ble_eq_true rfl)) dX0_seekOrder_152 ⟨Nat.le_refl _, Nat.le_refl _⟩) (fun H locs hP hS => ?_)
          obtain rfl := Option.some.inj hE
          exact hJ155u10104 H locs ls hP hS (lv_sub hl [0, 1, 2, 3, 4] rfl)
set_option maxHeartbeats 4000000 in
theorem metC_HW_seekOrder_3 (l : Launch) (G : kG) (ad : Nat → Nat) (pl : va_W) (hk : Nat → Nat) (hb : Nat → Int32) (v_latestFault : Int32) (v_died : Int32) (v_leastWeight : Int32) (v_noticedBy : Int32) (v_noticed : Int32) (v_orderDied : Int32) (v_orderLeast : Int32) (v_imaged : Option Nat) (v_shelves : Nat → Option Nat) (v_refusals : Nat → Int32) (v_ran : Int32) (v_bodies : Nat → Int32) (v_tweight : Int32) (v_tfright : Int32) (v_tage : Int32) (v_tasked : Nat → Int32) (v_told : Nat → Int32) (v_bestRow : Nat → Int32) (v_weight_a1 : Int32) (v_fright_a1 : Int32) (v_age_a1 : Int32) (v_asked_a1 : Nat → Int32) (v_weight_a2 : Int32) (v_fright_a2 : Int32) (v_age_a2 : Int32) (v_asked_a2 : Nat → Int32) (v_weight_a3 : Int32) (v_fright_a3 : Int32) (v_age_a3 : Int32) (v_asked_a3 : Nat → Int32) (v_weight_a4 : Int32) (v_fright_a4 : Int32) (v_age_a4 : Int32) (v_asked_a4 : Nat → Int32) (v_many : Int32) (v_pets : Int32) (v_last : Int32) (v_seed : Int32) (v_weight : Int32) (v_fright : Int32) (v_age : Int32) (v_asked : Nat → Int32) (v_homes : Nat → Option Nat) (v_marks : Nat → Int32) (v_had : Nat → Int32) (v_allergic : Nat → Int32) (v_deaths : Nat → Int32) (hom : homOK v_homes v_many hk hb pl) (p1 : Int32) (p2 : Int32) (p3 : Int32) (res : Int32 × Int32 × Int32 × Int32 × Int32 × Int32 × Int32 × Int32 × (Nat → Int32) × (Nat → Int32) × (Nat → Int32)) (hE : sC_HW_seekOrder_3 v_died v_leastWeight v_noticedBy v_noticed v_orderDied v_orderLeast v_tweight v_tfright v_tage v_tasked v_told v_bestRow v_many v_weight v_fright v_age v_asked v_homes v_allergic hk hb p1 p2 p3 = some res) : Met l yX0_seekOrder (ws_ yX0_seekOrder cX0_seekOrder 5 none) ({ frames := 9, cells := 0, slots := 0, locals := 201 } : Room) (nPc G (xW G.2 ad v_latestFault v_died v_leastWeight v_noticedBy v_noticed v_orderDied v_orderLeast v_imaged v_shelves v_refusals v_ran v_bodies v_tweight v_tfright v_tage v_tasked v_told v_bestRow v_weight_a1 v_fright_a1 v_age_a1 v_asked_a1 v_weight_a2 v_fright_a2 v_age_a2 v_asked_a2 v_weight_a3 v_fright_a3 v_age_a3 v_asked_a3 v_weight_a4 v_fright_a4 v_age_a4 v_asked_a4 v_many v_pets v_last v_seed v_weight v_fright v_age v_asked v_homes v_marks v_had v_allergic v_deaths) pl (xWV ad) [.ref (ad 0), .int p1, .int p2, .int p3]) (nQc G (xW G.2 ad v_latestFault res.1 res.2.1 v_noticedBy res.2.2.1 res.2.2.2.1 res.2.2.2.2.1 v_imaged v_shelves v_refusals v_ran v_bodies res.2.2.2.2.2.1 res.2.2.2.2.2.2.1 res.2.2.2.2.2.2.2.1 res.2.2.2.2.2.2.2.2.1 res.2.2.2.2.2.2.2.2.2.1 res.2.2.2.2.2.2.2.2.2.2 v_weight_a1 v_fright_a1 v_age_a1 v_asked_a1 v_weight_a2 v_fright_a2 v_age_a2 v_asked_a2 v_weight_a3 v_fright_a3 v_age_a3 v_asked_a3 v_weight_a4 v_fright_a4 v_age_a4 v_asked_a4 v_many v_pets v_last v_seed v_weight v_fright v_age v_asked v_homes v_marks v_had v_allergic v_deaths) (xWV ad) none) 0 0 (nA (xWV ad)) := by
  refine n_ofW (own := RX0) (by decide) rfl (Nat.le_of_ble_eq_true rfl) ?_
  intro p e s m args below meth c ls C hml hP hS hl hr hlocks
  have hl : lv_has ls 5 [(0, .ref (ad 0)), (1, .int p1), (2, .int p2), (3, .int p3)] := hl
  obtain ⟨Q, hQ⟩ : ∃ Q, Q = MQ below (nQc G (xW G.2 ad v_latestFault res.1 res.2.1 v_noticedBy res.2.2.1 res.2.2.2.1 res.2.2.2.2.1 v_imaged v_shelves v_refusals v_ran v_bodies res.2.2.2.2.2.1 res.2.2.2.2.2.2.1 res.2.2.2.2.2.2.2.1 res.2.2.2.2.2.2.2.2.1 res.2.2.2.2.2.2.2.2.2.1 res.2.2.2.2.2.2.2.2.2.2 v_weight_a1 v_fright_a1 v_age_a1 v_asked_a1 v_weight_a2 v_fright_a2 v_age_a2 v_asked_a2 v_weight_a3 v_fright_a3 v_age_a3 v_asked_a3 v_weight_a4 v_fright_a4 v_age_a4 v_asked_a4 v_many v_pets v_last v_seed v_weight v_fright v_age v_asked v_homes v_marks v_had v_allergic v_deaths) (xWV ad) none) args s 0 0 (nA (xWV ad)) := ⟨_, rfl⟩
  rw [← hQ]
  have hret : ∀ (pc : Nat) (ls : Array Slot) (H : Heap) (locs : List Loc), decode cX0_seekOrder pc = .ok (.return_, 1) → va_P G.1 vwCl (xW G.2 ad v_latestFault res.1 res.2.1 v_noticedBy res.2.2.1 res.2.2.2.1 res.2.2.2.2.1 v_imaged v_shelves v_refusals v_ran v_bodies res.2.2.2.2.2.1 res.2.2.2.2.2.2.1 res.2.2.2.2.2.2.2.1 res.2.2.2.2.2.2.2.2.1 res.2.2.2.2.2.2.2.2.2.1 res.2.2.2.2.2.2.2.2.2.2 v_weight_a1 v_fright_a1 v_age_a1 v_asked_a1 v_weight_a2 v_fright_a2 v_age_a2 v_asked_a2 v_weight_a3 v_fright_a3 v_age_a3 v_asked_a3 v_weight_a4 v_fright_a4 v_age_a4 v_asked_a4 v_many v_pets v_last v_seed v_weight v_fright v_age v_asked v_homes v_marks v_had v_allergic v_deaths) H → va_S (nA (xWV ad)) s.heap H locs → W p l e ({ frames := 9, cells := 0, slots := 0, locals := 201 } : Room) s m args below meth c H locs 0 0 Q (F0 m pc ls []) := by
    intro pc ls H locs hd hP hS
    rw [hQ]
    exact n_vret C hr hlocks hd hP hS
  clear hQ
  obtain ⟨H, hH⟩ : ∃ H, H = s.heap := ⟨_, rfl⟩
  obtain ⟨locs, hlo⟩ : ∃ locs : List Loc, locs = [] := ⟨_, rfl⟩
  have hP : va_P G.1 vwCl (xW G.2 ad v_latestFault v_died v_leastWeight v_noticedBy v_noticed v_orderDied v_orderLeast v_imaged v_shelves v_refusals v_ran v_bodies v_tweight v_tfright v_tage v_tasked v_told v_bestRow v_weight_a1 v_fright_a1 v_age_a1 v_asked_a1 v_weight_a2 v_fright_a2 v_age_a2 v_asked_a2 v_weight_a3 v_fright_a3 v_age_a3 v_asked_a3 v_weight_a4 v_fright_a4 v_age_a4 v_asked_a4 v_many v_pets v_last v_seed v_weight v_fright v_age v_asked v_homes v_marks v_had v_allergic v_deaths) H := by rw [hH]; exact hP
  have hS : va_S (nA (xWV ad)) s.heap H locs := by rw [hH, hlo]; exact hS
  suffices hZ : W p l e ({ frames := 9, cells := 0, slots := 0, locals := 201 } : Room) s m args below meth c H locs 0 0 Q (F0 m 0 ls []) by rw [hH, hlo] at hZ; exact hZ
  clear hH hlo
  unfold sC_HW_seekOrder_3 at hE
  refine lv_iload_n C.1 C.2.1 dX0_seekOrder_0 rfl (lv_at hl 1 rfl) ?_
  refine lv_iload_n C.1 C.2.1 dX0_seekOrder_1 rfl (lv_at hl 3 rfl) ?_
  refine lv_icmp_ne (tgt := 97) C.1 C.2.1 dX0_seekOrder_2 (by decide) (fun c1 => ?_) (fun c1 => ?_)
  · have hE := it_f c1 hE
    refine lv_iconst (v := 0) C.1 C.2.1 dX0_seekOrder_97 (by decide) ?_
    refine lv_istore (lv' := [(4, .int 0), (0, .ref (ad 0)), (1, .int p1), (2, .int p2), (3, .int p3)]) C.1 C.2.1 dX0_seekOrder_98 hl (by decide) rfl (fun ls hl => ?_)
    obtain ⟨u2, hu2, hE⟩ := it_b hE
    refine wC_HW_seekOrder_3_h100 C hml  hom p1 p2 p3 u2 2000 0 v_died v_leastWeight v_noticed v_orderDied v_orderLeast v_tweight v_tfright v_tage v_tasked v_told v_bestRow H locs ls hu2 hP hS (lv_sub hl [1, 2, 3, 4, 0] rfl) (fun H locs ls hP hS hl => ?_)
    obtain rfl := Option.some.inj hE
    exact hret _ _ _ _ dX0_seekOrder_161 hP hS
  · have hE := it_t c1 hE
    refine lv_aload_n C.1 C.2.1 dX0_seekOrder_5 rfl (lv_at hl 0 rfl) ?_
    refine xWg_0_3 q241 C hP dX0_seekOrder_6 ?_
    refine lv_aload_n C.1 C.2.1 dX0_seekOrder_9 rfl (lv_at hl 0 rfl) ?_
    refine xWg_0_6 q244 C hP dX0_seekOrder_10 ?_
    refine xWg_18_4 q191 C hP dX0_seekOrder_13 ?_
    obtain ⟨r3, hr3, hE⟩ := it_b hE
    refine n_after [5, 6, 19, 20] C.2.2.2.2.2.1 C.2.2.2.2.2.2.2.1 hP hS (va_runV (As := [.ref (ad 19)]) (rest := []) ⟨C.1, C.2.1, hml, C.2.2.1, C.2.2.2.1⟩ (metC_Pet_take l G (fun i => ad (if i < 2 then 5 + i else 19 + (i - 2))) pl _ _ _ _ _ _ _ _   r3 hr3) (cwV (C := RX2) 1 C.2.2.2.1 (lw_V q1076 q796 q797 q82 q798) rfl rfl rfl (by decide +kernel) ⟨Nat.le_of_ble_eq_true rfl, Nat.le_of_ble_eq_true rfl⟩) (n_preV C hP hS [5, 6, 19, 20] sub_xW_ppW_5_19 (by decide) rfl (va_recv C.2.2.2.2.1 hP (ci := 11) (q0 := 5) rfl rfl)) rfl rfl hl.1 rfl (lv_room (Nat.le_of_ble_eq_true rfl)) dX0_seekOrder_16 ⟨Nat.le_refl _, Nat.le_refl _⟩) xW_av rfl rfl mg_xW_ppW_5_19 (fun H locs hP hS => ?_)
    refine lv_pop C.1 C.2.1 dX0_seekOrder_19 rfl ?_
    refine lv_aload_n C.1 C.2.1 dX0_seekOrder_20 rfl (lv_at hl 0 rfl) ?_
    refine lv_iload_n C.1 C.2.1 dX0_seekOrder_21 rfl (lv_at hl 1 rfl) ?_
    obtain ⟨r4, hr4, hE⟩ := it_b hE
    refine n_afterS C.2.2.2.2.2.2.2.1 hS (va_runV (As := [.int p1]) (rest := []) ⟨C.1, C.2.1, hml, C.2.2.1, C.2.2.2.1⟩ (metC_HW_goesRow l G ad pl hk hb _ _ _ _ _ _ _ _ _ _ _ _ _ _ _ _ _ _ _ _ _ _ _ _ _ _ _ _ _ _ _ _ _ _ _ _ _ _ _ _ _ _ _ _ _ _ _ hom p1  r4 hr4) (cwV (C := RX0) 1 C.2.2.2.1 (lw_V q1077 q1079 qs23 q80 q1080) rfl rfl rfl (by decide +kernel) ⟨Nat.le_of_ble_eq_true rfl, Nat.le_of_ble_eq_true rfl⟩) (n_preV0 C hP hS (va_recv C.2.2.2.2.1 hP (ci := 16) (q0 := 0) rfl rfl)) rfl rfl hl.1 rfl (lv_room (Nat.le_of_ble_eq_true rfl)) dX0_seekOrder_22 ⟨Nat.le_refl _, Nat.le_refl _⟩) (fun H locs hP hS => ?_)
    refine lv_aload_n C.1 C.2.1 dX0_seekOrder_25 rfl (lv_at hl 0 rfl) ?_
    refine xWg_0_13 q251 C hP dX0_seekOrder_26 ?_
    refine lv_iconst (v := (-1)) C.1 C.2.1 dX0_seekOrder_29 (by decide) ?_
    refine lv_icmp_eq (tgt := 66) C.1 C.2.1 dX0_seekOrder_30 (by decide) (fun c5 => ?_) (fun c5 => ?_)
    · have hE := it_t c5 hE
      refine lv_aload_n C.1 C.2.1 dX0_seekOrder_66 rfl (lv_at hl 0 rfl) ?_
      refine lv_aload_n C.1 C.2.1 dX0_seekOrder_67 rfl (lv_at hl 0 rfl) ?_
      refine xWg_0_9 q247 C hP dX0_seekOrder_68 ?_
      refine xWp_0_13 q251 C hP hS dX0_seekOrder_71 (fun H locs hP hS => ?_)
      refine lv_aload_n C.1 C.2.1 dX0_seekOrder_74 rfl (lv_at hl 0 rfl) ?_
      refine lv_aload_n C.1 C.2.1 dX0_seekOrder_75 rfl (lv_at hl 0 rfl) ?_
      refine xWg_0_10 q248 C hP dX0_seekOrder_76 ?_
      refine xWp_0_14 q252 C hP hS dX0_seekOrder_79 (fun H locs hP hS => ?_)
      refine lv_aload_n C.1 C.2.1 dX0_seekOrder_82 rfl (lv_at hl 0 rfl) ?_
      refine xWg_0_4 q242 C hP dX0_seekOrder_83 ?_
      refine lv_iconst (v := 0) C.1 C.2.1 dX0_seekOrder_86 (by decide) ?_
      refine lv_aload_n C.1 C.2.1 dX0_seekOrder_87 rfl (lv_at hl 0 rfl) ?_
      refine xWg_0_5 q243 C hP dX0_seekOrder_88 ?_
      refine lv_iconst (v := 0) C.1 C.2.1 dX0_seekOrder_91 (by decide) ?_
      refine lv_iload_n C.1 C.2.1 dX0_seekOrder_92 rfl (lv_at hl 1 rfl) ?_
      obtain ⟨g6, hE⟩ := it_g hE
      obtain ⟨g7, hE⟩ := it_g hE
      obtain ⟨g8, hE⟩ := it_g hE
      refine va_copyi C.1 C.2.1 (by rw [hml]; exact hl.1.symm) C.2.2.1 (C.2.2.2.1 _ q551) (C.2.2.2.1 _ q553) (C.2.2.2.1 _ q552) (C.2.2.2.1 _ q100) C.2.2.2.2.1 hP (nD_of (nd_left C.2.2.2.2.2.1) C.2.2.2.2.2.2.2.1 xW_av) hS 7 8 0 0 rfl rfl rfl rfl rfl (by decide) (by decide) g6 g7 g8 (fun _ _ => rfl) (Nat.le_of_ble_eq_true rfl) (Nat.le_of_ble_eq_true rfl) dX0_seekOrder_93 (fun H locs hP _ hS => ?_)
      obtain rfl := Option.some.inj hE
      exact hret _ _ _ _ dX0_seekOrder_96 hP hS
    · have hE := it_f c5 hE
      refine lv_aload_n C.1 C.2.1 dX0_seekOrder_33 rfl (lv_at hl 0 rfl) ?_
      refine xWg_0_9 q247 C hP dX0_seekOrder_34 ?_
      refine lv_aload_n C.1 C.2.1 dX0_seekOrder_37 rfl (lv_at hl 0 rfl) ?_
      refine xWg_0_13 q251 C hP dX0_seekOrder_38 ?_
      refine lv_icmp_lt (tgt := 66) C.1 C.2.1 dX0_seekOrder_41 (by decide) (fun c9 => ?_) (fun c9 => ?_)
      · have hE := it_t c9 hE
        refine lv_aload_n C.1 C.2.1 dX0_seekOrder_66 rfl (lv_at hl 0 rfl) ?_
        refine lv_aload_n C.1 C.2.1 dX0_seekOrder_67 rfl (lv_at hl 0 rfl) ?_
        refine xWg_0_9 q247 C hP dX0_seekOrder_68 ?_
        refine xWp_0_13 q251 C hP hS dX0_seekOrder_71 (fun H locs hP hS => ?_)
        refine lv_aload_n C.1 C.2.1 dX0_seekOrder_74 rfl (lv_at hl 0 rfl) ?_
        refine lv_aload_n C.1 C.2.1 dX0_seekOrder_75 rfl (lv_at hl 0 rfl) ?_
        refine xWg_0_10 q248 C hP dX0_seekOrder_76 ?_
        refine xWp_0_14 q252 C hP hS dX0_seekOrder_79 (fun H locs hP hS => ?_)
        refine lv_aload_n C.1 C.2.1 dX0_seekOrder_82 rfl (lv_at hl 0 rfl) ?_
        refine xWg_0_4 q242 C hP dX0_seekOrder_83 ?_
        refine lv_iconst (v := 0) C.1 C.2.1 dX0_seekOrder_86 (by decide) ?_
        refine lv_aload_n C.1 C.2.1 dX0_seekOrder_87 rfl (lv_at hl 0 rfl) ?_
        refine xWg_0_5 q243 C hP dX0_seekOrder_88 ?_
        refine lv_iconst (v := 0) C.1 C.2.1 dX0_seekOrder_91 (by decide) ?_
        refine lv_iload_n C.1 C.2.1 dX0_seekOrder_92 rfl (lv_at hl 1 rfl) ?_
        obtain ⟨g10, hE⟩ := it_g hE
        obtain ⟨g11, hE⟩ := it_g hE
        obtain ⟨g12, hE⟩ := it_g hE
        refine va_copyi C.1 C.2.1 (by rw [hml]; exact hl.1.symm) C.2.2.1 (C.2.2.2.1 _ q551) (C.2.2.2.1 _ q553) (C.2.2.2.1 _ q552) (C.2.2.2.1 _ q100) C.2.2.2.2.1 hP (nD_of (nd_left C.2.2.2.2.2.1) C.2.2.2.2.2.2.2.1 xW_av) hS 7 8 0 0 rfl rfl rfl rfl rfl (by decide) (by decide) g10 g11 g12 (fun _ _ => rfl) (Nat.le_of_ble_eq_true rfl) (Nat.le_of_ble_eq_true rfl) dX0_seekOrder_93 (fun H locs hP _ hS => ?_)
        obtain rfl := Option.some.inj hE
        exact hret _ _ _ _ dX0_seekOrder_96 hP hS
      · have hE := it_f c9 hE
        refine lv_aload_n C.1 C.2.1 dX0_seekOrder_44 rfl (lv_at hl 0 rfl) ?_
        refine xWg_0_9 q247 C hP dX0_seekOrder_45 ?_
        refine lv_aload_n C.1 C.2.1 dX0_seekOrder_48 rfl (lv_at hl 0 rfl) ?_
        refine xWg_0_13 q251 C hP dX0_seekOrder_49 ?_
        refine lv_icmp_ne (tgt := 96) C.1 C.2.1 dX0_seekOrder_52 (by decide) (fun c13 => ?_) (fun c13 => ?_)
        · have hE := it_f c13 hE
          obtain rfl := Option.some.inj hE
          exact hret _ _ _ _ dX0_seekOrder_96 hP hS
        · have hE := it_t c13 hE
          refine lv_aload_n C.1 C.2.1 dX0_seekOrder_55 rfl (lv_at hl 0 rfl) ?_
          refine xWg_0_10 q248 C hP dX0_seekOrder_56 ?_
          refine lv_aload_n C.1 C.2.1 dX0_seekOrder_59 rfl (lv_at hl 0 rfl) ?_
          refine xWg_0_14 q252 C hP dX0_seekOrder_60 ?_
          refine lv_icmp_le (tgt := 96) C.1 C.2.1 dX0_seekOrder_63 (by decide) (fun c14 => ?_) (fun c14 => ?_)
          · have hE := it_t c14 hE
            obtain rfl := Option.some.inj hE
            exact hret _ _ _ _ dX0_seekOrder_96 hP hS
          · have hE := it_f c14 hE
            refine lv_aload_n C.1 C.2.1 dX0_seekOrder_66 rfl (lv_at hl 0 rfl) ?_
            refine lv_aload_n C.1 C.2.1 dX0_seekOrder_67 rfl (lv_at hl 0 rfl) ?_
            refine xWg_0_9 q247 C hP dX0_seekOrder_68 ?_
            refine xWp_0_13 q251 C hP hS dX0_seekOrder_71 (fun H locs hP hS => ?_)
            refine lv_aload_n C.1 C.2.1 dX0_seekOrder_74 rfl (lv_at hl 0 rfl) ?_
            refine lv_aload_n C.1 C.2.1 dX0_seekOrder_75 rfl (lv_at hl 0 rfl) ?_
            refine xWg_0_10 q248 C hP dX0_seekOrder_76 ?_
            refine xWp_0_14 q252 C hP hS dX0_seekOrder_79 (fun H locs hP hS => ?_)
            refine lv_aload_n C.1 C.2.1 dX0_seekOrder_82 rfl (lv_at hl 0 rfl) ?_
            refine xWg_0_4 q242 C hP dX0_seekOrder_83 ?_
            refine lv_iconst (v := 0) C.1 C.2.1 dX0_seekOrder_86 (by decide) ?_
            refine lv_aload_n C.1 C.2.1 dX0_seekOrder_87 rfl (lv_at hl 0 rfl) ?_
            refine xWg_0_5 q243 C hP dX0_seekOrder_88 ?_
            refine lv_iconst (v := 0) C.1 C.2.1 dX0_seekOrder_91 (by decide) ?_
            refine lv_iload_n C.1 C.2.1 dX0_seekOrder_92 rfl (lv_at hl 1 rfl) ?_
            obtain ⟨g15, hE⟩ := it_g hE
            obtain ⟨g16, hE⟩ := it_g hE
            obtain ⟨g17, hE⟩ := it_g hE
            refine va_copyi C.1 C.2.1 (by rw [hml]; exact hl.1.symm) C.2.2.1 (C.2.2.2.1 _ q551) (C.2.2.2.1 _ q553) (C.2.2.2.1 _ q552) (C.2.2.2.1 _ q100) C.2.2.2.2.1 hP (nD_of (nd_left C.2.2.2.2.2.1) C.2.2.2.2.2.2.2.1 xW_av) hS 7 8 0 0 rfl rfl rfl rfl rfl (by decide) (by decide) g15 g16 g17 (fun _ _ => rfl) (Nat.le_of_ble_eq_true rfl) (Nat.le_of_ble_eq_true rfl) dX0_seekOrder_93 (fun H locs hP _ hS => ?_)
            obtain rfl := Option.some.inj hE
            exact hret _ _ _ _ dX0_seekOrder_96 hP hS
def sC_HW_seekOrder_4_h100 (x1 : Int32) (x2 : Int32) (x3 : Int32) (v_noticedBy : Int32) (v_many : Int32) (v_weight : Int32) (v_fright : Int32) (v_age : Int32) (v_asked : Nat → Int32) (v_homes : Nat → Option Nat) (v_allergic : Nat → Int32) (hk : Nat → Nat) (hb : Nat → Int32) : Nat → Int32 → Int32 → Int32 → Int32 → Int32 → Int32 → Int32 → Int32 → Int32 → (Nat → Int32) → (Nat → Int32) → (Nat → Int32) → Option (Int32 × Int32 × Int32 × Int32 × Int32 × Int32 × Int32 × Int32 × (Nat → Int32) × (Nat → Int32) × (Nat → Int32))
  | 0, _, _, _, _, _, _, _, _, _, _, _, _ => none
  | fuel + 1, x4, v_died, v_leastWeight, v_noticed, v_orderDied, v_orderLeast, v_tweight, v_tfright, v_tage, v_tasked, v_told, v_bestRow =>
    if v_many ≤ x4 then
      some (v_died, v_leastWeight, v_noticed, v_orderDied, v_orderLeast, v_tweight, v_tfright, v_tage, v_tasked, v_told, v_bestRow)
    else
      (sC_Room_may v_many v_allergic x4).bind fun r10102 =>
      @Option.bind (Int32 × Int32 × Int32 × Int32 × Int32 × Int32 × Int32 × Int32 × (Nat → Int32) × (Nat → Int32) × (Nat → Int32)) _ (
        if r10102 = 0 then
          some (v_died, v_leastWeight, v_noticed, v_orderDied, v_orderLeast, v_tweight, v_tfright, v_tage, v_tasked, v_told, v_bestRow)
        else
          if ((x2 >>> (x4 &&& 31)) &&& 1) = 0 then
            if gi x1 40 then
            (sC_HW_seekOrder_3 v_died v_leastWeight v_noticedBy v_noticed v_orderDied v_orderLeast v_tweight v_tfright v_tage v_tasked (upd v_told (x1).toNatClampNeg x4) v_bestRow v_many v_weight v_fright v_age v_asked v_homes v_allergic hk hb (x1 + 1) (x2 ||| (1 <<< (x4 &&& 31))) x3).bind fun r10107 =>
            some (r10107.1, r10107.2.1, r10107.2.2.1, r10107.2.2.2.1, r10107.2.2.2.2.1, r10107.2.2.2.2.2.1, r10107.2.2.2.2.2.2.1, r10107.2.2.2.2.2.2.2.1, r10107.2.2.2.2.2.2.2.2.1, r10107.2.2.2.2.2.2.2.2.2.1, r10107.2.2.2.2.2.2.2.2.2.2)
            else none
          else
            some (v_died, v_leastWeight, v_noticed, v_orderDied, v_orderLeast, v_tweight, v_tfright, v_tage, v_tasked, v_told, v_bestRow)) fun u10104 =>
      sC_HW_seekOrder_4_h100 x1 x2 x3 v_noticedBy v_many v_weight v_fright v_age v_asked v_homes v_allergic hk hb fuel (x4 + 1) u10104.1 u10104.2.1 u10104.2.2.1 u10104.2.2.2.1 u10104.2.2.2.2.1 u10104.2.2.2.2.2.1 u10104.2.2.2.2.2.2.1 u10104.2.2.2.2.2.2.2.1 u10104.2.2.2.2.2.2.2.2.1 u10104.2.2.2.2.2.2.2.2.2.1 u10104.2.2.2.2.2.2.2.2.2.2
def sC_HW_seekOrder_4 (v_died : Int32) (v_leastWeight : Int32) (v_noticedBy : Int32) (v_noticed : Int32) (v_orderDied : Int32) (v_orderLeast : Int32) (v_tweight : Int32) (v_tfright : Int32) (v_tage : Int32) (v_tasked : Nat → Int32) (v_told : Nat → Int32) (v_bestRow : Nat → Int32) (v_many : Int32) (v_weight : Int32) (v_fright : Int32) (v_age : Int32) (v_asked : Nat → Int32) (v_homes : Nat → Option Nat) (v_allergic : Nat → Int32) (hk : Nat → Nat) (hb : Nat → Int32) (p1 : Int32) (p2 : Int32) (p3 : Int32) : Option (Int32 × Int32 × Int32 × Int32 × Int32 × Int32 × Int32 × Int32 × (Nat → Int32) × (Nat → Int32) × (Nat → Int32)) :=
  if p1 = p3 then
    (sC_Pet_take v_tweight v_tfright v_tage v_tasked v_weight v_fright v_age v_asked).bind fun r3 =>
    (sC_HW_goesRow v_died v_leastWeight v_noticedBy v_noticed r3.1 r3.2.1 r3.2.2.1 r3.2.2.2 v_told v_many v_homes hk hb p1).bind fun r4 =>
    if v_orderDied = (-1) then
      if ¬ p1 < 0 then
      if 0 + (p1).toNatClampNeg ≤ 40 then
      if 0 + (p1).toNatClampNeg ≤ 6 then
      some (r4.1, r4.2.1, r4.2.2.1, r4.1, r4.2.1, r4.2.2.2.1, r4.2.2.2.2.1, r4.2.2.2.2.2, r3.2.2.2, v_told, (va_cpy v_told v_bestRow 0 0 (p1).toNatClampNeg))
      else none
      else none
      else none
    else
      if r4.1 < v_orderDied then
        if ¬ p1 < 0 then
        if 0 + (p1).toNatClampNeg ≤ 40 then
        if 0 + (p1).toNatClampNeg ≤ 6 then
        some (r4.1, r4.2.1, r4.2.2.1, r4.1, r4.2.1, r4.2.2.2.1, r4.2.2.2.2.1, r4.2.2.2.2.2, r3.2.2.2, v_told, (va_cpy v_told v_bestRow 0 0 (p1).toNatClampNeg))
        else none
        else none
        else none
      else
        if r4.1 = v_orderDied then
          if r4.2.1 ≤ v_orderLeast then
            some (r4.1, r4.2.1, r4.2.2.1, v_orderDied, v_orderLeast, r4.2.2.2.1, r4.2.2.2.2.1, r4.2.2.2.2.2, r3.2.2.2, v_told, v_bestRow)
          else
            if ¬ p1 < 0 then
            if 0 + (p1).toNatClampNeg ≤ 40 then
            if 0 + (p1).toNatClampNeg ≤ 6 then
            some (r4.1, r4.2.1, r4.2.2.1, r4.1, r4.2.1, r4.2.2.2.1, r4.2.2.2.2.1, r4.2.2.2.2.2, r3.2.2.2, v_told, (va_cpy v_told v_bestRow 0 0 (p1).toNatClampNeg))
            else none
            else none
            else none
        else
          some (r4.1, r4.2.1, r4.2.2.1, v_orderDied, v_orderLeast, r4.2.2.2.1, r4.2.2.2.2.1, r4.2.2.2.2.2, r3.2.2.2, v_told, v_bestRow)
  else
    (sC_HW_seekOrder_4_h100 p1 p2 p3 v_noticedBy v_many v_weight v_fright v_age v_asked v_homes v_allergic hk hb 2000 0 v_died v_leastWeight v_noticed v_orderDied v_orderLeast v_tweight v_tfright v_tage v_tasked v_told v_bestRow).bind fun u2 =>
    some (u2.1, u2.2.1, u2.2.2.1, u2.2.2.2.1, u2.2.2.2.2.1, u2.2.2.2.2.2.1, u2.2.2.2.2.2.2.1, u2.2.2.2.2.2.2.2.1, u2.2.2.2.2.2.2.2.2.1, u2.2.2.2.2.2.2.2.2.2.1, u2.2.2.2.2.2.2.2.2.2.2)
set_option maxHeartbeats 4000000 in
theorem wC_HW_seekOrder_4_h100 {p : Program} {l : Launch} {e : Env} {s : State} {m : MethodId} {args : Array Value} {below : List Frame} {meth : Method} {c : Code} {Q : State → Prop} {G : kG} {ad : Nat → Nat} {pl : va_W} {hk : Nat → Nat} {hb : Nat → Int32} {v_latestFault : Int32} {v_noticedBy : Int32} {v_imaged : Option Nat} {v_shelves : Nat → Option Nat} {v_refusals : Nat → Int32} {v_ran : Int32} {v_bodies : Nat → Int32} {v_weight_a1 : Int32} {v_fright_a1 : Int32} {v_age_a1 : Int32} {v_asked_a1 : Nat → Int32} {v_weight_a2 : Int32} {v_fright_a2 : Int32} {v_age_a2 : Int32} {v_asked_a2 : Nat → Int32} {v_weight_a3 : Int32} {v_fright_a3 : Int32} {v_age_a3 : Int32} {v_asked_a3 : Nat → Int32} {v_weight_a4 : Int32} {v_fright_a4 : Int32} {v_age_a4 : Int32} {v_asked_a4 : Nat → Int32} {v_many : Int32} {v_pets : Int32} {v_last : Int32} {v_seed : Int32} {v_weight : Int32} {v_fright : Int32} {v_age : Int32} {v_asked : Nat → Int32} {v_homes : Nat → Option Nat} {v_marks : Nat → Int32} {v_had : Nat → Int32} {v_allergic : Nat → Int32} {v_deaths : Nat → Int32} (C : nC p s m args c cX0_seekOrder RX0 G (xWV ad) pl (nA (xWV ad))) (hml : c.maxLocals = 5)  (hom : homOK v_homes v_many hk hb pl) (x1 : Int32) (x2 : Int32) (x3 : Int32) (res : Int32 × Int32 × Int32 × Int32 × Int32 × Int32 × Int32 × Int32 × (Nat → Int32) × (Nat → Int32) × (Nat → Int32)) :
    ∀ (fuel : Nat) (x4 : Int32) (v_died : Int32) (v_leastWeight : Int32) (v_noticed : Int32) (v_orderDied : Int32) (v_orderLeast : Int32) (v_tweight : Int32) (v_tfright : Int32) (v_tage : Int32) (v_tasked : Nat → Int32) (v_told : Nat → Int32) (v_bestRow : Nat → Int32) (H : Heap) (locs : List Loc) (ls : Array Slot), sC_HW_seekOrder_4_h100 x1 x2 x3 v_noticedBy v_many v_weight v_fright v_age v_asked v_homes v_allergic hk hb fuel x4 v_died v_leastWeight v_noticed v_orderDied v_orderLeast v_tweight v_tfright v_tage v_tasked v_told v_bestRow = some res → va_P G.1 vwCl (xW G.2 ad v_latestFault v_died v_leastWeight v_noticedBy v_noticed v_orderDied v_orderLeast v_imaged v_shelves v_refusals v_ran v_bodies v_tweight v_tfright v_tage v_tasked v_told v_bestRow v_weight_a1 v_fright_a1 v_age_a1 v_asked_a1 v_weight_a2 v_fright_a2 v_age_a2 v_asked_a2 v_weight_a3 v_fright_a3 v_age_a3 v_asked_a3 v_weight_a4 v_fright_a4 v_age_a4 v_asked_a4 v_many v_pets v_last v_seed v_weight v_fright v_age v_asked v_homes v_marks v_had v_allergic v_deaths) H → va_S (nA (xWV ad)) s.heap H locs → lv_has ls 5 [(0, .ref (ad 0)), (1, .int x1), (2, .int x2), (3, .int x3), (4, .int x4)] → (∀ (H : Heap) (locs : List Loc) (ls : Array Slot), va_P G.1 vwCl (xW G.2 ad v_latestFault res.1 res.2.1 v_noticedBy res.2.2.1 res.2.2.2.1 res.2.2.2.2.1 v_imaged v_shelves v_refusals v_ran v_bodies res.2.2.2.2.2.1 res.2.2.2.2.2.2.1 res.2.2.2.2.2.2.2.1 res.2.2.2.2.2.2.2.2.1 res.2.2.2.2.2.2.2.2.2.1 res.2.2.2.2.2.2.2.2.2.2 v_weight_a1 v_fright_a1 v_age_a1 v_asked_a1 v_weight_a2 v_fright_a2 v_age_a2 v_asked_a2 v_weight_a3 v_fright_a3 v_age_a3 v_asked_a3 v_weight_a4 v_fright_a4 v_age_a4 v_asked_a4 v_many v_pets v_last v_seed v_weight v_fright v_age v_asked v_homes v_marks v_had v_allergic v_deaths) H → va_S (nA (xWV ad)) s.heap H locs → lv_has ls 5 [] → W p l e ({ frames := 10, cells := 0, slots := 0, locals := 225 } : Room) s m args below meth c H locs 0 0 Q (F0 m 161 ls [])) → W p l e ({ frames := 10, cells := 0, slots := 0, locals := 225 } : Room) s m args below meth c H locs 0 0 Q (F0 m 100 ls []) := by
  intro fuel
  induction fuel with
  | zero =>
    intro x4 v_died v_leastWeight v_noticed v_orderDied v_orderLeast v_tweight v_tfright v_tage v_tasked v_told v_bestRow H locs ls hE
    exact it_n hE
  | succ fuel ih =>
    intro x4 v_died v_leastWeight v_noticed v_orderDied v_orderLeast v_tweight v_tfright v_tage v_tasked v_told v_bestRow H locs ls hE hP hS hl hX
    rw [sC_HW_seekOrder_4_h100] at hE
    refine lv_iload C.1 C.2.1 dX0_seekOrder_100 (lv_at hl 4 rfl) ?_
    refine lv_aload_n C.1 C.2.1 dX0_seekOrder_102 rfl (lv_at hl 0 rfl) ?_
    refine xWg_0_6 q244 C hP dX0_seekOrder_103 ?_
    refine xWg_18_0 q182 C hP dX0_seekOrder_106 ?_
    refine lv_icmp_ge (tgt := 161) C.1 C.2.1 dX0_seekOrder_109 (by decide) (fun c10101 => ?_) (fun c10101 => ?_)
    · have hE := it_t c10101 hE
      obtain rfl := Option.some.inj hE
      exact hX H locs ls hP hS (lv_sub hl [] rfl)
    · have hE := it_f c10101 hE
      refine lv_aload_n C.1 C.2.1 dX0_seekOrder_112 rfl (lv_at hl 0 rfl) ?_
      refine xWg_0_6 q244 C hP dX0_seekOrder_113 ?_
      refine lv_iload C.1 C.2.1 dX0_seekOrder_116 (lv_at hl 4 rfl) ?_
      obtain ⟨r10102, hr10102, hE⟩ := it_b hE
      refine n_after [18, 19, 20, 21, 22, 23, 24, 25] C.2.2.2.2.2.1 C.2.2.2.2.2.2.2.1 hP hS (va_runV (As := [.int x4]) (rest := []) ⟨C.1, C.2.1, hml, C.2.2.1, C.2.2.2.1⟩ (metC_Room_may l G (fun i => ad (18 + i)) pl _ _ _ _ _ _ _ _ _ _ _ _ _ x4  r10102 hr10102) (cwV (C := RX3) 1 C.2.2.2.1 (lw_V q1067 q972 q973 q83 q974) rfl rfl rfl (by decide +kernel) ⟨Nat.le_of_ble_eq_true rfl, Nat.le_of_ble_eq_true rfl⟩) (n_preV C hP hS [18, 19, 20, 21, 22, 23, 24, 25] sub_xW_rW_18 (by decide) rfl (va_recv C.2.2.2.2.1 hP (ci := 12) (q0 := 18) rfl rfl)) rfl rfl hl.1 rfl (lv_room (Nat.le_of_ble_eq_true rfl)) dX0_seekOrder_118 ⟨Nat.le_refl _, Nat.le_refl _⟩) xW_av rfl rfl mg_xW_rW_18 (fun H locs hP hS => ?_)
      obtain ⟨u10104, hR, hE⟩ := it_b hE
      have hJ155u10104 : ∀ (H : Heap) (locs : List Loc) (ls : Array Slot), va_P G.1 vwCl (xW G.2 ad v_latestFault u10104.1 u10104.2.1 v_noticedBy u10104.2.2.1 u10104.2.2.2.1 u10104.2.2.2.2.1 v_imaged v_shelves v_refusals v_ran v_bodies u10104.2.2.2.2.2.1 u10104.2.2.2.2.2.2.1 u10104.2.2.2.2.2.2.2.1 u10104.2.2.2.2.2.2.2.2.1 u10104.2.2.2.2.2.2.2.2.2.1 u10104.2.2.2.2.2.2.2.2.2.2 v_weight_a1 v_fright_a1 v_age_a1 v_asked_a1 v_weight_a2 v_fright_a2 v_age_a2 v_asked_a2 v_weight_a3 v_fright_a3 v_age_a3 v_asked_a3 v_weight_a4 v_fright_a4 v_age_a4 v_asked_a4 v_many v_pets v_last v_seed v_weight v_fright v_age v_asked v_homes v_marks v_had v_allergic v_deaths) H → va_S (nA (xWV ad)) s.heap H locs → lv_has ls 5 [(0, .ref (ad 0)), (1, .int x1), (2, .int x2), (3, .int x3), (4, .int x4)] → W p l e ({ frames := 10, cells := 0, slots := 0, locals := 225 } : Room) s m args below meth c H locs 0 0 Q (F0 m 155 ls []) := by
        intro H locs ls hP hS hl
        refine lv_iinc (v := (x4 + 1)) (lv' := [(4, .int (x4 + 1)), (0, .ref (ad 0)), (1, .int x1), (2, .int x2), (3, .int x3)]) C.1 C.2.1 dX0_seekOrder_155 hl (k := 4) rfl rfl (by decide) rfl (fun ls hl => ?_)
        refine lv_goto (tgt := 100) C.1 C.2.1 dX0_seekOrder_158 (by decide) ?_
        exact ih (x4 + 1) u10104.1 u10104.2.1 u10104.2.2.1 u10104.2.2.2.1 u10104.2.2.2.2.1 u10104.2.2.2.2.2.1 u10104.2.2.2.2.2.2.1 u10104.2.2.2.2.2.2.2.1 u10104.2.2.2.2.2.2.2.2.1 u10104.2.2.2.2.2.2.2.2.2.1 u10104.2.2.2.2.2.2.2.2.2.2 _ _ _ hE hP hS (lv_sub hl [1, 2, 3, 4, 0] rfl) hX
      have hE := hR
      refine lv_if_eq (tgt := 155) C.1 C.2.1 dX0_seekOrder_121 (by decide) (fun c10103 => ?_) (fun c10103 => ?_)
      · have hE := it_t c10103 hE
        obtain rfl := Option.some.inj hE
        exact hJ155u10104 H locs ls hP hS (lv_sub hl [0, 1, 2, 3, 4] rfl)
      · have hE := it_f c10103 hE
        refine lv_iload_n C.1 C.2.1 dX0_seekOrder_124 rfl (lv_at hl 2 rfl) ?_
        refine lv_iload C.1 C.2.1 dX0_seekOrder_125 (lv_at hl 4 rfl) ?_
        refine lv_ishr C.1 C.2.1 dX0_seekOrder_127 ?_
        refine lv_iconst (v := 1) C.1 C.2.1 dX0_seekOrder_128 (by decide) ?_
        refine lv_iand C.1 C.2.1 dX0_seekOrder_129 ?_
        refine lv_if_ne (tgt := 155) C.1 C.2.1 dX0_seekOrder_130 (by decide) (fun c10105 => ?_) (fun c10105 => ?_)
        · have hE := it_f c10105 hE
          obtain rfl := Option.some.inj hE
          exact hJ155u10104 H locs ls hP hS (lv_sub hl [0, 1, 2, 3, 4] rfl)
        · have hE := it_t c10105 hE
          refine lv_aload_n C.1 C.2.1 dX0_seekOrder_133 rfl (lv_at hl 0 rfl) ?_
          refine xWg_0_4 q242 C hP dX0_seekOrder_134 ?_
          refine lv_iload_n C.1 C.2.1 dX0_seekOrder_137 rfl (lv_at hl 1 rfl) ?_
          refine lv_iload C.1 C.2.1 dX0_seekOrder_138 (lv_at hl 4 rfl) ?_
          obtain ⟨g10106, hE⟩ := it_g hE
          refine xWs_7 C hP hS (gi_in g10106) dX0_seekOrder_140 (fun H locs hP hS => ?_)
          refine lv_aload_n C.1 C.2.1 dX0_seekOrder_141 rfl (lv_at hl 0 rfl) ?_
          refine lv_iload_n C.1 C.2.1 dX0_seekOrder_142 rfl (lv_at hl 1 rfl) ?_
          refine lv_iconst (v := 1) C.1 C.2.1 dX0_seekOrder_143 (by decide) ?_
          refine lv_iadd C.1 C.2.1 dX0_seekOrder_144 ?_
          refine lv_iload_n C.1 C.2.1 dX0_seekOrder_145 rfl (lv_at hl 2 rfl) ?_
          refine lv_iconst (v := 1) C.1 C.2.1 dX0_seekOrder_146 (by decide) ?_
          refine lv_iload C.1 C.2.1 dX0_seekOrder_147 (lv_at hl 4 rfl) ?_
          refine lv_ishl C.1 C.2.1 dX0_seekOrder_149 ?_
          refine lv_ior C.1 C.2.1 dX0_seekOrder_150 ?_
          refine lv_iload_n C.1 C.2.1 dX0_seekOrder_151 rfl (lv_at hl 3 rfl) ?_
          obtain ⟨r10107, hr10107, hE⟩ := it_b hE
          refine n_afterS C.2.2.2.2.2.2.2.1 hS (va_runV (As := [.int (x1 + 1), .int (x2 ||| (1 <<< (x4 &&& 31))), .int x3]) (rest := []) ⟨C.1, C.2.1, hml, C.2.2.1, C.2.2.2.1⟩ (metC_HW_seekOrder_3 l G ad pl hk hb _ _ _ _ _ _ _ _ _ _ _ _ _ _ _ _ _ _ _ _ _ _ _ _ _ _ _ _ _ _ _ _ _ _ _ _ _ _ _ _ _ _ _ _ _ _ _ hom (x1 + 1) (x2 ||| (1 <<< (x4 &&& 31))) x3  r10107 hr10107) (cwV (C := RX0) 3 C.2.2.2.1 (lw_V q1131 q1133 qs27 q80 q1134) rfl rfl rfl (by decide +kernel) ⟨Nat.le_of_ble_eq_true rfl, Nat.le_of_ble_eq_true rfl⟩) (n_preV0 C hP hS (va_recv C.2.2.2.2.1 hP (ci := 16) (q0 := 0) rfl rfl)) rfl rfl hl.1 rfl (lv_room (Nat.le_of_ble_eq_true rfl)) dX0_seekOrder_152 ⟨Nat.le_refl _, Nat.le_refl _⟩) (fun H locs hP hS => ?_)
          obtain rfl := Option.some.inj hE
          exact hJ155u10104 H locs ls hP hS (lv_sub hl [0, 1, 2, 3, 4] rfl)
set_option maxHeartbeats 4000000 in
theorem metC_HW_seekOrder_4 (l : Launch) (G : kG) (ad : Nat → Nat) (pl : va_W) (hk : Nat → Nat) (hb : Nat → Int32) (v_latestFault : Int32) (v_died : Int32) (v_leastWeight : Int32) (v_noticedBy : Int32) (v_noticed : Int32) (v_orderDied : Int32) (v_orderLeast : Int32) (v_imaged : Option Nat) (v_shelves : Nat → Option Nat) (v_refusals : Nat → Int32) (v_ran : Int32) (v_bodies : Nat → Int32) (v_tweight : Int32) (v_tfright : Int32) (v_tage : Int32) (v_tasked : Nat → Int32) (v_told : Nat → Int32) (v_bestRow : Nat → Int32) (v_weight_a1 : Int32) (v_fright_a1 : Int32) (v_age_a1 : Int32) (v_asked_a1 : Nat → Int32) (v_weight_a2 : Int32) (v_fright_a2 : Int32) (v_age_a2 : Int32) (v_asked_a2 : Nat → Int32) (v_weight_a3 : Int32) (v_fright_a3 : Int32) (v_age_a3 : Int32) (v_asked_a3 : Nat → Int32) (v_weight_a4 : Int32) (v_fright_a4 : Int32) (v_age_a4 : Int32) (v_asked_a4 : Nat → Int32) (v_many : Int32) (v_pets : Int32) (v_last : Int32) (v_seed : Int32) (v_weight : Int32) (v_fright : Int32) (v_age : Int32) (v_asked : Nat → Int32) (v_homes : Nat → Option Nat) (v_marks : Nat → Int32) (v_had : Nat → Int32) (v_allergic : Nat → Int32) (v_deaths : Nat → Int32) (hom : homOK v_homes v_many hk hb pl) (p1 : Int32) (p2 : Int32) (p3 : Int32) (res : Int32 × Int32 × Int32 × Int32 × Int32 × Int32 × Int32 × Int32 × (Nat → Int32) × (Nat → Int32) × (Nat → Int32)) (hE : sC_HW_seekOrder_4 v_died v_leastWeight v_noticedBy v_noticed v_orderDied v_orderLeast v_tweight v_tfright v_tage v_tasked v_told v_bestRow v_many v_weight v_fright v_age v_asked v_homes v_allergic hk hb p1 p2 p3 = some res) : Met l yX0_seekOrder (ws_ yX0_seekOrder cX0_seekOrder 5 none) ({ frames := 10, cells := 0, slots := 0, locals := 225 } : Room) (nPc G (xW G.2 ad v_latestFault v_died v_leastWeight v_noticedBy v_noticed v_orderDied v_orderLeast v_imaged v_shelves v_refusals v_ran v_bodies v_tweight v_tfright v_tage v_tasked v_told v_bestRow v_weight_a1 v_fright_a1 v_age_a1 v_asked_a1 v_weight_a2 v_fright_a2 v_age_a2 v_asked_a2 v_weight_a3 v_fright_a3 v_age_a3 v_asked_a3 v_weight_a4 v_fright_a4 v_age_a4 v_asked_a4 v_many v_pets v_last v_seed v_weight v_fright v_age v_asked v_homes v_marks v_had v_allergic v_deaths) pl (xWV ad) [.ref (ad 0), .int p1, .int p2, .int p3]) (nQc G (xW G.2 ad v_latestFault res.1 res.2.1 v_noticedBy res.2.2.1 res.2.2.2.1 res.2.2.2.2.1 v_imaged v_shelves v_refusals v_ran v_bodies res.2.2.2.2.2.1 res.2.2.2.2.2.2.1 res.2.2.2.2.2.2.2.1 res.2.2.2.2.2.2.2.2.1 res.2.2.2.2.2.2.2.2.2.1 res.2.2.2.2.2.2.2.2.2.2 v_weight_a1 v_fright_a1 v_age_a1 v_asked_a1 v_weight_a2 v_fright_a2 v_age_a2 v_asked_a2 v_weight_a3 v_fright_a3 v_age_a3 v_asked_a3 v_weight_a4 v_fright_a4 v_age_a4 v_asked_a4 v_many v_pets v_last v_seed v_weight v_fright v_age v_asked v_homes v_marks v_had v_allergic v_deaths) (xWV ad) none) 0 0 (nA (xWV ad)) := by
  refine n_ofW (own := RX0) (by decide) rfl (Nat.le_of_ble_eq_true rfl) ?_
  intro p e s m args below meth c ls C hml hP hS hl hr hlocks
  have hl : lv_has ls 5 [(0, .ref (ad 0)), (1, .int p1), (2, .int p2), (3, .int p3)] := hl
  obtain ⟨Q, hQ⟩ : ∃ Q, Q = MQ below (nQc G (xW G.2 ad v_latestFault res.1 res.2.1 v_noticedBy res.2.2.1 res.2.2.2.1 res.2.2.2.2.1 v_imaged v_shelves v_refusals v_ran v_bodies res.2.2.2.2.2.1 res.2.2.2.2.2.2.1 res.2.2.2.2.2.2.2.1 res.2.2.2.2.2.2.2.2.1 res.2.2.2.2.2.2.2.2.2.1 res.2.2.2.2.2.2.2.2.2.2 v_weight_a1 v_fright_a1 v_age_a1 v_asked_a1 v_weight_a2 v_fright_a2 v_age_a2 v_asked_a2 v_weight_a3 v_fright_a3 v_age_a3 v_asked_a3 v_weight_a4 v_fright_a4 v_age_a4 v_asked_a4 v_many v_pets v_last v_seed v_weight v_fright v_age v_asked v_homes v_marks v_had v_allergic v_deaths) (xWV ad) none) args s 0 0 (nA (xWV ad)) := ⟨_, rfl⟩
  rw [← hQ]
  have hret : ∀ (pc : Nat) (ls : Array Slot) (H : Heap) (locs : List Loc), decode cX0_seekOrder pc = .ok (.return_, 1) → va_P G.1 vwCl (xW G.2 ad v_latestFault res.1 res.2.1 v_noticedBy res.2.2.1 res.2.2.2.1 res.2.2.2.2.1 v_imaged v_shelves v_refusals v_ran v_bodies res.2.2.2.2.2.1 res.2.2.2.2.2.2.1 res.2.2.2.2.2.2.2.1 res.2.2.2.2.2.2.2.2.1 res.2.2.2.2.2.2.2.2.2.1 res.2.2.2.2.2.2.2.2.2.2 v_weight_a1 v_fright_a1 v_age_a1 v_asked_a1 v_weight_a2 v_fright_a2 v_age_a2 v_asked_a2 v_weight_a3 v_fright_a3 v_age_a3 v_asked_a3 v_weight_a4 v_fright_a4 v_age_a4 v_asked_a4 v_many v_pets v_last v_seed v_weight v_fright v_age v_asked v_homes v_marks v_had v_allergic v_deaths) H → va_S (nA (xWV ad)) s.heap H locs → W p l e ({ frames := 10, cells := 0, slots := 0, locals := 225 } : Room) s m args below meth c H locs 0 0 Q (F0 m pc ls []) := by
    intro pc ls H locs hd hP hS
    rw [hQ]
    exact n_vret C hr hlocks hd hP hS
  clear hQ
  obtain ⟨H, hH⟩ : ∃ H, H = s.heap := ⟨_, rfl⟩
  obtain ⟨locs, hlo⟩ : ∃ locs : List Loc, locs = [] := ⟨_, rfl⟩
  have hP : va_P G.1 vwCl (xW G.2 ad v_latestFault v_died v_leastWeight v_noticedBy v_noticed v_orderDied v_orderLeast v_imaged v_shelves v_refusals v_ran v_bodies v_tweight v_tfright v_tage v_tasked v_told v_bestRow v_weight_a1 v_fright_a1 v_age_a1 v_asked_a1 v_weight_a2 v_fright_a2 v_age_a2 v_asked_a2 v_weight_a3 v_fright_a3 v_age_a3 v_asked_a3 v_weight_a4 v_fright_a4 v_age_a4 v_asked_a4 v_many v_pets v_last v_seed v_weight v_fright v_age v_asked v_homes v_marks v_had v_allergic v_deaths) H := by rw [hH]; exact hP
  have hS : va_S (nA (xWV ad)) s.heap H locs := by rw [hH, hlo]; exact hS
  suffices hZ : W p l e ({ frames := 10, cells := 0, slots := 0, locals := 225 } : Room) s m args below meth c H locs 0 0 Q (F0 m 0 ls []) by rw [hH, hlo] at hZ; exact hZ
  clear hH hlo
  unfold sC_HW_seekOrder_4 at hE
  refine lv_iload_n C.1 C.2.1 dX0_seekOrder_0 rfl (lv_at hl 1 rfl) ?_
  refine lv_iload_n C.1 C.2.1 dX0_seekOrder_1 rfl (lv_at hl 3 rfl) ?_
  refine lv_icmp_ne (tgt := 97) C.1 C.2.1 dX0_seekOrder_2 (by decide) (fun c1 => ?_) (fun c1 => ?_)
  · have hE := it_f c1 hE
    refine lv_iconst (v := 0) C.1 C.2.1 dX0_seekOrder_97 (by decide) ?_
    refine lv_istore (lv' := [(4, .int 0), (0, .ref (ad 0)), (1, .int p1), (2, .int p2), (3, .int p3)]) C.1 C.2.1 dX0_seekOrder_98 hl (by decide) rfl (fun ls hl => ?_)
    obtain ⟨u2, hu2, hE⟩ := it_b hE
    refine wC_HW_seekOrder_4_h100 C hml  hom p1 p2 p3 u2 2000 0 v_died v_leastWeight v_noticed v_orderDied v_orderLeast v_tweight v_tfright v_tage v_tasked v_told v_bestRow H locs ls hu2 hP hS (lv_sub hl [1, 2, 3, 4, 0] rfl) (fun H locs ls hP hS hl => ?_)
    obtain rfl := Option.some.inj hE
    exact hret _ _ _ _ dX0_seekOrder_161 hP hS
  · have hE := it_t c1 hE
    refine lv_aload_n C.1 C.2.1 dX0_seekOrder_5 rfl (lv_at hl 0 rfl) ?_
    refine xWg_0_3 q241 C hP dX0_seekOrder_6 ?_
    refine lv_aload_n C.1 C.2.1 dX0_seekOrder_9 rfl (lv_at hl 0 rfl) ?_
    refine xWg_0_6 q244 C hP dX0_seekOrder_10 ?_
    refine xWg_18_4 q191 C hP dX0_seekOrder_13 ?_
    obtain ⟨r3, hr3, hE⟩ := it_b hE
    refine n_after [5, 6, 19, 20] C.2.2.2.2.2.1 C.2.2.2.2.2.2.2.1 hP hS (va_runV (As := [.ref (ad 19)]) (rest := []) ⟨C.1, C.2.1, hml, C.2.2.1, C.2.2.2.1⟩ (metC_Pet_take l G (fun i => ad (if i < 2 then 5 + i else 19 + (i - 2))) pl _ _ _ _ _ _ _ _   r3 hr3) (cwV (C := RX2) 1 C.2.2.2.1 (lw_V q1076 q796 q797 q82 q798) rfl rfl rfl (by decide +kernel) ⟨Nat.le_of_ble_eq_true rfl, Nat.le_of_ble_eq_true rfl⟩) (n_preV C hP hS [5, 6, 19, 20] sub_xW_ppW_5_19 (by decide) rfl (va_recv C.2.2.2.2.1 hP (ci := 11) (q0 := 5) rfl rfl)) rfl rfl hl.1 rfl (lv_room (Nat.le_of_ble_eq_true rfl)) dX0_seekOrder_16 ⟨Nat.le_refl _, Nat.le_refl _⟩) xW_av rfl rfl mg_xW_ppW_5_19 (fun H locs hP hS => ?_)
    refine lv_pop C.1 C.2.1 dX0_seekOrder_19 rfl ?_
    refine lv_aload_n C.1 C.2.1 dX0_seekOrder_20 rfl (lv_at hl 0 rfl) ?_
    refine lv_iload_n C.1 C.2.1 dX0_seekOrder_21 rfl (lv_at hl 1 rfl) ?_
    obtain ⟨r4, hr4, hE⟩ := it_b hE
    refine n_afterS C.2.2.2.2.2.2.2.1 hS (va_runV (As := [.int p1]) (rest := []) ⟨C.1, C.2.1, hml, C.2.2.1, C.2.2.2.1⟩ (metC_HW_goesRow l G ad pl hk hb _ _ _ _ _ _ _ _ _ _ _ _ _ _ _ _ _ _ _ _ _ _ _ _ _ _ _ _ _ _ _ _ _ _ _ _ _ _ _ _ _ _ _ _ _ _ _ hom p1  r4 hr4) (cwV (C := RX0) 1 C.2.2.2.1 (lw_V q1077 q1079 qs23 q80 q1080) rfl rfl rfl (by decide +kernel) ⟨Nat.le_of_ble_eq_true rfl, Nat.le_of_ble_eq_true rfl⟩) (n_preV0 C hP hS (va_recv C.2.2.2.2.1 hP (ci := 16) (q0 := 0) rfl rfl)) rfl rfl hl.1 rfl (lv_room (Nat.le_of_ble_eq_true rfl)) dX0_seekOrder_22 ⟨Nat.le_refl _, Nat.le_refl _⟩) (fun H locs hP hS => ?_)
    refine lv_aload_n C.1 C.2.1 dX0_seekOrder_25 rfl (lv_at hl 0 rfl) ?_
    refine xWg_0_13 q251 C hP dX0_seekOrder_26 ?_
    refine lv_iconst (v := (-1)) C.1 C.2.1 dX0_seekOrder_29 (by decide) ?_
    refine lv_icmp_eq (tgt := 66) C.1 C.2.1 dX0_seekOrder_30 (by decide) (fun c5 => ?_) (fun c5 => ?_)
    · have hE := it_t c5 hE
      refine lv_aload_n C.1 C.2.1 dX0_seekOrder_66 rfl (lv_at hl 0 rfl) ?_
      refine lv_aload_n C.1 C.2.1 dX0_seekOrder_67 rfl (lv_at hl 0 rfl) ?_
      refine xWg_0_9 q247 C hP dX0_seekOrder_68 ?_
      refine xWp_0_13 q251 C hP hS dX0_seekOrder_71 (fun H locs hP hS => ?_)
      refine lv_aload_n C.1 C.2.1 dX0_seekOrder_74 rfl (lv_at hl 0 rfl) ?_
      refine lv_aload_n C.1 C.2.1 dX0_seekOrder_75 rfl (lv_at hl 0 rfl) ?_
      refine xWg_0_10 q248 C hP dX0_seekOrder_76 ?_
      refine xWp_0_14 q252 C hP hS dX0_seekOrder_79 (fun H locs hP hS => ?_)
      refine lv_aload_n C.1 C.2.1 dX0_seekOrder_82 rfl (lv_at hl 0 rfl) ?_
      refine xWg_0_4 q242 C hP dX0_seekOrder_83 ?_
      refine lv_iconst (v := 0) C.1 C.2.1 dX0_seekOrder_86 (by decide) ?_
      refine lv_aload_n C.1 C.2.1 dX0_seekOrder_87 rfl (lv_at hl 0 rfl) ?_
      refine xWg_0_5 q243 C hP dX0_seekOrder_88 ?_
      refine lv_iconst (v := 0) C.1 C.2.1 dX0_seekOrder_91 (by decide) ?_
      refine lv_iload_n C.1 C.2.1 dX0_seekOrder_92 rfl (lv_at hl 1 rfl) ?_
      obtain ⟨g6, hE⟩ := it_g hE
      obtain ⟨g7, hE⟩ := it_g hE
      obtain ⟨g8, hE⟩ := it_g hE
      refine va_copyi C.1 C.2.1 (by rw [hml]; exact hl.1.symm) C.2.2.1 (C.2.2.2.1 _ q551) (C.2.2.2.1 _ q553) (C.2.2.2.1 _ q552) (C.2.2.2.1 _ q100) C.2.2.2.2.1 hP (nD_of (nd_left C.2.2.2.2.2.1) C.2.2.2.2.2.2.2.1 xW_av) hS 7 8 0 0 rfl rfl rfl rfl rfl (by decide) (by decide) g6 g7 g8 (fun _ _ => rfl) (Nat.le_of_ble_eq_true rfl) (Nat.le_of_ble_eq_true rfl) dX0_seekOrder_93 (fun H locs hP _ hS => ?_)
      obtain rfl := Option.some.inj hE
      exact hret _ _ _ _ dX0_seekOrder_96 hP hS
    · have hE := it_f c5 hE
      refine lv_aload_n C.1 C.2.1 dX0_seekOrder_33 rfl (lv_at hl 0 rfl) ?_
      refine xWg_0_9 q247 C hP dX0_seekOrder_34 ?_
      refine lv_aload_n C.1 C.2.1 dX0_seekOrder_37 rfl (lv_at hl 0 rfl) ?_
      refine xWg_0_13 q251 C hP dX0_seekOrder_38 ?_
      refine lv_icmp_lt (tgt := 66) C.1 C.2.1 dX0_seekOrder_41 (by decide) (fun c9 => ?_) (fun c9 => ?_)
      · have hE := it_t c9 hE
        refine lv_aload_n C.1 C.2.1 dX0_seekOrder_66 rfl (lv_at hl 0 rfl) ?_
        refine lv_aload_n C.1 C.2.1 dX0_seekOrder_67 rfl (lv_at hl 0 rfl) ?_
        refine xWg_0_9 q247 C hP dX0_seekOrder_68 ?_
        refine xWp_0_13 q251 C hP hS dX0_seekOrder_71 (fun H locs hP hS => ?_)
        refine lv_aload_n C.1 C.2.1 dX0_seekOrder_74 rfl (lv_at hl 0 rfl) ?_
        refine lv_aload_n C.1 C.2.1 dX0_seekOrder_75 rfl (lv_at hl 0 rfl) ?_
        refine xWg_0_10 q248 C hP dX0_seekOrder_76 ?_
        refine xWp_0_14 q252 C hP hS dX0_seekOrder_79 (fun H locs hP hS => ?_)
        refine lv_aload_n C.1 C.2.1 dX0_seekOrder_82 rfl (lv_at hl 0 rfl) ?_
        refine xWg_0_4 q242 C hP dX0_seekOrder_83 ?_
        refine lv_iconst (v := 0) C.1 C.2.1 dX0_seekOrder_86 (by decide) ?_
        refine lv_aload_n C.1 C.2.1 dX0_seekOrder_87 rfl (lv_at hl 0 rfl) ?_
        refine xWg_0_5 q243 C hP dX0_seekOrder_88 ?_
        refine lv_iconst (v := 0) C.1 C.2.1 dX0_seekOrder_91 (by decide) ?_
        refine lv_iload_n C.1 C.2.1 dX0_seekOrder_92 rfl (lv_at hl 1 rfl) ?_
        obtain ⟨g10, hE⟩ := it_g hE
        obtain ⟨g11, hE⟩ := it_g hE
        obtain ⟨g12, hE⟩ := it_g hE
        refine va_copyi C.1 C.2.1 (by rw [hml]; exact hl.1.symm) C.2.2.1 (C.2.2.2.1 _ q551) (C.2.2.2.1 _ q553) (C.2.2.2.1 _ q552) (C.2.2.2.1 _ q100) C.2.2.2.2.1 hP (nD_of (nd_left C.2.2.2.2.2.1) C.2.2.2.2.2.2.2.1 xW_av) hS 7 8 0 0 rfl rfl rfl rfl rfl (by decide) (by decide) g10 g11 g12 (fun _ _ => rfl) (Nat.le_of_ble_eq_true rfl) (Nat.le_of_ble_eq_true rfl) dX0_seekOrder_93 (fun H locs hP _ hS => ?_)
        obtain rfl := Option.some.inj hE
        exact hret _ _ _ _ dX0_seekOrder_96 hP hS
      · have hE := it_f c9 hE
        refine lv_aload_n C.1 C.2.1 dX0_seekOrder_44 rfl (lv_at hl 0 rfl) ?_
        refine xWg_0_9 q247 C hP dX0_seekOrder_45 ?_
        refine lv_aload_n C.1 C.2.1 dX0_seekOrder_48 rfl (lv_at hl 0 rfl) ?_
        refine xWg_0_13 q251 C hP dX0_seekOrder_49 ?_
        refine lv_icmp_ne (tgt := 96) C.1 C.2.1 dX0_seekOrder_52 (by decide) (fun c13 => ?_) (fun c13 => ?_)
        · have hE := it_f c13 hE
          obtain rfl := Option.some.inj hE
          exact hret _ _ _ _ dX0_seekOrder_96 hP hS
        · have hE := it_t c13 hE
          refine lv_aload_n C.1 C.2.1 dX0_seekOrder_55 rfl (lv_at hl 0 rfl) ?_
          refine xWg_0_10 q248 C hP dX0_seekOrder_56 ?_
          refine lv_aload_n C.1 C.2.1 dX0_seekOrder_59 rfl (lv_at hl 0 rfl) ?_
          refine xWg_0_14 q252 C hP dX0_seekOrder_60 ?_
          refine lv_icmp_le (tgt := 96) C.1 C.2.1 dX0_seekOrder_63 (by decide) (fun c14 => ?_) (fun c14 => ?_)
          · have hE := it_t c14 hE
            obtain rfl := Option.some.inj hE
            exact hret _ _ _ _ dX0_seekOrder_96 hP hS
          · have hE := it_f c14 hE
            refine lv_aload_n C.1 C.2.1 dX0_seekOrder_66 rfl (lv_at hl 0 rfl) ?_
            refine lv_aload_n C.1 C.2.1 dX0_seekOrder_67 rfl (lv_at hl 0 rfl) ?_
            refine xWg_0_9 q247 C hP dX0_seekOrder_68 ?_
            refine xWp_0_13 q251 C hP hS dX0_seekOrder_71 (fun H locs hP hS => ?_)
            refine lv_aload_n C.1 C.2.1 dX0_seekOrder_74 rfl (lv_at hl 0 rfl) ?_
            refine lv_aload_n C.1 C.2.1 dX0_seekOrder_75 rfl (lv_at hl 0 rfl) ?_
            refine xWg_0_10 q248 C hP dX0_seekOrder_76 ?_
            refine xWp_0_14 q252 C hP hS dX0_seekOrder_79 (fun H locs hP hS => ?_)
            refine lv_aload_n C.1 C.2.1 dX0_seekOrder_82 rfl (lv_at hl 0 rfl) ?_
            refine xWg_0_4 q242 C hP dX0_seekOrder_83 ?_
            refine lv_iconst (v := 0) C.1 C.2.1 dX0_seekOrder_86 (by decide) ?_
            refine lv_aload_n C.1 C.2.1 dX0_seekOrder_87 rfl (lv_at hl 0 rfl) ?_
            refine xWg_0_5 q243 C hP dX0_seekOrder_88 ?_
            refine lv_iconst (v := 0) C.1 C.2.1 dX0_seekOrder_91 (by decide) ?_
            refine lv_iload_n C.1 C.2.1 dX0_seekOrder_92 rfl (lv_at hl 1 rfl) ?_
            obtain ⟨g15, hE⟩ := it_g hE
            obtain ⟨g16, hE⟩ := it_g hE
            obtain ⟨g17, hE⟩ := it_g hE
            refine va_copyi C.1 C.2.1 (by rw [hml]; exact hl.1.symm) C.2.2.1 (C.2.2.2.1 _ q551) (C.2.2.2.1 _ q553) (C.2.2.2.1 _ q552) (C.2.2.2.1 _ q100) C.2.2.2.2.1 hP (nD_of (nd_left C.2.2.2.2.2.1) C.2.2.2.2.2.2.2.1 xW_av) hS 7 8 0 0 rfl rfl rfl rfl rfl (by decide) (by decide) g15 g16 g17 (fun _ _ => rfl) (Nat.le_of_ble_eq_true rfl) (Nat.le_of_ble_eq_true rfl) dX0_seekOrder_93 (fun H locs hP _ hS => ?_)
            obtain rfl := Option.some.inj hE
            exact hret _ _ _ _ dX0_seekOrder_96 hP hS
def sC_HW_seekOrder_5_h100 (x1 : Int32) (x2 : Int32) (x3 : Int32) (v_noticedBy : Int32) (v_many : Int32) (v_weight : Int32) (v_fright : Int32) (v_age : Int32) (v_asked : Nat → Int32) (v_homes : Nat → Option Nat) (v_allergic : Nat → Int32) (hk : Nat → Nat) (hb : Nat → Int32) : Nat → Int32 → Int32 → Int32 → Int32 → Int32 → Int32 → Int32 → Int32 → Int32 → (Nat → Int32) → (Nat → Int32) → (Nat → Int32) → Option (Int32 × Int32 × Int32 × Int32 × Int32 × Int32 × Int32 × Int32 × (Nat → Int32) × (Nat → Int32) × (Nat → Int32))
  | 0, _, _, _, _, _, _, _, _, _, _, _, _ => none
  | fuel + 1, x4, v_died, v_leastWeight, v_noticed, v_orderDied, v_orderLeast, v_tweight, v_tfright, v_tage, v_tasked, v_told, v_bestRow =>
    if v_many ≤ x4 then
      some (v_died, v_leastWeight, v_noticed, v_orderDied, v_orderLeast, v_tweight, v_tfright, v_tage, v_tasked, v_told, v_bestRow)
    else
      (sC_Room_may v_many v_allergic x4).bind fun r10102 =>
      @Option.bind (Int32 × Int32 × Int32 × Int32 × Int32 × Int32 × Int32 × Int32 × (Nat → Int32) × (Nat → Int32) × (Nat → Int32)) _ (
        if r10102 = 0 then
          some (v_died, v_leastWeight, v_noticed, v_orderDied, v_orderLeast, v_tweight, v_tfright, v_tage, v_tasked, v_told, v_bestRow)
        else
          if ((x2 >>> (x4 &&& 31)) &&& 1) = 0 then
            if gi x1 40 then
            (sC_HW_seekOrder_4 v_died v_leastWeight v_noticedBy v_noticed v_orderDied v_orderLeast v_tweight v_tfright v_tage v_tasked (upd v_told (x1).toNatClampNeg x4) v_bestRow v_many v_weight v_fright v_age v_asked v_homes v_allergic hk hb (x1 + 1) (x2 ||| (1 <<< (x4 &&& 31))) x3).bind fun r10107 =>
            some (r10107.1, r10107.2.1, r10107.2.2.1, r10107.2.2.2.1, r10107.2.2.2.2.1, r10107.2.2.2.2.2.1, r10107.2.2.2.2.2.2.1, r10107.2.2.2.2.2.2.2.1, r10107.2.2.2.2.2.2.2.2.1, r10107.2.2.2.2.2.2.2.2.2.1, r10107.2.2.2.2.2.2.2.2.2.2)
            else none
          else
            some (v_died, v_leastWeight, v_noticed, v_orderDied, v_orderLeast, v_tweight, v_tfright, v_tage, v_tasked, v_told, v_bestRow)) fun u10104 =>
      sC_HW_seekOrder_5_h100 x1 x2 x3 v_noticedBy v_many v_weight v_fright v_age v_asked v_homes v_allergic hk hb fuel (x4 + 1) u10104.1 u10104.2.1 u10104.2.2.1 u10104.2.2.2.1 u10104.2.2.2.2.1 u10104.2.2.2.2.2.1 u10104.2.2.2.2.2.2.1 u10104.2.2.2.2.2.2.2.1 u10104.2.2.2.2.2.2.2.2.1 u10104.2.2.2.2.2.2.2.2.2.1 u10104.2.2.2.2.2.2.2.2.2.2
def sC_HW_seekOrder_5 (v_died : Int32) (v_leastWeight : Int32) (v_noticedBy : Int32) (v_noticed : Int32) (v_orderDied : Int32) (v_orderLeast : Int32) (v_tweight : Int32) (v_tfright : Int32) (v_tage : Int32) (v_tasked : Nat → Int32) (v_told : Nat → Int32) (v_bestRow : Nat → Int32) (v_many : Int32) (v_weight : Int32) (v_fright : Int32) (v_age : Int32) (v_asked : Nat → Int32) (v_homes : Nat → Option Nat) (v_allergic : Nat → Int32) (hk : Nat → Nat) (hb : Nat → Int32) (p1 : Int32) (p2 : Int32) (p3 : Int32) : Option (Int32 × Int32 × Int32 × Int32 × Int32 × Int32 × Int32 × Int32 × (Nat → Int32) × (Nat → Int32) × (Nat → Int32)) :=
  if p1 = p3 then
    (sC_Pet_take v_tweight v_tfright v_tage v_tasked v_weight v_fright v_age v_asked).bind fun r3 =>
    (sC_HW_goesRow v_died v_leastWeight v_noticedBy v_noticed r3.1 r3.2.1 r3.2.2.1 r3.2.2.2 v_told v_many v_homes hk hb p1).bind fun r4 =>
    if v_orderDied = (-1) then
      if ¬ p1 < 0 then
      if 0 + (p1).toNatClampNeg ≤ 40 then
      if 0 + (p1).toNatClampNeg ≤ 6 then
      some (r4.1, r4.2.1, r4.2.2.1, r4.1, r4.2.1, r4.2.2.2.1, r4.2.2.2.2.1, r4.2.2.2.2.2, r3.2.2.2, v_told, (va_cpy v_told v_bestRow 0 0 (p1).toNatClampNeg))
      else none
      else none
      else none
    else
      if r4.1 < v_orderDied then
        if ¬ p1 < 0 then
        if 0 + (p1).toNatClampNeg ≤ 40 then
        if 0 + (p1).toNatClampNeg ≤ 6 then
        some (r4.1, r4.2.1, r4.2.2.1, r4.1, r4.2.1, r4.2.2.2.1, r4.2.2.2.2.1, r4.2.2.2.2.2, r3.2.2.2, v_told, (va_cpy v_told v_bestRow 0 0 (p1).toNatClampNeg))
        else none
        else none
        else none
      else
        if r4.1 = v_orderDied then
          if r4.2.1 ≤ v_orderLeast then
            some (r4.1, r4.2.1, r4.2.2.1, v_orderDied, v_orderLeast, r4.2.2.2.1, r4.2.2.2.2.1, r4.2.2.2.2.2, r3.2.2.2, v_told, v_bestRow)
          else
            if ¬ p1 < 0 then
            if 0 + (p1).toNatClampNeg ≤ 40 then
            if 0 + (p1).toNatClampNeg ≤ 6 then
            some (r4.1, r4.2.1, r4.2.2.1, r4.1, r4.2.1, r4.2.2.2.1, r4.2.2.2.2.1, r4.2.2.2.2.2, r3.2.2.2, v_told, (va_cpy v_told v_bestRow 0 0 (p1).toNatClampNeg))
            else none
            else none
            else none
        else
          some (r4.1, r4.2.1, r4.2.2.1, v_orderDied, v_orderLeast, r4.2.2.2.1, r4.2.2.2.2.1, r4.2.2.2.2.2, r3.2.2.2, v_told, v_bestRow)
  else
    (sC_HW_seekOrder_5_h100 p1 p2 p3 v_noticedBy v_many v_weight v_fright v_age v_asked v_homes v_allergic hk hb 2000 0 v_died v_leastWeight v_noticed v_orderDied v_orderLeast v_tweight v_tfright v_tage v_tasked v_told v_bestRow).bind fun u2 =>
    some (u2.1, u2.2.1, u2.2.2.1, u2.2.2.2.1, u2.2.2.2.2.1, u2.2.2.2.2.2.1, u2.2.2.2.2.2.2.1, u2.2.2.2.2.2.2.2.1, u2.2.2.2.2.2.2.2.2.1, u2.2.2.2.2.2.2.2.2.2.1, u2.2.2.2.2.2.2.2.2.2.2)
set_option maxHeartbeats 4000000 in
theorem wC_HW_seekOrder_5_h100 {p : Program} {l : Launch} {e : Env} {s : State} {m : MethodId} {args : Array Value} {below : List Frame} {meth : Method} {c : Code} {Q : State → Prop} {G : kG} {ad : Nat → Nat} {pl : va_W} {hk : Nat → Nat} {hb : Nat → Int32} {v_latestFault : Int32} {v_noticedBy : Int32} {v_imaged : Option Nat} {v_shelves : Nat → Option Nat} {v_refusals : Nat → Int32} {v_ran : Int32} {v_bodies : Nat → Int32} {v_weight_a1 : Int32} {v_fright_a1 : Int32} {v_age_a1 : Int32} {v_asked_a1 : Nat → Int32} {v_weight_a2 : Int32} {v_fright_a2 : Int32} {v_age_a2 : Int32} {v_asked_a2 : Nat → Int32} {v_weight_a3 : Int32} {v_fright_a3 : Int32} {v_age_a3 : Int32} {v_asked_a3 : Nat → Int32} {v_weight_a4 : Int32} {v_fright_a4 : Int32} {v_age_a4 : Int32} {v_asked_a4 : Nat → Int32} {v_many : Int32} {v_pets : Int32} {v_last : Int32} {v_seed : Int32} {v_weight : Int32} {v_fright : Int32} {v_age : Int32} {v_asked : Nat → Int32} {v_homes : Nat → Option Nat} {v_marks : Nat → Int32} {v_had : Nat → Int32} {v_allergic : Nat → Int32} {v_deaths : Nat → Int32} (C : nC p s m args c cX0_seekOrder RX0 G (xWV ad) pl (nA (xWV ad))) (hml : c.maxLocals = 5)  (hom : homOK v_homes v_many hk hb pl) (x1 : Int32) (x2 : Int32) (x3 : Int32) (res : Int32 × Int32 × Int32 × Int32 × Int32 × Int32 × Int32 × Int32 × (Nat → Int32) × (Nat → Int32) × (Nat → Int32)) :
    ∀ (fuel : Nat) (x4 : Int32) (v_died : Int32) (v_leastWeight : Int32) (v_noticed : Int32) (v_orderDied : Int32) (v_orderLeast : Int32) (v_tweight : Int32) (v_tfright : Int32) (v_tage : Int32) (v_tasked : Nat → Int32) (v_told : Nat → Int32) (v_bestRow : Nat → Int32) (H : Heap) (locs : List Loc) (ls : Array Slot), sC_HW_seekOrder_5_h100 x1 x2 x3 v_noticedBy v_many v_weight v_fright v_age v_asked v_homes v_allergic hk hb fuel x4 v_died v_leastWeight v_noticed v_orderDied v_orderLeast v_tweight v_tfright v_tage v_tasked v_told v_bestRow = some res → va_P G.1 vwCl (xW G.2 ad v_latestFault v_died v_leastWeight v_noticedBy v_noticed v_orderDied v_orderLeast v_imaged v_shelves v_refusals v_ran v_bodies v_tweight v_tfright v_tage v_tasked v_told v_bestRow v_weight_a1 v_fright_a1 v_age_a1 v_asked_a1 v_weight_a2 v_fright_a2 v_age_a2 v_asked_a2 v_weight_a3 v_fright_a3 v_age_a3 v_asked_a3 v_weight_a4 v_fright_a4 v_age_a4 v_asked_a4 v_many v_pets v_last v_seed v_weight v_fright v_age v_asked v_homes v_marks v_had v_allergic v_deaths) H → va_S (nA (xWV ad)) s.heap H locs → lv_has ls 5 [(0, .ref (ad 0)), (1, .int x1), (2, .int x2), (3, .int x3), (4, .int x4)] → (∀ (H : Heap) (locs : List Loc) (ls : Array Slot), va_P G.1 vwCl (xW G.2 ad v_latestFault res.1 res.2.1 v_noticedBy res.2.2.1 res.2.2.2.1 res.2.2.2.2.1 v_imaged v_shelves v_refusals v_ran v_bodies res.2.2.2.2.2.1 res.2.2.2.2.2.2.1 res.2.2.2.2.2.2.2.1 res.2.2.2.2.2.2.2.2.1 res.2.2.2.2.2.2.2.2.2.1 res.2.2.2.2.2.2.2.2.2.2 v_weight_a1 v_fright_a1 v_age_a1 v_asked_a1 v_weight_a2 v_fright_a2 v_age_a2 v_asked_a2 v_weight_a3 v_fright_a3 v_age_a3 v_asked_a3 v_weight_a4 v_fright_a4 v_age_a4 v_asked_a4 v_many v_pets v_last v_seed v_weight v_fright v_age v_asked v_homes v_marks v_had v_allergic v_deaths) H → va_S (nA (xWV ad)) s.heap H locs → lv_has ls 5 [] → W p l e ({ frames := 11, cells := 0, slots := 0, locals := 249 } : Room) s m args below meth c H locs 0 0 Q (F0 m 161 ls [])) → W p l e ({ frames := 11, cells := 0, slots := 0, locals := 249 } : Room) s m args below meth c H locs 0 0 Q (F0 m 100 ls []) := by
  intro fuel
  induction fuel with
  | zero =>
    intro x4 v_died v_leastWeight v_noticed v_orderDied v_orderLeast v_tweight v_tfright v_tage v_tasked v_told v_bestRow H locs ls hE
    exact it_n hE
  | succ fuel ih =>
    intro x4 v_died v_leastWeight v_noticed v_orderDied v_orderLeast v_tweight v_tfright v_tage v_tasked v_told v_bestRow H locs ls hE hP hS hl hX
    rw [sC_HW_seekOrder_5_h100] at hE
    refine lv_iload C.1 C.2.1 dX0_seekOrder_100 (lv_at hl 4 rfl) ?_
    refine lv_aload_n C.1 C.2.1 dX0_seekOrder_102 rfl (lv_at hl 0 rfl) ?_
    refine xWg_0_6 q244 C hP dX0_seekOrder_103 ?_
    refine xWg_18_0 q182 C hP dX0_seekOrder_106 ?_
    refine lv_icmp_ge (tgt := 161) C.1 C.2.1 dX0_seekOrder_109 (by decide) (fun c10101 => ?_) (fun c10101 => ?_)
    · have hE := it_t c10101 hE
      obtain rfl := Option.some.inj hE
      exact hX H locs ls hP hS (lv_sub hl [] rfl)
    · have hE := it_f c10101 hE
      refine lv_aload_n C.1 C.2.1 dX0_seekOrder_112 rfl (lv_at hl 0 rfl) ?_
      refine xWg_0_6 q244 C hP dX0_seekOrder_113 ?_
      refine lv_iload C.1 C.2.1 dX0_seekOrder_116 (lv_at hl 4 rfl) ?_
      obtain ⟨r10102, hr10102, hE⟩ := it_b hE
      refine n_after [18, 19, 20, 21, 22, 23, 24, 25] C.2.2.2.2.2.1 C.2.2.2.2.2.2.2.1 hP hS (va_runV (As := [.int x4]) (rest := []) ⟨C.1, C.2.1, hml, C.2.2.1, C.2.2.2.1⟩ (metC_Room_may l G (fun i => ad (18 + i)) pl _ _ _ _ _ _ _ _ _ _ _ _ _ x4  r10102 hr10102) (cwV (C := RX3) 1 C.2.2.2.1 (lw_V q1067 q972 q973 q83 q974) rfl rfl rfl (by decide +kernel) ⟨Nat.le_of_ble_eq_true rfl, Nat.le_of_ble_eq_true rfl⟩) (n_preV C hP hS [18, 19, 20, 21, 22, 23, 24, 25] sub_xW_rW_18 (by decide) rfl (va_recv C.2.2.2.2.1 hP (ci := 12) (q0 := 18) rfl rfl)) rfl rfl hl.1 rfl (lv_room (Nat.le_of_ble_eq_true rfl)) dX0_seekOrder_118 ⟨Nat.le_refl _, Nat.le_refl _⟩) xW_av rfl rfl mg_xW_rW_18 (fun H locs hP hS => ?_)
      obtain ⟨u10104, hR, hE⟩ := it_b hE
      have hJ155u10104 : ∀ (H : Heap) (locs : List Loc) (ls : Array Slot), va_P G.1 vwCl (xW G.2 ad v_latestFault u10104.1 u10104.2.1 v_noticedBy u10104.2.2.1 u10104.2.2.2.1 u10104.2.2.2.2.1 v_imaged v_shelves v_refusals v_ran v_bodies u10104.2.2.2.2.2.1 u10104.2.2.2.2.2.2.1 u10104.2.2.2.2.2.2.2.1 u10104.2.2.2.2.2.2.2.2.1 u10104.2.2.2.2.2.2.2.2.2.1 u10104.2.2.2.2.2.2.2.2.2.2 v_weight_a1 v_fright_a1 v_age_a1 v_asked_a1 v_weight_a2 v_fright_a2 v_age_a2 v_asked_a2 v_weight_a3 v_fright_a3 v_age_a3 v_asked_a3 v_weight_a4 v_fright_a4 v_age_a4 v_asked_a4 v_many v_pets v_last v_seed v_weight v_fright v_age v_asked v_homes v_marks v_had v_allergic v_deaths) H → va_S (nA (xWV ad)) s.heap H locs → lv_has ls 5 [(0, .ref (ad 0)), (1, .int x1), (2, .int x2), (3, .int x3), (4, .int x4)] → W p l e ({ frames := 11, cells := 0, slots := 0, locals := 249 } : Room) s m args below meth c H locs 0 0 Q (F0 m 155 ls []) := by
        intro H locs ls hP hS hl
        refine lv_iinc (v := (x4 + 1)) (lv' := [(4, .int (x4 + 1)), (0, .ref (ad 0)), (1, .int x1), (2, .int x2), (3, .int x3)]) C.1 C.2.1 dX0_seekOrder_155 hl (k := 4) rfl rfl (by decide) rfl (fun ls hl => ?_)
        refine lv_goto (tgt := 100) C.1 C.2.1 dX0_seekOrder_158 (by decide) ?_
        exact ih (x4 + 1) u10104.1 u10104.2.1 u10104.2.2.1 u10104.2.2.2.1 u10104.2.2.2.2.1 u10104.2.2.2.2.2.1 u10104.2.2.2.2.2.2.1 u10104.2.2.2.2.2.2.2.1 u10104.2.2.2.2.2.2.2.2.1 u10104.2.2.2.2.2.2.2.2.2.1 u10104.2.2.2.2.2.2.2.2.2.2 _ _ _ hE hP hS (lv_sub hl [1, 2, 3, 4, 0] rfl) hX
      have hE := hR
      refine lv_if_eq (tgt := 155) C.1 C.2.1 dX0_seekOrder_121 (by decide) (fun c10103 => ?_) (fun c10103 => ?_)
      · have hE := it_t c10103 hE
        obtain rfl := Option.some.inj hE
        exact hJ155u10104 H locs ls hP hS (lv_sub hl [0, 1, 2, 3, 4] rfl)
      · have hE := it_f c10103 hE
        refine lv_iload_n C.1 C.2.1 dX0_seekOrder_124 rfl (lv_at hl 2 rfl) ?_
        refine lv_iload C.1 C.2.1 dX0_seekOrder_125 (lv_at hl 4 rfl) ?_
        refine lv_ishr C.1 C.2.1 dX0_seekOrder_127 ?_
        refine lv_iconst (v := 1) C.1 C.2.1 dX0_seekOrder_128 (by decide) ?_
        refine lv_iand C.1 C.2.1 dX0_seekOrder_129 ?_
        refine lv_if_ne (tgt := 155) C.1 C.2.1 dX0_seekOrder_130 (by decide) (fun c10105 => ?_) (fun c10105 => ?_)
        · have hE := it_f c10105 hE
          obtain rfl := Option.some.inj hE
          exact hJ155u10104 H locs ls hP hS (lv_sub hl [0, 1, 2, 3, 4] rfl)
        · have hE := it_t c10105 hE
          refine lv_aload_n C.1 C.2.1 dX0_seekOrder_133 rfl (lv_at hl 0 rfl) ?_
          refine xWg_0_4 q242 C hP dX0_seekOrder_134 ?_
          refine lv_iload_n C.1 C.2.1 dX0_seekOrder_137 rfl (lv_at hl 1 rfl) ?_
          refine lv_iload C.1 C.2.1 dX0_seekOrder_138 (lv_at hl 4 rfl) ?_
          obtain ⟨g10106, hE⟩ := it_g hE
          refine xWs_7 C hP hS (gi_in g10106) dX0_seekOrder_140 (fun H locs hP hS => ?_)
          refine lv_aload_n C.1 C.2.1 dX0_seekOrder_141 rfl (lv_at hl 0 rfl) ?_
          refine lv_iload_n C.1 C.2.1 dX0_seekOrder_142 rfl (lv_at hl 1 rfl) ?_
          refine lv_iconst (v := 1) C.1 C.2.1 dX0_seekOrder_143 (by decide) ?_
          refine lv_iadd C.1 C.2.1 dX0_seekOrder_144 ?_
          refine lv_iload_n C.1 C.2.1 dX0_seekOrder_145 rfl (lv_at hl 2 rfl) ?_
          refine lv_iconst (v := 1) C.1 C.2.1 dX0_seekOrder_146 (by decide) ?_
          refine lv_iload C.1 C.2.1 dX0_seekOrder_147 (lv_at hl 4 rfl) ?_
          refine lv_ishl C.1 C.2.1 dX0_seekOrder_149 ?_
          refine lv_ior C.1 C.2.1 dX0_seekOrder_150 ?_
          refine lv_iload_n C.1 C.2.1 dX0_seekOrder_151 rfl (lv_at hl 3 rfl) ?_
          obtain ⟨r10107, hr10107, hE⟩ := it_b hE
          refine n_afterS C.2.2.2.2.2.2.2.1 hS (va_runV (As := [.int (x1 + 1), .int (x2 ||| (1 <<< (x4 &&& 31))), .int x3]) (rest := []) ⟨C.1, C.2.1, hml, C.2.2.1, C.2.2.2.1⟩ (metC_HW_seekOrder_4 l G ad pl hk hb _ _ _ _ _ _ _ _ _ _ _ _ _ _ _ _ _ _ _ _ _ _ _ _ _ _ _ _ _ _ _ _ _ _ _ _ _ _ _ _ _ _ _ _ _ _ _ hom (x1 + 1) (x2 ||| (1 <<< (x4 &&& 31))) x3  r10107 hr10107) (cwV (C := RX0) 3 C.2.2.2.1 (lw_V q1131 q1133 qs27 q80 q1134) rfl rfl rfl (by decide +kernel) ⟨Nat.le_of_ble_eq_true rfl, Nat.le_of_ble_eq_true rfl⟩) (n_preV0 C hP hS (va_recv C.2.2.2.2.1 hP (ci := 16) (q0 := 0) rfl rfl)) rfl rfl hl.1 rfl (lv_room (Nat.le_of_ble_eq_true rfl)) dX0_seekOrder_152 ⟨Nat.le_refl _, Nat.le_refl _⟩) (fun H locs hP hS => ?_)
          obtain rfl := Option.some.inj hE
          exact hJ155u10104 H locs ls hP hS (lv_sub hl [0, 1, 2, 3, 4] rfl)
set_option maxHeartbeats 4000000 in
theorem metC_HW_seekOrder_5 (l : Launch) (G : kG) (ad : Nat → Nat) (pl : va_W) (hk : Nat → Nat) (hb : Nat → Int32) (v_latestFault : Int32) (v_died : Int32) (v_leastWeight : Int32) (v_noticedBy : Int32) (v_noticed : Int32) (v_orderDied : Int32) (v_orderLeast : Int32) (v_imaged : Option Nat) (v_shelves : Nat → Option Nat) (v_refusals : Nat → Int32) (v_ran : Int32) (v_bodies : Nat → Int32) (v_tweight : Int32) (v_tfright : Int32) (v_tage : Int32) (v_tasked : Nat → Int32) (v_told : Nat → Int32) (v_bestRow : Nat → Int32) (v_weight_a1 : Int32) (v_fright_a1 : Int32) (v_age_a1 : Int32) (v_asked_a1 : Nat → Int32) (v_weight_a2 : Int32) (v_fright_a2 : Int32) (v_age_a2 : Int32) (v_asked_a2 : Nat → Int32) (v_weight_a3 : Int32) (v_fright_a3 : Int32) (v_age_a3 : Int32) (v_asked_a3 : Nat → Int32) (v_weight_a4 : Int32) (v_fright_a4 : Int32) (v_age_a4 : Int32) (v_asked_a4 : Nat → Int32) (v_many : Int32) (v_pets : Int32) (v_last : Int32) (v_seed : Int32) (v_weight : Int32) (v_fright : Int32) (v_age : Int32) (v_asked : Nat → Int32) (v_homes : Nat → Option Nat) (v_marks : Nat → Int32) (v_had : Nat → Int32) (v_allergic : Nat → Int32) (v_deaths : Nat → Int32) (hom : homOK v_homes v_many hk hb pl) (p1 : Int32) (p2 : Int32) (p3 : Int32) (res : Int32 × Int32 × Int32 × Int32 × Int32 × Int32 × Int32 × Int32 × (Nat → Int32) × (Nat → Int32) × (Nat → Int32)) (hE : sC_HW_seekOrder_5 v_died v_leastWeight v_noticedBy v_noticed v_orderDied v_orderLeast v_tweight v_tfright v_tage v_tasked v_told v_bestRow v_many v_weight v_fright v_age v_asked v_homes v_allergic hk hb p1 p2 p3 = some res) : Met l yX0_seekOrder (ws_ yX0_seekOrder cX0_seekOrder 5 none) ({ frames := 11, cells := 0, slots := 0, locals := 249 } : Room) (nPc G (xW G.2 ad v_latestFault v_died v_leastWeight v_noticedBy v_noticed v_orderDied v_orderLeast v_imaged v_shelves v_refusals v_ran v_bodies v_tweight v_tfright v_tage v_tasked v_told v_bestRow v_weight_a1 v_fright_a1 v_age_a1 v_asked_a1 v_weight_a2 v_fright_a2 v_age_a2 v_asked_a2 v_weight_a3 v_fright_a3 v_age_a3 v_asked_a3 v_weight_a4 v_fright_a4 v_age_a4 v_asked_a4 v_many v_pets v_last v_seed v_weight v_fright v_age v_asked v_homes v_marks v_had v_allergic v_deaths) pl (xWV ad) [.ref (ad 0), .int p1, .int p2, .int p3]) (nQc G (xW G.2 ad v_latestFault res.1 res.2.1 v_noticedBy res.2.2.1 res.2.2.2.1 res.2.2.2.2.1 v_imaged v_shelves v_refusals v_ran v_bodies res.2.2.2.2.2.1 res.2.2.2.2.2.2.1 res.2.2.2.2.2.2.2.1 res.2.2.2.2.2.2.2.2.1 res.2.2.2.2.2.2.2.2.2.1 res.2.2.2.2.2.2.2.2.2.2 v_weight_a1 v_fright_a1 v_age_a1 v_asked_a1 v_weight_a2 v_fright_a2 v_age_a2 v_asked_a2 v_weight_a3 v_fright_a3 v_age_a3 v_asked_a3 v_weight_a4 v_fright_a4 v_age_a4 v_asked_a4 v_many v_pets v_last v_seed v_weight v_fright v_age v_asked v_homes v_marks v_had v_allergic v_deaths) (xWV ad) none) 0 0 (nA (xWV ad)) := by
  refine n_ofW (own := RX0) (by decide) rfl (Nat.le_of_ble_eq_true rfl) ?_
  intro p e s m args below meth c ls C hml hP hS hl hr hlocks
  have hl : lv_has ls 5 [(0, .ref (ad 0)), (1, .int p1), (2, .int p2), (3, .int p3)] := hl
  obtain ⟨Q, hQ⟩ : ∃ Q, Q = MQ below (nQc G (xW G.2 ad v_latestFault res.1 res.2.1 v_noticedBy res.2.2.1 res.2.2.2.1 res.2.2.2.2.1 v_imaged v_shelves v_refusals v_ran v_bodies res.2.2.2.2.2.1 res.2.2.2.2.2.2.1 res.2.2.2.2.2.2.2.1 res.2.2.2.2.2.2.2.2.1 res.2.2.2.2.2.2.2.2.2.1 res.2.2.2.2.2.2.2.2.2.2 v_weight_a1 v_fright_a1 v_age_a1 v_asked_a1 v_weight_a2 v_fright_a2 v_age_a2 v_asked_a2 v_weight_a3 v_fright_a3 v_age_a3 v_asked_a3 v_weight_a4 v_fright_a4 v_age_a4 v_asked_a4 v_many v_pets v_last v_seed v_weight v_fright v_age v_asked v_homes v_marks v_had v_allergic v_deaths) (xWV ad) none) args s 0 0 (nA (xWV ad)) := ⟨_, rfl⟩
  rw [← hQ]
  have hret : ∀ (pc : Nat) (ls : Array Slot) (H : Heap) (locs : List Loc), decode cX0_seekOrder pc = .ok (.return_, 1) → va_P G.1 vwCl (xW G.2 ad v_latestFault res.1 res.2.1 v_noticedBy res.2.2.1 res.2.2.2.1 res.2.2.2.2.1 v_imaged v_shelves v_refusals v_ran v_bodies res.2.2.2.2.2.1 res.2.2.2.2.2.2.1 res.2.2.2.2.2.2.2.1 res.2.2.2.2.2.2.2.2.1 res.2.2.2.2.2.2.2.2.2.1 res.2.2.2.2.2.2.2.2.2.2 v_weight_a1 v_fright_a1 v_age_a1 v_asked_a1 v_weight_a2 v_fright_a2 v_age_a2 v_asked_a2 v_weight_a3 v_fright_a3 v_age_a3 v_asked_a3 v_weight_a4 v_fright_a4 v_age_a4 v_asked_a4 v_many v_pets v_last v_seed v_weight v_fright v_age v_asked v_homes v_marks v_had v_allergic v_deaths) H → va_S (nA (xWV ad)) s.heap H locs → W p l e ({ frames := 11, cells := 0, slots := 0, locals := 249 } : Room) s m args below meth c H locs 0 0 Q (F0 m pc ls []) := by
    intro pc ls H locs hd hP hS
    rw [hQ]
    exact n_vret C hr hlocks hd hP hS
  clear hQ
  obtain ⟨H, hH⟩ : ∃ H, H = s.heap := ⟨_, rfl⟩
  obtain ⟨locs, hlo⟩ : ∃ locs : List Loc, locs = [] := ⟨_, rfl⟩
  have hP : va_P G.1 vwCl (xW G.2 ad v_latestFault v_died v_leastWeight v_noticedBy v_noticed v_orderDied v_orderLeast v_imaged v_shelves v_refusals v_ran v_bodies v_tweight v_tfright v_tage v_tasked v_told v_bestRow v_weight_a1 v_fright_a1 v_age_a1 v_asked_a1 v_weight_a2 v_fright_a2 v_age_a2 v_asked_a2 v_weight_a3 v_fright_a3 v_age_a3 v_asked_a3 v_weight_a4 v_fright_a4 v_age_a4 v_asked_a4 v_many v_pets v_last v_seed v_weight v_fright v_age v_asked v_homes v_marks v_had v_allergic v_deaths) H := by rw [hH]; exact hP
  have hS : va_S (nA (xWV ad)) s.heap H locs := by rw [hH, hlo]; exact hS
  suffices hZ : W p l e ({ frames := 11, cells := 0, slots := 0, locals := 249 } : Room) s m args below meth c H locs 0 0 Q (F0 m 0 ls []) by rw [hH, hlo] at hZ; exact hZ
  clear hH hlo
  unfold sC_HW_seekOrder_5 at hE
  refine lv_iload_n C.1 C.2.1 dX0_seekOrder_0 rfl (lv_at hl 1 rfl) ?_
  refine lv_iload_n C.1 C.2.1 dX0_seekOrder_1 rfl (lv_at hl 3 rfl) ?_
  refine lv_icmp_ne (tgt := 97) C.1 C.2.1 dX0_seekOrder_2 (by decide) (fun c1 => ?_) (fun c1 => ?_)
  · have hE := it_f c1 hE
    refine lv_iconst (v := 0) C.1 C.2.1 dX0_seekOrder_97 (by decide) ?_
    refine lv_istore (lv' := [(4, .int 0), (0, .ref (ad 0)), (1, .int p1), (2, .int p2), (3, .int p3)]) C.1 C.2.1 dX0_seekOrder_98 hl (by decide) rfl (fun ls hl => ?_)
    obtain ⟨u2, hu2, hE⟩ := it_b hE
    refine wC_HW_seekOrder_5_h100 C hml  hom p1 p2 p3 u2 2000 0 v_died v_leastWeight v_noticed v_orderDied v_orderLeast v_tweight v_tfright v_tage v_tasked v_told v_bestRow H locs ls hu2 hP hS (lv_sub hl [1, 2, 3, 4, 0] rfl) (fun H locs ls hP hS hl => ?_)
    obtain rfl := Option.some.inj hE
    exact hret _ _ _ _ dX0_seekOrder_161 hP hS
  · have hE := it_t c1 hE
    refine lv_aload_n C.1 C.2.1 dX0_seekOrder_5 rfl (lv_at hl 0 rfl) ?_
    refine xWg_0_3 q241 C hP dX0_seekOrder_6 ?_
    refine lv_aload_n C.1 C.2.1 dX0_seekOrder_9 rfl (lv_at hl 0 rfl) ?_
    refine xWg_0_6 q244 C hP dX0_seekOrder_10 ?_
    refine xWg_18_4 q191 C hP dX0_seekOrder_13 ?_
    obtain ⟨r3, hr3, hE⟩ := it_b hE
    refine n_after [5, 6, 19, 20] C.2.2.2.2.2.1 C.2.2.2.2.2.2.2.1 hP hS (va_runV (As := [.ref (ad 19)]) (rest := []) ⟨C.1, C.2.1, hml, C.2.2.1, C.2.2.2.1⟩ (metC_Pet_take l G (fun i => ad (if i < 2 then 5 + i else 19 + (i - 2))) pl _ _ _ _ _ _ _ _   r3 hr3) (cwV (C := RX2) 1 C.2.2.2.1 (lw_V q1076 q796 q797 q82 q798) rfl rfl rfl (by decide +kernel) ⟨Nat.le_of_ble_eq_true rfl, Nat.le_of_ble_eq_true rfl⟩) (n_preV C hP hS [5, 6, 19, 20] sub_xW_ppW_5_19 (by decide) rfl (va_recv C.2.2.2.2.1 hP (ci := 11) (q0 := 5) rfl rfl)) rfl rfl hl.1 rfl (lv_room (Nat.le_of_ble_eq_true rfl)) dX0_seekOrder_16 ⟨Nat.le_refl _, Nat.le_refl _⟩) xW_av rfl rfl mg_xW_ppW_5_19 (fun H locs hP hS => ?_)
    refine lv_pop C.1 C.2.1 dX0_seekOrder_19 rfl ?_
    refine lv_aload_n C.1 C.2.1 dX0_seekOrder_20 rfl (lv_at hl 0 rfl) ?_
    refine lv_iload_n C.1 C.2.1 dX0_seekOrder_21 rfl (lv_at hl 1 rfl) ?_
    obtain ⟨r4, hr4, hE⟩ := it_b hE
    refine n_afterS C.2.2.2.2.2.2.2.1 hS (va_runV (As := [.int p1]) (rest := []) ⟨C.1, C.2.1, hml, C.2.2.1, C.2.2.2.1⟩ (metC_HW_goesRow l G ad pl hk hb _ _ _ _ _ _ _ _ _ _ _ _ _ _ _ _ _ _ _ _ _ _ _ _ _ _ _ _ _ _ _ _ _ _ _ _ _ _ _ _ _ _ _ _ _ _ _ hom p1  r4 hr4) (cwV (C := RX0) 1 C.2.2.2.1 (lw_V q1077 q1079 qs23 q80 q1080) rfl rfl rfl (by decide +kernel) ⟨Nat.le_of_ble_eq_true rfl, Nat.le_of_ble_eq_true rfl⟩) (n_preV0 C hP hS (va_recv C.2.2.2.2.1 hP (ci := 16) (q0 := 0) rfl rfl)) rfl rfl hl.1 rfl (lv_room (Nat.le_of_ble_eq_true rfl)) dX0_seekOrder_22 ⟨Nat.le_refl _, Nat.le_refl _⟩) (fun H locs hP hS => ?_)
    refine lv_aload_n C.1 C.2.1 dX0_seekOrder_25 rfl (lv_at hl 0 rfl) ?_
    refine xWg_0_13 q251 C hP dX0_seekOrder_26 ?_
    refine lv_iconst (v := (-1)) C.1 C.2.1 dX0_seekOrder_29 (by decide) ?_
    refine lv_icmp_eq (tgt := 66) C.1 C.2.1 dX0_seekOrder_30 (by decide) (fun c5 => ?_) (fun c5 => ?_)
    · have hE := it_t c5 hE
      refine lv_aload_n C.1 C.2.1 dX0_seekOrder_66 rfl (lv_at hl 0 rfl) ?_
      refine lv_aload_n C.1 C.2.1 dX0_seekOrder_67 rfl (lv_at hl 0 rfl) ?_
      refine xWg_0_9 q247 C hP dX0_seekOrder_68 ?_
      refine xWp_0_13 q251 C hP hS dX0_seekOrder_71 (fun H locs hP hS => ?_)
      refine lv_aload_n C.1 C.2.1 dX0_seekOrder_74 rfl (lv_at hl 0 rfl) ?_
      refine lv_aload_n C.1 C.2.1 dX0_seekOrder_75 rfl (lv_at hl 0 rfl) ?_
      refine xWg_0_10 q248 C hP dX0_seekOrder_76 ?_
      refine xWp_0_14 q252 C hP hS dX0_seekOrder_79 (fun H locs hP hS => ?_)
      refine lv_aload_n C.1 C.2.1 dX0_seekOrder_82 rfl (lv_at hl 0 rfl) ?_
      refine xWg_0_4 q242 C hP dX0_seekOrder_83 ?_
      refine lv_iconst (v := 0) C.1 C.2.1 dX0_seekOrder_86 (by decide) ?_
      refine lv_aload_n C.1 C.2.1 dX0_seekOrder_87 rfl (lv_at hl 0 rfl) ?_
      refine xWg_0_5 q243 C hP dX0_seekOrder_88 ?_
      refine lv_iconst (v := 0) C.1 C.2.1 dX0_seekOrder_91 (by decide) ?_
      refine lv_iload_n C.1 C.2.1 dX0_seekOrder_92 rfl (lv_at hl 1 rfl) ?_
      obtain ⟨g6, hE⟩ := it_g hE
      obtain ⟨g7, hE⟩ := it_g hE
      obtain ⟨g8, hE⟩ := it_g hE
      refine va_copyi C.1 C.2.1 (by rw [hml]; exact hl.1.symm) C.2.2.1 (C.2.2.2.1 _ q551) (C.2.2.2.1 _ q553) (C.2.2.2.1 _ q552) (C.2.2.2.1 _ q100) C.2.2.2.2.1 hP (nD_of (nd_left C.2.2.2.2.2.1) C.2.2.2.2.2.2.2.1 xW_av) hS 7 8 0 0 rfl rfl rfl rfl rfl (by decide) (by decide) g6 g7 g8 (fun _ _ => rfl) (Nat.le_of_ble_eq_true rfl) (Nat.le_of_ble_eq_true rfl) dX0_seekOrder_93 (fun H locs hP _ hS => ?_)
      obtain rfl := Option.some.inj hE
      exact hret _ _ _ _ dX0_seekOrder_96 hP hS
    · have hE := it_f c5 hE
      refine lv_aload_n C.1 C.2.1 dX0_seekOrder_33 rfl (lv_at hl 0 rfl) ?_
      refine xWg_0_9 q247 C hP dX0_seekOrder_34 ?_
      refine lv_aload_n C.1 C.2.1 dX0_seekOrder_37 rfl (lv_at hl 0 rfl) ?_
      refine xWg_0_13 q251 C hP dX0_seekOrder_38 ?_
      refine lv_icmp_lt (tgt := 66) C.1 C.2.1 dX0_seekOrder_41 (by decide) (fun c9 => ?_) (fun c9 => ?_)
      · have hE := it_t c9 hE
        refine lv_aload_n C.1 C.2.1 dX0_seekOrder_66 rfl (lv_at hl 0 rfl) ?_
        refine lv_aload_n C.1 C.2.1 dX0_seekOrder_67 rfl (lv_at hl 0 rfl) ?_
        refine xWg_0_9 q247 C hP dX0_seekOrder_68 ?_
        refine xWp_0_13 q251 C hP hS dX0_seekOrder_71 (fun H locs hP hS => ?_)
        refine lv_aload_n C.1 C.2.1 dX0_seekOrder_74 rfl (lv_at hl 0 rfl) ?_
        refine lv_aload_n C.1 C.2.1 dX0_seekOrder_75 rfl (lv_at hl 0 rfl) ?_
        refine xWg_0_10 q248 C hP dX0_seekOrder_76 ?_
        refine xWp_0_14 q252 C hP hS dX0_seekOrder_79 (fun H locs hP hS => ?_)
        refine lv_aload_n C.1 C.2.1 dX0_seekOrder_82 rfl (lv_at hl 0 rfl) ?_
        refine xWg_0_4 q242 C hP dX0_seekOrder_83 ?_
        refine lv_iconst (v := 0) C.1 C.2.1 dX0_seekOrder_86 (by decide) ?_
        refine lv_aload_n C.1 C.2.1 dX0_seekOrder_87 rfl (lv_at hl 0 rfl) ?_
        refine xWg_0_5 q243 C hP dX0_seekOrder_88 ?_
        refine lv_iconst (v := 0) C.1 C.2.1 dX0_seekOrder_91 (by decide) ?_
        refine lv_iload_n C.1 C.2.1 dX0_seekOrder_92 rfl (lv_at hl 1 rfl) ?_
        obtain ⟨g10, hE⟩ := it_g hE
        obtain ⟨g11, hE⟩ := it_g hE
        obtain ⟨g12, hE⟩ := it_g hE
        refine va_copyi C.1 C.2.1 (by rw [hml]; exact hl.1.symm) C.2.2.1 (C.2.2.2.1 _ q551) (C.2.2.2.1 _ q553) (C.2.2.2.1 _ q552) (C.2.2.2.1 _ q100) C.2.2.2.2.1 hP (nD_of (nd_left C.2.2.2.2.2.1) C.2.2.2.2.2.2.2.1 xW_av) hS 7 8 0 0 rfl rfl rfl rfl rfl (by decide) (by decide) g10 g11 g12 (fun _ _ => rfl) (Nat.le_of_ble_eq_true rfl) (Nat.le_of_ble_eq_true rfl) dX0_seekOrder_93 (fun H locs hP _ hS => ?_)
        obtain rfl := Option.some.inj hE
        exact hret _ _ _ _ dX0_seekOrder_96 hP hS
      · have hE := it_f c9 hE
        refine lv_aload_n C.1 C.2.1 dX0_seekOrder_44 rfl (lv_at hl 0 rfl) ?_
        refine xWg_0_9 q247 C hP dX0_seekOrder_45 ?_
        refine lv_aload_n C.1 C.2.1 dX0_seekOrder_48 rfl (lv_at hl 0 rfl) ?_
        refine xWg_0_13 q251 C hP dX0_seekOrder_49 ?_
        refine lv_icmp_ne (tgt := 96) C.1 C.2.1 dX0_seekOrder_52 (by decide) (fun c13 => ?_) (fun c13 => ?_)
        · have hE := it_f c13 hE
          obtain rfl := Option.some.inj hE
          exact hret _ _ _ _ dX0_seekOrder_96 hP hS
        · have hE := it_t c13 hE
          refine lv_aload_n C.1 C.2.1 dX0_seekOrder_55 rfl (lv_at hl 0 rfl) ?_
          refine xWg_0_10 q248 C hP dX0_seekOrder_56 ?_
          refine lv_aload_n C.1 C.2.1 dX0_seekOrder_59 rfl (lv_at hl 0 rfl) ?_
          refine xWg_0_14 q252 C hP dX0_seekOrder_60 ?_
          refine lv_icmp_le (tgt := 96) C.1 C.2.1 dX0_seekOrder_63 (by decide) (fun c14 => ?_) (fun c14 => ?_)
          · have hE := it_t c14 hE
            obtain rfl := Option.some.inj hE
            exact hret _ _ _ _ dX0_seekOrder_96 hP hS
          · have hE := it_f c14 hE
            refine lv_aload_n C.1 C.2.1 dX0_seekOrder_66 rfl (lv_at hl 0 rfl) ?_
            refine lv_aload_n C.1 C.2.1 dX0_seekOrder_67 rfl (lv_at hl 0 rfl) ?_
            refine xWg_0_9 q247 C hP dX0_seekOrder_68 ?_
            refine xWp_0_13 q251 C hP hS dX0_seekOrder_71 (fun H locs hP hS => ?_)
            refine lv_aload_n C.1 C.2.1 dX0_seekOrder_74 rfl (lv_at hl 0 rfl) ?_
            refine lv_aload_n C.1 C.2.1 dX0_seekOrder_75 rfl (lv_at hl 0 rfl) ?_
            refine xWg_0_10 q248 C hP dX0_seekOrder_76 ?_
            refine xWp_0_14 q252 C hP hS dX0_seekOrder_79 (fun H locs hP hS => ?_)
            refine lv_aload_n C.1 C.2.1 dX0_seekOrder_82 rfl (lv_at hl 0 rfl) ?_
            refine xWg_0_4 q242 C hP dX0_seekOrder_83 ?_
            refine lv_iconst (v := 0) C.1 C.2.1 dX0_seekOrder_86 (by decide) ?_
            refine lv_aload_n C.1 C.2.1 dX0_seekOrder_87 rfl (lv_at hl 0 rfl) ?_
            refine xWg_0_5 q243 C hP dX0_seekOrder_88 ?_
            refine lv_iconst (v := 0) C.1 C.2.1 dX0_seekOrder_91 (by decide) ?_
            refine lv_iload_n C.1 C.2.1 dX0_seekOrder_92 rfl (lv_at hl 1 rfl) ?_
            obtain ⟨g15, hE⟩ := it_g hE
            obtain ⟨g16, hE⟩ := it_g hE
            obtain ⟨g17, hE⟩ := it_g hE
            refine va_copyi C.1 C.2.1 (by rw [hml]; exact hl.1.symm) C.2.2.1 (C.2.2.2.1 _ q551) (C.2.2.2.1 _ q553) (C.2.2.2.1 _ q552) (C.2.2.2.1 _ q100) C.2.2.2.2.1 hP (nD_of (nd_left C.2.2.2.2.2.1) C.2.2.2.2.2.2.2.1 xW_av) hS 7 8 0 0 rfl rfl rfl rfl rfl (by decide) (by decide) g15 g16 g17 (fun _ _ => rfl) (Nat.le_of_ble_eq_true rfl) (Nat.le_of_ble_eq_true rfl) dX0_seekOrder_93 (fun H locs hP _ hS => ?_)
            obtain rfl := Option.some.inj hE
            exact hret _ _ _ _ dX0_seekOrder_96 hP hS
def sC_HW_seekOrder_6_h100 (x1 : Int32) (x2 : Int32) (x3 : Int32) (v_noticedBy : Int32) (v_many : Int32) (v_weight : Int32) (v_fright : Int32) (v_age : Int32) (v_asked : Nat → Int32) (v_homes : Nat → Option Nat) (v_allergic : Nat → Int32) (hk : Nat → Nat) (hb : Nat → Int32) : Nat → Int32 → Int32 → Int32 → Int32 → Int32 → Int32 → Int32 → Int32 → Int32 → (Nat → Int32) → (Nat → Int32) → (Nat → Int32) → Option (Int32 × Int32 × Int32 × Int32 × Int32 × Int32 × Int32 × Int32 × (Nat → Int32) × (Nat → Int32) × (Nat → Int32))
  | 0, _, _, _, _, _, _, _, _, _, _, _, _ => none
  | fuel + 1, x4, v_died, v_leastWeight, v_noticed, v_orderDied, v_orderLeast, v_tweight, v_tfright, v_tage, v_tasked, v_told, v_bestRow =>
    if v_many ≤ x4 then
      some (v_died, v_leastWeight, v_noticed, v_orderDied, v_orderLeast, v_tweight, v_tfright, v_tage, v_tasked, v_told, v_bestRow)
    else
      (sC_Room_may v_many v_allergic x4).bind fun r10102 =>
      @Option.bind (Int32 × Int32 × Int32 × Int32 × Int32 × Int32 × Int32 × Int32 × (Nat → Int32) × (Nat → Int32) × (Nat → Int32)) _ (
        if r10102 = 0 then
          some (v_died, v_leastWeight, v_noticed, v_orderDied, v_orderLeast, v_tweight, v_tfright, v_tage, v_tasked, v_told, v_bestRow)
        else
          if ((x2 >>> (x4 &&& 31)) &&& 1) = 0 then
            if gi x1 40 then
            (sC_HW_seekOrder_5 v_died v_leastWeight v_noticedBy v_noticed v_orderDied v_orderLeast v_tweight v_tfright v_tage v_tasked (upd v_told (x1).toNatClampNeg x4) v_bestRow v_many v_weight v_fright v_age v_asked v_homes v_allergic hk hb (x1 + 1) (x2 ||| (1 <<< (x4 &&& 31))) x3).bind fun r10107 =>
            some (r10107.1, r10107.2.1, r10107.2.2.1, r10107.2.2.2.1, r10107.2.2.2.2.1, r10107.2.2.2.2.2.1, r10107.2.2.2.2.2.2.1, r10107.2.2.2.2.2.2.2.1, r10107.2.2.2.2.2.2.2.2.1, r10107.2.2.2.2.2.2.2.2.2.1, r10107.2.2.2.2.2.2.2.2.2.2)
            else none
          else
            some (v_died, v_leastWeight, v_noticed, v_orderDied, v_orderLeast, v_tweight, v_tfright, v_tage, v_tasked, v_told, v_bestRow)) fun u10104 =>
      sC_HW_seekOrder_6_h100 x1 x2 x3 v_noticedBy v_many v_weight v_fright v_age v_asked v_homes v_allergic hk hb fuel (x4 + 1) u10104.1 u10104.2.1 u10104.2.2.1 u10104.2.2.2.1 u10104.2.2.2.2.1 u10104.2.2.2.2.2.1 u10104.2.2.2.2.2.2.1 u10104.2.2.2.2.2.2.2.1 u10104.2.2.2.2.2.2.2.2.1 u10104.2.2.2.2.2.2.2.2.2.1 u10104.2.2.2.2.2.2.2.2.2.2
def sC_HW_seekOrder_6 (v_died : Int32) (v_leastWeight : Int32) (v_noticedBy : Int32) (v_noticed : Int32) (v_orderDied : Int32) (v_orderLeast : Int32) (v_tweight : Int32) (v_tfright : Int32) (v_tage : Int32) (v_tasked : Nat → Int32) (v_told : Nat → Int32) (v_bestRow : Nat → Int32) (v_many : Int32) (v_weight : Int32) (v_fright : Int32) (v_age : Int32) (v_asked : Nat → Int32) (v_homes : Nat → Option Nat) (v_allergic : Nat → Int32) (hk : Nat → Nat) (hb : Nat → Int32) (p1 : Int32) (p2 : Int32) (p3 : Int32) : Option (Int32 × Int32 × Int32 × Int32 × Int32 × Int32 × Int32 × Int32 × (Nat → Int32) × (Nat → Int32) × (Nat → Int32)) :=
  if p1 = p3 then
    (sC_Pet_take v_tweight v_tfright v_tage v_tasked v_weight v_fright v_age v_asked).bind fun r3 =>
    (sC_HW_goesRow v_died v_leastWeight v_noticedBy v_noticed r3.1 r3.2.1 r3.2.2.1 r3.2.2.2 v_told v_many v_homes hk hb p1).bind fun r4 =>
    if v_orderDied = (-1) then
      if ¬ p1 < 0 then
      if 0 + (p1).toNatClampNeg ≤ 40 then
      if 0 + (p1).toNatClampNeg ≤ 6 then
      some (r4.1, r4.2.1, r4.2.2.1, r4.1, r4.2.1, r4.2.2.2.1, r4.2.2.2.2.1, r4.2.2.2.2.2, r3.2.2.2, v_told, (va_cpy v_told v_bestRow 0 0 (p1).toNatClampNeg))
      else none
      else none
      else none
    else
      if r4.1 < v_orderDied then
        if ¬ p1 < 0 then
        if 0 + (p1).toNatClampNeg ≤ 40 then
        if 0 + (p1).toNatClampNeg ≤ 6 then
        some (r4.1, r4.2.1, r4.2.2.1, r4.1, r4.2.1, r4.2.2.2.1, r4.2.2.2.2.1, r4.2.2.2.2.2, r3.2.2.2, v_told, (va_cpy v_told v_bestRow 0 0 (p1).toNatClampNeg))
        else none
        else none
        else none
      else
        if r4.1 = v_orderDied then
          if r4.2.1 ≤ v_orderLeast then
            some (r4.1, r4.2.1, r4.2.2.1, v_orderDied, v_orderLeast, r4.2.2.2.1, r4.2.2.2.2.1, r4.2.2.2.2.2, r3.2.2.2, v_told, v_bestRow)
          else
            if ¬ p1 < 0 then
            if 0 + (p1).toNatClampNeg ≤ 40 then
            if 0 + (p1).toNatClampNeg ≤ 6 then
            some (r4.1, r4.2.1, r4.2.2.1, r4.1, r4.2.1, r4.2.2.2.1, r4.2.2.2.2.1, r4.2.2.2.2.2, r3.2.2.2, v_told, (va_cpy v_told v_bestRow 0 0 (p1).toNatClampNeg))
            else none
            else none
            else none
        else
          some (r4.1, r4.2.1, r4.2.2.1, v_orderDied, v_orderLeast, r4.2.2.2.1, r4.2.2.2.2.1, r4.2.2.2.2.2, r3.2.2.2, v_told, v_bestRow)
  else
    (sC_HW_seekOrder_6_h100 p1 p2 p3 v_noticedBy v_many v_weight v_fright v_age v_asked v_homes v_allergic hk hb 2000 0 v_died v_leastWeight v_noticed v_orderDied v_orderLeast v_tweight v_tfright v_tage v_tasked v_told v_bestRow).bind fun u2 =>
    some (u2.1, u2.2.1, u2.2.2.1, u2.2.2.2.1, u2.2.2.2.2.1, u2.2.2.2.2.2.1, u2.2.2.2.2.2.2.1, u2.2.2.2.2.2.2.2.1, u2.2.2.2.2.2.2.2.2.1, u2.2.2.2.2.2.2.2.2.2.1, u2.2.2.2.2.2.2.2.2.2.2)
set_option maxHeartbeats 4000000 in
theorem wC_HW_seekOrder_6_h100 {p : Program} {l : Launch} {e : Env} {s : State} {m : MethodId} {args : Array Value} {below : List Frame} {meth : Method} {c : Code} {Q : State → Prop} {G : kG} {ad : Nat → Nat} {pl : va_W} {hk : Nat → Nat} {hb : Nat → Int32} {v_latestFault : Int32} {v_noticedBy : Int32} {v_imaged : Option Nat} {v_shelves : Nat → Option Nat} {v_refusals : Nat → Int32} {v_ran : Int32} {v_bodies : Nat → Int32} {v_weight_a1 : Int32} {v_fright_a1 : Int32} {v_age_a1 : Int32} {v_asked_a1 : Nat → Int32} {v_weight_a2 : Int32} {v_fright_a2 : Int32} {v_age_a2 : Int32} {v_asked_a2 : Nat → Int32} {v_weight_a3 : Int32} {v_fright_a3 : Int32} {v_age_a3 : Int32} {v_asked_a3 : Nat → Int32} {v_weight_a4 : Int32} {v_fright_a4 : Int32} {v_age_a4 : Int32} {v_asked_a4 : Nat → Int32} {v_many : Int32} {v_pets : Int32} {v_last : Int32} {v_seed : Int32} {v_weight : Int32} {v_fright : Int32} {v_age : Int32} {v_asked : Nat → Int32} {v_homes : Nat → Option Nat} {v_marks : Nat → Int32} {v_had : Nat → Int32} {v_allergic : Nat → Int32} {v_deaths : Nat → Int32} (C : nC p s m args c cX0_seekOrder RX0 G (xWV ad) pl (nA (xWV ad))) (hml : c.maxLocals = 5)  (hom : homOK v_homes v_many hk hb pl) (x1 : Int32) (x2 : Int32) (x3 : Int32) (res : Int32 × Int32 × Int32 × Int32 × Int32 × Int32 × Int32 × Int32 × (Nat → Int32) × (Nat → Int32) × (Nat → Int32)) :
    ∀ (fuel : Nat) (x4 : Int32) (v_died : Int32) (v_leastWeight : Int32) (v_noticed : Int32) (v_orderDied : Int32) (v_orderLeast : Int32) (v_tweight : Int32) (v_tfright : Int32) (v_tage : Int32) (v_tasked : Nat → Int32) (v_told : Nat → Int32) (v_bestRow : Nat → Int32) (H : Heap) (locs : List Loc) (ls : Array Slot), sC_HW_seekOrder_6_h100 x1 x2 x3 v_noticedBy v_many v_weight v_fright v_age v_asked v_homes v_allergic hk hb fuel x4 v_died v_leastWeight v_noticed v_orderDied v_orderLeast v_tweight v_tfright v_tage v_tasked v_told v_bestRow = some res → va_P G.1 vwCl (xW G.2 ad v_latestFault v_died v_leastWeight v_noticedBy v_noticed v_orderDied v_orderLeast v_imaged v_shelves v_refusals v_ran v_bodies v_tweight v_tfright v_tage v_tasked v_told v_bestRow v_weight_a1 v_fright_a1 v_age_a1 v_asked_a1 v_weight_a2 v_fright_a2 v_age_a2 v_asked_a2 v_weight_a3 v_fright_a3 v_age_a3 v_asked_a3 v_weight_a4 v_fright_a4 v_age_a4 v_asked_a4 v_many v_pets v_last v_seed v_weight v_fright v_age v_asked v_homes v_marks v_had v_allergic v_deaths) H → va_S (nA (xWV ad)) s.heap H locs → lv_has ls 5 [(0, .ref (ad 0)), (1, .int x1), (2, .int x2), (3, .int x3), (4, .int x4)] → (∀ (H : Heap) (locs : List Loc) (ls : Array Slot), va_P G.1 vwCl (xW G.2 ad v_latestFault res.1 res.2.1 v_noticedBy res.2.2.1 res.2.2.2.1 res.2.2.2.2.1 v_imaged v_shelves v_refusals v_ran v_bodies res.2.2.2.2.2.1 res.2.2.2.2.2.2.1 res.2.2.2.2.2.2.2.1 res.2.2.2.2.2.2.2.2.1 res.2.2.2.2.2.2.2.2.2.1 res.2.2.2.2.2.2.2.2.2.2 v_weight_a1 v_fright_a1 v_age_a1 v_asked_a1 v_weight_a2 v_fright_a2 v_age_a2 v_asked_a2 v_weight_a3 v_fright_a3 v_age_a3 v_asked_a3 v_weight_a4 v_fright_a4 v_age_a4 v_asked_a4 v_many v_pets v_last v_seed v_weight v_fright v_age v_asked v_homes v_marks v_had v_allergic v_deaths) H → va_S (nA (xWV ad)) s.heap H locs → lv_has ls 5 [] → W p l e ({ frames := 12, cells := 0, slots := 0, locals := 273 } : Room) s m args below meth c H locs 0 0 Q (F0 m 161 ls [])) → W p l e ({ frames := 12, cells := 0, slots := 0, locals := 273 } : Room) s m args below meth c H locs 0 0 Q (F0 m 100 ls []) := by
  intro fuel
  induction fuel with
  | zero =>
    intro x4 v_died v_leastWeight v_noticed v_orderDied v_orderLeast v_tweight v_tfright v_tage v_tasked v_told v_bestRow H locs ls hE
    exact it_n hE
  | succ fuel ih =>
    intro x4 v_died v_leastWeight v_noticed v_orderDied v_orderLeast v_tweight v_tfright v_tage v_tasked v_told v_bestRow H locs ls hE hP hS hl hX
    rw [sC_HW_seekOrder_6_h100] at hE
    refine lv_iload C.1 C.2.1 dX0_seekOrder_100 (lv_at hl 4 rfl) ?_
    refine lv_aload_n C.1 C.2.1 dX0_seekOrder_102 rfl (lv_at hl 0 rfl) ?_
    refine xWg_0_6 q244 C hP dX0_seekOrder_103 ?_
    refine xWg_18_0 q182 C hP dX0_seekOrder_106 ?_
    refine lv_icmp_ge (tgt := 161) C.1 C.2.1 dX0_seekOrder_109 (by decide) (fun c10101 => ?_) (fun c10101 => ?_)
    · have hE := it_t c10101 hE
      obtain rfl := Option.some.inj hE
      exact hX H locs ls hP hS (lv_sub hl [] rfl)
    · have hE := it_f c10101 hE
      refine lv_aload_n C.1 C.2.1 dX0_seekOrder_112 rfl (lv_at hl 0 rfl) ?_
      refine xWg_0_6 q244 C hP dX0_seekOrder_113 ?_
      refine lv_iload C.1 C.2.1 dX0_seekOrder_116 (lv_at hl 4 rfl) ?_
      obtain ⟨r10102, hr10102, hE⟩ := it_b hE
      refine n_after [18, 19, 20, 21, 22, 23, 24, 25] C.2.2.2.2.2.1 C.2.2.2.2.2.2.2.1 hP hS (va_runV (As := [.int x4]) (rest := []) ⟨C.1, C.2.1, hml, C.2.2.1, C.2.2.2.1⟩ (metC_Room_may l G (fun i => ad (18 + i)) pl _ _ _ _ _ _ _ _ _ _ _ _ _ x4  r10102 hr10102) (cwV (C := RX3) 1 C.2.2.2.1 (lw_V q1067 q972 q973 q83 q974) rfl rfl rfl (by decide +kernel) ⟨Nat.le_of_ble_eq_true rfl, Nat.le_of_ble_eq_true rfl⟩) (n_preV C hP hS [18, 19, 20, 21, 22, 23, 24, 25] sub_xW_rW_18 (by decide) rfl (va_recv C.2.2.2.2.1 hP (ci := 12) (q0 := 18) rfl rfl)) rfl rfl hl.1 rfl (lv_room (Nat.le_of_ble_eq_true rfl)) dX0_seekOrder_118 ⟨Nat.le_refl _, Nat.le_refl _⟩) xW_av rfl rfl mg_xW_rW_18 (fun H locs hP hS => ?_)
      obtain ⟨u10104, hR, hE⟩ := it_b hE
      have hJ155u10104 : ∀ (H : Heap) (locs : List Loc) (ls : Array Slot), va_P G.1 vwCl (xW G.2 ad v_latestFault u10104.1 u10104.2.1 v_noticedBy u10104.2.2.1 u10104.2.2.2.1 u10104.2.2.2.2.1 v_imaged v_shelves v_refusals v_ran v_bodies u10104.2.2.2.2.2.1 u10104.2.2.2.2.2.2.1 u10104.2.2.2.2.2.2.2.1 u10104.2.2.2.2.2.2.2.2.1 u10104.2.2.2.2.2.2.2.2.2.1 u10104.2.2.2.2.2.2.2.2.2.2 v_weight_a1 v_fright_a1 v_age_a1 v_asked_a1 v_weight_a2 v_fright_a2 v_age_a2 v_asked_a2 v_weight_a3 v_fright_a3 v_age_a3 v_asked_a3 v_weight_a4 v_fright_a4 v_age_a4 v_asked_a4 v_many v_pets v_last v_seed v_weight v_fright v_age v_asked v_homes v_marks v_had v_allergic v_deaths) H → va_S (nA (xWV ad)) s.heap H locs → lv_has ls 5 [(0, .ref (ad 0)), (1, .int x1), (2, .int x2), (3, .int x3), (4, .int x4)] → W p l e ({ frames := 12, cells := 0, slots := 0, locals := 273 } : Room) s m args below meth c H locs 0 0 Q (F0 m 155 ls []) := by
        intro H locs ls hP hS hl
        refine lv_iinc (v := (x4 + 1)) (lv' := [(4, .int (x4 + 1)), (0, .ref (ad 0)), (1, .int x1), (2, .int x2), (3, .int x3)]) C.1 C.2.1 dX0_seekOrder_155 hl (k := 4) rfl rfl (by decide) rfl (fun ls hl => ?_)
        refine lv_goto (tgt := 100) C.1 C.2.1 dX0_seekOrder_158 (by decide) ?_
        exact ih (x4 + 1) u10104.1 u10104.2.1 u10104.2.2.1 u10104.2.2.2.1 u10104.2.2.2.2.1 u10104.2.2.2.2.2.1 u10104.2.2.2.2.2.2.1 u10104.2.2.2.2.2.2.2.1 u10104.2.2.2.2.2.2.2.2.1 u10104.2.2.2.2.2.2.2.2.2.1 u10104.2.2.2.2.2.2.2.2.2.2 _ _ _ hE hP hS (lv_sub hl [1, 2, 3, 4, 0] rfl) hX
      have hE := hR
      refine lv_if_eq (tgt := 155) C.1 C.2.1 dX0_seekOrder_121 (by decide) (fun c10103 => ?_) (fun c10103 => ?_)
      · have hE := it_t c10103 hE
        obtain rfl := Option.some.inj hE
        exact hJ155u10104 H locs ls hP hS (lv_sub hl [0, 1, 2, 3, 4] rfl)
      · have hE := it_f c10103 hE
        refine lv_iload_n C.1 C.2.1 dX0_seekOrder_124 rfl (lv_at hl 2 rfl) ?_
        refine lv_iload C.1 C.2.1 dX0_seekOrder_125 (lv_at hl 4 rfl) ?_
        refine lv_ishr C.1 C.2.1 dX0_seekOrder_127 ?_
        refine lv_iconst (v := 1) C.1 C.2.1 dX0_seekOrder_128 (by decide) ?_
        refine lv_iand C.1 C.2.1 dX0_seekOrder_129 ?_
        refine lv_if_ne (tgt := 155) C.1 C.2.1 dX0_seekOrder_130 (by decide) (fun c10105 => ?_) (fun c10105 => ?_)
        · have hE := it_f c10105 hE
          obtain rfl := Option.some.inj hE
          exact hJ155u10104 H locs ls hP hS (lv_sub hl [0, 1, 2, 3, 4] rfl)
        · have hE := it_t c10105 hE
          refine lv_aload_n C.1 C.2.1 dX0_seekOrder_133 rfl (lv_at hl 0 rfl) ?_
          refine xWg_0_4 q242 C hP dX0_seekOrder_134 ?_
          refine lv_iload_n C.1 C.2.1 dX0_seekOrder_137 rfl (lv_at hl 1 rfl) ?_
          refine lv_iload C.1 C.2.1 dX0_seekOrder_138 (lv_at hl 4 rfl) ?_
          obtain ⟨g10106, hE⟩ := it_g hE
          refine xWs_7 C hP hS (gi_in g10106) dX0_seekOrder_140 (fun H locs hP hS => ?_)
          refine lv_aload_n C.1 C.2.1 dX0_seekOrder_141 rfl (lv_at hl 0 rfl) ?_
          refine lv_iload_n C.1 C.2.1 dX0_seekOrder_142 rfl (lv_at hl 1 rfl) ?_
          refine lv_iconst (v := 1) C.1 C.2.1 dX0_seekOrder_143 (by decide) ?_
          refine lv_iadd C.1 C.2.1 dX0_seekOrder_144 ?_
          refine lv_iload_n C.1 C.2.1 dX0_seekOrder_145 rfl (lv_at hl 2 rfl) ?_
          refine lv_iconst (v := 1) C.1 C.2.1 dX0_seekOrder_146 (by decide) ?_
          refine lv_iload C.1 C.2.1 dX0_seekOrder_147 (lv_at hl 4 rfl) ?_
          refine lv_ishl C.1 C.2.1 dX0_seekOrder_149 ?_
          refine lv_ior C.1 C.2.1 dX0_seekOrder_150 ?_
          refine lv_iload_n C.1 C.2.1 dX0_seekOrder_151 rfl (lv_at hl 3 rfl) ?_
          obtain ⟨r10107, hr10107, hE⟩ := it_b hE
          refine n_afterS C.2.2.2.2.2.2.2.1 hS (va_runV (As := [.int (x1 + 1), .int (x2 ||| (1 <<< (x4 &&& 31))), .int x3]) (rest := []) ⟨C.1, C.2.1, hml, C.2.2.1, C.2.2.2.1⟩ (metC_HW_seekOrder_5 l G ad pl hk hb _ _ _ _ _ _ _ _ _ _ _ _ _ _ _ _ _ _ _ _ _ _ _ _ _ _ _ _ _ _ _ _ _ _ _ _ _ _ _ _ _ _ _ _ _ _ _ hom (x1 + 1) (x2 ||| (1 <<< (x4 &&& 31))) x3  r10107 hr10107) (cwV (C := RX0) 3 C.2.2.2.1 (lw_V q1131 q1133 qs27 q80 q1134) rfl rfl rfl (by decide +kernel) ⟨Nat.le_of_ble_eq_true rfl, Nat.le_of_ble_eq_true rfl⟩) (n_preV0 C hP hS (va_recv C.2.2.2.2.1 hP (ci := 16) (q0 := 0) rfl rfl)) rfl rfl hl.1 rfl (lv_room (Nat.le_of_ble_eq_true rfl)) dX0_seekOrder_152 ⟨Nat.le_refl _, Nat.le_refl _⟩) (fun H locs hP hS => ?_)
          obtain rfl := Option.some.inj hE
          exact hJ155u10104 H locs ls hP hS (lv_sub hl [0, 1, 2, 3, 4] rfl)
set_option maxHeartbeats 4000000 in
theorem metC_HW_seekOrder_6 (l : Launch) (G : kG) (ad : Nat → Nat) (pl : va_W) (hk : Nat → Nat) (hb : Nat → Int32) (v_latestFault : Int32) (v_died : Int32) (v_leastWeight : Int32) (v_noticedBy : Int32) (v_noticed : Int32) (v_orderDied : Int32) (v_orderLeast : Int32) (v_imaged : Option Nat) (v_shelves : Nat → Option Nat) (v_refusals : Nat → Int32) (v_ran : Int32) (v_bodies : Nat → Int32) (v_tweight : Int32) (v_tfright : Int32) (v_tage : Int32) (v_tasked : Nat → Int32) (v_told : Nat → Int32) (v_bestRow : Nat → Int32) (v_weight_a1 : Int32) (v_fright_a1 : Int32) (v_age_a1 : Int32) (v_asked_a1 : Nat → Int32) (v_weight_a2 : Int32) (v_fright_a2 : Int32) (v_age_a2 : Int32) (v_asked_a2 : Nat → Int32) (v_weight_a3 : Int32) (v_fright_a3 : Int32) (v_age_a3 : Int32) (v_asked_a3 : Nat → Int32) (v_weight_a4 : Int32) (v_fright_a4 : Int32) (v_age_a4 : Int32) (v_asked_a4 : Nat → Int32) (v_many : Int32) (v_pets : Int32) (v_last : Int32) (v_seed : Int32) (v_weight : Int32) (v_fright : Int32) (v_age : Int32) (v_asked : Nat → Int32) (v_homes : Nat → Option Nat) (v_marks : Nat → Int32) (v_had : Nat → Int32) (v_allergic : Nat → Int32) (v_deaths : Nat → Int32) (hom : homOK v_homes v_many hk hb pl) (p1 : Int32) (p2 : Int32) (p3 : Int32) (res : Int32 × Int32 × Int32 × Int32 × Int32 × Int32 × Int32 × Int32 × (Nat → Int32) × (Nat → Int32) × (Nat → Int32)) (hE : sC_HW_seekOrder_6 v_died v_leastWeight v_noticedBy v_noticed v_orderDied v_orderLeast v_tweight v_tfright v_tage v_tasked v_told v_bestRow v_many v_weight v_fright v_age v_asked v_homes v_allergic hk hb p1 p2 p3 = some res) : Met l yX0_seekOrder (ws_ yX0_seekOrder cX0_seekOrder 5 none) ({ frames := 12, cells := 0, slots := 0, locals := 273 } : Room) (nPc G (xW G.2 ad v_latestFault v_died v_leastWeight v_noticedBy v_noticed v_orderDied v_orderLeast v_imaged v_shelves v_refusals v_ran v_bodies v_tweight v_tfright v_tage v_tasked v_told v_bestRow v_weight_a1 v_fright_a1 v_age_a1 v_asked_a1 v_weight_a2 v_fright_a2 v_age_a2 v_asked_a2 v_weight_a3 v_fright_a3 v_age_a3 v_asked_a3 v_weight_a4 v_fright_a4 v_age_a4 v_asked_a4 v_many v_pets v_last v_seed v_weight v_fright v_age v_asked v_homes v_marks v_had v_allergic v_deaths) pl (xWV ad) [.ref (ad 0), .int p1, .int p2, .int p3]) (nQc G (xW G.2 ad v_latestFault res.1 res.2.1 v_noticedBy res.2.2.1 res.2.2.2.1 res.2.2.2.2.1 v_imaged v_shelves v_refusals v_ran v_bodies res.2.2.2.2.2.1 res.2.2.2.2.2.2.1 res.2.2.2.2.2.2.2.1 res.2.2.2.2.2.2.2.2.1 res.2.2.2.2.2.2.2.2.2.1 res.2.2.2.2.2.2.2.2.2.2 v_weight_a1 v_fright_a1 v_age_a1 v_asked_a1 v_weight_a2 v_fright_a2 v_age_a2 v_asked_a2 v_weight_a3 v_fright_a3 v_age_a3 v_asked_a3 v_weight_a4 v_fright_a4 v_age_a4 v_asked_a4 v_many v_pets v_last v_seed v_weight v_fright v_age v_asked v_homes v_marks v_had v_allergic v_deaths) (xWV ad) none) 0 0 (nA (xWV ad)) := by
  refine n_ofW (own := RX0) (by decide) rfl (Nat.le_of_ble_eq_true rfl) ?_
  intro p e s m args below meth c ls C hml hP hS hl hr hlocks
  have hl : lv_has ls 5 [(0, .ref (ad 0)), (1, .int p1), (2, .int p2), (3, .int p3)] := hl
  obtain ⟨Q, hQ⟩ : ∃ Q, Q = MQ below (nQc G (xW G.2 ad v_latestFault res.1 res.2.1 v_noticedBy res.2.2.1 res.2.2.2.1 res.2.2.2.2.1 v_imaged v_shelves v_refusals v_ran v_bodies res.2.2.2.2.2.1 res.2.2.2.2.2.2.1 res.2.2.2.2.2.2.2.1 res.2.2.2.2.2.2.2.2.1 res.2.2.2.2.2.2.2.2.2.1 res.2.2.2.2.2.2.2.2.2.2 v_weight_a1 v_fright_a1 v_age_a1 v_asked_a1 v_weight_a2 v_fright_a2 v_age_a2 v_asked_a2 v_weight_a3 v_fright_a3 v_age_a3 v_asked_a3 v_weight_a4 v_fright_a4 v_age_a4 v_asked_a4 v_many v_pets v_last v_seed v_weight v_fright v_age v_asked v_homes v_marks v_had v_allergic v_deaths) (xWV ad) none) args s 0 0 (nA (xWV ad)) := ⟨_, rfl⟩
  rw [← hQ]
  have hret : ∀ (pc : Nat) (ls : Array Slot) (H : Heap) (locs : List Loc), decode cX0_seekOrder pc = .ok (.return_, 1) → va_P G.1 vwCl (xW G.2 ad v_latestFault res.1 res.2.1 v_noticedBy res.2.2.1 res.2.2.2.1 res.2.2.2.2.1 v_imaged v_shelves v_refusals v_ran v_bodies res.2.2.2.2.2.1 res.2.2.2.2.2.2.1 res.2.2.2.2.2.2.2.1 res.2.2.2.2.2.2.2.2.1 res.2.2.2.2.2.2.2.2.2.1 res.2.2.2.2.2.2.2.2.2.2 v_weight_a1 v_fright_a1 v_age_a1 v_asked_a1 v_weight_a2 v_fright_a2 v_age_a2 v_asked_a2 v_weight_a3 v_fright_a3 v_age_a3 v_asked_a3 v_weight_a4 v_fright_a4 v_age_a4 v_asked_a4 v_many v_pets v_last v_seed v_weight v_fright v_age v_asked v_homes v_marks v_had v_allergic v_deaths) H → va_S (nA (xWV ad)) s.heap H locs → W p l e ({ frames := 12, cells := 0, slots := 0, locals := 273 } : Room) s m args below meth c H locs 0 0 Q (F0 m pc ls []) := by
    intro pc ls H locs hd hP hS
    rw [hQ]
    exact n_vret C hr hlocks hd hP hS
  clear hQ
  obtain ⟨H, hH⟩ : ∃ H, H = s.heap := ⟨_, rfl⟩
  obtain ⟨locs, hlo⟩ : ∃ locs : List Loc, locs = [] := ⟨_, rfl⟩
  have hP : va_P G.1 vwCl (xW G.2 ad v_latestFault v_died v_leastWeight v_noticedBy v_noticed v_orderDied v_orderLeast v_imaged v_shelves v_refusals v_ran v_bodies v_tweight v_tfright v_tage v_tasked v_told v_bestRow v_weight_a1 v_fright_a1 v_age_a1 v_asked_a1 v_weight_a2 v_fright_a2 v_age_a2 v_asked_a2 v_weight_a3 v_fright_a3 v_age_a3 v_asked_a3 v_weight_a4 v_fright_a4 v_age_a4 v_asked_a4 v_many v_pets v_last v_seed v_weight v_fright v_age v_asked v_homes v_marks v_had v_allergic v_deaths) H := by rw [hH]; exact hP
  have hS : va_S (nA (xWV ad)) s.heap H locs := by rw [hH, hlo]; exact hS
  suffices hZ : W p l e ({ frames := 12, cells := 0, slots := 0, locals := 273 } : Room) s m args below meth c H locs 0 0 Q (F0 m 0 ls []) by rw [hH, hlo] at hZ; exact hZ
  clear hH hlo
  unfold sC_HW_seekOrder_6 at hE
  refine lv_iload_n C.1 C.2.1 dX0_seekOrder_0 rfl (lv_at hl 1 rfl) ?_
  refine lv_iload_n C.1 C.2.1 dX0_seekOrder_1 rfl (lv_at hl 3 rfl) ?_
  refine lv_icmp_ne (tgt := 97) C.1 C.2.1 dX0_seekOrder_2 (by decide) (fun c1 => ?_) (fun c1 => ?_)
  · have hE := it_f c1 hE
    refine lv_iconst (v := 0) C.1 C.2.1 dX0_seekOrder_97 (by decide) ?_
    refine lv_istore (lv' := [(4, .int 0), (0, .ref (ad 0)), (1, .int p1), (2, .int p2), (3, .int p3)]) C.1 C.2.1 dX0_seekOrder_98 hl (by decide) rfl (fun ls hl => ?_)
    obtain ⟨u2, hu2, hE⟩ := it_b hE
    refine wC_HW_seekOrder_6_h100 C hml  hom p1 p2 p3 u2 2000 0 v_died v_leastWeight v_noticed v_orderDied v_orderLeast v_tweight v_tfright v_tage v_tasked v_told v_bestRow H locs ls hu2 hP hS (lv_sub hl [1, 2, 3, 4, 0] rfl) (fun H locs ls hP hS hl => ?_)
    obtain rfl := Option.some.inj hE
    exact hret _ _ _ _ dX0_seekOrder_161 hP hS
  · have hE := it_t c1 hE
    refine lv_aload_n C.1 C.2.1 dX0_seekOrder_5 rfl (lv_at hl 0 rfl) ?_
    refine xWg_0_3 q241 C hP dX0_seekOrder_6 ?_
    refine lv_aload_n C.1 C.2.1 dX0_seekOrder_9 rfl (lv_at hl 0 rfl) ?_
    refine xWg_0_6 q244 C hP dX0_seekOrder_10 ?_
    refine xWg_18_4 q191 C hP dX0_seekOrder_13 ?_
    obtain ⟨r3, hr3, hE⟩ := it_b hE
    refine n_after [5, 6, 19, 20] C.2.2.2.2.2.1 C.2.2.2.2.2.2.2.1 hP hS (va_runV (As := [.ref (ad 19)]) (rest := []) ⟨C.1, C.2.1, hml, C.2.2.1, C.2.2.2.1⟩ (metC_Pet_take l G (fun i => ad (if i < 2 then 5 + i else 19 + (i - 2))) pl _ _ _ _ _ _ _ _   r3 hr3) (cwV (C := RX2) 1 C.2.2.2.1 (lw_V q1076 q796 q797 q82 q798) rfl rfl rfl (by decide +kernel) ⟨Nat.le_of_ble_eq_true rfl, Nat.le_of_ble_eq_true rfl⟩) (n_preV C hP hS [5, 6, 19, 20] sub_xW_ppW_5_19 (by decide) rfl (va_recv C.2.2.2.2.1 hP (ci := 11) (q0 := 5) rfl rfl)) rfl rfl hl.1 rfl (lv_room (Nat.le_of_ble_eq_true rfl)) dX0_seekOrder_16 ⟨Nat.le_refl _, Nat.le_refl _⟩) xW_av rfl rfl mg_xW_ppW_5_19 (fun H locs hP hS => ?_)
    refine lv_pop C.1 C.2.1 dX0_seekOrder_19 rfl ?_
    refine lv_aload_n C.1 C.2.1 dX0_seekOrder_20 rfl (lv_at hl 0 rfl) ?_
    refine lv_iload_n C.1 C.2.1 dX0_seekOrder_21 rfl (lv_at hl 1 rfl) ?_
    obtain ⟨r4, hr4, hE⟩ := it_b hE
    refine n_afterS C.2.2.2.2.2.2.2.1 hS (va_runV (As := [.int p1]) (rest := []) ⟨C.1, C.2.1, hml, C.2.2.1, C.2.2.2.1⟩ (metC_HW_goesRow l G ad pl hk hb _ _ _ _ _ _ _ _ _ _ _ _ _ _ _ _ _ _ _ _ _ _ _ _ _ _ _ _ _ _ _ _ _ _ _ _ _ _ _ _ _ _ _ _ _ _ _ hom p1  r4 hr4) (cwV (C := RX0) 1 C.2.2.2.1 (lw_V q1077 q1079 qs23 q80 q1080) rfl rfl rfl (by decide +kernel) ⟨Nat.le_of_ble_eq_true rfl, Nat.le_of_ble_eq_true rfl⟩) (n_preV0 C hP hS (va_recv C.2.2.2.2.1 hP (ci := 16) (q0 := 0) rfl rfl)) rfl rfl hl.1 rfl (lv_room (Nat.le_of_ble_eq_true rfl)) dX0_seekOrder_22 ⟨Nat.le_refl _, Nat.le_refl _⟩) (fun H locs hP hS => ?_)
    refine lv_aload_n C.1 C.2.1 dX0_seekOrder_25 rfl (lv_at hl 0 rfl) ?_
    refine xWg_0_13 q251 C hP dX0_seekOrder_26 ?_
    refine lv_iconst (v := (-1)) C.1 C.2.1 dX0_seekOrder_29 (by decide) ?_
    refine lv_icmp_eq (tgt := 66) C.1 C.2.1 dX0_seekOrder_30 (by decide) (fun c5 => ?_) (fun c5 => ?_)
    · have hE := it_t c5 hE
      refine lv_aload_n C.1 C.2.1 dX0_seekOrder_66 rfl (lv_at hl 0 rfl) ?_
      refine lv_aload_n C.1 C.2.1 dX0_seekOrder_67 rfl (lv_at hl 0 rfl) ?_
      refine xWg_0_9 q247 C hP dX0_seekOrder_68 ?_
      refine xWp_0_13 q251 C hP hS dX0_seekOrder_71 (fun H locs hP hS => ?_)
      refine lv_aload_n C.1 C.2.1 dX0_seekOrder_74 rfl (lv_at hl 0 rfl) ?_
      refine lv_aload_n C.1 C.2.1 dX0_seekOrder_75 rfl (lv_at hl 0 rfl) ?_
      refine xWg_0_10 q248 C hP dX0_seekOrder_76 ?_
      refine xWp_0_14 q252 C hP hS dX0_seekOrder_79 (fun H locs hP hS => ?_)
      refine lv_aload_n C.1 C.2.1 dX0_seekOrder_82 rfl (lv_at hl 0 rfl) ?_
      refine xWg_0_4 q242 C hP dX0_seekOrder_83 ?_
      refine lv_iconst (v := 0) C.1 C.2.1 dX0_seekOrder_86 (by decide) ?_
      refine lv_aload_n C.1 C.2.1 dX0_seekOrder_87 rfl (lv_at hl 0 rfl) ?_
      refine xWg_0_5 q243 C hP dX0_seekOrder_88 ?_
      refine lv_iconst (v := 0) C.1 C.2.1 dX0_seekOrder_91 (by decide) ?_
      refine lv_iload_n C.1 C.2.1 dX0_seekOrder_92 rfl (lv_at hl 1 rfl) ?_
      obtain ⟨g6, hE⟩ := it_g hE
      obtain ⟨g7, hE⟩ := it_g hE
      obtain ⟨g8, hE⟩ := it_g hE
      refine va_copyi C.1 C.2.1 (by rw [hml]; exact hl.1.symm) C.2.2.1 (C.2.2.2.1 _ q551) (C.2.2.2.1 _ q553) (C.2.2.2.1 _ q552) (C.2.2.2.1 _ q100) C.2.2.2.2.1 hP (nD_of (nd_left C.2.2.2.2.2.1) C.2.2.2.2.2.2.2.1 xW_av) hS 7 8 0 0 rfl rfl rfl rfl rfl (by decide) (by decide) g6 g7 g8 (fun _ _ => rfl) (Nat.le_of_ble_eq_true rfl) (Nat.le_of_ble_eq_true rfl) dX0_seekOrder_93 (fun H locs hP _ hS => ?_)
      obtain rfl := Option.some.inj hE
      exact hret _ _ _ _ dX0_seekOrder_96 hP hS
    · have hE := it_f c5 hE
      refine lv_aload_n C.1 C.2.1 dX0_seekOrder_33 rfl (lv_at hl 0 rfl) ?_
      refine xWg_0_9 q247 C hP dX0_seekOrder_34 ?_
      refine lv_aload_n C.1 C.2.1 dX0_seekOrder_37 rfl (lv_at hl 0 rfl) ?_
      refine xWg_0_13 q251 C hP dX0_seekOrder_38 ?_
      refine lv_icmp_lt (tgt := 66) C.1 C.2.1 dX0_seekOrder_41 (by decide) (fun c9 => ?_) (fun c9 => ?_)
      · have hE := it_t c9 hE
        refine lv_aload_n C.1 C.2.1 dX0_seekOrder_66 rfl (lv_at hl 0 rfl) ?_
        refine lv_aload_n C.1 C.2.1 dX0_seekOrder_67 rfl (lv_at hl 0 rfl) ?_
        refine xWg_0_9 q247 C hP dX0_seekOrder_68 ?_
        refine xWp_0_13 q251 C hP hS dX0_seekOrder_71 (fun H locs hP hS => ?_)
        refine lv_aload_n C.1 C.2.1 dX0_seekOrder_74 rfl (lv_at hl 0 rfl) ?_
        refine lv_aload_n C.1 C.2.1 dX0_seekOrder_75 rfl (lv_at hl 0 rfl) ?_
        refine xWg_0_10 q248 C hP dX0_seekOrder_76 ?_
        refine xWp_0_14 q252 C hP hS dX0_seekOrder_79 (fun H locs hP hS => ?_)
        refine lv_aload_n C.1 C.2.1 dX0_seekOrder_82 rfl (lv_at hl 0 rfl) ?_
        refine xWg_0_4 q242 C hP dX0_seekOrder_83 ?_
        refine lv_iconst (v := 0) C.1 C.2.1 dX0_seekOrder_86 (by decide) ?_
        refine lv_aload_n C.1 C.2.1 dX0_seekOrder_87 rfl (lv_at hl 0 rfl) ?_
        refine xWg_0_5 q243 C hP dX0_seekOrder_88 ?_
        refine lv_iconst (v := 0) C.1 C.2.1 dX0_seekOrder_91 (by decide) ?_
        refine lv_iload_n C.1 C.2.1 dX0_seekOrder_92 rfl (lv_at hl 1 rfl) ?_
        obtain ⟨g10, hE⟩ := it_g hE
        obtain ⟨g11, hE⟩ := it_g hE
        obtain ⟨g12, hE⟩ := it_g hE
        refine va_copyi C.1 C.2.1 (by rw [hml]; exact hl.1.symm) C.2.2.1 (C.2.2.2.1 _ q551) (C.2.2.2.1 _ q553) (C.2.2.2.1 _ q552) (C.2.2.2.1 _ q100) C.2.2.2.2.1 hP (nD_of (nd_left C.2.2.2.2.2.1) C.2.2.2.2.2.2.2.1 xW_av) hS 7 8 0 0 rfl rfl rfl rfl rfl (by decide) (by decide) g10 g11 g12 (fun _ _ => rfl) (Nat.le_of_ble_eq_true rfl) (Nat.le_of_ble_eq_true rfl) dX0_seekOrder_93 (fun H locs hP _ hS => ?_)
        obtain rfl := Option.some.inj hE
        exact hret _ _ _ _ dX0_seekOrder_96 hP hS
      · have hE := it_f c9 hE
        refine lv_aload_n C.1 C.2.1 dX0_seekOrder_44 rfl (lv_at hl 0 rfl) ?_
        refine xWg_0_9 q247 C hP dX0_seekOrder_45 ?_
        refine lv_aload_n C.1 C.2.1 dX0_seekOrder_48 rfl (lv_at hl 0 rfl) ?_
        refine xWg_0_13 q251 C hP dX0_seekOrder_49 ?_
        refine lv_icmp_ne (tgt := 96) C.1 C.2.1 dX0_seekOrder_52 (by decide) (fun c13 => ?_) (fun c13 => ?_)
        · have hE := it_f c13 hE
          obtain rfl := Option.some.inj hE
          exact hret _ _ _ _ dX0_seekOrder_96 hP hS
        · have hE := it_t c13 hE
          refine lv_aload_n C.1 C.2.1 dX0_seekOrder_55 rfl (lv_at hl 0 rfl) ?_
          refine xWg_0_10 q248 C hP dX0_seekOrder_56 ?_
          refine lv_aload_n C.1 C.2.1 dX0_seekOrder_59 rfl (lv_at hl 0 rfl) ?_
          refine xWg_0_14 q252 C hP dX0_seekOrder_60 ?_
          refine lv_icmp_le (tgt := 96) C.1 C.2.1 dX0_seekOrder_63 (by decide) (fun c14 => ?_) (fun c14 => ?_)
          · have hE := it_t c14 hE
            obtain rfl := Option.some.inj hE
            exact hret _ _ _ _ dX0_seekOrder_96 hP hS
          · have hE := it_f c14 hE
            refine lv_aload_n C.1 C.2.1 dX0_seekOrder_66 rfl (lv_at hl 0 rfl) ?_
            refine lv_aload_n C.1 C.2.1 dX0_seekOrder_67 rfl (lv_at hl 0 rfl) ?_
            refine xWg_0_9 q247 C hP dX0_seekOrder_68 ?_
            refine xWp_0_13 q251 C hP hS dX0_seekOrder_71 (fun H locs hP hS => ?_)
            refine lv_aload_n C.1 C.2.1 dX0_seekOrder_74 rfl (lv_at hl 0 rfl) ?_
            refine lv_aload_n C.1 C.2.1 dX0_seekOrder_75 rfl (lv_at hl 0 rfl) ?_
            refine xWg_0_10 q248 C hP dX0_seekOrder_76 ?_
            refine xWp_0_14 q252 C hP hS dX0_seekOrder_79 (fun H locs hP hS => ?_)
            refine lv_aload_n C.1 C.2.1 dX0_seekOrder_82 rfl (lv_at hl 0 rfl) ?_
            refine xWg_0_4 q242 C hP dX0_seekOrder_83 ?_
            refine lv_iconst (v := 0) C.1 C.2.1 dX0_seekOrder_86 (by decide) ?_
            refine lv_aload_n C.1 C.2.1 dX0_seekOrder_87 rfl (lv_at hl 0 rfl) ?_
            refine xWg_0_5 q243 C hP dX0_seekOrder_88 ?_
            refine lv_iconst (v := 0) C.1 C.2.1 dX0_seekOrder_91 (by decide) ?_
            refine lv_iload_n C.1 C.2.1 dX0_seekOrder_92 rfl (lv_at hl 1 rfl) ?_
            obtain ⟨g15, hE⟩ := it_g hE
            obtain ⟨g16, hE⟩ := it_g hE
            obtain ⟨g17, hE⟩ := it_g hE
            refine va_copyi C.1 C.2.1 (by rw [hml]; exact hl.1.symm) C.2.2.1 (C.2.2.2.1 _ q551) (C.2.2.2.1 _ q553) (C.2.2.2.1 _ q552) (C.2.2.2.1 _ q100) C.2.2.2.2.1 hP (nD_of (nd_left C.2.2.2.2.2.1) C.2.2.2.2.2.2.2.1 xW_av) hS 7 8 0 0 rfl rfl rfl rfl rfl (by decide) (by decide) g15 g16 g17 (fun _ _ => rfl) (Nat.le_of_ble_eq_true rfl) (Nat.le_of_ble_eq_true rfl) dX0_seekOrder_93 (fun H locs hP _ hS => ?_)
            obtain rfl := Option.some.inj hE
            exact hret _ _ _ _ dX0_seekOrder_96 hP hS
def sC_HW_seekOrder_7_h100 (x1 : Int32) (x2 : Int32) (x3 : Int32) (v_noticedBy : Int32) (v_many : Int32) (v_weight : Int32) (v_fright : Int32) (v_age : Int32) (v_asked : Nat → Int32) (v_homes : Nat → Option Nat) (v_allergic : Nat → Int32) (hk : Nat → Nat) (hb : Nat → Int32) : Nat → Int32 → Int32 → Int32 → Int32 → Int32 → Int32 → Int32 → Int32 → Int32 → (Nat → Int32) → (Nat → Int32) → (Nat → Int32) → Option (Int32 × Int32 × Int32 × Int32 × Int32 × Int32 × Int32 × Int32 × (Nat → Int32) × (Nat → Int32) × (Nat → Int32))
  | 0, _, _, _, _, _, _, _, _, _, _, _, _ => none
  | fuel + 1, x4, v_died, v_leastWeight, v_noticed, v_orderDied, v_orderLeast, v_tweight, v_tfright, v_tage, v_tasked, v_told, v_bestRow =>
    if v_many ≤ x4 then
      some (v_died, v_leastWeight, v_noticed, v_orderDied, v_orderLeast, v_tweight, v_tfright, v_tage, v_tasked, v_told, v_bestRow)
    else
      (sC_Room_may v_many v_allergic x4).bind fun r10102 =>
      @Option.bind (Int32 × Int32 × Int32 × Int32 × Int32 × Int32 × Int32 × Int32 × (Nat → Int32) × (Nat → Int32) × (Nat → Int32)) _ (
        if r10102 = 0 then
          some (v_died, v_leastWeight, v_noticed, v_orderDied, v_orderLeast, v_tweight, v_tfright, v_tage, v_tasked, v_told, v_bestRow)
        else
          if ((x2 >>> (x4 &&& 31)) &&& 1) = 0 then
            if gi x1 40 then
            (sC_HW_seekOrder_6 v_died v_leastWeight v_noticedBy v_noticed v_orderDied v_orderLeast v_tweight v_tfright v_tage v_tasked (upd v_told (x1).toNatClampNeg x4) v_bestRow v_many v_weight v_fright v_age v_asked v_homes v_allergic hk hb (x1 + 1) (x2 ||| (1 <<< (x4 &&& 31))) x3).bind fun r10107 =>
            some (r10107.1, r10107.2.1, r10107.2.2.1, r10107.2.2.2.1, r10107.2.2.2.2.1, r10107.2.2.2.2.2.1, r10107.2.2.2.2.2.2.1, r10107.2.2.2.2.2.2.2.1, r10107.2.2.2.2.2.2.2.2.1, r10107.2.2.2.2.2.2.2.2.2.1, r10107.2.2.2.2.2.2.2.2.2.2)
            else none
          else
            some (v_died, v_leastWeight, v_noticed, v_orderDied, v_orderLeast, v_tweight, v_tfright, v_tage, v_tasked, v_told, v_bestRow)) fun u10104 =>
      sC_HW_seekOrder_7_h100 x1 x2 x3 v_noticedBy v_many v_weight v_fright v_age v_asked v_homes v_allergic hk hb fuel (x4 + 1) u10104.1 u10104.2.1 u10104.2.2.1 u10104.2.2.2.1 u10104.2.2.2.2.1 u10104.2.2.2.2.2.1 u10104.2.2.2.2.2.2.1 u10104.2.2.2.2.2.2.2.1 u10104.2.2.2.2.2.2.2.2.1 u10104.2.2.2.2.2.2.2.2.2.1 u10104.2.2.2.2.2.2.2.2.2.2
def sC_HW_seekOrder_7 (v_died : Int32) (v_leastWeight : Int32) (v_noticedBy : Int32) (v_noticed : Int32) (v_orderDied : Int32) (v_orderLeast : Int32) (v_tweight : Int32) (v_tfright : Int32) (v_tage : Int32) (v_tasked : Nat → Int32) (v_told : Nat → Int32) (v_bestRow : Nat → Int32) (v_many : Int32) (v_weight : Int32) (v_fright : Int32) (v_age : Int32) (v_asked : Nat → Int32) (v_homes : Nat → Option Nat) (v_allergic : Nat → Int32) (hk : Nat → Nat) (hb : Nat → Int32) (p1 : Int32) (p2 : Int32) (p3 : Int32) : Option (Int32 × Int32 × Int32 × Int32 × Int32 × Int32 × Int32 × Int32 × (Nat → Int32) × (Nat → Int32) × (Nat → Int32)) :=
  if p1 = p3 then
    (sC_Pet_take v_tweight v_tfright v_tage v_tasked v_weight v_fright v_age v_asked).bind fun r3 =>
    (sC_HW_goesRow v_died v_leastWeight v_noticedBy v_noticed r3.1 r3.2.1 r3.2.2.1 r3.2.2.2 v_told v_many v_homes hk hb p1).bind fun r4 =>
    if v_orderDied = (-1) then
      if ¬ p1 < 0 then
      if 0 + (p1).toNatClampNeg ≤ 40 then
      if 0 + (p1).toNatClampNeg ≤ 6 then
      some (r4.1, r4.2.1, r4.2.2.1, r4.1, r4.2.1, r4.2.2.2.1, r4.2.2.2.2.1, r4.2.2.2.2.2, r3.2.2.2, v_told, (va_cpy v_told v_bestRow 0 0 (p1).toNatClampNeg))
      else none
      else none
      else none
    else
      if r4.1 < v_orderDied then
        if ¬ p1 < 0 then
        if 0 + (p1).toNatClampNeg ≤ 40 then
        if 0 + (p1).toNatClampNeg ≤ 6 then
        some (r4.1, r4.2.1, r4.2.2.1, r4.1, r4.2.1, r4.2.2.2.1, r4.2.2.2.2.1, r4.2.2.2.2.2, r3.2.2.2, v_told, (va_cpy v_told v_bestRow 0 0 (p1).toNatClampNeg))
        else none
        else none
        else none
      else
        if r4.1 = v_orderDied then
          if r4.2.1 ≤ v_orderLeast then
            some (r4.1, r4.2.1, r4.2.2.1, v_orderDied, v_orderLeast, r4.2.2.2.1, r4.2.2.2.2.1, r4.2.2.2.2.2, r3.2.2.2, v_told, v_bestRow)
          else
            if ¬ p1 < 0 then
            if 0 + (p1).toNatClampNeg ≤ 40 then
            if 0 + (p1).toNatClampNeg ≤ 6 then
            some (r4.1, r4.2.1, r4.2.2.1, r4.1, r4.2.1, r4.2.2.2.1, r4.2.2.2.2.1, r4.2.2.2.2.2, r3.2.2.2, v_told, (va_cpy v_told v_bestRow 0 0 (p1).toNatClampNeg))
            else none
            else none
            else none
        else
          some (r4.1, r4.2.1, r4.2.2.1, v_orderDied, v_orderLeast, r4.2.2.2.1, r4.2.2.2.2.1, r4.2.2.2.2.2, r3.2.2.2, v_told, v_bestRow)
  else
    (sC_HW_seekOrder_7_h100 p1 p2 p3 v_noticedBy v_many v_weight v_fright v_age v_asked v_homes v_allergic hk hb 2000 0 v_died v_leastWeight v_noticed v_orderDied v_orderLeast v_tweight v_tfright v_tage v_tasked v_told v_bestRow).bind fun u2 =>
    some (u2.1, u2.2.1, u2.2.2.1, u2.2.2.2.1, u2.2.2.2.2.1, u2.2.2.2.2.2.1, u2.2.2.2.2.2.2.1, u2.2.2.2.2.2.2.2.1, u2.2.2.2.2.2.2.2.2.1, u2.2.2.2.2.2.2.2.2.2.1, u2.2.2.2.2.2.2.2.2.2.2)
set_option maxHeartbeats 4000000 in
theorem wC_HW_seekOrder_7_h100 {p : Program} {l : Launch} {e : Env} {s : State} {m : MethodId} {args : Array Value} {below : List Frame} {meth : Method} {c : Code} {Q : State → Prop} {G : kG} {ad : Nat → Nat} {pl : va_W} {hk : Nat → Nat} {hb : Nat → Int32} {v_latestFault : Int32} {v_noticedBy : Int32} {v_imaged : Option Nat} {v_shelves : Nat → Option Nat} {v_refusals : Nat → Int32} {v_ran : Int32} {v_bodies : Nat → Int32} {v_weight_a1 : Int32} {v_fright_a1 : Int32} {v_age_a1 : Int32} {v_asked_a1 : Nat → Int32} {v_weight_a2 : Int32} {v_fright_a2 : Int32} {v_age_a2 : Int32} {v_asked_a2 : Nat → Int32} {v_weight_a3 : Int32} {v_fright_a3 : Int32} {v_age_a3 : Int32} {v_asked_a3 : Nat → Int32} {v_weight_a4 : Int32} {v_fright_a4 : Int32} {v_age_a4 : Int32} {v_asked_a4 : Nat → Int32} {v_many : Int32} {v_pets : Int32} {v_last : Int32} {v_seed : Int32} {v_weight : Int32} {v_fright : Int32} {v_age : Int32} {v_asked : Nat → Int32} {v_homes : Nat → Option Nat} {v_marks : Nat → Int32} {v_had : Nat → Int32} {v_allergic : Nat → Int32} {v_deaths : Nat → Int32} (C : nC p s m args c cX0_seekOrder RX0 G (xWV ad) pl (nA (xWV ad))) (hml : c.maxLocals = 5)  (hom : homOK v_homes v_many hk hb pl) (x1 : Int32) (x2 : Int32) (x3 : Int32) (res : Int32 × Int32 × Int32 × Int32 × Int32 × Int32 × Int32 × Int32 × (Nat → Int32) × (Nat → Int32) × (Nat → Int32)) :
    ∀ (fuel : Nat) (x4 : Int32) (v_died : Int32) (v_leastWeight : Int32) (v_noticed : Int32) (v_orderDied : Int32) (v_orderLeast : Int32) (v_tweight : Int32) (v_tfright : Int32) (v_tage : Int32) (v_tasked : Nat → Int32) (v_told : Nat → Int32) (v_bestRow : Nat → Int32) (H : Heap) (locs : List Loc) (ls : Array Slot), sC_HW_seekOrder_7_h100 x1 x2 x3 v_noticedBy v_many v_weight v_fright v_age v_asked v_homes v_allergic hk hb fuel x4 v_died v_leastWeight v_noticed v_orderDied v_orderLeast v_tweight v_tfright v_tage v_tasked v_told v_bestRow = some res → va_P G.1 vwCl (xW G.2 ad v_latestFault v_died v_leastWeight v_noticedBy v_noticed v_orderDied v_orderLeast v_imaged v_shelves v_refusals v_ran v_bodies v_tweight v_tfright v_tage v_tasked v_told v_bestRow v_weight_a1 v_fright_a1 v_age_a1 v_asked_a1 v_weight_a2 v_fright_a2 v_age_a2 v_asked_a2 v_weight_a3 v_fright_a3 v_age_a3 v_asked_a3 v_weight_a4 v_fright_a4 v_age_a4 v_asked_a4 v_many v_pets v_last v_seed v_weight v_fright v_age v_asked v_homes v_marks v_had v_allergic v_deaths) H → va_S (nA (xWV ad)) s.heap H locs → lv_has ls 5 [(0, .ref (ad 0)), (1, .int x1), (2, .int x2), (3, .int x3), (4, .int x4)] → (∀ (H : Heap) (locs : List Loc) (ls : Array Slot), va_P G.1 vwCl (xW G.2 ad v_latestFault res.1 res.2.1 v_noticedBy res.2.2.1 res.2.2.2.1 res.2.2.2.2.1 v_imaged v_shelves v_refusals v_ran v_bodies res.2.2.2.2.2.1 res.2.2.2.2.2.2.1 res.2.2.2.2.2.2.2.1 res.2.2.2.2.2.2.2.2.1 res.2.2.2.2.2.2.2.2.2.1 res.2.2.2.2.2.2.2.2.2.2 v_weight_a1 v_fright_a1 v_age_a1 v_asked_a1 v_weight_a2 v_fright_a2 v_age_a2 v_asked_a2 v_weight_a3 v_fright_a3 v_age_a3 v_asked_a3 v_weight_a4 v_fright_a4 v_age_a4 v_asked_a4 v_many v_pets v_last v_seed v_weight v_fright v_age v_asked v_homes v_marks v_had v_allergic v_deaths) H → va_S (nA (xWV ad)) s.heap H locs → lv_has ls 5 [] → W p l e ({ frames := 13, cells := 0, slots := 0, locals := 297 } : Room) s m args below meth c H locs 0 0 Q (F0 m 161 ls [])) → W p l e ({ frames := 13, cells := 0, slots := 0, locals := 297 } : Room) s m args below meth c H locs 0 0 Q (F0 m 100 ls []) := by
  intro fuel
  induction fuel with
  | zero =>
    intro x4 v_died v_leastWeight v_noticed v_orderDied v_orderLeast v_tweight v_tfright v_tage v_tasked v_told v_bestRow H locs ls hE
    exact it_n hE
  | succ fuel ih =>
    intro x4 v_died v_leastWeight v_noticed v_orderDied v_orderLeast v_tweight v_tfright v_tage v_tasked v_told v_bestRow H locs ls hE hP hS hl hX
    rw [sC_HW_seekOrder_7_h100] at hE
    refine lv_iload C.1 C.2.1 dX0_seekOrder_100 (lv_at hl 4 rfl) ?_
    refine lv_aload_n C.1 C.2.1 dX0_seekOrder_102 rfl (lv_at hl 0 rfl) ?_
    refine xWg_0_6 q244 C hP dX0_seekOrder_103 ?_
    refine xWg_18_0 q182 C hP dX0_seekOrder_106 ?_
    refine lv_icmp_ge (tgt := 161) C.1 C.2.1 dX0_seekOrder_109 (by decide) (fun c10101 => ?_) (fun c10101 => ?_)
    · have hE := it_t c10101 hE
      obtain rfl := Option.some.inj hE
      exact hX H locs ls hP hS (lv_sub hl [] rfl)
    · have hE := it_f c10101 hE
      refine lv_aload_n C.1 C.2.1 dX0_seekOrder_112 rfl (lv_at hl 0 rfl) ?_
      refine xWg_0_6 q244 C hP dX0_seekOrder_113 ?_
      refine lv_iload C.1 C.2.1 dX0_seekOrder_116 (lv_at hl 4 rfl) ?_
      obtain ⟨r10102, hr10102, hE⟩ := it_b hE
      refine n_after [18, 19, 20, 21, 22, 23, 24, 25] C.2.2.2.2.2.1 C.2.2.2.2.2.2.2.1 hP hS (va_runV (As := [.int x4]) (rest := []) ⟨C.1, C.2.1, hml, C.2.2.1, C.2.2.2.1⟩ (metC_Room_may l G (fun i => ad (18 + i)) pl _ _ _ _ _ _ _ _ _ _ _ _ _ x4  r10102 hr10102) (cwV (C := RX3) 1 C.2.2.2.1 (lw_V q1067 q972 q973 q83 q974) rfl rfl rfl (by decide +kernel) ⟨Nat.le_of_ble_eq_true rfl, Nat.le_of_ble_eq_true rfl⟩) (n_preV C hP hS [18, 19, 20, 21, 22, 23, 24, 25] sub_xW_rW_18 (by decide) rfl (va_recv C.2.2.2.2.1 hP (ci := 12) (q0 := 18) rfl rfl)) rfl rfl hl.1 rfl (lv_room (Nat.le_of_ble_eq_true rfl)) dX0_seekOrder_118 ⟨Nat.le_refl _, Nat.le_refl _⟩) xW_av rfl rfl mg_xW_rW_18 (fun H locs hP hS => ?_)
      obtain ⟨u10104, hR, hE⟩ := it_b hE
      have hJ155u10104 : ∀ (H : Heap) (locs : List Loc) (ls : Array Slot), va_P G.1 vwCl (xW G.2 ad v_latestFault u10104.1 u10104.2.1 v_noticedBy u10104.2.2.1 u10104.2.2.2.1 u10104.2.2.2.2.1 v_imaged v_shelves v_refusals v_ran v_bodies u10104.2.2.2.2.2.1 u10104.2.2.2.2.2.2.1 u10104.2.2.2.2.2.2.2.1 u10104.2.2.2.2.2.2.2.2.1 u10104.2.2.2.2.2.2.2.2.2.1 u10104.2.2.2.2.2.2.2.2.2.2 v_weight_a1 v_fright_a1 v_age_a1 v_asked_a1 v_weight_a2 v_fright_a2 v_age_a2 v_asked_a2 v_weight_a3 v_fright_a3 v_age_a3 v_asked_a3 v_weight_a4 v_fright_a4 v_age_a4 v_asked_a4 v_many v_pets v_last v_seed v_weight v_fright v_age v_asked v_homes v_marks v_had v_allergic v_deaths) H → va_S (nA (xWV ad)) s.heap H locs → lv_has ls 5 [(0, .ref (ad 0)), (1, .int x1), (2, .int x2), (3, .int x3), (4, .int x4)] → W p l e ({ frames := 13, cells := 0, slots := 0, locals := 297 } : Room) s m args below meth c H locs 0 0 Q (F0 m 155 ls []) := by
        intro H locs ls hP hS hl
        refine lv_iinc (v := (x4 + 1)) (lv' := [(4, .int (x4 + 1)), (0, .ref (ad 0)), (1, .int x1), (2, .int x2), (3, .int x3)]) C.1 C.2.1 dX0_seekOrder_155 hl (k := 4) rfl rfl (by decide) rfl (fun ls hl => ?_)
        refine lv_goto (tgt := 100) C.1 C.2.1 dX0_seekOrder_158 (by decide) ?_
        exact ih (x4 + 1) u10104.1 u10104.2.1 u10104.2.2.1 u10104.2.2.2.1 u10104.2.2.2.2.1 u10104.2.2.2.2.2.1 u10104.2.2.2.2.2.2.1 u10104.2.2.2.2.2.2.2.1 u10104.2.2.2.2.2.2.2.2.1 u10104.2.2.2.2.2.2.2.2.2.1 u10104.2.2.2.2.2.2.2.2.2.2 _ _ _ hE hP hS (lv_sub hl [1, 2, 3, 4, 0] rfl) hX
      have hE := hR
      refine lv_if_eq (tgt := 155) C.1 C.2.1 dX0_seekOrder_121 (by decide) (fun c10103 => ?_) (fun c10103 => ?_)
      · have hE := it_t c10103 hE
        obtain rfl := Option.some.inj hE
        exact hJ155u10104 H locs ls hP hS (lv_sub hl [0, 1, 2, 3, 4] rfl)
      · have hE := it_f c10103 hE
        refine lv_iload_n C.1 C.2.1 dX0_seekOrder_124 rfl (lv_at hl 2 rfl) ?_
        refine lv_iload C.1 C.2.1 dX0_seekOrder_125 (lv_at hl 4 rfl) ?_
        refine lv_ishr C.1 C.2.1 dX0_seekOrder_127 ?_
        refine lv_iconst (v := 1) C.1 C.2.1 dX0_seekOrder_128 (by decide) ?_
        refine lv_iand C.1 C.2.1 dX0_seekOrder_129 ?_
        refine lv_if_ne (tgt := 155) C.1 C.2.1 dX0_seekOrder_130 (by decide) (fun c10105 => ?_) (fun c10105 => ?_)
        · have hE := it_f c10105 hE
          obtain rfl := Option.some.inj hE
          exact hJ155u10104 H locs ls hP hS (lv_sub hl [0, 1, 2, 3, 4] rfl)
        · have hE := it_t c10105 hE
          refine lv_aload_n C.1 C.2.1 dX0_seekOrder_133 rfl (lv_at hl 0 rfl) ?_
          refine xWg_0_4 q242 C hP dX0_seekOrder_134 ?_
          refine lv_iload_n C.1 C.2.1 dX0_seekOrder_137 rfl (lv_at hl 1 rfl) ?_
          refine lv_iload C.1 C.2.1 dX0_seekOrder_138 (lv_at hl 4 rfl) ?_
          obtain ⟨g10106, hE⟩ := it_g hE
          refine xWs_7 C hP hS (gi_in g10106) dX0_seekOrder_140 (fun H locs hP hS => ?_)
          refine lv_aload_n C.1 C.2.1 dX0_seekOrder_141 rfl (lv_at hl 0 rfl) ?_
          refine lv_iload_n C.1 C.2.1 dX0_seekOrder_142 rfl (lv_at hl 1 rfl) ?_
          refine lv_iconst (v := 1) C.1 C.2.1 dX0_seekOrder_143 (by decide) ?_
          refine lv_iadd C.1 C.2.1 dX0_seekOrder_144 ?_
          refine lv_iload_n C.1 C.2.1 dX0_seekOrder_145 rfl (lv_at hl 2 rfl) ?_
          refine lv_iconst (v := 1) C.1 C.2.1 dX0_seekOrder_146 (by decide) ?_
          refine lv_iload C.1 C.2.1 dX0_seekOrder_147 (lv_at hl 4 rfl) ?_
          refine lv_ishl C.1 C.2.1 dX0_seekOrder_149 ?_
          refine lv_ior C.1 C.2.1 dX0_seekOrder_150 ?_
          refine lv_iload_n C.1 C.2.1 dX0_seekOrder_151 rfl (lv_at hl 3 rfl) ?_
          obtain ⟨r10107, hr10107, hE⟩ := it_b hE
          refine n_afterS C.2.2.2.2.2.2.2.1 hS (va_runV (As := [.int (x1 + 1), .int (x2 ||| (1 <<< (x4 &&& 31))), .int x3]) (rest := []) ⟨C.1, C.2.1, hml, C.2.2.1, C.2.2.2.1⟩ (metC_HW_seekOrder_6 l G ad pl hk hb _ _ _ _ _ _ _ _ _ _ _ _ _ _ _ _ _ _ _ _ _ _ _ _ _ _ _ _ _ _ _ _ _ _ _ _ _ _ _ _ _ _ _ _ _ _ _ hom (x1 + 1) (x2 ||| (1 <<< (x4 &&& 31))) x3  r10107 hr10107) (cwV (C := RX0) 3 C.2.2.2.1 (lw_V q1131 q1133 qs27 q80 q1134) rfl rfl rfl (by decide +kernel) ⟨Nat.le_of_ble_eq_true rfl, Nat.le_of_ble_eq_true rfl⟩) (n_preV0 C hP hS (va_recv C.2.2.2.2.1 hP (ci := 16) (q0 := 0) rfl rfl)) rfl rfl hl.1 rfl (lv_room (Nat.le_of_ble_eq_true rfl)) dX0_seekOrder_152 ⟨Nat.le_refl _, Nat.le_refl _⟩) (fun H locs hP hS => ?_)
          obtain rfl := Option.some.inj hE
          exact hJ155u10104 H locs ls hP hS (lv_sub hl [0, 1, 2, 3, 4] rfl)
set_option maxHeartbeats 4000000 in
theorem metC_HW_seekOrder_7 (l : Launch) (G : kG) (ad : Nat → Nat) (pl : va_W) (hk : Nat → Nat) (hb : Nat → Int32) (v_latestFault : Int32) (v_died : Int32) (v_leastWeight : Int32) (v_noticedBy : Int32) (v_noticed : Int32) (v_orderDied : Int32) (v_orderLeast : Int32) (v_imaged : Option Nat) (v_shelves : Nat → Option Nat) (v_refusals : Nat → Int32) (v_ran : Int32) (v_bodies : Nat → Int32) (v_tweight : Int32) (v_tfright : Int32) (v_tage : Int32) (v_tasked : Nat → Int32) (v_told : Nat → Int32) (v_bestRow : Nat → Int32) (v_weight_a1 : Int32) (v_fright_a1 : Int32) (v_age_a1 : Int32) (v_asked_a1 : Nat → Int32) (v_weight_a2 : Int32) (v_fright_a2 : Int32) (v_age_a2 : Int32) (v_asked_a2 : Nat → Int32) (v_weight_a3 : Int32) (v_fright_a3 : Int32) (v_age_a3 : Int32) (v_asked_a3 : Nat → Int32) (v_weight_a4 : Int32) (v_fright_a4 : Int32) (v_age_a4 : Int32) (v_asked_a4 : Nat → Int32) (v_many : Int32) (v_pets : Int32) (v_last : Int32) (v_seed : Int32) (v_weight : Int32) (v_fright : Int32) (v_age : Int32) (v_asked : Nat → Int32) (v_homes : Nat → Option Nat) (v_marks : Nat → Int32) (v_had : Nat → Int32) (v_allergic : Nat → Int32) (v_deaths : Nat → Int32) (hom : homOK v_homes v_many hk hb pl) (p1 : Int32) (p2 : Int32) (p3 : Int32) (res : Int32 × Int32 × Int32 × Int32 × Int32 × Int32 × Int32 × Int32 × (Nat → Int32) × (Nat → Int32) × (Nat → Int32)) (hE : sC_HW_seekOrder_7 v_died v_leastWeight v_noticedBy v_noticed v_orderDied v_orderLeast v_tweight v_tfright v_tage v_tasked v_told v_bestRow v_many v_weight v_fright v_age v_asked v_homes v_allergic hk hb p1 p2 p3 = some res) : Met l yX0_seekOrder (ws_ yX0_seekOrder cX0_seekOrder 5 none) ({ frames := 13, cells := 0, slots := 0, locals := 297 } : Room) (nPc G (xW G.2 ad v_latestFault v_died v_leastWeight v_noticedBy v_noticed v_orderDied v_orderLeast v_imaged v_shelves v_refusals v_ran v_bodies v_tweight v_tfright v_tage v_tasked v_told v_bestRow v_weight_a1 v_fright_a1 v_age_a1 v_asked_a1 v_weight_a2 v_fright_a2 v_age_a2 v_asked_a2 v_weight_a3 v_fright_a3 v_age_a3 v_asked_a3 v_weight_a4 v_fright_a4 v_age_a4 v_asked_a4 v_many v_pets v_last v_seed v_weight v_fright v_age v_asked v_homes v_marks v_had v_allergic v_deaths) pl (xWV ad) [.ref (ad 0), .int p1, .int p2, .int p3]) (nQc G (xW G.2 ad v_latestFault res.1 res.2.1 v_noticedBy res.2.2.1 res.2.2.2.1 res.2.2.2.2.1 v_imaged v_shelves v_refusals v_ran v_bodies res.2.2.2.2.2.1 res.2.2.2.2.2.2.1 res.2.2.2.2.2.2.2.1 res.2.2.2.2.2.2.2.2.1 res.2.2.2.2.2.2.2.2.2.1 res.2.2.2.2.2.2.2.2.2.2 v_weight_a1 v_fright_a1 v_age_a1 v_asked_a1 v_weight_a2 v_fright_a2 v_age_a2 v_asked_a2 v_weight_a3 v_fright_a3 v_age_a3 v_asked_a3 v_weight_a4 v_fright_a4 v_age_a4 v_asked_a4 v_many v_pets v_last v_seed v_weight v_fright v_age v_asked v_homes v_marks v_had v_allergic v_deaths) (xWV ad) none) 0 0 (nA (xWV ad)) := by
  refine n_ofW (own := RX0) (by decide) rfl (Nat.le_of_ble_eq_true rfl) ?_
  intro p e s m args below meth c ls C hml hP hS hl hr hlocks
  have hl : lv_has ls 5 [(0, .ref (ad 0)), (1, .int p1), (2, .int p2), (3, .int p3)] := hl
  obtain ⟨Q, hQ⟩ : ∃ Q, Q = MQ below (nQc G (xW G.2 ad v_latestFault res.1 res.2.1 v_noticedBy res.2.2.1 res.2.2.2.1 res.2.2.2.2.1 v_imaged v_shelves v_refusals v_ran v_bodies res.2.2.2.2.2.1 res.2.2.2.2.2.2.1 res.2.2.2.2.2.2.2.1 res.2.2.2.2.2.2.2.2.1 res.2.2.2.2.2.2.2.2.2.1 res.2.2.2.2.2.2.2.2.2.2 v_weight_a1 v_fright_a1 v_age_a1 v_asked_a1 v_weight_a2 v_fright_a2 v_age_a2 v_asked_a2 v_weight_a3 v_fright_a3 v_age_a3 v_asked_a3 v_weight_a4 v_fright_a4 v_age_a4 v_asked_a4 v_many v_pets v_last v_seed v_weight v_fright v_age v_asked v_homes v_marks v_had v_allergic v_deaths) (xWV ad) none) args s 0 0 (nA (xWV ad)) := ⟨_, rfl⟩
  rw [← hQ]
  have hret : ∀ (pc : Nat) (ls : Array Slot) (H : Heap) (locs : List Loc), decode cX0_seekOrder pc = .ok (.return_, 1) → va_P G.1 vwCl (xW G.2 ad v_latestFault res.1 res.2.1 v_noticedBy res.2.2.1 res.2.2.2.1 res.2.2.2.2.1 v_imaged v_shelves v_refusals v_ran v_bodies res.2.2.2.2.2.1 res.2.2.2.2.2.2.1 res.2.2.2.2.2.2.2.1 res.2.2.2.2.2.2.2.2.1 res.2.2.2.2.2.2.2.2.2.1 res.2.2.2.2.2.2.2.2.2.2 v_weight_a1 v_fright_a1 v_age_a1 v_asked_a1 v_weight_a2 v_fright_a2 v_age_a2 v_asked_a2 v_weight_a3 v_fright_a3 v_age_a3 v_asked_a3 v_weight_a4 v_fright_a4 v_age_a4 v_asked_a4 v_many v_pets v_last v_seed v_weight v_fright v_age v_asked v_homes v_marks v_had v_allergic v_deaths) H → va_S (nA (xWV ad)) s.heap H locs → W p l e ({ frames := 13, cells := 0, slots := 0, locals := 297 } : Room) s m args below meth c H locs 0 0 Q (F0 m pc ls []) := by
    intro pc ls H locs hd hP hS
    rw [hQ]
    exact n_vret C hr hlocks hd hP hS
  clear hQ
  obtain ⟨H, hH⟩ : ∃ H, H = s.heap := ⟨_, rfl⟩
  obtain ⟨locs, hlo⟩ : ∃ locs : List Loc, locs = [] := ⟨_, rfl⟩
  have hP : va_P G.1 vwCl (xW G.2 ad v_latestFault v_died v_leastWeight v_noticedBy v_noticed v_orderDied v_orderLeast v_imaged v_shelves v_refusals v_ran v_bodies v_tweight v_tfright v_tage v_tasked v_told v_bestRow v_weight_a1 v_fright_a1 v_age_a1 v_asked_a1 v_weight_a2 v_fright_a2 v_age_a2 v_asked_a2 v_weight_a3 v_fright_a3 v_age_a3 v_asked_a3 v_weight_a4 v_fright_a4 v_age_a4 v_asked_a4 v_many v_pets v_last v_seed v_weight v_fright v_age v_asked v_homes v_marks v_had v_allergic v_deaths) H := by rw [hH]; exact hP
  have hS : va_S (nA (xWV ad)) s.heap H locs := by rw [hH, hlo]; exact hS
  suffices hZ : W p l e ({ frames := 13, cells := 0, slots := 0, locals := 297 } : Room) s m args below meth c H locs 0 0 Q (F0 m 0 ls []) by rw [hH, hlo] at hZ; exact hZ
  clear hH hlo
  unfold sC_HW_seekOrder_7 at hE
  refine lv_iload_n C.1 C.2.1 dX0_seekOrder_0 rfl (lv_at hl 1 rfl) ?_
  refine lv_iload_n C.1 C.2.1 dX0_seekOrder_1 rfl (lv_at hl 3 rfl) ?_
  refine lv_icmp_ne (tgt := 97) C.1 C.2.1 dX0_seekOrder_2 (by decide) (fun c1 => ?_) (fun c1 => ?_)
  · have hE := it_f c1 hE
    refine lv_iconst (v := 0) C.1 C.2.1 dX0_seekOrder_97 (by decide) ?_
    refine lv_istore (lv' := [(4, .int 0), (0, .ref (ad 0)), (1, .int p1), (2, .int p2), (3, .int p3)]) C.1 C.2.1 dX0_seekOrder_98 hl (by decide) rfl (fun ls hl => ?_)
    obtain ⟨u2, hu2, hE⟩ := it_b hE
    refine wC_HW_seekOrder_7_h100 C hml  hom p1 p2 p3 u2 2000 0 v_died v_leastWeight v_noticed v_orderDied v_orderLeast v_tweight v_tfright v_tage v_tasked v_told v_bestRow H locs ls hu2 hP hS (lv_sub hl [1, 2, 3, 4, 0] rfl) (fun H locs ls hP hS hl => ?_)
    obtain rfl := Option.some.inj hE
    exact hret _ _ _ _ dX0_seekOrder_161 hP hS
  · have hE := it_t c1 hE
    refine lv_aload_n C.1 C.2.1 dX0_seekOrder_5 rfl (lv_at hl 0 rfl) ?_
    refine xWg_0_3 q241 C hP dX0_seekOrder_6 ?_
    refine lv_aload_n C.1 C.2.1 dX0_seekOrder_9 rfl (lv_at hl 0 rfl) ?_
    refine xWg_0_6 q244 C hP dX0_seekOrder_10 ?_
    refine xWg_18_4 q191 C hP dX0_seekOrder_13 ?_
    obtain ⟨r3, hr3, hE⟩ := it_b hE
    refine n_after [5, 6, 19, 20] C.2.2.2.2.2.1 C.2.2.2.2.2.2.2.1 hP hS (va_runV (As := [.ref (ad 19)]) (rest := []) ⟨C.1, C.2.1, hml, C.2.2.1, C.2.2.2.1⟩ (metC_Pet_take l G (fun i => ad (if i < 2 then 5 + i else 19 + (i - 2))) pl _ _ _ _ _ _ _ _   r3 hr3) (cwV (C := RX2) 1 C.2.2.2.1 (lw_V q1076 q796 q797 q82 q798) rfl rfl rfl (by decide +kernel) ⟨Nat.le_of_ble_eq_true rfl, Nat.le_of_ble_eq_true rfl⟩) (n_preV C hP hS [5, 6, 19, 20] sub_xW_ppW_5_19 (by decide) rfl (va_recv C.2.2.2.2.1 hP (ci := 11) (q0 := 5) rfl rfl)) rfl rfl hl.1 rfl (lv_room (Nat.le_of_ble_eq_true rfl)) dX0_seekOrder_16 ⟨Nat.le_refl _, Nat.le_refl _⟩) xW_av rfl rfl mg_xW_ppW_5_19 (fun H locs hP hS => ?_)
    refine lv_pop C.1 C.2.1 dX0_seekOrder_19 rfl ?_
    refine lv_aload_n C.1 C.2.1 dX0_seekOrder_20 rfl (lv_at hl 0 rfl) ?_
    refine lv_iload_n C.1 C.2.1 dX0_seekOrder_21 rfl (lv_at hl 1 rfl) ?_
    obtain ⟨r4, hr4, hE⟩ := it_b hE
    refine n_afterS C.2.2.2.2.2.2.2.1 hS (va_runV (As := [.int p1]) (rest := []) ⟨C.1, C.2.1, hml, C.2.2.1, C.2.2.2.1⟩ (metC_HW_goesRow l G ad pl hk hb _ _ _ _ _ _ _ _ _ _ _ _ _ _ _ _ _ _ _ _ _ _ _ _ _ _ _ _ _ _ _ _ _ _ _ _ _ _ _ _ _ _ _ _ _ _ _ hom p1  r4 hr4) (cwV (C := RX0) 1 C.2.2.2.1 (lw_V q1077 q1079 qs23 q80 q1080) rfl rfl rfl (by decide +kernel) ⟨Nat.le_of_ble_eq_true rfl, Nat.le_of_ble_eq_true rfl⟩) (n_preV0 C hP hS (va_recv C.2.2.2.2.1 hP (ci := 16) (q0 := 0) rfl rfl)) rfl rfl hl.1 rfl (lv_room (Nat.le_of_ble_eq_true rfl)) dX0_seekOrder_22 ⟨Nat.le_refl _, Nat.le_refl _⟩) (fun H locs hP hS => ?_)
    refine lv_aload_n C.1 C.2.1 dX0_seekOrder_25 rfl (lv_at hl 0 rfl) ?_
    refine xWg_0_13 q251 C hP dX0_seekOrder_26 ?_
    refine lv_iconst (v := (-1)) C.1 C.2.1 dX0_seekOrder_29 (by decide) ?_
    refine lv_icmp_eq (tgt := 66) C.1 C.2.1 dX0_seekOrder_30 (by decide) (fun c5 => ?_) (fun c5 => ?_)
    · have hE := it_t c5 hE
      refine lv_aload_n C.1 C.2.1 dX0_seekOrder_66 rfl (lv_at hl 0 rfl) ?_
      refine lv_aload_n C.1 C.2.1 dX0_seekOrder_67 rfl (lv_at hl 0 rfl) ?_
      refine xWg_0_9 q247 C hP dX0_seekOrder_68 ?_
      refine xWp_0_13 q251 C hP hS dX0_seekOrder_71 (fun H locs hP hS => ?_)
      refine lv_aload_n C.1 C.2.1 dX0_seekOrder_74 rfl (lv_at hl 0 rfl) ?_
      refine lv_aload_n C.1 C.2.1 dX0_seekOrder_75 rfl (lv_at hl 0 rfl) ?_
      refine xWg_0_10 q248 C hP dX0_seekOrder_76 ?_
      refine xWp_0_14 q252 C hP hS dX0_seekOrder_79 (fun H locs hP hS => ?_)
      refine lv_aload_n C.1 C.2.1 dX0_seekOrder_82 rfl (lv_at hl 0 rfl) ?_
      refine xWg_0_4 q242 C hP dX0_seekOrder_83 ?_
      refine lv_iconst (v := 0) C.1 C.2.1 dX0_seekOrder_86 (by decide) ?_
      refine lv_aload_n C.1 C.2.1 dX0_seekOrder_87 rfl (lv_at hl 0 rfl) ?_
      refine xWg_0_5 q243 C hP dX0_seekOrder_88 ?_
      refine lv_iconst (v := 0) C.1 C.2.1 dX0_seekOrder_91 (by decide) ?_
      refine lv_iload_n C.1 C.2.1 dX0_seekOrder_92 rfl (lv_at hl 1 rfl) ?_
      obtain ⟨g6, hE⟩ := it_g hE
      obtain ⟨g7, hE⟩ := it_g hE
      obtain ⟨g8, hE⟩ := it_g hE
      refine va_copyi C.1 C.2.1 (by rw [hml]; exact hl.1.symm) C.2.2.1 (C.2.2.2.1 _ q551) (C.2.2.2.1 _ q553) (C.2.2.2.1 _ q552) (C.2.2.2.1 _ q100) C.2.2.2.2.1 hP (nD_of (nd_left C.2.2.2.2.2.1) C.2.2.2.2.2.2.2.1 xW_av) hS 7 8 0 0 rfl rfl rfl rfl rfl (by decide) (by decide) g6 g7 g8 (fun _ _ => rfl) (Nat.le_of_ble_eq_true rfl) (Nat.le_of_ble_eq_true rfl) dX0_seekOrder_93 (fun H locs hP _ hS => ?_)
      obtain rfl := Option.some.inj hE
      exact hret _ _ _ _ dX0_seekOrder_96 hP hS
    · have hE := it_f c5 hE
      refine lv_aload_n C.1 C.2.1 dX0_seekOrder_33 rfl (lv_at hl 0 rfl) ?_
      refine xWg_0_9 q247 C hP dX0_seekOrder_34 ?_
      refine lv_aload_n C.1 C.2.1 dX0_seekOrder_37 rfl (lv_at hl 0 rfl) ?_
      refine xWg_0_13 q251 C hP dX0_seekOrder_38 ?_
      refine lv_icmp_lt (tgt := 66) C.1 C.2.1 dX0_seekOrder_41 (by decide) (fun c9 => ?_) (fun c9 => ?_)
      · have hE := it_t c9 hE
        refine lv_aload_n C.1 C.2.1 dX0_seekOrder_66 rfl (lv_at hl 0 rfl) ?_
        refine lv_aload_n C.1 C.2.1 dX0_seekOrder_67 rfl (lv_at hl 0 rfl) ?_
        refine xWg_0_9 q247 C hP dX0_seekOrder_68 ?_
        refine xWp_0_13 q251 C hP hS dX0_seekOrder_71 (fun H locs hP hS => ?_)
        refine lv_aload_n C.1 C.2.1 dX0_seekOrder_74 rfl (lv_at hl 0 rfl) ?_
        refine lv_aload_n C.1 C.2.1 dX0_seekOrder_75 rfl (lv_at hl 0 rfl) ?_
        refine xWg_0_10 q248 C hP dX0_seekOrder_76 ?_
        refine xWp_0_14 q252 C hP hS dX0_seekOrder_79 (fun H locs hP hS => ?_)
        refine lv_aload_n C.1 C.2.1 dX0_seekOrder_82 rfl (lv_at hl 0 rfl) ?_
        refine xWg_0_4 q242 C hP dX0_seekOrder_83 ?_
        refine lv_iconst (v := 0) C.1 C.2.1 dX0_seekOrder_86 (by decide) ?_
        refine lv_aload_n C.1 C.2.1 dX0_seekOrder_87 rfl (lv_at hl 0 rfl) ?_
        refine xWg_0_5 q243 C hP dX0_seekOrder_88 ?_
        refine lv_iconst (v := 0) C.1 C.2.1 dX0_seekOrder_91 (by decide) ?_
        refine lv_iload_n C.1 C.2.1 dX0_seekOrder_92 rfl (lv_at hl 1 rfl) ?_
        obtain ⟨g10, hE⟩ := it_g hE
        obtain ⟨g11, hE⟩ := it_g hE
        obtain ⟨g12, hE⟩ := it_g hE
        refine va_copyi C.1 C.2.1 (by rw [hml]; exact hl.1.symm) C.2.2.1 (C.2.2.2.1 _ q551) (C.2.2.2.1 _ q553) (C.2.2.2.1 _ q552) (C.2.2.2.1 _ q100) C.2.2.2.2.1 hP (nD_of (nd_left C.2.2.2.2.2.1) C.2.2.2.2.2.2.2.1 xW_av) hS 7 8 0 0 rfl rfl rfl rfl rfl (by decide) (by decide) g10 g11 g12 (fun _ _ => rfl) (Nat.le_of_ble_eq_true rfl) (Nat.le_of_ble_eq_true rfl) dX0_seekOrder_93 (fun H locs hP _ hS => ?_)
        obtain rfl := Option.some.inj hE
        exact hret _ _ _ _ dX0_seekOrder_96 hP hS
      · have hE := it_f c9 hE
        refine lv_aload_n C.1 C.2.1 dX0_seekOrder_44 rfl (lv_at hl 0 rfl) ?_
        refine xWg_0_9 q247 C hP dX0_seekOrder_45 ?_
        refine lv_aload_n C.1 C.2.1 dX0_seekOrder_48 rfl (lv_at hl 0 rfl) ?_
        refine xWg_0_13 q251 C hP dX0_seekOrder_49 ?_
        refine lv_icmp_ne (tgt := 96) C.1 C.2.1 dX0_seekOrder_52 (by decide) (fun c13 => ?_) (fun c13 => ?_)
        · have hE := it_f c13 hE
          obtain rfl := Option.some.inj hE
          exact hret _ _ _ _ dX0_seekOrder_96 hP hS
        · have hE := it_t c13 hE
          refine lv_aload_n C.1 C.2.1 dX0_seekOrder_55 rfl (lv_at hl 0 rfl) ?_
          refine xWg_0_10 q248 C hP dX0_seekOrder_56 ?_
          refine lv_aload_n C.1 C.2.1 dX0_seekOrder_59 rfl (lv_at hl 0 rfl) ?_
          refine xWg_0_14 q252 C hP dX0_seekOrder_60 ?_
          refine lv_icmp_le (tgt := 96) C.1 C.2.1 dX0_seekOrder_63 (by decide) (fun c14 => ?_) (fun c14 => ?_)
          · have hE := it_t c14 hE
            obtain rfl := Option.some.inj hE
            exact hret _ _ _ _ dX0_seekOrder_96 hP hS
          · have hE := it_f c14 hE
            refine lv_aload_n C.1 C.2.1 dX0_seekOrder_66 rfl (lv_at hl 0 rfl) ?_
            refine lv_aload_n C.1 C.2.1 dX0_seekOrder_67 rfl (lv_at hl 0 rfl) ?_
            refine xWg_0_9 q247 C hP dX0_seekOrder_68 ?_
            refine xWp_0_13 q251 C hP hS dX0_seekOrder_71 (fun H locs hP hS => ?_)
            refine lv_aload_n C.1 C.2.1 dX0_seekOrder_74 rfl (lv_at hl 0 rfl) ?_
            refine lv_aload_n C.1 C.2.1 dX0_seekOrder_75 rfl (lv_at hl 0 rfl) ?_
            refine xWg_0_10 q248 C hP dX0_seekOrder_76 ?_
            refine xWp_0_14 q252 C hP hS dX0_seekOrder_79 (fun H locs hP hS => ?_)
            refine lv_aload_n C.1 C.2.1 dX0_seekOrder_82 rfl (lv_at hl 0 rfl) ?_
            refine xWg_0_4 q242 C hP dX0_seekOrder_83 ?_
            refine lv_iconst (v := 0) C.1 C.2.1 dX0_seekOrder_86 (by decide) ?_
            refine lv_aload_n C.1 C.2.1 dX0_seekOrder_87 rfl (lv_at hl 0 rfl) ?_
            refine xWg_0_5 q243 C hP dX0_seekOrder_88 ?_
            refine lv_iconst (v := 0) C.1 C.2.1 dX0_seekOrder_91 (by decide) ?_
            refine lv_iload_n C.1 C.2.1 dX0_seekOrder_92 rfl (lv_at hl 1 rfl) ?_
            obtain ⟨g15, hE⟩ := it_g hE
            obtain ⟨g16, hE⟩ := it_g hE
            obtain ⟨g17, hE⟩ := it_g hE
            refine va_copyi C.1 C.2.1 (by rw [hml]; exact hl.1.symm) C.2.2.1 (C.2.2.2.1 _ q551) (C.2.2.2.1 _ q553) (C.2.2.2.1 _ q552) (C.2.2.2.1 _ q100) C.2.2.2.2.1 hP (nD_of (nd_left C.2.2.2.2.2.1) C.2.2.2.2.2.2.2.1 xW_av) hS 7 8 0 0 rfl rfl rfl rfl rfl (by decide) (by decide) g15 g16 g17 (fun _ _ => rfl) (Nat.le_of_ble_eq_true rfl) (Nat.le_of_ble_eq_true rfl) dX0_seekOrder_93 (fun H locs hP _ hS => ?_)
            obtain rfl := Option.some.inj hE
            exact hret _ _ _ _ dX0_seekOrder_96 hP hS
