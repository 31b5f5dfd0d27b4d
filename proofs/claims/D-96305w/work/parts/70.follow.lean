set_option maxRecDepth 100000
/-- the eight shelves, by what they hold -/
def shE (sa : Nat → Nat) (hv : Nat → Value) : va_W := (List.range 8).map (fun i => (sa i, .inr (13, [hv i])))
theorem shE_get {sa : Nat → Nat} {hv : Nat → Value} {j : Nat} (h : j < 8) : (shE sa hv)[j]? = some (sa j, .inr (13, [hv j])) := by
  unfold shE
  rw [List.getElem?_map, List.getElem?_range h]
  rfl
theorem shE_mem {sa : Nat → Nat} {hv : Nat → Value} {j : Nat} (h : j < 8) : (sa j, .inr (13, [hv j])) ∈ shE sa hv := List.mem_of_getElem? (shE_get h)
theorem shE_av {sa : Nat → Nat} {hv hw : Nat → Value} : (shE sa hv).map (·.1) = (shE sa hw).map (·.1) := by
  unfold shE
  rw [List.map_map, List.map_map]
  rfl
theorem shE_set {sa : Nat → Nat} {hv hw : Nat → Value} {j : Nat} {v : Value} (h : j < 8) (hw1 : hw j = v) (hw2 : ∀ i, i ≠ j → hw i = hv i) : (shE sa hv).set j (sa j, .inr (13, [v])) = shE sa hw := by
  apply List.ext_getElem?
  intro i
  rw [List.getElem?_set]
  by_cases e : j = i
  · subst e
    have hl : (shE sa hv).length = 8 := by simp [shE]
    rw [if_pos rfl, if_pos (by omega), shE_get h, hw1]
  · rw [if_neg e]
    by_cases h8 : i < 8
    · rw [shE_get h8, shE_get h8, hw2 i (Ne.symm e)]
    · have h1 : (shE sa hv)[i]? = none := by rw [List.getElem?_eq_none]; simp [shE]; omega
      have h2 : (shE sa hw)[i]? = none := by rw [List.getElem?_eq_none]; simp [shE]; omega
      rw [h1, h2]
theorem tD_av {s : State} {av : List Nat} {E E' : va_W} {A : Nat → Prop} (D : tD s av E A) (h : E'.map (·.1) = E.map (·.1)) : tD s av E' A := ⟨by rw [h]; exact D.1, by rw [h]; exact D.2.1, D.2.2.1, D.2.2.2.1, D.2.2.2.2⟩
/-- what a shelf held, and holds behind it -/
def ovOK (G : kG) (ov : Nat → Value) (hd ra rb rs rn : Nat → Nat) (rc : Nat → Nat → Int64) (sk : Nat → Nat) (si sb : Nat → Int32) (pl : va_W) : Prop := ∀ j, j < 8 → (hd j = 0 ∧ ov j = .null) ∨ (hd j = 1 ∧ ov j = .ref (ra j) ∧ rowIn G (ra j) (rs j) (rb j) (rn j) (rc j) pl) ∨ (hd j = 2 ∧ ov j = .ref (ra j) ∧ sk j < 7 ∧ (ra j, .inr (sk j, [.int (si j), .int (sb j)])) ∈ pl)
def nvF (ov : Nat → Value) (hd : Nat → Nat) (si : Nat → Int32) (homes : Nat → Option Nat) (many : Int32) (j : Nat) : Value := if hd j = 2 then (if gm (si j) many then va_rf (homes (si j).toNatClampNeg) else .null) else ov j
def mixF (ov nv : Nat → Value) (k j : Nat) : Value := if j < k then nv j else ov j
theorem rowIn_app {G : kG} {q k b n : Nat} {rc : Nat → Int64} {pl E : va_W} (h : rowIn G q k b n rc pl) : rowIn G q k b n rc (pl ++ E) := ⟨h.1, h.2.1, h.2.2.1, List.mem_append_left _ h.2.2.2.1, List.mem_append_left _ h.2.2.2.2⟩
theorem ov_sh {G : kG} {ov : Nat → Value} {sa hd ra rb rs rn : Nat → Nat} {rc : Nat → Nat → Int64} {sk : Nat → Nat} {si sb : Nat → Int32} {pl : va_W} {hv : Nat → Value} (h : ovOK G ov hd ra rb rs rn rc sk si sb pl) {j : Nat} (hj : j < 8) (e : hv j = ov j) : shAt G (sa j) (hd j) (ra j) (rb j) (rs j) (rn j) (rc j) (sk j) (si j) (sb j) (pl ++ shE sa hv) := by
  have hm : (sa j, .inr (13, [ov j])) ∈ pl ++ shE sa hv := List.mem_append_right _ (by rw [← e]; exact shE_mem hj)
  rcases h j hj with ⟨h0, h1⟩ | ⟨h0, h1, h2⟩ | ⟨h0, h1, h2, h3⟩
  · exact Or.inl ⟨h0, by rw [← h1]; exact hm⟩
  · exact Or.inr (Or.inl ⟨h0, by rw [← h1]; exact hm, rowIn_app h2⟩)
  · exact Or.inr (Or.inr ⟨h0, by rw [← h1]; exact hm, h2, List.mem_append_left _ h3⟩)
theorem gk_preV {p : Program} {s : State} {m : MethodId} {args : Array Value} {c : Code} {cc : ByteArray} {own : String} {G : kG} {av : List Nat} {A : Nat → Prop} {H : Heap} {plc : va_W} {b : Nat} {As : List Value} {Cn : String} (C : nC p s m args c cc own G av [] A) (hE : kE s) (hpc : va_P G.1 vwCl plc H) (hnd : (plc.map (·.1)).Nodup) (hr : ∃ cell : Cell, H[b]? = some cell ∧ cell.vm.isStatics = false ∧ s.vm.findClass Cn = some cell.cls) : PreV s H Cn b (kPc G plc (.ref b :: As)) As :=
  ⟨kPc_blind, hr, fun U hU hW => ⟨⟨rfl, P_nil, by rw [hU]; exact hpc, va_K.moved hW.alike C.2.2.2.2.1, by simpa using hnd⟩, kE.moved hW hE⟩⟩
set_option maxHeartbeats 4000000 in
theorem sf_loop {p : Program} {l : Launch} {e : Env} {s : State} {m : MethodId} {args : Array Value} {below : List Frame} {meth : Method} {c : Code} {Q : State → Prop} {G : kG} {ad : Nat → Nat} {pl : va_W} {sz : Nat} {hk : Nat → Nat} {hb : Nat → Int32} {sa hd ra rb rs rn : Nat → Nat} {rc : Nat → Nat → Int64} {sk : Nat → Nat} {si sb : Nat → Int32} {ov : Nat → Value} {v_latestFault : Int32} {v_died : Int32} {v_leastWeight : Int32} {v_noticedBy : Int32} {v_noticed : Int32} {v_orderDied : Int32} {v_orderLeast : Int32} {v_imaged : Option Nat} {v_shelves : Nat → Option Nat} {v_refusals : Nat → Int32} {v_ran : Int32} {v_bodies : Nat → Int32} {v_tweight : Int32} {v_tfright : Int32} {v_tage : Int32} {v_tasked : Nat → Int32} {v_told : Nat → Int32} {v_bestRow : Nat → Int32} {v_weight_a1 : Int32} {v_fright_a1 : Int32} {v_age_a1 : Int32} {v_asked_a1 : Nat → Int32} {v_weight_a2 : Int32} {v_fright_a2 : Int32} {v_age_a2 : Int32} {v_asked_a2 : Nat → Int32} {v_weight_a3 : Int32} {v_fright_a3 : Int32} {v_age_a3 : Int32} {v_asked_a3 : Nat → Int32} {v_weight_a4 : Int32} {v_fright_a4 : Int32} {v_age_a4 : Int32} {v_asked_a4 : Nat → Int32} {v_many : Int32} {v_pets : Int32} {v_last : Int32} {v_seed : Int32} {v_weight : Int32} {v_fright : Int32} {v_age : Int32} {v_asked : Nat → Int32} {v_homes : Nat → Option Nat} {v_marks : Nat → Int32} {v_had : Nat → Int32} {v_allergic : Nat → Int32} {v_deaths : Nat → Int32} (C : nC p s m args c cX0_shelvesFollow RX0 G (xWV ad) pl (tA sz (xWV ad) (shE sa ov))) (C0 : nC p s m args c cX0_shelvesFollow RX0 G (xWV ad) [] (tA sz (xWV ad) (shE sa ov))) (D : tD s (xWV ad) (shE sa ov) (tA sz (xWV ad) (shE sa ov))) (hN : (xWV ad ++ (pl ++ shE sa ov).map (·.1)).Nodup) (hml : c.maxLocals = 6) (hsh : ∀ j, j < 8 → v_shelves j = some (sa j)) (hov : ovOK G ov hd ra rb rs rn rc sk si sb pl) (hom : homOK v_homes v_many hk hb pl) (h8 : v_many.toInt ≤ 8) (hIs : ∀ x, sC_Room_isHome v_many x = some (if gm x v_many then 1 else 0)) :
    ∀ (n j : Nat) (H : Heap) (locs : List Loc) (ls : Array Slot), j + n = 8 → va_P G.1 vwCl (xW G.2 ad v_latestFault v_died v_leastWeight v_noticedBy v_noticed v_orderDied v_orderLeast v_imaged v_shelves v_refusals v_ran v_bodies v_tweight v_tfright v_tage v_tasked v_told v_bestRow v_weight_a1 v_fright_a1 v_age_a1 v_asked_a1 v_weight_a2 v_fright_a2 v_age_a2 v_asked_a2 v_weight_a3 v_fright_a3 v_age_a3 v_asked_a3 v_weight_a4 v_fright_a4 v_age_a4 v_asked_a4 v_many v_pets v_last v_seed v_weight v_fright v_age v_asked v_homes v_marks v_had v_allergic v_deaths) H → va_P G.1 vwCl (shE sa (mixF ov (nvF ov hd si v_homes v_many) j)) H → va_S (tA sz (xWV ad) (shE sa ov)) s.heap H locs → lv_has ls 6 [(3, .int (Int32.ofNat j)), (2, .int 8), (1, .ref (ad 1)), (0, .ref (ad 0))] → (∀ (H : Heap) (locs : List Loc) (ls : Array Slot), va_P G.1 vwCl (xW G.2 ad v_latestFault v_died v_leastWeight v_noticedBy v_noticed v_orderDied v_orderLeast v_imaged v_shelves v_refusals v_ran v_bodies v_tweight v_tfright v_tage v_tasked v_told v_bestRow v_weight_a1 v_fright_a1 v_age_a1 v_asked_a1 v_weight_a2 v_fright_a2 v_age_a2 v_asked_a2 v_weight_a3 v_fright_a3 v_age_a3 v_asked_a3 v_weight_a4 v_fright_a4 v_age_a4 v_asked_a4 v_many v_pets v_last v_seed v_weight v_fright v_age v_asked v_homes v_marks v_had v_allergic v_deaths) H → va_P G.1 vwCl (shE sa (mixF ov (nvF ov hd si v_homes v_many) 8)) H → va_S (tA sz (xWV ad) (shE sa ov)) s.heap H locs → W p l e ({ frames := 4, cells := 0, slots := 0, locals := 80 } : Room) s m args below meth c H locs 0 0 Q (F0 m 78 ls [])) → W p l e ({ frames := 4, cells := 0, slots := 0, locals := 80 } : Room) s m args below meth c H locs 0 0 Q (F0 m 10 ls []) := by
  intro n
  induction n with
  | zero =>
    intro j H locs ls hj hP hp hS hl hX
    have hj : j = 8 := by omega
    subst hj
    refine lv_iload_n C.1 C.2.1 dX0_shelvesFollow_10 rfl (lv_at hl 0 rfl) ?_
    refine lv_iload_n C.1 C.2.1 dX0_shelvesFollow_11 rfl (lv_at hl 1 rfl) ?_
    refine lv_icmp_ge (tgt := 78) C.1 C.2.1 dX0_shelvesFollow_12 (by decide) (fun _ => ?_) (fun c9 => absurd (by decide) c9)
    exact hX H locs ls hP hp hS
  | succ n ih =>
    intro j H locs ls hj hP hp hS hl hX
    have hj8 : j < 8 := by omega
    have h31 := toNat_ofNat (i := j) (by omega)
    refine lv_iload_n C.1 C.2.1 dX0_shelvesFollow_10 rfl (lv_at hl 0 rfl) ?_
    refine lv_iload_n C.1 C.2.1 dX0_shelvesFollow_11 rfl (lv_at hl 1 rfl) ?_
    refine lv_icmp_ge (tgt := 78) C.1 C.2.1 dX0_shelvesFollow_12 (by decide) (fun c9 => ?_) (fun _ => ?_)
    · have h9 : (8 : Int32).toInt ≤ (Int32.ofNat j).toInt := Int32.le_iff_toInt_le.mp c9
      rw [h31.1] at h9
      exact absurd h9 (by have e8 : (8 : Int32).toInt = 8 := rfl; omega)
    have hgj : gi (Int32.ofNat j) 8 := ⟨by rw [h31.1]; omega, by rw [h31.1]; omega⟩
    have Dj := tD_av D (shE_av (sa := sa) (hv := mixF ov (nvF ov hd si v_homes v_many) j) (hw := ov))
    have hmj : mixF ov (nvF ov hd si v_homes v_many) j j = ov j := by unfold mixF; rw [if_neg (by omega)]
    have hshj := ov_sh (sa := sa) (hv := mixF ov (nvF ov hd si v_homes v_many) j) hov hj8 hmj
    refine lv_aload_n C.1 C.2.1 dX0_shelvesFollow_15 rfl (lv_at hl 2 rfl) ?_
    refine lv_iload_n C.1 C.2.1 dX0_shelvesFollow_16 rfl (lv_at hl 0 rfl) ?_
    refine xWl_1 (v := some (sa j)) C hP (gi_in hgj) (by rw [h31.2]; exact hsh j hj8) dX0_shelvesFollow_17 ?_
    refine lv_astore (lv' := [(4, .ref (sa j)), (3, .int (Int32.ofNat j)), (2, .int 8), (1, .ref (ad 1)), (0, .ref (ad 0))]) C.1 C.2.1 dX0_shelvesFollow_18 hl (by decide) rfl (fun ls hl => ?_)
    refine lv_aload C.1 C.2.1 dX0_shelvesFollow_20 (lv_at hl 0 rfl) ?_
    have hpp := d_pp C hS hp
    have hnd2 : ((pl ++ shE sa (mixF ov (nvF ov hd si v_homes v_many) j)).map (·.1)).Nodup := by
      rw [List.map_append, shE_av (hw := ov), ← List.map_append]
      exact (List.nodup_append.mp hN).2.1
    refine tn_after (plc := []) [] C0 Dj hP hp hS (va_runV (As := []) (rest := []) ⟨C.1, C.2.1, hml, C.2.2.1, C.2.2.2.1⟩ (metS_holdsHome l G (pl ++ shE sa (mixF ov (nvF ov hd si v_homes v_many) j)) _ _ _ _ _ _ _ _ _ _ hshj) (cwV (C := RX4) 0 C.2.2.2.1 (lw_V q516 q517 q518 q84 q519) rfl rfl rfl (by decide +kernel) ⟨Nat.le_of_ble_eq_true rfl, Nat.le_of_ble_eq_true rfl⟩) (gk_preV C0 D.2.2.2.2 hpp hnd2 (d_shrecv C hS hp hshj)) rfl rfl hl.1 rfl (lv_room (Nat.le_of_ble_eq_true rfl)) dX0_shelvesFollow_22 ⟨Nat.le_of_ble_eq_true rfl, Nat.le_of_ble_eq_true rfl⟩) xW_av rfl rfl rfl (fun H locs hP hp hS => ?_)
    have hcont : ∀ (H : Heap) (locs : List Loc) (ls : Array Slot), va_P G.1 vwCl (xW G.2 ad v_latestFault v_died v_leastWeight v_noticedBy v_noticed v_orderDied v_orderLeast v_imaged v_shelves v_refusals v_ran v_bodies v_tweight v_tfright v_tage v_tasked v_told v_bestRow v_weight_a1 v_fright_a1 v_age_a1 v_asked_a1 v_weight_a2 v_fright_a2 v_age_a2 v_asked_a2 v_weight_a3 v_fright_a3 v_age_a3 v_asked_a3 v_weight_a4 v_fright_a4 v_age_a4 v_asked_a4 v_many v_pets v_last v_seed v_weight v_fright v_age v_asked v_homes v_marks v_had v_allergic v_deaths) H → va_P G.1 vwCl (shE sa (mixF ov (nvF ov hd si v_homes v_many) (j + 1))) H → va_S (tA sz (xWV ad) (shE sa ov)) s.heap H locs → lv_has ls 6 [(3, .int (Int32.ofNat j)), (2, .int 8), (1, .ref (ad 1)), (0, .ref (ad 0))] → W p l e ({ frames := 4, cells := 0, slots := 0, locals := 80 } : Room) s m args below meth c H locs 0 0 Q (F0 m 72 ls []) := by
      intro H locs ls hP hp hS hl
      refine lv_iinc (v := Int32.ofNat (j + 1)) (lv' := [(3, .int (Int32.ofNat (j + 1))), (2, .int 8), (1, .ref (ad 1)), (0, .ref (ad 0))]) C.1 C.2.1 dX0_shelvesFollow_72 hl (k := 0) rfl (by rw [Int32.ofNat_add]; rfl) (by decide) rfl (fun ls hl => ?_)
      refine lv_goto (tgt := 10) C.1 C.2.1 dX0_shelvesFollow_75 (by decide) ?_
      exact ih (j + 1) H locs ls (by omega) hP hp hS hl hX
    by_cases h2 : hd j = 2
    · have hho := shAt_2 hshj h2
      rcases hov j hj8 with ⟨h0, _⟩ | ⟨h0, _, _⟩ | ⟨_, ho, h7, hq⟩
      · exact absurd (h0.symm.trans h2) (by decide)
      · exact absurd (h0.symm.trans h2) (by decide)
      have e1 : hh2 (hd j) = 1 := by rw [h2]; rfl
      rw [e1]
      refine lv_if_eq (tgt := 72) C.1 C.2.1 dX0_shelvesFollow_25 (by decide) (fun c9 => absurd c9 (by decide)) (fun _ => ?_)
      refine lv_aload C.1 C.2.1 dX0_shelvesFollow_28 (lv_at hl 0 rfl) ?_
      refine va_get (D := G.1) (ci := 13) (v := .ref (ra j)) (C := RX4) (T := TX4) (N := 1) C.1 C.2.1 C.2.2.2.1 in_X4 C.2.2.1 C.2.2.2.2.1 hp j (shE_get hj8) rfl 0 (by decide) (C.2.2.2.1 _ q234) (fun _ h => h) (by rw [hmj, ho]; rfl) dX0_shelvesFollow_30 ?_
      refine h_castH C D.2.2.2.2 hS h7 hq q590 dX0_shelvesFollow_33 ?_
      refine h_ix7 C hS h7 hq q669 dX0_shelvesFollow_36 ?_
      refine lv_istore (lv' := [(5, .int (si j)), (4, .ref (sa j)), (3, .int (Int32.ofNat j)), (2, .int 8), (1, .ref (ad 1)), (0, .ref (ad 0))]) C.1 C.2.1 dX0_shelvesFollow_39 hl (by decide) rfl (fun ls hl => ?_)
      refine lv_aload C.1 C.2.1 dX0_shelvesFollow_41 (lv_at hl 1 rfl) ?_
      refine lv_aload_n C.1 C.2.1 dX0_shelvesFollow_43 rfl (lv_at hl 5 rfl) ?_
      refine xWg_0_6 q244 C hP dX0_shelvesFollow_44 ?_
      refine lv_iload C.1 C.2.1 dX0_shelvesFollow_47 (lv_at hl 0 rfl) ?_
      refine tn_after (plc := []) [18, 19, 20, 21, 22, 23, 24, 25] C0 Dj hP hp hS (va_runV (As := [.int (si j)]) (rest := [.ref (sa j)]) ⟨C.1, C.2.1, hml, C.2.2.1, C.2.2.2.1⟩ (metC_Room_isHome l G (fun i => ad (18 + i)) pl _ _ _ _ _ _ _ _ _ _ _ _ _ (si j) _ (hIs (si j))) (cwV (C := RX3) 1 C.2.2.2.1 (lw_V q581 q582 q583 q83 q584) rfl rfl rfl (by decide +kernel) ⟨Nat.le_of_ble_eq_true rfl, Nat.le_of_ble_eq_true rfl⟩) (n_preV C hP hS [18, 19, 20, 21, 22, 23, 24, 25] sub_xW_rW_18 (by decide) rfl (va_recv C.2.2.2.2.1 hP (ci := 12) (q0 := 18) rfl rfl)) rfl rfl hl.1 rfl (lv_room (Nat.le_of_ble_eq_true rfl)) dX0_shelvesFollow_49 ⟨Nat.le_of_ble_eq_true rfl, Nat.le_of_ble_eq_true rfl⟩) xW_av rfl rfl mg_xW_rW_18 (fun H locs hP hp hS => ?_)
      have hput : ∀ (v : Value), (v = .null ∨ ∃ a, v = .ref a) → v = (nvF ov hd si v_homes v_many) j → ∀ (H : Heap) (locs : List Loc) (ls : Array Slot), va_P G.1 vwCl (xW G.2 ad v_latestFault v_died v_leastWeight v_noticedBy v_noticed v_orderDied v_orderLeast v_imaged v_shelves v_refusals v_ran v_bodies v_tweight v_tfright v_tage v_tasked v_told v_bestRow v_weight_a1 v_fright_a1 v_age_a1 v_asked_a1 v_weight_a2 v_fright_a2 v_age_a2 v_asked_a2 v_weight_a3 v_fright_a3 v_age_a3 v_asked_a3 v_weight_a4 v_fright_a4 v_age_a4 v_asked_a4 v_many v_pets v_last v_seed v_weight v_fright v_age v_asked v_homes v_marks v_had v_allergic v_deaths) H → va_P G.1 vwCl (shE sa (mixF ov (nvF ov hd si v_homes v_many) j)) H → va_S (tA sz (xWV ad) (shE sa ov)) s.heap H locs → lv_has ls 6 [(5, .int (si j)), (4, .ref (sa j)), (3, .int (Int32.ofNat j)), (2, .int 8), (1, .ref (ad 1)), (0, .ref (ad 0))] → W p l e ({ frames := 4, cells := 0, slots := 0, locals := 80 } : Room) s m args below meth c H locs 0 0 Q (F0 m 69 ls [v, .ref (sa j)]) := by
        intro v hv he H locs ls hP hp hS hl
        have hPP : va_P G.1 vwCl (shE sa (mixF ov (nvF ov hd si v_homes v_many) j) ++ (xW G.2 ad v_latestFault v_died v_leastWeight v_noticedBy v_noticed v_orderDied v_orderLeast v_imaged v_shelves v_refusals v_ran v_bodies v_tweight v_tfright v_tage v_tasked v_told v_bestRow v_weight_a1 v_fright_a1 v_age_a1 v_asked_a1 v_weight_a2 v_fright_a2 v_age_a2 v_asked_a2 v_weight_a3 v_fright_a3 v_age_a3 v_asked_a3 v_weight_a4 v_fright_a4 v_age_a4 v_asked_a4 v_many v_pets v_last v_seed v_weight v_fright v_age v_asked v_homes v_marks v_had v_allergic v_deaths)) H := hp.app hP
        have hDD : va_D (tA sz (xWV ad) (shE sa ov)) (shE sa (mixF ov (nvF ov hd si v_homes v_many) j) ++ (xW G.2 ad v_latestFault v_died v_leastWeight v_noticedBy v_noticed v_orderDied v_orderLeast v_imaged v_shelves v_refusals v_ran v_bodies v_tweight v_tfright v_tage v_tasked v_told v_bestRow v_weight_a1 v_fright_a1 v_age_a1 v_asked_a1 v_weight_a2 v_fright_a2 v_age_a2 v_asked_a2 v_weight_a3 v_fright_a3 v_age_a3 v_asked_a3 v_weight_a4 v_fright_a4 v_age_a4 v_asked_a4 v_many v_pets v_last v_seed v_weight v_fright v_age v_asked v_homes v_marks v_had v_allergic v_deaths)) := by
          have h1 := Dj.1
          refine va_D_of ?_ ?_
          · rw [List.map_append]
            rw [List.nodup_append] at h1
            exact List.nodup_append.mpr ⟨h1.2.1, h1.1, fun a ha b hb e => h1.2.2 _ (by rw [e]; exact hb) _ ha rfl⟩
          · intro z hz
            rw [List.map_append] at hz
            rcases List.mem_append.mp hz with h | h
            · exact Dj.2.1 z h
            · exact Or.inl h
        have hlen : j < (shE sa (mixF ov (nvF ov hd si v_homes v_many) j)).length := by simp [shE]; omega
        refine va_put (D := G.1) (ci := 13) (v := v) (ty := (.object "java/lang/Object")) (C := RX4) (T := TX4) (N := 1) C.1 C.2.1 C.2.2.2.1 in_X4 tyX4 tyX4_ok nmX4 C.2.2.1 C.2.2.2.2.1 hPP hDD hS j (by rw [List.getElem?_append_left hlen]; exact shE_get hj8) rfl 0 (by decide) (C.2.2.2.1 _ q234) (fun _ h => h) rfl (by decide +kernel) (by rcases hv with rfl | ⟨a, rfl⟩ <;> rfl) (by rcases hv with rfl | ⟨a, rfl⟩ <;> rfl) (Nat.le_of_ble_eq_true rfl) dX0_shelvesFollow_69 (fun H locs hPP hDD hS => ?_)
        rw [List.set_append_left _ _ hlen] at hPP
        have e9 := shE_set (sa := sa) (hv := mixF ov (nvF ov hd si v_homes v_many) j) (hw := mixF ov (nvF ov hd si v_homes v_many) (j + 1)) (v := v) hj8 (by unfold mixF; rw [if_pos (by omega)]; exact he.symm) (fun i hi => by
          unfold mixF
          by_cases h9 : i < j
          · rw [if_pos h9, if_pos (by omega)]
          · rw [if_neg h9, if_neg (by omega)])
        have hPE : va_P G.1 vwCl ((shE sa (mixF ov (nvF ov hd si v_homes v_many) j)).set j (sa j, .inr (13, [v]))) H := P_left hPP
        rw [e9] at hPE
        exact hcont H locs ls (P_right hPP) hPE hS (lv_sub hl [2, 3, 4, 5] rfl)
      by_cases hg : gm (si j) v_many
      · rw [if_pos hg]
        refine lv_if_eq (tgt := 68) C.1 C.2.1 dX0_shelvesFollow_52 (by decide) (fun c9 => absurd c9 (by decide)) (fun _ => ?_)
        refine lv_aload_n C.1 C.2.1 dX0_shelvesFollow_55 rfl (lv_at hl 5 rfl) ?_
        refine xWg_0_6 q244 C hP dX0_shelvesFollow_56 ?_
        refine xWg_18_5 q193 C hP dX0_shelvesFollow_59 ?_
        refine lv_iload C.1 C.2.1 dX0_shelvesFollow_62 (lv_at hl 0 rfl) ?_
        obtain ⟨q, hq0, -, -⟩ := hom _ hg
        refine xWl_21 (v := some q) C hP (gi_in ⟨hg.1, by have := hg.2; omega⟩) hq0 dX0_shelvesFollow_64 ?_
        refine lv_goto (tgt := 69) C.1 C.2.1 dX0_shelvesFollow_65 (by decide) ?_
        exact hput (.ref q) (Or.inr ⟨q, rfl⟩) (by unfold nvF; rw [if_pos h2, if_pos hg, hq0]; rfl) H locs ls hP hp hS hl
      · rw [if_neg hg]
        refine lv_if_eq (tgt := 68) C.1 C.2.1 dX0_shelvesFollow_52 (by decide) (fun _ => ?_) (fun c9 => absurd rfl c9)
        refine lv_null C.1 C.2.1 dX0_shelvesFollow_68 ?_
        exact hput .null (Or.inl rfl) (by unfold nvF; rw [if_pos h2, if_neg hg]) H locs ls hP hp hS hl
    · have e1 : hh2 (hd j) = 0 := by unfold hh2; rw [if_neg h2]
      rw [e1]
      refine lv_if_eq (tgt := 72) C.1 C.2.1 dX0_shelvesFollow_25 (by decide) (fun _ => ?_) (fun c9 => absurd rfl c9)
      refine hcont H locs ls hP ?_ hS (lv_sub hl [1, 2, 3, 4] rfl)
      have e2 : mixF ov (nvF ov hd si v_homes v_many) (j + 1) = mixF ov (nvF ov hd si v_homes v_many) j := by
        funext i
        unfold mixF
        by_cases h9 : i < j
        · rw [if_pos h9, if_pos (by omega)]
        · rw [if_neg h9]
          by_cases h10 : i = j
          · subst h10
            rw [if_pos (by omega)]
            unfold nvF
            rw [if_neg h2]
          · rw [if_neg (by omega)]
      rw [e2]
      exact hp
set_option maxHeartbeats 4000000 in
theorem metC_HW_follow (l : Launch) (G : kG) (ad : Nat → Nat) (pl : va_W) (sz : Nat) (hk : Nat → Nat) (hb : Nat → Int32) (sa hd ra rb rs rn : Nat → Nat) (rc : Nat → Nat → Int64) (sk : Nat → Nat) (si sb : Nat → Int32) (ov : Nat → Value) (v_latestFault : Int32) (v_died : Int32) (v_leastWeight : Int32) (v_noticedBy : Int32) (v_noticed : Int32) (v_orderDied : Int32) (v_orderLeast : Int32) (v_imaged : Option Nat) (v_shelves : Nat → Option Nat) (v_refusals : Nat → Int32) (v_ran : Int32) (v_bodies : Nat → Int32) (v_tweight : Int32) (v_tfright : Int32) (v_tage : Int32) (v_tasked : Nat → Int32) (v_told : Nat → Int32) (v_bestRow : Nat → Int32) (v_weight_a1 : Int32) (v_fright_a1 : Int32) (v_age_a1 : Int32) (v_asked_a1 : Nat → Int32) (v_weight_a2 : Int32) (v_fright_a2 : Int32) (v_age_a2 : Int32) (v_asked_a2 : Nat → Int32) (v_weight_a3 : Int32) (v_fright_a3 : Int32) (v_age_a3 : Int32) (v_asked_a3 : Nat → Int32) (v_weight_a4 : Int32) (v_fright_a4 : Int32) (v_age_a4 : Int32) (v_asked_a4 : Nat → Int32) (v_many : Int32) (v_pets : Int32) (v_last : Int32) (v_seed : Int32) (v_weight : Int32) (v_fright : Int32) (v_age : Int32) (v_asked : Nat → Int32) (v_homes : Nat → Option Nat) (v_marks : Nat → Int32) (v_had : Nat → Int32) (v_allergic : Nat → Int32) (v_deaths : Nat → Int32) (hsh : ∀ j, j < 8 → v_shelves j = some (sa j)) (hov : ovOK G ov hd ra rb rs rn rc sk si sb pl) (hom : homOK v_homes v_many hk hb pl) (h8 : v_many.toInt ≤ 8) (hIs : ∀ x, sC_Room_isHome v_many x = some (if gm x v_many then 1 else 0)) : vx_Met l yX0_shelvesFollow (ws_ yX0_shelvesFollow cX0_shelvesFollow 6 none) ({ frames := 4, cells := 0, slots := 0, locals := 80 } : Room) (dPc G (xW G.2 ad v_latestFault v_died v_leastWeight v_noticedBy v_noticed v_orderDied v_orderLeast v_imaged v_shelves v_refusals v_ran v_bodies v_tweight v_tfright v_tage v_tasked v_told v_bestRow v_weight_a1 v_fright_a1 v_age_a1 v_asked_a1 v_weight_a2 v_fright_a2 v_age_a2 v_asked_a2 v_weight_a3 v_fright_a3 v_age_a3 v_asked_a3 v_weight_a4 v_fright_a4 v_age_a4 v_asked_a4 v_many v_pets v_last v_seed v_weight v_fright v_age v_asked v_homes v_marks v_had v_allergic v_deaths) pl (shE sa ov) (xWV ad) sz [.ref (ad 0)]) (tQc G (xW G.2 ad v_latestFault v_died v_leastWeight v_noticedBy v_noticed v_orderDied v_orderLeast v_imaged v_shelves v_refusals v_ran v_bodies v_tweight v_tfright v_tage v_tasked v_told v_bestRow v_weight_a1 v_fright_a1 v_age_a1 v_asked_a1 v_weight_a2 v_fright_a2 v_age_a2 v_asked_a2 v_weight_a3 v_fright_a3 v_age_a3 v_asked_a3 v_weight_a4 v_fright_a4 v_age_a4 v_asked_a4 v_many v_pets v_last v_seed v_weight v_fright v_age v_asked v_homes v_marks v_had v_allergic v_deaths) (shE sa (nvF ov hd si v_homes v_many)) (tA sz (xWV ad) (shE sa ov)) True none) (fun _ _ _ _ => False) 0 0 (tA sz (xWV ad) (shE sa ov)) := by
  refine d_ofW (own := RX0) (by decide) rfl (Nat.le_of_ble_eq_true rfl) ?_
  intro p e s m args below meth c ls C C0 D hN hml htab hP hp hS hl hr hlocks hsz
  have hl : lv_has ls 6 [(0, .ref (ad 0))] := hl
  refine lv_aload_n C.1 C.2.1 dX0_shelvesFollow_0 rfl (lv_at hl 0 rfl) ?_
  refine xWg_0_0 q238 C hP dX0_shelvesFollow_1 ?_
  refine lv_astore_n (lv' := [(1, .ref (ad 1)), (0, .ref (ad 0))]) C.1 C.2.1 dX0_shelvesFollow_4 rfl hl (by decide) rfl (fun ls hl => ?_)
  refine lv_aload_n C.1 C.2.1 dX0_shelvesFollow_5 rfl (lv_at hl 0 rfl) ?_
  refine xWn_1 C hP dX0_shelvesFollow_6 ?_
  refine lv_istore_n (lv' := [(2, .int 8), (1, .ref (ad 1)), (0, .ref (ad 0))]) C.1 C.2.1 dX0_shelvesFollow_7 rfl hl (by decide) rfl (fun ls hl => ?_)
  refine lv_iconst (v := 0) C.1 C.2.1 dX0_shelvesFollow_8 (by decide) ?_
  refine lv_istore_n (lv' := [(3, .int 0), (2, .int 8), (1, .ref (ad 1)), (0, .ref (ad 0))]) C.1 C.2.1 dX0_shelvesFollow_9 rfl hl (by decide) rfl (fun ls hl => ?_)
  have e0 : shE sa (mixF ov (nvF ov hd si v_homes v_many) 0) = shE sa ov := by
    have : mixF ov (nvF ov hd si v_homes v_many) 0 = ov := by funext i; unfold mixF; rw [if_neg (by omega)]
    rw [this]
  have e8 : shE sa (mixF ov (nvF ov hd si v_homes v_many) 8) = shE sa (nvF ov hd si v_homes v_many) := by
    unfold shE
    apply List.map_congr_left
    intro i hi
    have := List.mem_range.mp hi
    unfold mixF
    rw [if_pos this]
  refine sf_loop C C0 D hN hml hsh hov hom h8 hIs 8 0 s.heap [] ls rfl hP (by rw [e0]; exact hp) hS hl (fun H locs ls hP hp hS => ?_)
  rw [e8] at hp
  exact t_vret C0 hr hlocks dX0_shelvesFollow_78 trivial hP hp hS
