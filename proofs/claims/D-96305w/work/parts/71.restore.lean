set_option maxRecDepth 100000
section GD
variable {p : Program} {l : Launch} {e : Env} {R : Room} {s : State} {m : MethodId} {args : Array Value} {below : List Frame} {meth : Method} {c : Code} {H : Heap} {locs : List Loc} {cells slots : Nat} {Q : State → Prop} {pc : Nat} {ls : Array Slot} {rest : List Value} {cc : ByteArray} {own : String} {G : kG} {av : List Nat} {pl E : va_W} {A : Nat → Prop}
theorem gd_preV {Xc plc Ec : va_W} {avc : List Nat} {b : Nat} {As : List Value} {Cn : String} (C : nC p s m args c cc own G av [] A) (D : tD s av E A) (hS : va_S A s.heap H locs) (hAv : ∀ q, q ∈ avc → A q) (hAe : ∀ q, q ∈ Ec.map (·.1) → A q) (hc : va_P G.1 vwCl Xc H) (hpc : va_P G.1 vwCl plc H) (hec : va_P G.1 vwCl Ec H) (hnd : (avc ++ (plc ++ Ec).map (·.1)).Nodup) (hr : ∃ cell : Cell, H[b]? = some cell ∧ cell.vm.isStatics = false ∧ s.vm.findClass Cn = some cell.cls) : PreV s H Cn b (dPc G Xc plc Ec avc H.size (.ref b :: As)) As :=
  ⟨dPc_blind, hr, fun U hU hW => ⟨⟨rfl, by rw [hU]; exact hc, by rw [hU]; exact hec, va_K.moved hW.alike C.2.2.2.2.1, by
    rw [List.map_append] at hnd
    rw [List.nodup_append] at hnd
    refine List.nodup_append.mpr ⟨hnd.1, (List.nodup_append.mp hnd.2.1).2.1, fun a ha b hb => hnd.2.2 a ha b (List.mem_append_right _ hb)⟩, by rw [hU], by
    rw [hU]
    refine ((D.2.2.2.1.moved hW.alike).kept (fun a h1 h2 => hS.2.1 a h1 h2)).narrow (fun q hq => ?_)
    rcases hq with h | h | h
    · exact hAv q h
    · exact hAe q h
    · exact D.2.2.1 q (Nat.le_trans hS.1 h), kE.moved hW D.2.2.2.2⟩, by rw [hU]; exact hpc, hnd⟩⟩
theorem gd_after {mc ms : Nat} {Xc' Ec Ec' : va_W} {avc : List Nat} {st : List Value} {o : Option Value} {a : Array Value} {φ : Prop} (hA2 : ∀ q, s.heap.size ≤ q → A q) (hAv : ∀ q, q ∈ avc → A q) (hAe : ∀ q, q ∈ Ec.map (·.1) → A q) (hS : va_S A s.heap H locs)
    (hr : vx_Run p l e R s m args below meth c H locs cells slots mc ms (F0 m pc ls st) rest (tQc G Xc' Ec' (tA H.size avc Ec) φ o a) (fun _ _ _ _ => False) (tA H.size avc Ec))
    (kn : φ → ∀ (H1 : Heap) (locs1 : List Loc), va_P G.1 vwCl Xc' H1 → va_P G.1 vwCl Ec' H1 → H.size ≤ H1.size → (∀ x, x < H.size → x ∉ avc → x ∉ Ec.map (·.1) → H1[x]? = H[x]?) → va_S A s.heap H1 locs1 → W p l e R s m args below meth c H1 locs1 (cells + mc) (slots + ms) Q (F0 m (pc + 3) ls (o.toList ++ rest))) : W p l e R s m args below meth c H locs cells slots Q (F0 m pc ls st) := by
  have hsub : ∀ q, tA H.size avc Ec q → A q := by
    intro q hq
    rcases hq with h | h | h
    · exact hAv q h
    · exact hAe q h
    · exact hA2 q (Nat.le_trans hS.1 h)
  intro T hT X
  rcases hr T hT X with ⟨v, st₀, t, T', L1, e0, X', hL, e1, e2, ⟨hv, hφ, hP1, hp1, hz, hk⟩, stp⟩ | ⟨q, st₀, t, T', L1, E', ce, e0, X', hL, e1, e2, hf, hce, hcv, hcl, stp⟩
  · cases hv
    rw [e0] at hz hk
    obtain ⟨t2, a1, b1⟩ := kn hφ T'.heap (locs ++ L1) (by rw [e1]; exact hP1) (by rw [e1]; exact hp1) (by rw [e1]; exact hz) (by
      rw [e1]
      exact fun x h1 h2 h3 => hk x h1 (fun h => by
        rcases h with h | h | h
        · exact h2 h
        · exact h3 h
        · omega)) (by rw [e1]; exact t_S hS hsub hz hk hL) T' rfl X'
    exact ⟨t2, stp t2 a1, b1⟩
  · exact hf.elim
end GD
def adR (ad ad2 : Nat → Nat) : Nat → Nat := fun i => if i < 18 then ad i else ad2 (i - 18)
set_option maxHeartbeats 4000000 in
theorem metC_HW_restore_ok (l : Launch) (hfl : l.stackTraces = false) (G : kG) (ad adi : Nat → Nat) (pl : va_W) (hk : Nat → Nat) (hb : Nat → Int32) (sz : Nat) (sa hd ra rb rs rn : Nat → Nat) (rc : Nat → Nat → Int64) (sk : Nat → Nat) (si sb : Nat → Int32) (ov : Nat → Value) (v_latestFault : Int32) (v_died : Int32) (v_leastWeight : Int32) (v_noticedBy : Int32) (v_noticed : Int32) (v_orderDied : Int32) (v_orderLeast : Int32) (v_shelves : Nat → Option Nat) (v_refusals : Nat → Int32) (v_ran : Int32) (v_bodies : Nat → Int32) (v_tweight : Int32) (v_tfright : Int32) (v_tage : Int32) (v_tasked : Nat → Int32) (v_told : Nat → Int32) (v_bestRow : Nat → Int32) (v_weight_a1 : Int32) (v_fright_a1 : Int32) (v_age_a1 : Int32) (v_asked_a1 : Nat → Int32) (v_weight_a2 : Int32) (v_fright_a2 : Int32) (v_age_a2 : Int32) (v_asked_a2 : Nat → Int32) (v_weight_a3 : Int32) (v_fright_a3 : Int32) (v_age_a3 : Int32) (v_asked_a3 : Nat → Int32) (v_weight_a4 : Int32) (v_fright_a4 : Int32) (v_age_a4 : Int32) (v_asked_a4 : Nat → Int32) (v_many : Int32) (v_pets : Int32) (v_last : Int32) (v_seed : Int32) (v_weight : Int32) (v_fright : Int32) (v_age : Int32) (v_asked : Nat → Int32) (v_homes : Nat → Option Nat) (v_marks : Nat → Int32) (v_had : Nat → Int32) (v_allergic : Nat → Int32) (v_deaths : Nat → Int32) (i_many : Int32) (i_pets : Int32) (i_last : Int32) (i_seed : Int32) (i_weight : Int32) (i_fright : Int32) (i_age : Int32) (i_asked : Nat → Int32) (i_homes : Nat → Option Nat) (i_marks : Nat → Int32) (i_had : Nat → Int32) (i_allergic : Nat → Int32) (i_deaths : Nat → Int32) (hsh : ∀ j, j < 8 → v_shelves j = some (sa j)) (hov : ovOK G ov hd ra rb rs rn rc sk si sb pl) (hom : homOK i_homes i_many hk hb pl) (res : Int32 × Int32 × Int32 × Int32 × Int32 × Int32 × Int32 × (Nat → Int32) × (Nat → Option Nat) × (Nat → Int32) × (Nat → Int32) × (Nat → Int32) × (Nat → Int32)) (hE : sC_Room_take 0 1 (-1) 1 112 0 0 ask0 (fun _ => none) (fun _ => 0) (fun _ => 0) (fun _ => 0) (fun _ => 0) i_many i_pets i_last i_seed i_weight i_fright i_age i_asked i_homes i_marks i_had i_allergic i_deaths hk hb = some res) (homr : homOK (res.2.2.2.2.2.2.2.2.1) (res.1) hk hb pl) (h8 : ((res.1)).toInt ≤ 8) (hIs : ∀ x, sC_Room_isHome (res.1) x = some (if gm x (res.1) then 1 else 0)) : vx_Met l yX0_restore (wsW_ yX0_restore cX0_restore 2 (some .int) [((0 : Nat), (46 : Nat), (47 : Nat), (21 : Nat))]) ({ frames := 8, cells := 9, slots := 59, locals := 140 } : Room) (dPc G (xW G.2 ad v_latestFault v_died v_leastWeight v_noticedBy v_noticed v_orderDied v_orderLeast (some (adi 0)) v_shelves v_refusals v_ran v_bodies v_tweight v_tfright v_tage v_tasked v_told v_bestRow v_weight_a1 v_fright_a1 v_age_a1 v_asked_a1 v_weight_a2 v_fright_a2 v_age_a2 v_asked_a2 v_weight_a3 v_fright_a3 v_age_a3 v_asked_a3 v_weight_a4 v_fright_a4 v_age_a4 v_asked_a4 v_many v_pets v_last v_seed v_weight v_fright v_age v_asked v_homes v_marks v_had v_allergic v_deaths) pl ((rW G.2 adi i_many i_pets i_last i_seed i_weight i_fright i_age i_asked i_homes i_marks i_had i_allergic i_deaths) ++ shE sa ov) (xWV ad) sz [.ref (ad 0)]) (fun _ st oc t => oc = .returned (some (.int (res.1))) ∧ (∃ ad2 : Nat → Nat, (∀ q, q ∈ rWV ad2 → sz ≤ q) ∧ (rWV ad2).Nodup ∧ va_P G.1 vwCl ((xW G.2 (adR ad ad2) v_latestFault v_died v_leastWeight v_noticedBy v_noticed v_orderDied v_orderLeast (some (adi 0)) v_shelves v_refusals v_ran v_bodies v_tweight v_tfright v_tage v_tasked v_told v_bestRow v_weight_a1 v_fright_a1 v_age_a1 v_asked_a1 v_weight_a2 v_fright_a2 v_age_a2 v_asked_a2 v_weight_a3 v_fright_a3 v_age_a3 v_asked_a3 v_weight_a4 v_fright_a4 v_age_a4 v_asked_a4 (res.1) (res.2.1) (res.2.2.1) (res.2.2.2.1) (res.2.2.2.2.1) (res.2.2.2.2.2.1) (res.2.2.2.2.2.2.1) (res.2.2.2.2.2.2.2.1) (res.2.2.2.2.2.2.2.2.1) (res.2.2.2.2.2.2.2.2.2.1) (res.2.2.2.2.2.2.2.2.2.2.1) (res.2.2.2.2.2.2.2.2.2.2.2.1) (res.2.2.2.2.2.2.2.2.2.2.2.2)) ++ ((rW G.2 adi i_many i_pets i_last i_seed i_weight i_fright i_age i_asked i_homes i_marks i_had i_allergic i_deaths) ++ shE sa (nvF ov hd si (res.2.2.2.2.2.2.2.2.1) (res.1)))) t.heap) ∧ va_F (tA sz (xWV ad) ((rW G.2 adi i_many i_pets i_last i_seed i_weight i_fright i_age i_asked i_homes i_marks i_had i_allergic i_deaths) ++ shE sa ov)) st t) (fun _ _ _ _ => False) 9 59 (tA sz (xWV ad) ((rW G.2 adi i_many i_pets i_last i_seed i_weight i_fright i_age i_asked i_homes i_marks i_had i_allergic i_deaths) ++ shE sa ov)) := by
  refine d_ofWH (own := RX0) (by decide) rfl (Nat.le_of_ble_eq_true rfl) ?_
  intro p e s m args below meth c ls C C0 D hN hml htab hP hp hS hl hr hlocks hsz
  have hl : lv_has ls 2 [(0, .ref (ad 0))] := hl
  obtain ⟨H, hH⟩ : ∃ H, H = s.heap := ⟨_, rfl⟩
  obtain ⟨locs, hlo⟩ : ∃ locs : List Loc, locs = [] := ⟨_, rfl⟩
  have hP : va_P G.1 vwCl (xW G.2 ad v_latestFault v_died v_leastWeight v_noticedBy v_noticed v_orderDied v_orderLeast (some (adi 0)) v_shelves v_refusals v_ran v_bodies v_tweight v_tfright v_tage v_tasked v_told v_bestRow v_weight_a1 v_fright_a1 v_age_a1 v_asked_a1 v_weight_a2 v_fright_a2 v_age_a2 v_asked_a2 v_weight_a3 v_fright_a3 v_age_a3 v_asked_a3 v_weight_a4 v_fright_a4 v_age_a4 v_asked_a4 v_many v_pets v_last v_seed v_weight v_fright v_age v_asked v_homes v_marks v_had v_allergic v_deaths) H := by rw [hH]; exact hP
  have hp : va_P G.1 vwCl ((rW G.2 adi i_many i_pets i_last i_seed i_weight i_fright i_age i_asked i_homes i_marks i_had i_allergic i_deaths) ++ shE sa ov) H := by rw [hH]; exact hp
  have hS : va_S (tA sz (xWV ad) ((rW G.2 adi i_many i_pets i_last i_seed i_weight i_fright i_age i_asked i_homes i_marks i_had i_allergic i_deaths) ++ shE sa ov)) s.heap H locs := by rw [hH, hlo]; exact hS
  suffices hZ : W p l e ({ frames := 8, cells := 9, slots := 59, locals := 140 } : Room) s m args below meth c H locs 0 0 _ (F0 m 0 ls []) by rw [hH, hlo] at hZ; exact hZ
  clear hH hlo
  refine lv_aload_n C.1 C.2.1 dX0_restore_0 rfl (lv_at hl 0 rfl) ?_
  refine xWg_0_7 q245 C hP dX0_restore_1 ?_
  refine lv_ifnull (x := adi 0) C.1 C.2.1 dX0_restore_4 ?_
  refine lv_iconst (v := 1) C.1 C.2.1 dX0_restore_7 (by decide) ?_
  refine lv_goto (tgt := 12) C.1 C.2.1 dX0_restore_8 (by decide) ?_
  refine lv_bipush (v := -6) C.1 C.2.1 dX0_restore_12 (by decide) ?_
  refine d_after [] C0 D hP hp hS (vx_runS (As := [.int 1, .int (-6)]) (rest := []) ⟨C.1, C.2.1, hml, C.2.2.1, C.2.2.2.1⟩ (metC_HW_need l hfl G ad (pl ++ ((rW G.2 adi i_many i_pets i_last i_seed i_weight i_fright i_age i_asked i_homes i_marks i_had i_allergic i_deaths) ++ shE sa ov)) H.size 1 (-6) _ (need_eq _ _)) (va_cwS 2 C.2.2.2.1 (lw_S q397 q398 q80 q399) rfl rfl rfl (by decide +kernel) ⟨Nat.le_of_ble_eq_true rfl, Nat.le_of_ble_eq_true rfl⟩) (d_preS C C0 D hN hP hp hS [] rfl (by decide) rfl) rfl rfl hl.1 rfl (lv_room (Nat.le_of_ble_eq_true rfl)) dX0_restore_14 ⟨Nat.le_of_ble_eq_true rfl, Nat.le_of_ble_eq_true rfl⟩) xW_av rfl rfl rfl (fun hφ H locs hP hp hS => ?_) (fun w q H locs hw => absurd (nd_x hw).1 (by decide))
  have hold : ∀ a, a ∈ xWV ad → a < H.size := fun a ha => P_lt hP ha
  have holdE : ∀ a, a ∈ ((rW G.2 adi i_many i_pets i_last i_seed i_weight i_fright i_age i_asked i_homes i_marks i_had i_allergic i_deaths) ++ shE sa ov).map (·.1) → a < H.size := fun a ha => P_lt hp ha
  have hHs := hS.1
  have hplt : ∀ a, a ∈ pl.map (·.1) → a < s.heap.size := fun a ha => P_lt C.2.2.2.2.2.2.1 ha
  have hEi : ∀ q, q ∈ rWV adi → q ∈ ((rW G.2 adi i_many i_pets i_last i_seed i_weight i_fright i_age i_asked i_homes i_marks i_had i_allergic i_deaths) ++ shE sa ov).map (·.1) := fun q hq => by rw [List.map_append]; exact List.mem_append_left _ hq
  have hEs : ∀ q, q ∈ (shE sa ov).map (·.1) → q ∈ ((rW G.2 adi i_many i_pets i_last i_seed i_weight i_fright i_age i_asked i_homes i_marks i_had i_allergic i_deaths) ++ shE sa ov).map (·.1) := fun q hq => by rw [List.map_append]; exact List.mem_append_right _ hq
  have hN1 := hN
  rw [List.map_append] at hN1
  have hN2 := (List.nodup_append.mp hN1).2.1
  have hEn : (((rW G.2 adi i_many i_pets i_last i_seed i_weight i_fright i_age i_asked i_homes i_marks i_had i_allergic i_deaths) ++ shE sa ov).map (·.1)).Nodup := (List.nodup_append.mp hN2).2.1
  rw [List.map_append] at hEn
  refine lv_aload_n C.1 C.2.1 dX0_restore_17 rfl (lv_at hl 0 rfl) ?_
  refine r_newRoom C D hml hl.1 hS q170 q172 dX0_restore_18 dX0_restore_21 dX0_restore_22 ⟨Nat.le_of_ble_eq_true rfl, Nat.le_of_ble_eq_true rfl, Nat.le_of_ble_eq_true rfl, Nat.le_of_ble_eq_true rfl⟩ (Nat.le_of_ble_eq_true rfl) (fun ad2 H1 locs hge hnd2 hN0 hk1 hS => ?_)
  have hP : va_P G.1 vwCl (xW G.2 ad v_latestFault v_died v_leastWeight v_noticedBy v_noticed v_orderDied v_orderLeast (some (adi 0)) v_shelves v_refusals v_ran v_bodies v_tweight v_tfright v_tage v_tasked v_told v_bestRow v_weight_a1 v_fright_a1 v_age_a1 v_asked_a1 v_weight_a2 v_fright_a2 v_age_a2 v_asked_a2 v_weight_a3 v_fright_a3 v_age_a3 v_asked_a3 v_weight_a4 v_fright_a4 v_age_a4 v_asked_a4 v_many v_pets v_last v_seed v_weight v_fright v_age v_asked v_homes v_marks v_had v_allergic v_deaths) H1 := P_kept hP (fun a _ hlt => hk1 a hlt)
  have hp : va_P G.1 vwCl ((rW G.2 adi i_many i_pets i_last i_seed i_weight i_fright i_age i_asked i_homes i_marks i_had i_allergic i_deaths) ++ shE sa ov) H1 := P_kept hp (fun a _ hlt => hk1 a hlt)
  refine W.eq (g2 := F0 m 25 ls [.ref (ad2 0), .ref (ad 0)]) rfl ?_
  refine lv_aload_n C.1 C.2.1 dX0_restore_25 rfl (lv_at hl 0 rfl) ?_
  refine xWg_0_7 q245 C hP dX0_restore_26 ?_
  have hpl := pl_at C.2.2.2.2.2.2.2.2 C.2.2.2.2.2.2.1 hS
  have hnd : ((rWV ad2 ++ rWV adi) ++ pl.map (·.1)).Nodup := by
    rw [List.append_assoc]
    refine List.nodup_append.mpr ⟨hnd2, List.nodup_append.mpr ⟨nd_left hEn, (List.nodup_append.mp hN2).1, fun a ha b hb e => ?_⟩, fun a ha b hb e => ?_⟩
    · subst e
      exact nd_disj hN2 hb (hEi a ha)
    · subst e
      have h2 := hge a ha
      rcases List.mem_append.mp hb with h3 | h3
      · have := holdE a (hEi a h3)
        omega
      · have := hplt a h3
        omega
  refine r_take (adn := ad2) (ads := adi) (plc := pl) hfl C0 D hml hl.1 hS hN0 (P_left hp) (fun q hq => D.2.2.1 q (by have := hge q hq; omega)) (fun q hq => D.2.1 q (hEi q hq)) hpl hnd hom hE q791 ⟨Nat.le_of_ble_eq_true rfl, Nat.le_of_ble_eq_true rfl, Nat.le_of_ble_eq_true rfl, Nat.le_of_ble_eq_true rfl⟩ (Nat.le_of_ble_eq_true rfl) dX0_restore_29 (fun H2 locs hN0 hs hz2 hk2 hS => ?_)
  have hnew : ∀ q, q ∈ rWV ad2 → H.size ≤ q := hge
  have hP : va_P G.1 vwCl (xW G.2 ad v_latestFault v_died v_leastWeight v_noticedBy v_noticed v_orderDied v_orderLeast (some (adi 0)) v_shelves v_refusals v_ran v_bodies v_tweight v_tfright v_tage v_tasked v_told v_bestRow v_weight_a1 v_fright_a1 v_age_a1 v_asked_a1 v_weight_a2 v_fright_a2 v_age_a2 v_asked_a2 v_weight_a3 v_fright_a3 v_age_a3 v_asked_a3 v_weight_a4 v_fright_a4 v_age_a4 v_asked_a4 v_many v_pets v_last v_seed v_weight v_fright v_age v_asked v_homes v_marks v_had v_allergic v_deaths) H2 := P_kept hP (fun a ha hlt => hk2 a hlt (fun h4 => (List.mem_append.mp h4).elim (fun h5 => by have := hge a h5; have := hold a ha; omega) (fun h5 => nd_disj D.1 ha (hEi a h5))))
  have hsE : va_P G.1 vwCl (shE sa ov) H2 := P_kept (P_right hp) (fun a ha hlt => hk2 a hlt (fun h4 => (List.mem_append.mp h4).elim (fun h5 => by have := hge a h5; have := holdE a (hEs a ha); omega) (fun h5 => nd_disj hEn h5 ha)))
  have hPP : va_P G.1 vwCl ((xW G.2 ad v_latestFault v_died v_leastWeight v_noticedBy v_noticed v_orderDied v_orderLeast (some (adi 0)) v_shelves v_refusals v_ran v_bodies v_tweight v_tfright v_tage v_tasked v_told v_bestRow v_weight_a1 v_fright_a1 v_age_a1 v_asked_a1 v_weight_a2 v_fright_a2 v_age_a2 v_asked_a2 v_weight_a3 v_fright_a3 v_age_a3 v_asked_a3 v_weight_a4 v_fright_a4 v_age_a4 v_asked_a4 v_many v_pets v_last v_seed v_weight v_fright v_age v_asked v_homes v_marks v_had v_allergic v_deaths) ++ ((rW G.2 ad2 (res.1) (res.2.1) (res.2.2.1) (res.2.2.2.1) (res.2.2.2.2.1) (res.2.2.2.2.2.1) (res.2.2.2.2.2.2.1) (res.2.2.2.2.2.2.2.1) (res.2.2.2.2.2.2.2.2.1) (res.2.2.2.2.2.2.2.2.2.1) (res.2.2.2.2.2.2.2.2.2.2.1) (res.2.2.2.2.2.2.2.2.2.2.2.1) (res.2.2.2.2.2.2.2.2.2.2.2.2)) ++ ((rW G.2 adi i_many i_pets i_last i_seed i_weight i_fright i_age i_asked i_homes i_marks i_had i_allergic i_deaths) ++ shE sa ov))) H2 := hP.app (hN0.app (hs.app hsE))
  have hall : (xWV ad ++ (rWV ad2 ++ (rWV adi ++ (shE sa ov).map (·.1)))).Nodup := by
    refine List.nodup_append.mpr ⟨nd_left D.1, List.nodup_append.mpr ⟨hnd2, hEn, fun a ha b hb e => ?_⟩, fun a ha b hb e => ?_⟩
    · subst e
      have h2 := hge a ha
      have := holdE a (by rw [List.map_append]; exact hb)
      omega
    · subst e
      rcases List.mem_append.mp hb with h3 | h3
      · have h2 := hge a h3
        have := hold a ha
        omega
      · exact nd_disj D.1 ha (by rw [List.map_append]; exact h3)
  have hallA : ∀ z, z ∈ xWV ad ++ (rWV ad2 ++ (rWV adi ++ (shE sa ov).map (·.1))) → (tA sz (xWV ad) ((rW G.2 adi i_many i_pets i_last i_seed i_weight i_fright i_age i_asked i_homes i_marks i_had i_allergic i_deaths) ++ shE sa ov)) z := by
    intro z hz
    rcases List.mem_append.mp hz with h | h
    · exact Or.inl h
    · rcases List.mem_append.mp h with h | h
      · exact D.2.2.1 z (by have := hge z h; omega)
      · exact Or.inr (Or.inl (by rw [List.map_append]; exact h))
  have hDD : va_D (tA sz (xWV ad) ((rW G.2 adi i_many i_pets i_last i_seed i_weight i_fright i_age i_asked i_homes i_marks i_had i_allergic i_deaths) ++ shE sa ov)) ((xW G.2 ad v_latestFault v_died v_leastWeight v_noticedBy v_noticed v_orderDied v_orderLeast (some (adi 0)) v_shelves v_refusals v_ran v_bodies v_tweight v_tfright v_tage v_tasked v_told v_bestRow v_weight_a1 v_fright_a1 v_age_a1 v_asked_a1 v_weight_a2 v_fright_a2 v_age_a2 v_asked_a2 v_weight_a3 v_fright_a3 v_age_a3 v_asked_a3 v_weight_a4 v_fright_a4 v_age_a4 v_asked_a4 v_many v_pets v_last v_seed v_weight v_fright v_age v_asked v_homes v_marks v_had v_allergic v_deaths) ++ ((rW G.2 ad2 (res.1) (res.2.1) (res.2.2.1) (res.2.2.2.1) (res.2.2.2.2.1) (res.2.2.2.2.2.1) (res.2.2.2.2.2.2.1) (res.2.2.2.2.2.2.2.1) (res.2.2.2.2.2.2.2.2.1) (res.2.2.2.2.2.2.2.2.2.1) (res.2.2.2.2.2.2.2.2.2.2.1) (res.2.2.2.2.2.2.2.2.2.2.2.1) (res.2.2.2.2.2.2.2.2.2.2.2.2)) ++ ((rW G.2 adi i_many i_pets i_last i_seed i_weight i_fright i_age i_asked i_homes i_marks i_had i_allergic i_deaths) ++ shE sa ov))) := by
    have e9 : ((xW G.2 ad v_latestFault v_died v_leastWeight v_noticedBy v_noticed v_orderDied v_orderLeast (some (adi 0)) v_shelves v_refusals v_ran v_bodies v_tweight v_tfright v_tage v_tasked v_told v_bestRow v_weight_a1 v_fright_a1 v_age_a1 v_asked_a1 v_weight_a2 v_fright_a2 v_age_a2 v_asked_a2 v_weight_a3 v_fright_a3 v_age_a3 v_asked_a3 v_weight_a4 v_fright_a4 v_age_a4 v_asked_a4 v_many v_pets v_last v_seed v_weight v_fright v_age v_asked v_homes v_marks v_had v_allergic v_deaths) ++ ((rW G.2 ad2 (res.1) (res.2.1) (res.2.2.1) (res.2.2.2.1) (res.2.2.2.2.1) (res.2.2.2.2.2.1) (res.2.2.2.2.2.2.1) (res.2.2.2.2.2.2.2.1) (res.2.2.2.2.2.2.2.2.1) (res.2.2.2.2.2.2.2.2.2.1) (res.2.2.2.2.2.2.2.2.2.2.1) (res.2.2.2.2.2.2.2.2.2.2.2.1) (res.2.2.2.2.2.2.2.2.2.2.2.2)) ++ ((rW G.2 adi i_many i_pets i_last i_seed i_weight i_fright i_age i_asked i_homes i_marks i_had i_allergic i_deaths) ++ shE sa ov))).map (·.1) = xWV ad ++ (rWV ad2 ++ (rWV adi ++ (shE sa ov).map (·.1))) := by
      rw [List.map_append, List.map_append, List.map_append]
      rfl
    exact va_D_of (by rw [e9]; exact hall) (by rw [e9]; exact hallA)
  refine va_put (D := G.1) (ci := 16) (v := .ref (ad2 0)) (ty := (.object "HamsterWeekends$Room")) (C := RX0) (T := TX0) (N := 16) C.1 C.2.1 C.2.2.2.1 in_X0 tyX0 tyX0_ok nmX0 C.2.2.1 C.2.2.2.2.1 hPP hDD hS 0 rfl rfl 6 (by decide) (C.2.2.2.1 _ q244) (fun _ h => h) rfl (by decide +kernel) rfl rfl (Nat.le_of_ble_eq_true rfl) dX0_restore_32 (fun H3 locs hPP hDD hS => ?_)
  rw [List.set_append_left _ _ (Nat.le_of_ble_eq_true rfl)] at hPP
  have hR2 : va_P G.1 vwCl (xW G.2 (adR ad ad2) v_latestFault v_died v_leastWeight v_noticedBy v_noticed v_orderDied v_orderLeast (some (adi 0)) v_shelves v_refusals v_ran v_bodies v_tweight v_tfright v_tage v_tasked v_told v_bestRow v_weight_a1 v_fright_a1 v_age_a1 v_asked_a1 v_weight_a2 v_fright_a2 v_age_a2 v_asked_a2 v_weight_a3 v_fright_a3 v_age_a3 v_asked_a3 v_weight_a4 v_fright_a4 v_age_a4 v_asked_a4 (res.1) (res.2.1) (res.2.2.1) (res.2.2.2.1) (res.2.2.2.2.1) (res.2.2.2.2.2.1) (res.2.2.2.2.2.2.1) (res.2.2.2.2.2.2.2.1) (res.2.2.2.2.2.2.2.2.1) (res.2.2.2.2.2.2.2.2.2.1) (res.2.2.2.2.2.2.2.2.2.2.1) (res.2.2.2.2.2.2.2.2.2.2.2.1) (res.2.2.2.2.2.2.2.2.2.2.2.2)) H3 := hPP.sub [0, 1, 2, 3, 4, 5, 6, 7, 8, 9, 10, 11, 12, 13, 14, 15, 16, 17, 26, 27, 28, 29, 30, 31, 32, 33] rfl
  have hE2 : va_P G.1 vwCl ((rW G.2 adi i_many i_pets i_last i_seed i_weight i_fright i_age i_asked i_homes i_marks i_had i_allergic i_deaths) ++ shE sa ov) H3 := P_right (P_right hPP)
  have hpl := pl_at C.2.2.2.2.2.2.2.2 C.2.2.2.2.2.2.1 hS
  have hav2 : ∀ q, q ∈ xWV (adR ad ad2) → q ∈ xWV ad ++ rWV ad2 := fun q hq => sub_of (isC := [0, 1, 2, 3, 4, 5, 6, 7, 8, 9, 10, 11, 12, 13, 14, 15, 16, 17, 26, 27, 28, 29, 30, 31, 32, 33]) (av := xWV ad ++ rWV ad2) rfl hq
  have hall2 : (xWV (adR ad ad2) ++ (rWV adi ++ (shE sa ov).map (·.1))).Nodup := by
    have h1 : ((xWV ad ++ rWV ad2) ++ (rWV adi ++ (shE sa ov).map (·.1))).Nodup := by rw [List.append_assoc]; exact hall
    exact nd_part [0, 1, 2, 3, 4, 5, 6, 7, 8, 9, 10, 11, 12, 13, 14, 15, 16, 17, 26, 27, 28, 29, 30, 31, 32, 33] h1 (by decide) rfl
  have hav3 : ∀ q, q ∈ xWV (adR ad ad2) → (tA sz (xWV ad) ((rW G.2 adi i_many i_pets i_last i_seed i_weight i_fright i_age i_asked i_homes i_marks i_had i_allergic i_deaths) ++ shE sa ov)) q := fun q hq => hallA q (by
    rcases List.mem_append.mp (hav2 q hq) with h | h
    · exact List.mem_append_left _ h
    · exact List.mem_append_right _ (List.mem_append_left _ h))
  have hnd3 : (xWV (adR ad ad2) ++ (pl ++ shE sa ov).map (·.1)).Nodup := by
    rw [List.map_append]
    rw [List.nodup_append] at hall2
    refine List.nodup_append.mpr ⟨hall2.1, List.nodup_append.mpr ⟨(List.nodup_append.mp hN2).1, (List.nodup_append.mp hall2.2.1).2.1, fun a ha b hb e => ?_⟩, fun a ha b hb e => ?_⟩
    · subst e
      exact nd_disj hN2 ha (hEs a hb)
    · subst e
      rcases List.mem_append.mp hb with h3 | h3
      · rcases List.mem_append.mp (hav2 a ha) with h4 | h4
        · exact nd_disj C.2.2.2.2.2.1 h4 h3
        · have h5 := hge a h4
          have := hplt a h3
          omega
      · exact hall2.2.2 a ha a (List.mem_append_right _ h3) rfl
  refine lv_aload_n C.1 C.2.1 dX0_restore_35 rfl (lv_at hl 0 rfl) ?_
  refine gd_after (avc := xWV (adR ad ad2)) (Ec := shE sa ov) D.2.2.1 hav3 (fun q hq => D.2.1 q (hEs q hq)) hS (vx_runV (As := []) (rest := []) ⟨C.1, C.2.1, hml, C.2.2.1, C.2.2.2.1⟩ (metC_HW_follow l G (adR ad ad2) pl H3.size hk hb sa hd ra rb rs rn rc sk si sb ov _ _ _ _ _ _ _ _ _ _ _ _ _ _ _ _ _ _ _ _ _ _ _ _ _ _ _ _ _ _ _ _ _ _ _ _ _ _ _ _ _ _ _ _ _ _ _ hsh hov homr h8 hIs) (cwV (C := RX0) 0 C.2.2.2.1 (lw_V q1309 q1311 qs30 q80 q1312) rfl rfl rfl (by decide +kernel) ⟨Nat.le_of_ble_eq_true rfl, Nat.le_of_ble_eq_true rfl⟩) (gd_preV C0 D hS hav3 (fun q hq => D.2.1 q (hEs q hq)) hR2 hpl (P_right hE2) hnd3 (va_recv C.2.2.2.2.1 hR2 (ci := 16) (q0 := 0) rfl rfl)) rfl rfl hl.1 rfl (lv_room (Nat.le_of_ble_eq_true rfl)) dX0_restore_36 ⟨Nat.le_of_ble_eq_true rfl, Nat.le_of_ble_eq_true rfl⟩) (fun _ H4 locs hR2 hsE hz4 hk4 hS => ?_)
  have hI : va_P G.1 vwCl (rW G.2 adi i_many i_pets i_last i_seed i_weight i_fright i_age i_asked i_homes i_marks i_had i_allergic i_deaths) H4 := P_kept (P_left hE2) (fun a ha hlt => hk4 a hlt (fun h => nd_disj hall2 h (List.mem_append_left _ ha)) (fun h => nd_disj hEn ha h))
  refine lv_aload_n C.1 C.2.1 dX0_restore_39 rfl (lv_at hl 0 rfl) ?_
  refine va_get (D := G.1) (ci := 16) (v := .ref (ad2 0)) (C := RX0) (T := TX0) (N := 16) C.1 C.2.1 C.2.2.2.1 in_X0 C.2.2.1 C.2.2.2.2.1 hR2 0 rfl rfl 6 (by decide) (C.2.2.2.1 _ q244) (fun _ h => h) rfl dX0_restore_40 ?_
  refine va_get (D := G.1) (ci := 12) (v := .int (res.1)) (C := RX3) (T := TX3) (N := 10) C.1 C.2.1 C.2.2.2.1 in_X3 C.2.2.1 C.2.2.2.2.1 hR2 18 rfl rfl 0 (by decide) (C.2.2.2.1 _ q182) (fun _ h => h) rfl dX0_restore_43 ?_
  exact vx_ret (W.iret C.1 C.2.1 hr (fun t ht hW => ⟨rfl, ⟨ad2, fun q hq => by have := hge q hq; omega, hnd2, by rw [ht]; exact hR2.app (hI.app hsE)⟩, hS.F ht⟩) hS.2.2 dX0_restore_46 hlocks)
