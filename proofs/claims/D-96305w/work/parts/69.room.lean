set_option maxRecDepth 100000
def ask0 : Nat → Int32 := upd (upd (upd (fun _ => 0) (0 : Int32).toNatClampNeg 4) (1 : Int32).toNatClampNeg 100) (2 : Int32).toNatClampNeg 60
theorem D_nodup {A : Nat → Prop} {ws : va_W} (h : va_D A ws) : (ws.map (·.1)).Nodup := by
  rw [List.nodup_iff_pairwise_ne, List.pairwise_iff_getElem]
  intro i j hi hj hij e
  have hi' : i < ws.length := by simpa using hi
  have hj' : j < ws.length := by simpa using hj
  rw [List.getElem_map, List.getElem_map] at e
  have := h.1 i j ws[i] ws[j] (List.getElem?_eq_getElem hi') (List.getElem?_eq_getElem hj') e
  omega
theorem D_A {A : Nat → Prop} {ws : va_W} (h : va_D A ws) {q : Nat} (hq : q ∈ ws.map (·.1)) : A q := by
  obtain ⟨x, hx, rfl⟩ := List.mem_map.mp hq
  obtain ⟨i, hi⟩ := List.getElem?_of_mem hx
  exact h.2 i x hi
theorem t_mrg2 {G : kG} {av avc : List Nat} {Y Y' Xc' : va_W} {H t : Heap} (isC : List Nat) (hav : av.Nodup) (hP : va_P G.1 vwCl Y H) (hP1 : va_P G.1 vwCl Xc' t) (hk : ∀ q : Nat, q ∈ av → q < H.size → q ∉ avc → t[q]? = H[q]?)
    (hY : Y.map (·.1) = av) (hV : isC.map (fun i => av[i]?) = avc.map some) (hl : Xc'.length = avc.length) (hM : mergeAt Y isC Xc' = Y') : va_P G.1 vwCl Y' t := by
  subst hM
  intro k q hq
  rcases merge_at isC Xc' Y k q hq with ⟨j, h1, -⟩ | ⟨h1, h2⟩
  · exact hP1 j q h1
  · refine (hP k q h1).kept ?_
    have hak : av[k]? = some q.1 := by rw [← hY, List.getElem?_map, h1]; rfl
    refine hk _ (List.mem_of_getElem? hak) (hP k q h1).lt (fun hq2 => ?_)
    obtain ⟨j, hj⟩ := List.getElem?_of_mem hq2
    have h3 : (isC.map (fun i => av[i]?))[j]? = some (some q.1) := by rw [hV, List.getElem?_map, hj]; rfl
    rw [List.getElem?_map] at h3
    obtain ⟨i, hi, hi2⟩ := Option.map_eq_some_iff.mp h3
    have hkl : k < av.length := (List.getElem?_eq_some_iff.mp hak).1
    have hik : k = i := (List.getElem?_inj hkl hav).mp (by rw [hak, hi2])
    rcases h2 with h2 | ⟨j2, h4, h5⟩
    · exact h2 (by rw [hik]; exact List.mem_of_getElem? hi)
    · have hjl : j2 < avc.length := by
        have h6 : j2 < isC.length := (List.getElem?_eq_some_iff.mp h4).1
        have h7 : isC.length = avc.length := by have := congrArg List.length hV; simpa using this
        omega
      omega
section RO
variable {p : Program} {l : Launch} {e : Env} {R : Room} {s : State} {m : MethodId} {args : Array Value} {below : List Frame} {meth : Method} {c : Code} {H : Heap} {locs : List Loc} {cells slots : Nat} {Q : State → Prop} {pc : Nat} {ls : Array Slot} {rest : List Value} {cc : ByteArray} {own : String} {G : kG} {av : List Nat} {pl E : va_W} {A : Nat → Prop}
theorem r_newRoom {nL inew iini : Nat} (C : nC p s m args c cc own G av pl A) (D : tD s av E A) (hml : c.maxLocals = nL) (hls : ls.size = nL) (hS : va_S A s.heap H locs) (hlk : Cond.classLink own inew RX3 ∈ lw_all) (hli : Cond.methodLink own iini yX3_init ∈ lw_all) (d0 : decode cc pc = .ok (.new inew, 3)) (d1 : decode cc (pc + 3) = .ok (.dup, 1)) (d2 : decode cc (pc + 4) = .ok (.invokespecial iini, 3)) (hR : 3 ≤ R.frames ∧ 52 ≤ R.locals ∧ cells + 8 ≤ R.cells ∧ slots + 52 ≤ R.slots) (hst : ((Value.ref H.size :: rest).map fun v => v.category).sum ≤ 8)
    (kk : ∀ (ad2 : Nat → Nat) (H1 : Heap) (locs1 : List Loc), (∀ q, q ∈ rWV ad2 → H.size ≤ q) → (rWV ad2).Nodup → va_P G.1 vwCl (rW G.2 ad2 0 1 (-1) 1 112 0 0 ask0 (fun _ => none) (fun _ => 0) (fun _ => 0) (fun _ => 0) (fun _ => 0)) H1 → (∀ z, z < H.size → H1[z]? = H[z]?) → va_S A s.heap H1 locs1 → W p l e R s m args below meth c H1 locs1 (cells + 8) (slots + 52) Q (F0 m (pc + 7) ls (.ref (ad2 0) :: rest))) : W p l e R s m args below meth c H locs cells slots Q (F0 m pc ls rest) := by
  refine t_new (ci := 12) (fs := [.int 0, .int 0, .int 0, .int 0, .null, .null, .null, .null, .null, .null]) (nC_nil C) in_X3 tyX3 tyX3_ok hlk q171 q83 rfl (fun j hj => by
    have h9 : j = 0 ∨ j = 1 ∨ j = 2 ∨ j = 3 ∨ j = 4 ∨ j = 5 ∨ j = 6 ∨ j = 7 ∨ j = 8 ∨ j = 9 := by omega
    rcases h9 with rfl | rfl | rfl | rfl | rfl | rfl | rfl | rfl | rfl | rfl <;> rfl) (by have := hR.2.2.1; omega) (by have := hR.2.2.2; omega) d0 (fun H1 hN hz hk => ?_)
  refine lv_dup C.1 C.2.1 d1 rfl ?_
  have hDn : va_D A [(H.size, (.inr (12, [.int 0, .int 0, .int 0, .int 0, .null, .null, .null, .null, .null, .null]) : va_E))] := va_D_of (by simp) (fun q hq => by rw [List.mem_singleton.mp hq]; exact D.2.2.1 _ hS.1)
  intro T hT X
  have hrun := va_runI (e := e) (below := below) (meth := meth) (locs := locs) (cells := cells + 1) (slots := slots + 10) (As := []) (rest := .ref H.size :: rest) ⟨C.1, C.2.1, hml, C.2.2.1, C.2.2.2.1⟩ (metI_Room_12 l G H.size H1.size) (cwI (R := R) 0 C.2.2.2.1 (lw_meth q174) rfl rfl rfl (C.2.2.2.1 _ q83) (C.2.2.2.1 _ hli) (C.2.2.2.1 _ q173) rfl (by decide +kernel) ⟨hR.1, hR.2.1⟩) (i_pre hN hDn C.2.2.2.2.1 D.2.2.2.2.2.2.2.2) (g := F0 m (pc + 4) ls (.ref H.size :: .ref H.size :: rest)) rfl rfl hls rfl (lv_room hst) d2 ⟨by have := hR.2.2.1; omega, by have := hR.2.2.2; omega⟩
  obtain ⟨v, st₀, t, T', L1, e0, X', hL, e1, e2, ⟨⟨u, hv, -, hP1, hD1⟩, hz1, hk1⟩, stp⟩ := hrun T hT X
  cases hv
  rw [e0] at hz1 hk1
  have hAq : ∀ q, va_A [(H.size, (.inr (12, [.int 0, .int 0, .int 0, .int 0, .null, .null, .null, .null, .null, .null]) : va_E))] H1.size q → H.size ≤ q := by
    intro q hq
    rcases hq with ⟨k, e, h9⟩ | h9
    · have h8 := List.mem_of_getElem? h9
      have h8 := congrArg Prod.fst (List.mem_singleton.mp h8)
      exact Nat.le_of_eq h8.symm
    · omega
  have hk2 : ∀ z, z < H.size → t.heap[z]? = H[z]? := fun z hz9 => (hk1 z (by omega) (fun h9 => by have := hAq z h9; omega)).trans (hk z hz9)
  obtain ⟨t2, a1, b1⟩ := kk (fun i => if i = 0 then H.size else u i) T'.heap (locs ++ L1) (fun q hq => hAq q (D_A hD1 hq)) (D_nodup hD1) (by rw [e1]; exact hP1) (by rw [e1]; exact hk2) (by
    rw [e1]
    refine ⟨Nat.le_trans hS.1 (by omega), fun q h1 h2 => (hk2 q (Nat.lt_of_lt_of_le h1 hS.1)).trans (hS.2.1 q h1 h2), fun z hz9 => ?_⟩
    rcases List.mem_append.mp hz9 with h | h
    · exact hS.2.2 z h
    · exact D.2.2.1 _ (Nat.le_trans hS.1 (hAq _ (hL z h)))) T' rfl X'
  exact ⟨t2, stp t2 a1, b1⟩
theorem r_take {nL idx : Nat} {adn ads : Nat → Nat} {plc : va_W} {hk : Nat → Nat} {hb : Nat → Int32} {n_many : Int32} {n_pets : Int32} {n_last : Int32} {n_seed : Int32} {n_weight : Int32} {n_fright : Int32} {n_age : Int32} {n_asked : Nat → Int32} {n_homes : Nat → Option Nat} {n_marks : Nat → Int32} {n_had : Nat → Int32} {n_allergic : Nat → Int32} {n_deaths : Nat → Int32} {s_many : Int32} {s_pets : Int32} {s_last : Int32} {s_seed : Int32} {s_weight : Int32} {s_fright : Int32} {s_age : Int32} {s_asked : Nat → Int32} {s_homes : Nat → Option Nat} {s_marks : Nat → Int32} {s_had : Nat → Int32} {s_allergic : Nat → Int32} {s_deaths : Nat → Int32} {res : Int32 × Int32 × Int32 × Int32 × Int32 × Int32 × Int32 × (Nat → Int32) × (Nat → Option Nat) × (Nat → Int32) × (Nat → Int32) × (Nat → Int32) × (Nat → Int32)} (hfl : l.stackTraces = false) (C : nC p s m args c cc own G av [] A) (D : tD s av E A) (hml : c.maxLocals = nL) (hls : ls.size = nL) (hS : va_S A s.heap H locs) (hn : va_P G.1 vwCl (rW G.2 adn n_many n_pets n_last n_seed n_weight n_fright n_age n_asked n_homes n_marks n_had n_allergic n_deaths) H) (hs : va_P G.1 vwCl (rW G.2 ads s_many s_pets s_last s_seed s_weight s_fright s_age s_asked s_homes s_marks s_had s_allergic s_deaths) H) (hAn : ∀ q, q ∈ rWV adn → A q) (hAs : ∀ q, q ∈ rWV ads → A q) (hpc : va_P G.1 vwCl plc H) (hnd : ((rWV adn ++ rWV ads) ++ plc.map (·.1)).Nodup) (hom : homOK s_homes s_many hk hb plc) (hE : sC_Room_take n_many n_pets n_last n_seed n_weight n_fright n_age n_asked n_homes n_marks n_had n_allergic n_deaths s_many s_pets s_last s_seed s_weight s_fright s_age s_asked s_homes s_marks s_had s_allergic s_deaths hk hb = some res)
    (hl : Cond.methodLink own idx yX3_take ∈ lw_all) (hR : 3 ≤ R.frames ∧ 82 ≤ R.locals ∧ cells ≤ R.cells ∧ slots ≤ R.slots) (hst : (rest.map fun v => v.category).sum ≤ 8) (hdg : decode cc pc = .ok (.invokevirtual idx, 3))
    (kk : ∀ (H1 : Heap) (locs1 : List Loc), va_P G.1 vwCl (rW G.2 adn (res.1) (res.2.1) (res.2.2.1) (res.2.2.2.1) (res.2.2.2.2.1) (res.2.2.2.2.2.1) (res.2.2.2.2.2.2.1) (res.2.2.2.2.2.2.2.1) (res.2.2.2.2.2.2.2.2.1) (res.2.2.2.2.2.2.2.2.2.1) (res.2.2.2.2.2.2.2.2.2.2.1) (res.2.2.2.2.2.2.2.2.2.2.2.1) (res.2.2.2.2.2.2.2.2.2.2.2.2)) H1 → va_P G.1 vwCl (rW G.2 ads s_many s_pets s_last s_seed s_weight s_fright s_age s_asked s_homes s_marks s_had s_allergic s_deaths) H1 → H.size ≤ H1.size → (∀ z, z < H.size → z ∉ rWV adn ++ rWV ads → H1[z]? = H[z]?) → va_S A s.heap H1 locs1 → W p l e R s m args below meth c H1 locs1 cells slots Q (F0 m (pc + 3) ls (.ref (adn 0) :: rest))) : W p l e R s m args below meth c H locs cells slots Q (F0 m pc ls (.ref (ads 0) :: .ref (adn 0) :: rest)) := by
  have hAv : ∀ q, q ∈ rWV adn ++ rWV ads → A q := fun q hq => (List.mem_append.mp hq).elim (hAn q) (hAs q)
  have hc : va_P G.1 vwCl (rrW G.2 (fun i => if i < 8 then adn i else ads (i - 8)) n_many n_pets n_last n_seed n_weight n_fright n_age n_asked n_homes n_marks n_had n_allergic n_deaths s_many s_pets s_last s_seed s_weight s_fright s_age s_asked s_homes s_marks s_had s_allergic s_deaths) H := hn.app hs
  refine g_after (avc := rWV adn ++ rWV ads) (Xc' := rrW G.2 (fun i => if i < 8 then adn i else ads (i - 8)) (res.1) (res.2.1) (res.2.2.1) (res.2.2.2.1) (res.2.2.2.2.1) (res.2.2.2.2.2.1) (res.2.2.2.2.2.2.1) (res.2.2.2.2.2.2.2.1) (res.2.2.2.2.2.2.2.2.1) (res.2.2.2.2.2.2.2.2.2.1) (res.2.2.2.2.2.2.2.2.2.2.1) (res.2.2.2.2.2.2.2.2.2.2.2.1) (res.2.2.2.2.2.2.2.2.2.2.2.2) s_many s_pets s_last s_seed s_weight s_fright s_age s_asked s_homes s_marks s_had s_allergic s_deaths) D.2.2.1 hAv hS (vx_runV (As := [.ref (ads 0)]) (rest := rest) ⟨C.1, C.2.1, hml, C.2.2.1, C.2.2.2.1⟩ (metC_Room_take l hfl G (fun i => if i < 8 then adn i else ads (i - 8)) plc hk hb H.size n_many n_pets n_last n_seed n_weight n_fright n_age n_asked n_homes n_marks n_had n_allergic n_deaths s_many s_pets s_last s_seed s_weight s_fright s_age s_asked s_homes s_marks s_had s_allergic s_deaths hom res hE) (cwV (C := RX3) 1 C.2.2.2.1 (lw_V hl q792 q793 q83 q794) rfl rfl rfl (by decide +kernel) ⟨hR.1, hR.2.1⟩) (g_preV C D hS hAv hc hpc hnd (va_recv C.2.2.2.2.1 hn (ci := 12) (q0 := 0) rfl rfl)) rfl rfl hls rfl (lv_room hst) hdg ⟨hR.2.2.1, hR.2.2.2⟩) rfl (fun _ H1 locs hX hz hk hS => ?_)
  have hX : va_P G.1 vwCl ((rW G.2 adn (res.1) (res.2.1) (res.2.2.1) (res.2.2.2.1) (res.2.2.2.2.1) (res.2.2.2.2.2.1) (res.2.2.2.2.2.2.1) (res.2.2.2.2.2.2.2.1) (res.2.2.2.2.2.2.2.2.1) (res.2.2.2.2.2.2.2.2.2.1) (res.2.2.2.2.2.2.2.2.2.2.1) (res.2.2.2.2.2.2.2.2.2.2.2.1) (res.2.2.2.2.2.2.2.2.2.2.2.2)) ++ (rW G.2 ads s_many s_pets s_last s_seed s_weight s_fright s_age s_asked s_homes s_marks s_had s_allergic s_deaths)) H1 := hX
  exact kk H1 locs (P_left hX) (P_right hX) hz hk hS
end RO
set_option maxHeartbeats 4000000 in
theorem metC_HW_image (l : Launch) (hfl : l.stackTraces = false) (G : kG) (ad : Nat → Nat) (pl : va_W) (hk : Nat → Nat) (hb : Nat → Int32) (sz : Nat) (v_latestFault : Int32) (v_died : Int32) (v_leastWeight : Int32) (v_noticedBy : Int32) (v_noticed : Int32) (v_orderDied : Int32) (v_orderLeast : Int32) (v_imaged : Option Nat) (v_shelves : Nat → Option Nat) (v_refusals : Nat → Int32) (v_ran : Int32) (v_bodies : Nat → Int32) (v_tweight : Int32) (v_tfright : Int32) (v_tage : Int32) (v_tasked : Nat → Int32) (v_told : Nat → Int32) (v_bestRow : Nat → Int32) (v_weight_a1 : Int32) (v_fright_a1 : Int32) (v_age_a1 : Int32) (v_asked_a1 : Nat → Int32) (v_weight_a2 : Int32) (v_fright_a2 : Int32) (v_age_a2 : Int32) (v_asked_a2 : Nat → Int32) (v_weight_a3 : Int32) (v_fright_a3 : Int32) (v_age_a3 : Int32) (v_asked_a3 : Nat → Int32) (v_weight_a4 : Int32) (v_fright_a4 : Int32) (v_age_a4 : Int32) (v_asked_a4 : Nat → Int32) (v_many : Int32) (v_pets : Int32) (v_last : Int32) (v_seed : Int32) (v_weight : Int32) (v_fright : Int32) (v_age : Int32) (v_asked : Nat → Int32) (v_homes : Nat → Option Nat) (v_marks : Nat → Int32) (v_had : Nat → Int32) (v_allergic : Nat → Int32) (v_deaths : Nat → Int32) (hom : homOK v_homes v_many hk hb pl) (res : Int32 × Int32 × Int32 × Int32 × Int32 × Int32 × Int32 × (Nat → Int32) × (Nat → Option Nat) × (Nat → Int32) × (Nat → Int32) × (Nat → Int32) × (Nat → Int32)) (hE : sC_Room_take 0 1 (-1) 1 112 0 0 ask0 (fun _ => none) (fun _ => 0) (fun _ => 0) (fun _ => 0) (fun _ => 0) v_many v_pets v_last v_seed v_weight v_fright v_age v_asked v_homes v_marks v_had v_allergic v_deaths hk hb = some res) : vx_Met l yX0_image (ws_ yX0_image cX0_image 1 (some .int)) ({ frames := 5, cells := 8, slots := 52, locals := 100 } : Room) (rPc G (xW G.2 ad v_latestFault v_died v_leastWeight v_noticedBy v_noticed v_orderDied v_orderLeast v_imaged v_shelves v_refusals v_ran v_bodies v_tweight v_tfright v_tage v_tasked v_told v_bestRow v_weight_a1 v_fright_a1 v_age_a1 v_asked_a1 v_weight_a2 v_fright_a2 v_age_a2 v_asked_a2 v_weight_a3 v_fright_a3 v_age_a3 v_asked_a3 v_weight_a4 v_fright_a4 v_age_a4 v_asked_a4 v_many v_pets v_last v_seed v_weight v_fright v_age v_asked v_homes v_marks v_had v_allergic v_deaths) pl (xWV ad) sz [.ref (ad 0)]) (fun _ st oc t => oc = .returned (some (.int v_many)) ∧ (∃ ad2 : Nat → Nat, (∀ q, q ∈ rWV ad2 → sz ≤ q) ∧ (rWV ad2).Nodup ∧ va_P G.1 vwCl ((xW G.2 ad v_latestFault v_died v_leastWeight v_noticedBy v_noticed v_orderDied v_orderLeast (some (ad2 0)) v_shelves v_refusals v_ran v_bodies v_tweight v_tfright v_tage v_tasked v_told v_bestRow v_weight_a1 v_fright_a1 v_age_a1 v_asked_a1 v_weight_a2 v_fright_a2 v_age_a2 v_asked_a2 v_weight_a3 v_fright_a3 v_age_a3 v_asked_a3 v_weight_a4 v_fright_a4 v_age_a4 v_asked_a4 v_many v_pets v_last v_seed v_weight v_fright v_age v_asked v_homes v_marks v_had v_allergic v_deaths) ++ (rW G.2 ad2 (res.1) (res.2.1) (res.2.2.1) (res.2.2.2.1) (res.2.2.2.2.1) (res.2.2.2.2.2.1) (res.2.2.2.2.2.2.1) (res.2.2.2.2.2.2.2.1) (res.2.2.2.2.2.2.2.2.1) (res.2.2.2.2.2.2.2.2.2.1) (res.2.2.2.2.2.2.2.2.2.2.1) (res.2.2.2.2.2.2.2.2.2.2.2.1) (res.2.2.2.2.2.2.2.2.2.2.2.2))) t.heap) ∧ va_F (tA sz (xWV ad) []) st t) (fun _ _ _ _ => False) 8 52 (tA sz (xWV ad) []) := by
  refine r_ofW (own := RX0) (by decide) rfl (Nat.le_of_ble_eq_true rfl) ?_
  intro p e s m args below meth c ls C C0 D hml htab hP hS hl hr hlocks hsz
  have hl : lv_has ls 1 [(0, .ref (ad 0))] := hl
  obtain ⟨H, hH⟩ : ∃ H, H = s.heap := ⟨_, rfl⟩
  obtain ⟨locs, hlo⟩ : ∃ locs : List Loc, locs = [] := ⟨_, rfl⟩
  have hP : va_P G.1 vwCl (xW G.2 ad v_latestFault v_died v_leastWeight v_noticedBy v_noticed v_orderDied v_orderLeast v_imaged v_shelves v_refusals v_ran v_bodies v_tweight v_tfright v_tage v_tasked v_told v_bestRow v_weight_a1 v_fright_a1 v_age_a1 v_asked_a1 v_weight_a2 v_fright_a2 v_age_a2 v_asked_a2 v_weight_a3 v_fright_a3 v_age_a3 v_asked_a3 v_weight_a4 v_fright_a4 v_age_a4 v_asked_a4 v_many v_pets v_last v_seed v_weight v_fright v_age v_asked v_homes v_marks v_had v_allergic v_deaths) H := by rw [hH]; exact hP
  have hS : va_S (tA sz (xWV ad) []) s.heap H locs := by rw [hH, hlo]; exact hS
  have hH0 : H.size = sz := by rw [hH]; exact hsz
  have hold : ∀ a, a ∈ xWV ad → a < H.size := fun a ha => P_lt hP (by rw [xW_av]; exact ha)
  suffices hZ : W p l e ({ frames := 5, cells := 8, slots := 52, locals := 100 } : Room) s m args below meth c H locs 0 0 _ (F0 m 0 ls []) by rw [hH, hlo] at hZ; exact hZ
  clear hH hlo
  refine lv_aload_n C.1 C.2.1 dX0_image_0 rfl (lv_at hl 0 rfl) ?_
  refine r_newRoom C D hml hl.1 hS q170 q172 dX0_image_1 dX0_image_4 dX0_image_5 ⟨Nat.le_of_ble_eq_true rfl, Nat.le_of_ble_eq_true rfl, Nat.le_of_ble_eq_true rfl, Nat.le_of_ble_eq_true rfl⟩ (Nat.le_of_ble_eq_true rfl) (fun ad2 H1 locs hge hnd2 hN hk1 hS => ?_)
  have hP : va_P G.1 vwCl (xW G.2 ad v_latestFault v_died v_leastWeight v_noticedBy v_noticed v_orderDied v_orderLeast v_imaged v_shelves v_refusals v_ran v_bodies v_tweight v_tfright v_tage v_tasked v_told v_bestRow v_weight_a1 v_fright_a1 v_age_a1 v_asked_a1 v_weight_a2 v_fright_a2 v_age_a2 v_asked_a2 v_weight_a3 v_fright_a3 v_age_a3 v_asked_a3 v_weight_a4 v_fright_a4 v_age_a4 v_asked_a4 v_many v_pets v_last v_seed v_weight v_fright v_age v_asked v_homes v_marks v_had v_allergic v_deaths) H1 := P_kept hP (fun a _ hlt => hk1 a hlt)
  refine W.eq (g2 := F0 m 8 ls [.ref (ad2 0), .ref (ad 0)]) rfl ?_
  refine lv_aload_n C.1 C.2.1 dX0_image_8 rfl (lv_at hl 0 rfl) ?_
  refine xWg_0_6 q244 C hP dX0_image_9 ?_
  have hpl := pl_at C.2.2.2.2.2.2.2.2 C.2.2.2.2.2.2.1 hS
  have hplt : ∀ a, a ∈ pl.map (·.1) → a < sz := fun a ha => by rw [← hsz]; exact P_lt C.2.2.2.2.2.2.1 ha
  have hsub : ∀ q, q ∈ rWV (fun i => ad (18 + i)) → q ∈ xWV ad := fun q hq => sub_of (isC := [18, 19, 20, 21, 22, 23, 24, 25]) (av := xWV ad) rfl hq
  have hnd : ((rWV ad2 ++ rWV (fun i => ad (18 + i))) ++ pl.map (·.1)).Nodup := by
    have h1 : (rWV (fun i => ad (18 + i)) ++ pl.map (·.1)).Nodup := nd_part [18, 19, 20, 21, 22, 23, 24, 25] C.2.2.2.2.2.1 (by decide) rfl
    rw [List.append_assoc]
    refine List.nodup_append.mpr ⟨hnd2, h1, fun a ha b hb e => ?_⟩
    subst e
    have h2 := hge a ha
    rcases List.mem_append.mp hb with h3 | h3
    · have := hold a (hsub a h3)
      omega
    · have := hplt a h3
      omega
  have hs := hP.sub [18, 19, 20, 21, 22, 23, 24, 25] sub_xW_rW_18
  refine r_take (adn := ad2) (ads := fun i => ad (18 + i)) (plc := pl) hfl C0 D hml hl.1 hS hN hs (fun q hq => Or.inr (Or.inr (by have := hge q hq; omega))) (fun q hq => Or.inl (hsub q hq)) hpl hnd hom hE q791 ⟨Nat.le_of_ble_eq_true rfl, Nat.le_of_ble_eq_true rfl, Nat.le_of_ble_eq_true rfl, Nat.le_of_ble_eq_true rfl⟩ (Nat.le_of_ble_eq_true rfl) dX0_image_12 (fun H2 locs hN hs hz2 hk2 hS => ?_)
  have hP := t_mrg2 (avc := rWV (fun i => ad (18 + i))) (Xc' := rW G.2 (fun i => ad (18 + i)) v_many v_pets v_last v_seed v_weight v_fright v_age v_asked v_homes v_marks v_had v_allergic v_deaths) (t := H2) [18, 19, 20, 21, 22, 23, 24, 25] (nd_left C.2.2.2.2.2.1) hP hs (fun q h1 h2 h3 => hk2 q h2 (fun h4 => (List.mem_append.mp h4).elim (fun h5 => by have := hge q h5; have := hold q h1; omega) h3)) xW_av rfl rfl mg_xW_rW_18
  have hPP : va_P G.1 vwCl ((xW G.2 ad v_latestFault v_died v_leastWeight v_noticedBy v_noticed v_orderDied v_orderLeast v_imaged v_shelves v_refusals v_ran v_bodies v_tweight v_tfright v_tage v_tasked v_told v_bestRow v_weight_a1 v_fright_a1 v_age_a1 v_asked_a1 v_weight_a2 v_fright_a2 v_age_a2 v_asked_a2 v_weight_a3 v_fright_a3 v_age_a3 v_asked_a3 v_weight_a4 v_fright_a4 v_age_a4 v_asked_a4 v_many v_pets v_last v_seed v_weight v_fright v_age v_asked v_homes v_marks v_had v_allergic v_deaths) ++ (rW G.2 ad2 (res.1) (res.2.1) (res.2.2.1) (res.2.2.2.1) (res.2.2.2.2.1) (res.2.2.2.2.2.1) (res.2.2.2.2.2.2.1) (res.2.2.2.2.2.2.2.1) (res.2.2.2.2.2.2.2.2.1) (res.2.2.2.2.2.2.2.2.2.1) (res.2.2.2.2.2.2.2.2.2.2.1) (res.2.2.2.2.2.2.2.2.2.2.2.1) (res.2.2.2.2.2.2.2.2.2.2.2.2))) H2 := hP.app hN
  have hDD : va_D (tA sz (xWV ad) []) ((xW G.2 ad v_latestFault v_died v_leastWeight v_noticedBy v_noticed v_orderDied v_orderLeast v_imaged v_shelves v_refusals v_ran v_bodies v_tweight v_tfright v_tage v_tasked v_told v_bestRow v_weight_a1 v_fright_a1 v_age_a1 v_asked_a1 v_weight_a2 v_fright_a2 v_age_a2 v_asked_a2 v_weight_a3 v_fright_a3 v_age_a3 v_asked_a3 v_weight_a4 v_fright_a4 v_age_a4 v_asked_a4 v_many v_pets v_last v_seed v_weight v_fright v_age v_asked v_homes v_marks v_had v_allergic v_deaths) ++ (rW G.2 ad2 (res.1) (res.2.1) (res.2.2.1) (res.2.2.2.1) (res.2.2.2.2.1) (res.2.2.2.2.2.1) (res.2.2.2.2.2.2.1) (res.2.2.2.2.2.2.2.1) (res.2.2.2.2.2.2.2.2.1) (res.2.2.2.2.2.2.2.2.2.1) (res.2.2.2.2.2.2.2.2.2.2.1) (res.2.2.2.2.2.2.2.2.2.2.2.1) (res.2.2.2.2.2.2.2.2.2.2.2.2))) := by
    refine va_D_of ?_ ?_
    · show (xWV ad ++ rWV ad2).Nodup
      refine List.nodup_append.mpr ⟨nd_left C.2.2.2.2.2.1, hnd2, fun a ha b hb e => ?_⟩
      subst e
      have h1 := hge a hb
      have h2 := hold a ha
      omega
    · intro z hz
      have hz : z ∈ xWV ad ++ rWV ad2 := hz
      rcases List.mem_append.mp hz with h | h
      · exact Or.inl h
      · exact Or.inr (Or.inr (by have := hge z h; omega))
  refine va_put (D := G.1) (ci := 16) (v := .ref (ad2 0)) (ty := (.object "HamsterWeekends$Room")) (C := RX0) (T := TX0) (N := 16) C.1 C.2.1 C.2.2.2.1 in_X0 tyX0 tyX0_ok nmX0 C.2.2.1 C.2.2.2.2.1 hPP hDD hS 0 rfl rfl 7 (by decide) (C.2.2.2.1 _ q245) (fun _ h => h) rfl (by decide +kernel) rfl rfl (Nat.le_of_ble_eq_true rfl) dX0_image_15 (fun H locs hPP hDD hS => ?_)
  have hPP : va_P G.1 vwCl ((xW G.2 ad v_latestFault v_died v_leastWeight v_noticedBy v_noticed v_orderDied v_orderLeast (some (ad2 0)) v_shelves v_refusals v_ran v_bodies v_tweight v_tfright v_tage v_tasked v_told v_bestRow v_weight_a1 v_fright_a1 v_age_a1 v_asked_a1 v_weight_a2 v_fright_a2 v_age_a2 v_asked_a2 v_weight_a3 v_fright_a3 v_age_a3 v_asked_a3 v_weight_a4 v_fright_a4 v_age_a4 v_asked_a4 v_many v_pets v_last v_seed v_weight v_fright v_age v_asked v_homes v_marks v_had v_allergic v_deaths) ++ (rW G.2 ad2 (res.1) (res.2.1) (res.2.2.1) (res.2.2.2.1) (res.2.2.2.2.1) (res.2.2.2.2.2.1) (res.2.2.2.2.2.2.1) (res.2.2.2.2.2.2.2.1) (res.2.2.2.2.2.2.2.2.1) (res.2.2.2.2.2.2.2.2.2.1) (res.2.2.2.2.2.2.2.2.2.2.1) (res.2.2.2.2.2.2.2.2.2.2.2.1) (res.2.2.2.2.2.2.2.2.2.2.2.2))) H := hPP
  refine lv_aload_n C.1 C.2.1 dX0_image_18 rfl (lv_at hl 0 rfl) ?_
  refine xWg_0_6 q244 C (P_left hPP) dX0_image_19 ?_
  refine xWg_18_0 q182 C (P_left hPP) dX0_image_22 ?_
  exact vx_ret (W.iret C.1 C.2.1 hr (fun t ht hW => ⟨rfl, ⟨ad2, fun q hq => by have := hge q hq; omega, hnd2, by rw [ht]; exact hPP⟩, hS.F ht⟩) hS.2.2 dX0_image_25 hlocks)
