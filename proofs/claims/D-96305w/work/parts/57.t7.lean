set_option maxRecDepth 100000
def sC_Shelf_says_N (p1 : Int32) : Option (Option Int32 × Int32) :=
  @Option.bind (Int32) _ (
    if p1 = 1 then
      some (-1)
    else
    if p1 = 2 then
      some (-1)
    else
    if p1 = 3 then
      some (-1)
    else
    if p1 = 4 then
      some (-1)
    else
    if p1 = 5 then
      some (-1)
    else
    if p1 = 6 then
      some (-1)
    else
    some (-1)) fun u1 =>
  some (some (-3), 0)
set_option maxHeartbeats 4000000 in
theorem metC_Shelf_says_N (l : Launch) (hfl : l.stackTraces = false) (G : kG) (ad : Nat → Nat) (pl : va_W) (sz : Nat) (v_many : Int32) (v_pets : Int32) (v_last : Int32) (v_seed : Int32) (v_weight : Int32) (v_fright : Int32) (v_age : Int32) (v_asked : Nat → Int32) (v_homes : Nat → Option Nat) (v_marks : Nat → Int32) (v_had : Nat → Int32) (v_allergic : Nat → Int32) (v_deaths : Nat → Int32) (a : Nat) (p1 : Int32) (ha : (a, .inr (13, [.null])) ∈ pl) (res : Option Int32 × Int32) (hE : sC_Shelf_says_N p1 = some res) : vx_Met l yX4_says (wsW_ yX4_says cX4_says 4 (some .int) [((0 : Nat), (243 : Nat), (244 : Nat), (21 : Nat))]) ({ frames := 5, cells := 1, slots := 7, locals := 122 } : Room) (rPc G (rW G.2 ad v_many v_pets v_last v_seed v_weight v_fright v_age v_asked v_homes v_marks v_had v_allergic v_deaths) pl (rWV ad) sz [.ref a, .int p1, .ref (ad 0)]) (tQc G (rW G.2 ad v_many v_pets v_last v_seed v_weight v_fright v_age v_asked v_homes v_marks v_had v_allergic v_deaths) [] (tA sz (rWV ad) []) (res.1 = none) (some (.int res.2))) (tXC G (rW G.2 ad v_many v_pets v_last v_seed v_weight v_fright v_age v_asked v_homes v_marks v_had v_allergic v_deaths) [] (tA sz (rWV ad) []) 18 RX6 res.1 sz) 1 7 (tA sz (rWV ad) []) := by
  refine r_ofWH (own := RX4) (by decide) rfl (Nat.le_of_ble_eq_true rfl) ?_
  intro p e s m args below meth c ls C C0 D hml htab hP hS hl hr hlocks hsz
  have hl : lv_has ls 4 [(0, .ref a), (1, .int p1), (2, .ref (ad 0))] := hl
  obtain ⟨Q, hQ⟩ : ∃ Q, Q = vx_MQ below (tQc G (rW G.2 ad v_many v_pets v_last v_seed v_weight v_fright v_age v_asked v_homes v_marks v_had v_allergic v_deaths) [] (tA sz (rWV ad) []) (res.1 = none) (some (.int res.2))) (tXC G (rW G.2 ad v_many v_pets v_last v_seed v_weight v_fright v_age v_asked v_homes v_marks v_had v_allergic v_deaths) [] (tA sz (rWV ad) []) 18 RX6 res.1 sz) args s 1 7 (tA sz (rWV ad) []) := ⟨_, rfl⟩
  rw [← hQ]
  have hret : ∀ (pc : Nat) (ls : Array Slot) (H : Heap) (locs : List Loc), decode cX4_says pc = .ok (.ireturn, 1) → res.1 = none → va_P G.1 vwCl (rW G.2 ad v_many v_pets v_last v_seed v_weight v_fright v_age v_asked v_homes v_marks v_had v_allergic v_deaths) H → va_S (tA sz (rWV ad) []) s.heap H locs → W p l e ({ frames := 5, cells := 1, slots := 7, locals := 122 } : Room) s m args below meth c H locs 1 7 Q (F0 m pc ls [(.int res.2)]) := by
    intro pc ls H locs hd hφ hP hS
    rw [hQ]
    exact t_iret C0 hr hlocks hd hφ hP P_nil hS
  have hthr : ∀ (pc : Nat) (ls : Array Slot) (rest : List Value) (H : Heap) (locs : List Loc) (w : Int32) (q : Nat), (∀ z ∈ c.exceptionTable.toList, covers z pc = false ∨ (z.catchType ≠ 0 ∧ ∃ nm : String, (Cond.classLink RX4 z.catchType nm).before args s = true ∧ va_Nc RX6 nm s)) → res.1 = some w → s.heap.size ≤ q → va_P G.1 vwCl [(q, .inr (18, xF w))] H → va_P G.1 vwCl (rW G.2 ad v_many v_pets v_last v_seed v_weight v_fright v_age v_asked v_homes v_marks v_had v_allergic v_deaths) H → va_S (tA sz (rWV ad) []) s.heap H locs → vx_W p l e ({ frames := 5, cells := 1, slots := 7, locals := 122 } : Room) s m args below meth c H locs 1 7 Q (F0 m pc ls rest) q := by
    intro pc ls rest H locs w q hout hw hq hc hP hS
    rw [hQ]
    exact t_outP (r := (RX6, TX6, 7)) C0 rfl hout hlocks hw (by omega) hc hP P_nil hS
  clear hQ
  obtain ⟨H, hH⟩ : ∃ H, H = s.heap := ⟨_, rfl⟩
  obtain ⟨locs, hlo⟩ : ∃ locs : List Loc, locs = [] := ⟨_, rfl⟩
  have hP : va_P G.1 vwCl (rW G.2 ad v_many v_pets v_last v_seed v_weight v_fright v_age v_asked v_homes v_marks v_had v_allergic v_deaths) H := by rw [hH]; exact hP
  have hS : va_S (tA sz (rWV ad) []) s.heap H locs := by rw [hH, hlo]; exact hS
  suffices hZ : W p l e ({ frames := 5, cells := 1, slots := 7, locals := 122 } : Room) s m args below meth c H locs 0 0 Q (F0 m 0 ls []) by rw [hH, hlo] at hZ; exact hZ
  clear hH hlo
  unfold sC_Shelf_says_N at hE
  refine lv_iload_n C.1 C.2.1 dX4_says_0 rfl (lv_at hl 1 rfl) ?_
  obtain ⟨u1, hR, hE⟩ := it_b hE
  have hJ225u1 : ∀ (H : Heap) (locs : List Loc) (ls : Array Slot), va_P G.1 vwCl (rW G.2 ad v_many v_pets v_last v_seed v_weight v_fright v_age v_asked v_homes v_marks v_had v_allergic v_deaths) H → va_S (tA sz (rWV ad) []) s.heap H locs → lv_has ls 4 [(0, .ref a), (3, .int u1)] → W p l e ({ frames := 5, cells := 1, slots := 7, locals := 122 } : Room) s m args below meth c H locs 0 0 Q (F0 m 225 ls []) := by
    intro H locs ls hP hS hl
    refine lv_aload_n C.1 C.2.1 dX4_says_225 rfl (lv_at hl 0 rfl) ?_
    refine p_get (j := 0) C hS ha (show vwCl[13]? = some (RX4, TX4, 1) from rfl) in_X4 (by decide) q233 rfl dX4_says_226 ?_
    refine lv_ifnullN (tgt := 236) C.1 C.2.1 dX4_says_229 (by decide) ?_
    refine lv_iconst (v := 0) C.1 C.2.1 dX4_says_236 (by decide) ?_
    refine lv_bipush (v := (-3)) C.1 C.2.1 dX4_says_237 (by decide) ?_
    refine t_after [] C0 D hP P_nil hS (vx_runS (As := [.int 0, .int (-3)]) (rest := []) ⟨C.1, C.2.1, hml, C.2.2.1, C.2.2.2.1⟩ (metC_HW_need l hfl G ad pl H.size 0 (-3) _ (need_eq _ _)) (va_cwS 2 C.2.2.2.1 (lw_S q493 q398 q80 q399) rfl rfl rfl (by decide +kernel) ⟨Nat.le_of_ble_eq_true rfl, Nat.le_of_ble_eq_true rfl⟩) (rr_preS C D hP hS [] rfl (by decide) rfl) rfl rfl hl.1 rfl (lv_room (Nat.le_of_ble_eq_true rfl)) dX4_says_239 ⟨Nat.le_of_ble_eq_true rfl, Nat.le_of_ble_eq_true rfl⟩) rW_av rfl rfl rfl (fun hφ H locs hP _ hS => ?_) (fun w q H locs hw hq hc hP _ hS => ?_)
    · exact absurd rfl (nd_n hφ)
    obtain ⟨c8, rfl⟩ := nd_x hw
    obtain ⟨q9, rfl⟩ : ∃ z, z = q := ⟨_, rfl⟩
    obtain rfl := Option.some.inj hE
    refine vx_widen (k := 1) (n := 7) (Nat.le_of_ble_eq_true rfl) (Nat.le_of_ble_eq_true rfl) ?_
    exact hthr _ _ _ _ _ _ _ (by
      rw [htab]
      intro z hz
      have hz : z ∈ ([⟨0, 243, 244, 21⟩] : List ExceptionTableEntry) := hz
      simp only [List.mem_cons, List.not_mem_nil, or_false] at hz
      rcases hz with rfl
      · exact Or.inr ⟨by decide, _, C.2.2.2.1 _ q478, D.2.2.2.2.2.2.1 _ (List.mem_of_getElem? (i := 73) rfl)⟩) rfl hq.2.2 hc hP hS
  have hE := hR
  by_cases c2 : p1 = 1
  · have hE := it_t c2 hE
    refine lv_tableIn (tgt := 40) C.1 C.2.1 dX4_says_1 (by rw [c2]; decide) (by rw [c2]; decide) (by rw [c2]; rfl) (by decide) ?_
    refine lv_aload_n C.1 C.2.1 dX4_says_40 rfl (lv_at hl 0 rfl) ?_
    refine p_get (j := 0) C hS ha (show vwCl[13]? = some (RX4, TX4, 1) from rfl) in_X4 (by decide) q233 rfl dX4_says_41 ?_
    refine lv_ifnonnullN C.1 C.2.1 dX4_says_44 ?_
    refine lv_iconst (v := (-1)) C.1 C.2.1 dX4_says_47 (by decide) ?_
    refine lv_goto (tgt := 61) C.1 C.2.1 dX4_says_48 (by decide) ?_
    refine lv_istore_n (lv' := [(3, .int (-1)), (0, .ref a), (1, .int p1), (2, .ref (ad 0))]) C.1 C.2.1 dX4_says_61 rfl hl (by decide) rfl (fun ls hl => ?_)
    refine lv_goto (tgt := 225) C.1 C.2.1 dX4_says_62 (by decide) ?_
    obtain rfl := Option.some.inj hE
    exact hJ225u1 H locs ls hP hS (lv_sub hl [1, 0] rfl)
  have hE := it_f c2 hE
  by_cases c3 : p1 = 2
  · have hE := it_t c3 hE
    refine lv_tableIn (tgt := 65) C.1 C.2.1 dX4_says_1 (by rw [c3]; decide) (by rw [c3]; decide) (by rw [c3]; rfl) (by decide) ?_
    refine lv_aload_n C.1 C.2.1 dX4_says_65 rfl (lv_at hl 0 rfl) ?_
    refine p_get (j := 0) C hS ha (show vwCl[13]? = some (RX4, TX4, 1) from rfl) in_X4 (by decide) q233 rfl dX4_says_66 ?_
    refine lv_ifnonnullN C.1 C.2.1 dX4_says_69 ?_
    refine lv_iconst (v := (-1)) C.1 C.2.1 dX4_says_72 (by decide) ?_
    refine lv_goto (tgt := 88) C.1 C.2.1 dX4_says_73 (by decide) ?_
    refine lv_istore_n (lv' := [(3, .int (-1)), (0, .ref a), (1, .int p1), (2, .ref (ad 0))]) C.1 C.2.1 dX4_says_88 rfl hl (by decide) rfl (fun ls hl => ?_)
    refine lv_goto (tgt := 225) C.1 C.2.1 dX4_says_89 (by decide) ?_
    obtain rfl := Option.some.inj hE
    exact hJ225u1 H locs ls hP hS (lv_sub hl [1, 0] rfl)
  have hE := it_f c3 hE
  by_cases c4 : p1 = 3
  · have hE := it_t c4 hE
    refine lv_tableIn (tgt := 92) C.1 C.2.1 dX4_says_1 (by rw [c4]; decide) (by rw [c4]; decide) (by rw [c4]; rfl) (by decide) ?_
    refine lv_aload_n C.1 C.2.1 dX4_says_92 rfl (lv_at hl 0 rfl) ?_
    refine p_get (j := 0) C hS ha (show vwCl[13]? = some (RX4, TX4, 1) from rfl) in_X4 (by decide) q233 rfl dX4_says_93 ?_
    refine lv_ifnonnullN C.1 C.2.1 dX4_says_96 ?_
    refine lv_iconst (v := (-1)) C.1 C.2.1 dX4_says_99 (by decide) ?_
    refine lv_goto (tgt := 113) C.1 C.2.1 dX4_says_100 (by decide) ?_
    refine lv_istore_n (lv' := [(3, .int (-1)), (0, .ref a), (1, .int p1), (2, .ref (ad 0))]) C.1 C.2.1 dX4_says_113 rfl hl (by decide) rfl (fun ls hl => ?_)
    refine lv_goto (tgt := 225) C.1 C.2.1 dX4_says_114 (by decide) ?_
    obtain rfl := Option.some.inj hE
    exact hJ225u1 H locs ls hP hS (lv_sub hl [1, 0] rfl)
  have hE := it_f c4 hE
  by_cases c5 : p1 = 4
  · have hE := it_t c5 hE
    refine lv_tableIn (tgt := 117) C.1 C.2.1 dX4_says_1 (by rw [c5]; decide) (by rw [c5]; decide) (by rw [c5]; rfl) (by decide) ?_
    refine lv_aload_n C.1 C.2.1 dX4_says_117 rfl (lv_at hl 0 rfl) ?_
    refine p_get (j := 0) C hS ha (show vwCl[13]? = some (RX4, TX4, 1) from rfl) in_X4 (by decide) q233 rfl dX4_says_118 ?_
    refine lv_ifnonnullN C.1 C.2.1 dX4_says_121 ?_
    refine lv_iconst (v := (-1)) C.1 C.2.1 dX4_says_124 (by decide) ?_
    refine lv_goto (tgt := 140) C.1 C.2.1 dX4_says_125 (by decide) ?_
    refine lv_istore_n (lv' := [(3, .int (-1)), (0, .ref a), (1, .int p1), (2, .ref (ad 0))]) C.1 C.2.1 dX4_says_140 rfl hl (by decide) rfl (fun ls hl => ?_)
    refine lv_goto (tgt := 225) C.1 C.2.1 dX4_says_141 (by decide) ?_
    obtain rfl := Option.some.inj hE
    exact hJ225u1 H locs ls hP hS (lv_sub hl [1, 0] rfl)
  have hE := it_f c5 hE
  by_cases c6 : p1 = 5
  · have hE := it_t c6 hE
    refine lv_tableIn (tgt := 144) C.1 C.2.1 dX4_says_1 (by rw [c6]; decide) (by rw [c6]; decide) (by rw [c6]; rfl) (by decide) ?_
    refine lv_aload_n C.1 C.2.1 dX4_says_144 rfl (lv_at hl 0 rfl) ?_
    refine p_get (j := 0) C hS ha (show vwCl[13]? = some (RX4, TX4, 1) from rfl) in_X4 (by decide) q233 rfl dX4_says_145 ?_
    refine lv_ifnonnullN C.1 C.2.1 dX4_says_148 ?_
    refine lv_iconst (v := (-1)) C.1 C.2.1 dX4_says_151 (by decide) ?_
    refine lv_goto (tgt := 167) C.1 C.2.1 dX4_says_152 (by decide) ?_
    refine lv_istore_n (lv' := [(3, .int (-1)), (0, .ref a), (1, .int p1), (2, .ref (ad 0))]) C.1 C.2.1 dX4_says_167 rfl hl (by decide) rfl (fun ls hl => ?_)
    refine lv_goto (tgt := 225) C.1 C.2.1 dX4_says_168 (by decide) ?_
    obtain rfl := Option.some.inj hE
    exact hJ225u1 H locs ls hP hS (lv_sub hl [1, 0] rfl)
  have hE := it_f c6 hE
  by_cases c7 : p1 = 6
  · have hE := it_t c7 hE
    refine lv_tableIn (tgt := 171) C.1 C.2.1 dX4_says_1 (by rw [c7]; decide) (by rw [c7]; decide) (by rw [c7]; rfl) (by decide) ?_
    refine lv_aload_n C.1 C.2.1 dX4_says_171 rfl (lv_at hl 0 rfl) ?_
    refine p_get (j := 0) C hS ha (show vwCl[13]? = some (RX4, TX4, 1) from rfl) in_X4 (by decide) q233 rfl dX4_says_172 ?_
    refine lv_ifnonnullN C.1 C.2.1 dX4_says_175 ?_
    refine lv_iconst (v := (-1)) C.1 C.2.1 dX4_says_178 (by decide) ?_
    refine lv_goto (tgt := 194) C.1 C.2.1 dX4_says_179 (by decide) ?_
    refine lv_istore_n (lv' := [(3, .int (-1)), (0, .ref a), (1, .int p1), (2, .ref (ad 0))]) C.1 C.2.1 dX4_says_194 rfl hl (by decide) rfl (fun ls hl => ?_)
    refine lv_goto (tgt := 225) C.1 C.2.1 dX4_says_195 (by decide) ?_
    obtain rfl := Option.some.inj hE
    exact hJ225u1 H locs ls hP hS (lv_sub hl [1, 0] rfl)
  have hE := it_f c7 hE
  refine lv_tableOut (tgt := 198) C.1 C.2.1 dX4_says_1 (ts_e (ts_s (ts_s (ts_s (ts_s (ts_s (ts_s (ts_0 1) c2 rfl rfl) c3 rfl rfl) c4 rfl rfl) c5 rfl rfl) c6 rfl rfl) c7 rfl rfl) rfl) (by decide) ?_
  refine lv_aload_n C.1 C.2.1 dX4_says_198 rfl (lv_at hl 0 rfl) ?_
  refine p_get (j := 0) C hS ha (show vwCl[13]? = some (RX4, TX4, 1) from rfl) in_X4 (by decide) q233 rfl dX4_says_199 ?_
  refine lv_ifnonnullN C.1 C.2.1 dX4_says_202 ?_
  refine lv_iconst (v := (-1)) C.1 C.2.1 dX4_says_205 (by decide) ?_
  refine lv_goto (tgt := 224) C.1 C.2.1 dX4_says_206 (by decide) ?_
  refine lv_istore_n (lv' := [(3, .int (-1)), (0, .ref a), (1, .int p1), (2, .ref (ad 0))]) C.1 C.2.1 dX4_says_224 rfl hl (by decide) rfl (fun ls hl => ?_)
  obtain rfl := Option.some.inj hE
  exact hJ225u1 H locs ls hP hS (lv_sub hl [1, 0] rfl)
def sC_Shelf_says_R_0 (p1 : Int32) : Option (Option Int32 × Int32) :=
  if p1 = 1 then
    some (some (-2), 0)
  else
  if p1 = 2 then
    some (some (-2), 0)
  else
  if p1 = 3 then
    some (some (-2), 0)
  else
  if p1 = 4 then
    some (some (-2), 0)
  else
  if p1 = 5 then
    some (some (-2), 0)
  else
  if p1 = 6 then
    some (some (-2), 0)
  else
  some (some (-2), 0)
set_option maxHeartbeats 4000000 in
theorem metC_Shelf_says_R_0 (l : Launch) (hfl : l.stackTraces = false) (G : kG) (ad : Nat → Nat) (pl : va_W) (sz : Nat) (v_many : Int32) (v_pets : Int32) (v_last : Int32) (v_seed : Int32) (v_weight : Int32) (v_fright : Int32) (v_age : Int32) (v_asked : Nat → Int32) (v_homes : Nat → Option Nat) (v_marks : Nat → Int32) (v_had : Nat → Int32) (v_allergic : Nat → Int32) (v_deaths : Nat → Int32) (a q b n : Nat) (rx : Nat → Int64) (p1 : Int32) (ha : (a, .inr (13, [.ref q])) ∈ pl) (hrw : rowIn G q 0 b n rx pl) (res : Option Int32 × Int32) (hE : sC_Shelf_says_R_0 p1 = some res) : vx_Met l yX4_says (wsW_ yX4_says cX4_says 4 (some .int) [((0 : Nat), (243 : Nat), (244 : Nat), (21 : Nat))]) ({ frames := 9, cells := 4, slots := 977, locals := 10281 } : Room) (rPc G (rW G.2 ad v_many v_pets v_last v_seed v_weight v_fright v_age v_asked v_homes v_marks v_had v_allergic v_deaths) pl (rWV ad) sz [.ref a, .int p1, .ref (ad 0)]) (tQc G (rW G.2 ad v_many v_pets v_last v_seed v_weight v_fright v_age v_asked v_homes v_marks v_had v_allergic v_deaths) [] (tA sz (rWV ad) []) (res.1 = none) (some (.int res.2))) (tXC G (rW G.2 ad v_many v_pets v_last v_seed v_weight v_fright v_age v_asked v_homes v_marks v_had v_allergic v_deaths) [] (tA sz (rWV ad) []) 18 RX6 res.1 sz) 4 977 (tA sz (rWV ad) []) := by
  refine r_ofWH (own := RX4) (by decide) rfl (Nat.le_of_ble_eq_true rfl) ?_
  intro p e s m args below meth c ls C C0 D hml htab hP hS hl hr hlocks hsz
  have hl : lv_has ls 4 [(0, .ref a), (1, .int p1), (2, .ref (ad 0))] := hl
  obtain ⟨Q, hQ⟩ : ∃ Q, Q = vx_MQ below (tQc G (rW G.2 ad v_many v_pets v_last v_seed v_weight v_fright v_age v_asked v_homes v_marks v_had v_allergic v_deaths) [] (tA sz (rWV ad) []) (res.1 = none) (some (.int res.2))) (tXC G (rW G.2 ad v_many v_pets v_last v_seed v_weight v_fright v_age v_asked v_homes v_marks v_had v_allergic v_deaths) [] (tA sz (rWV ad) []) 18 RX6 res.1 sz) args s 4 977 (tA sz (rWV ad) []) := ⟨_, rfl⟩
  rw [← hQ]
  have hret : ∀ (pc : Nat) (ls : Array Slot) (H : Heap) (locs : List Loc), decode cX4_says pc = .ok (.ireturn, 1) → res.1 = none → va_P G.1 vwCl (rW G.2 ad v_many v_pets v_last v_seed v_weight v_fright v_age v_asked v_homes v_marks v_had v_allergic v_deaths) H → va_S (tA sz (rWV ad) []) s.heap H locs → W p l e ({ frames := 9, cells := 4, slots := 977, locals := 10281 } : Room) s m args below meth c H locs 4 977 Q (F0 m pc ls [(.int res.2)]) := by
    intro pc ls H locs hd hφ hP hS
    rw [hQ]
    exact t_iret C0 hr hlocks hd hφ hP P_nil hS
  have hthr : ∀ (pc : Nat) (ls : Array Slot) (rest : List Value) (H : Heap) (locs : List Loc) (w : Int32) (q : Nat), (∀ z ∈ c.exceptionTable.toList, covers z pc = false ∨ (z.catchType ≠ 0 ∧ ∃ nm : String, (Cond.classLink RX4 z.catchType nm).before args s = true ∧ va_Nc RX6 nm s)) → res.1 = some w → s.heap.size ≤ q → va_P G.1 vwCl [(q, .inr (18, xF w))] H → va_P G.1 vwCl (rW G.2 ad v_many v_pets v_last v_seed v_weight v_fright v_age v_asked v_homes v_marks v_had v_allergic v_deaths) H → va_S (tA sz (rWV ad) []) s.heap H locs → vx_W p l e ({ frames := 9, cells := 4, slots := 977, locals := 10281 } : Room) s m args below meth c H locs 4 977 Q (F0 m pc ls rest) q := by
    intro pc ls rest H locs w q hout hw hq hc hP hS
    rw [hQ]
    exact t_outP (r := (RX6, TX6, 7)) C0 rfl hout hlocks hw (by omega) hc hP P_nil hS
  clear hQ
  obtain ⟨H, hH⟩ : ∃ H, H = s.heap := ⟨_, rfl⟩
  obtain ⟨locs, hlo⟩ : ∃ locs : List Loc, locs = [] := ⟨_, rfl⟩
  have hP : va_P G.1 vwCl (rW G.2 ad v_many v_pets v_last v_seed v_weight v_fright v_age v_asked v_homes v_marks v_had v_allergic v_deaths) H := by rw [hH]; exact hP
  have hS : va_S (tA sz (rWV ad) []) s.heap H locs := by rw [hH, hlo]; exact hS
  suffices hZ : W p l e ({ frames := 9, cells := 4, slots := 977, locals := 10281 } : Room) s m args below meth c H locs 0 0 Q (F0 m 0 ls []) by rw [hH, hlo] at hZ; exact hZ
  clear hH hlo
  unfold sC_Shelf_says_R_0 at hE
  refine lv_iload_n C.1 C.2.1 dX4_says_0 rfl (lv_at hl 1 rfl) ?_
  by_cases c1 : p1 = 1
  · have hE := it_t c1 hE
    refine lv_tableIn (tgt := 40) C.1 C.2.1 dX4_says_1 (by rw [c1]; decide) (by rw [c1]; decide) (by rw [c1]; rfl) (by decide) ?_
    refine lv_aload_n C.1 C.2.1 dX4_says_40 rfl (lv_at hl 0 rfl) ?_
    refine p_get (j := 0) C hS ha (show vwCl[13]? = some (RX4, TX4, 1) from rfl) in_X4 (by decide) q233 rfl dX4_says_41 ?_
    refine lv_ifnonnull (tgt := 51) C.1 C.2.1 dX4_says_44 (by decide) ?_
    refine lv_aload_n C.1 C.2.1 dX4_says_51 rfl (lv_at hl 0 rfl) ?_
    refine p_get (j := 0) C hS ha (show vwCl[13]? = some (RX4, TX4, 1) from rfl) in_X4 (by decide) q233 rfl dX4_says_52 ?_
    refine t_castX (r := (RX8, TX8, 1)) hfl C0 D hP P_nil hS (by rw [hml]; exact hl.1) hlocks (P_mem (pl_at C.2.2.2.2.2.2.2.2 C.2.2.2.2.2.2.1 hS) hrw.2.2.2.1) rfl ⟨pk_bytes, by decide⟩ ⟨pk_good, by decide⟩ (List.mem_of_getElem? (i := 1) rfl) q601 dX4_says_55 ⟨Nat.le_of_ble_eq_true rfl, Nat.le_of_ble_eq_true rfl, Nat.le_of_ble_eq_true rfl, Nat.le_of_ble_eq_true rfl⟩ (fun H z2 ce hz hP _ hS g1 g2 g3 => ?_)
    refine t_catch (name := "java/lang/ClassCastException") (E := "java/lang/ClassCastException") C0 D [] ⟨0, 243, 244, 21⟩ [] htab (fun z hz => nomatch hz) rfl (by decide) q478 (List.mem_of_getElem? (i := 3) rfl) g1 g2 g3 ?_
    refine W.eq (g2 := F0 m 244 ls [.ref z2]) rfl ?_
    refine lv_astore_n (lv' := [(3, .ref z2), (0, .ref a), (1, .int p1), (2, .ref (ad 0))]) C.1 C.2.1 dX4_says_244 rfl hl (by decide) rfl (fun ls hl => ?_)
    obtain ⟨q3, hq3e⟩ : ∃ q, q = H.size := ⟨_, rfl⟩
    refine t_refuse18 (w := (-2)) (kp := 2) C0 D hml hl.1 hP rW_av P_nil hS q494 q495 dX4_says_245 dX4_says_248 (fun kk => lv_bipush (v := (-2)) C.1 C.2.1 dX4_says_249 (by decide) kk) dX4_says_251 dX4_says_254 ⟨Nat.le_of_ble_eq_true rfl, Nat.le_of_ble_eq_true rfl, Nat.le_of_ble_eq_true rfl, Nat.le_of_ble_eq_true rfl⟩ (fun H locs hq hc hP _ hS => ?_)
    rw [← hq3e] at hq hc ⊢
    obtain rfl := Option.some.inj hE
    refine vx_widen (k := 4) (n := 977) (Nat.le_of_ble_eq_true rfl) (Nat.le_of_ble_eq_true rfl) ?_
    exact hthr _ _ _ _ _ _ _ (by
      rw [htab]
      intro z hz
      have hz : z ∈ ([⟨0, 243, 244, 21⟩] : List ExceptionTableEntry) := hz
      simp only [List.mem_cons, List.not_mem_nil, or_false] at hz
      rcases hz with rfl
      · exact Or.inl rfl) rfl hq.2.2 hc hP hS
  have hE := it_f c1 hE
  by_cases c4 : p1 = 2
  · have hE := it_t c4 hE
    refine lv_tableIn (tgt := 65) C.1 C.2.1 dX4_says_1 (by rw [c4]; decide) (by rw [c4]; decide) (by rw [c4]; rfl) (by decide) ?_
    refine lv_aload_n C.1 C.2.1 dX4_says_65 rfl (lv_at hl 0 rfl) ?_
    refine p_get (j := 0) C hS ha (show vwCl[13]? = some (RX4, TX4, 1) from rfl) in_X4 (by decide) q233 rfl dX4_says_66 ?_
    refine lv_ifnonnull (tgt := 76) C.1 C.2.1 dX4_says_69 (by decide) ?_
    refine lv_aload_n C.1 C.2.1 dX4_says_76 rfl (lv_at hl 0 rfl) ?_
    refine p_get (j := 0) C hS ha (show vwCl[13]? = some (RX4, TX4, 1) from rfl) in_X4 (by decide) q233 rfl dX4_says_77 ?_
    refine t_castX (r := (RX8, TX8, 1)) hfl C0 D hP P_nil hS (by rw [hml]; exact hl.1) hlocks (P_mem (pl_at C.2.2.2.2.2.2.2.2 C.2.2.2.2.2.2.1 hS) hrw.2.2.2.1) rfl ⟨pk_bytes, by decide⟩ ⟨pk_cat, by decide⟩ (List.mem_of_getElem? (i := 2) rfl) q612 dX4_says_80 ⟨Nat.le_of_ble_eq_true rfl, Nat.le_of_ble_eq_true rfl, Nat.le_of_ble_eq_true rfl, Nat.le_of_ble_eq_true rfl⟩ (fun H z5 ce hz hP _ hS g1 g2 g3 => ?_)
    refine t_catch (name := "java/lang/ClassCastException") (E := "java/lang/ClassCastException") C0 D [] ⟨0, 243, 244, 21⟩ [] htab (fun z hz => nomatch hz) rfl (by decide) q478 (List.mem_of_getElem? (i := 3) rfl) g1 g2 g3 ?_
    refine W.eq (g2 := F0 m 244 ls [.ref z5]) rfl ?_
    refine lv_astore_n (lv' := [(3, .ref z5), (0, .ref a), (1, .int p1), (2, .ref (ad 0))]) C.1 C.2.1 dX4_says_244 rfl hl (by decide) rfl (fun ls hl => ?_)
    obtain ⟨q6, hq6e⟩ : ∃ q, q = H.size := ⟨_, rfl⟩
    refine t_refuse18 (w := (-2)) (kp := 2) C0 D hml hl.1 hP rW_av P_nil hS q494 q495 dX4_says_245 dX4_says_248 (fun kk => lv_bipush (v := (-2)) C.1 C.2.1 dX4_says_249 (by decide) kk) dX4_says_251 dX4_says_254 ⟨Nat.le_of_ble_eq_true rfl, Nat.le_of_ble_eq_true rfl, Nat.le_of_ble_eq_true rfl, Nat.le_of_ble_eq_true rfl⟩ (fun H locs hq hc hP _ hS => ?_)
    rw [← hq6e] at hq hc ⊢
    obtain rfl := Option.some.inj hE
    refine vx_widen (k := 4) (n := 977) (Nat.le_of_ble_eq_true rfl) (Nat.le_of_ble_eq_true rfl) ?_
    exact hthr _ _ _ _ _ _ _ (by
      rw [htab]
      intro z hz
      have hz : z ∈ ([⟨0, 243, 244, 21⟩] : List ExceptionTableEntry) := hz
      simp only [List.mem_cons, List.not_mem_nil, or_false] at hz
      rcases hz with rfl
      · exact Or.inl rfl) rfl hq.2.2 hc hP hS
  have hE := it_f c4 hE
  by_cases c7 : p1 = 3
  · have hE := it_t c7 hE
    refine lv_tableIn (tgt := 92) C.1 C.2.1 dX4_says_1 (by rw [c7]; decide) (by rw [c7]; decide) (by rw [c7]; rfl) (by decide) ?_
    refine lv_aload_n C.1 C.2.1 dX4_says_92 rfl (lv_at hl 0 rfl) ?_
    refine p_get (j := 0) C hS ha (show vwCl[13]? = some (RX4, TX4, 1) from rfl) in_X4 (by decide) q233 rfl dX4_says_93 ?_
    refine lv_ifnonnull (tgt := 103) C.1 C.2.1 dX4_says_96 (by decide) ?_
    refine lv_aload_n C.1 C.2.1 dX4_says_103 rfl (lv_at hl 0 rfl) ?_
    refine p_get (j := 0) C hS ha (show vwCl[13]? = some (RX4, TX4, 1) from rfl) in_X4 (by decide) q233 rfl dX4_says_104 ?_
    refine t_castX (r := (RX8, TX8, 1)) hfl C0 D hP P_nil hS (by rw [hml]; exact hl.1) hlocks (P_mem (pl_at C.2.2.2.2.2.2.2.2 C.2.2.2.2.2.2.1 hS) hrw.2.2.2.1) rfl ⟨pk_bytes, by decide⟩ ⟨pk_overfed, by decide⟩ (List.mem_of_getElem? (i := 3) rfl) q627 dX4_says_107 ⟨Nat.le_of_ble_eq_true rfl, Nat.le_of_ble_eq_true rfl, Nat.le_of_ble_eq_true rfl, Nat.le_of_ble_eq_true rfl⟩ (fun H z8 ce hz hP _ hS g1 g2 g3 => ?_)
    refine t_catch (name := "java/lang/ClassCastException") (E := "java/lang/ClassCastException") C0 D [] ⟨0, 243, 244, 21⟩ [] htab (fun z hz => nomatch hz) rfl (by decide) q478 (List.mem_of_getElem? (i := 3) rfl) g1 g2 g3 ?_
    refine W.eq (g2 := F0 m 244 ls [.ref z8]) rfl ?_
    refine lv_astore_n (lv' := [(3, .ref z8), (0, .ref a), (1, .int p1), (2, .ref (ad 0))]) C.1 C.2.1 dX4_says_244 rfl hl (by decide) rfl (fun ls hl => ?_)
    obtain ⟨q9, hq9e⟩ : ∃ q, q = H.size := ⟨_, rfl⟩
    refine t_refuse18 (w := (-2)) (kp := 2) C0 D hml hl.1 hP rW_av P_nil hS q494 q495 dX4_says_245 dX4_says_248 (fun kk => lv_bipush (v := (-2)) C.1 C.2.1 dX4_says_249 (by decide) kk) dX4_says_251 dX4_says_254 ⟨Nat.le_of_ble_eq_true rfl, Nat.le_of_ble_eq_true rfl, Nat.le_of_ble_eq_true rfl, Nat.le_of_ble_eq_true rfl⟩ (fun H locs hq hc hP _ hS => ?_)
    rw [← hq9e] at hq hc ⊢
    obtain rfl := Option.some.inj hE
    refine vx_widen (k := 4) (n := 977) (Nat.le_of_ble_eq_true rfl) (Nat.le_of_ble_eq_true rfl) ?_
    exact hthr _ _ _ _ _ _ _ (by
      rw [htab]
      intro z hz
      have hz : z ∈ ([⟨0, 243, 244, 21⟩] : List ExceptionTableEntry) := hz
      simp only [List.mem_cons, List.not_mem_nil, or_false] at hz
      rcases hz with rfl
      · exact Or.inl rfl) rfl hq.2.2 hc hP hS
  have hE := it_f c7 hE
  by_cases c10 : p1 = 4
  · have hE := it_t c10 hE
    refine lv_tableIn (tgt := 117) C.1 C.2.1 dX4_says_1 (by rw [c10]; decide) (by rw [c10]; decide) (by rw [c10]; rfl) (by decide) ?_
    refine lv_aload_n C.1 C.2.1 dX4_says_117 rfl (lv_at hl 0 rfl) ?_
    refine p_get (j := 0) C hS ha (show vwCl[13]? = some (RX4, TX4, 1) from rfl) in_X4 (by decide) q233 rfl dX4_says_118 ?_
    refine lv_ifnonnull (tgt := 128) C.1 C.2.1 dX4_says_121 (by decide) ?_
    refine lv_aload_n C.1 C.2.1 dX4_says_128 rfl (lv_at hl 0 rfl) ?_
    refine p_get (j := 0) C hS ha (show vwCl[13]? = some (RX4, TX4, 1) from rfl) in_X4 (by decide) q233 rfl dX4_says_129 ?_
    refine t_castX (r := (RX8, TX8, 1)) hfl C0 D hP P_nil hS (by rw [hml]; exact hl.1) hlocks (P_mem (pl_at C.2.2.2.2.2.2.2.2 C.2.2.2.2.2.2.1 hS) hrw.2.2.2.1) rfl ⟨pk_bytes, by decide⟩ ⟨pk_far, by decide⟩ (List.mem_of_getElem? (i := 4) rfl) q629 dX4_says_132 ⟨Nat.le_of_ble_eq_true rfl, Nat.le_of_ble_eq_true rfl, Nat.le_of_ble_eq_true rfl, Nat.le_of_ble_eq_true rfl⟩ (fun H z11 ce hz hP _ hS g1 g2 g3 => ?_)
    refine t_catch (name := "java/lang/ClassCastException") (E := "java/lang/ClassCastException") C0 D [] ⟨0, 243, 244, 21⟩ [] htab (fun z hz => nomatch hz) rfl (by decide) q478 (List.mem_of_getElem? (i := 3) rfl) g1 g2 g3 ?_
    refine W.eq (g2 := F0 m 244 ls [.ref z11]) rfl ?_
    refine lv_astore_n (lv' := [(3, .ref z11), (0, .ref a), (1, .int p1), (2, .ref (ad 0))]) C.1 C.2.1 dX4_says_244 rfl hl (by decide) rfl (fun ls hl => ?_)
    obtain ⟨q12, hq12e⟩ : ∃ q, q = H.size := ⟨_, rfl⟩
    refine t_refuse18 (w := (-2)) (kp := 2) C0 D hml hl.1 hP rW_av P_nil hS q494 q495 dX4_says_245 dX4_says_248 (fun kk => lv_bipush (v := (-2)) C.1 C.2.1 dX4_says_249 (by decide) kk) dX4_says_251 dX4_says_254 ⟨Nat.le_of_ble_eq_true rfl, Nat.le_of_ble_eq_true rfl, Nat.le_of_ble_eq_true rfl, Nat.le_of_ble_eq_true rfl⟩ (fun H locs hq hc hP _ hS => ?_)
    rw [← hq12e] at hq hc ⊢
    obtain rfl := Option.some.inj hE
    refine vx_widen (k := 4) (n := 977) (Nat.le_of_ble_eq_true rfl) (Nat.le_of_ble_eq_true rfl) ?_
    exact hthr _ _ _ _ _ _ _ (by
      rw [htab]
      intro z hz
      have hz : z ∈ ([⟨0, 243, 244, 21⟩] : List ExceptionTableEntry) := hz
      simp only [List.mem_cons, List.not_mem_nil, or_false] at hz
      rcases hz with rfl
      · exact Or.inl rfl) rfl hq.2.2 hc hP hS
  have hE := it_f c10 hE
  by_cases c13 : p1 = 5
  · have hE := it_t c13 hE
    refine lv_tableIn (tgt := 144) C.1 C.2.1 dX4_says_1 (by rw [c13]; decide) (by rw [c13]; decide) (by rw [c13]; rfl) (by decide) ?_
    refine lv_aload_n C.1 C.2.1 dX4_says_144 rfl (lv_at hl 0 rfl) ?_
    refine p_get (j := 0) C hS ha (show vwCl[13]? = some (RX4, TX4, 1) from rfl) in_X4 (by decide) q233 rfl dX4_says_145 ?_
    refine lv_ifnonnull (tgt := 155) C.1 C.2.1 dX4_says_148 (by decide) ?_
    refine lv_aload_n C.1 C.2.1 dX4_says_155 rfl (lv_at hl 0 rfl) ?_
    refine p_get (j := 0) C hS ha (show vwCl[13]? = some (RX4, TX4, 1) from rfl) in_X4 (by decide) q233 rfl dX4_says_156 ?_
    refine t_castX (r := (RX8, TX8, 1)) hfl C0 D hP P_nil hS (by rw [hml]; exact hl.1) hlocks (P_mem (pl_at C.2.2.2.2.2.2.2.2 C.2.2.2.2.2.2.1 hS) hrw.2.2.2.1) rfl ⟨pk_bytes, by decide⟩ ⟨pk_dog, by decide⟩ (List.mem_of_getElem? (i := 5) rfl) q640 dX4_says_159 ⟨Nat.le_of_ble_eq_true rfl, Nat.le_of_ble_eq_true rfl, Nat.le_of_ble_eq_true rfl, Nat.le_of_ble_eq_true rfl⟩ (fun H z14 ce hz hP _ hS g1 g2 g3 => ?_)
    refine t_catch (name := "java/lang/ClassCastException") (E := "java/lang/ClassCastException") C0 D [] ⟨0, 243, 244, 21⟩ [] htab (fun z hz => nomatch hz) rfl (by decide) q478 (List.mem_of_getElem? (i := 3) rfl) g1 g2 g3 ?_
    refine W.eq (g2 := F0 m 244 ls [.ref z14]) rfl ?_
    refine lv_astore_n (lv' := [(3, .ref z14), (0, .ref a), (1, .int p1), (2, .ref (ad 0))]) C.1 C.2.1 dX4_says_244 rfl hl (by decide) rfl (fun ls hl => ?_)
    obtain ⟨q15, hq15e⟩ : ∃ q, q = H.size := ⟨_, rfl⟩
    refine t_refuse18 (w := (-2)) (kp := 2) C0 D hml hl.1 hP rW_av P_nil hS q494 q495 dX4_says_245 dX4_says_248 (fun kk => lv_bipush (v := (-2)) C.1 C.2.1 dX4_says_249 (by decide) kk) dX4_says_251 dX4_says_254 ⟨Nat.le_of_ble_eq_true rfl, Nat.le_of_ble_eq_true rfl, Nat.le_of_ble_eq_true rfl, Nat.le_of_ble_eq_true rfl⟩ (fun H locs hq hc hP _ hS => ?_)
    rw [← hq15e] at hq hc ⊢
    obtain rfl := Option.some.inj hE
    refine vx_widen (k := 4) (n := 977) (Nat.le_of_ble_eq_true rfl) (Nat.le_of_ble_eq_true rfl) ?_
    exact hthr _ _ _ _ _ _ _ (by
      rw [htab]
      intro z hz
      have hz : z ∈ ([⟨0, 243, 244, 21⟩] : List ExceptionTableEntry) := hz
      simp only [List.mem_cons, List.not_mem_nil, or_false] at hz
      rcases hz with rfl
      · exact Or.inl rfl) rfl hq.2.2 hc hP hS
  have hE := it_f c13 hE
  by_cases c16 : p1 = 6
  · have hE := it_t c16 hE
    refine lv_tableIn (tgt := 171) C.1 C.2.1 dX4_says_1 (by rw [c16]; decide) (by rw [c16]; decide) (by rw [c16]; rfl) (by decide) ?_
    refine lv_aload_n C.1 C.2.1 dX4_says_171 rfl (lv_at hl 0 rfl) ?_
    refine p_get (j := 0) C hS ha (show vwCl[13]? = some (RX4, TX4, 1) from rfl) in_X4 (by decide) q233 rfl dX4_says_172 ?_
    refine lv_ifnonnull (tgt := 182) C.1 C.2.1 dX4_says_175 (by decide) ?_
    refine lv_aload_n C.1 C.2.1 dX4_says_182 rfl (lv_at hl 0 rfl) ?_
    refine p_get (j := 0) C hS ha (show vwCl[13]? = some (RX4, TX4, 1) from rfl) in_X4 (by decide) q233 rfl dX4_says_183 ?_
    refine t_castX (r := (RX8, TX8, 1)) hfl C0 D hP P_nil hS (by rw [hml]; exact hl.1) hlocks (P_mem (pl_at C.2.2.2.2.2.2.2.2 C.2.2.2.2.2.2.1 hS) hrw.2.2.2.1) rfl ⟨pk_bytes, by decide⟩ ⟨pk_bus, by decide⟩ (List.mem_of_getElem? (i := 6) rfl) q642 dX4_says_186 ⟨Nat.le_of_ble_eq_true rfl, Nat.le_of_ble_eq_true rfl, Nat.le_of_ble_eq_true rfl, Nat.le_of_ble_eq_true rfl⟩ (fun H z17 ce hz hP _ hS g1 g2 g3 => ?_)
    refine t_catch (name := "java/lang/ClassCastException") (E := "java/lang/ClassCastException") C0 D [] ⟨0, 243, 244, 21⟩ [] htab (fun z hz => nomatch hz) rfl (by decide) q478 (List.mem_of_getElem? (i := 3) rfl) g1 g2 g3 ?_
    refine W.eq (g2 := F0 m 244 ls [.ref z17]) rfl ?_
    refine lv_astore_n (lv' := [(3, .ref z17), (0, .ref a), (1, .int p1), (2, .ref (ad 0))]) C.1 C.2.1 dX4_says_244 rfl hl (by decide) rfl (fun ls hl => ?_)
    obtain ⟨q18, hq18e⟩ : ∃ q, q = H.size := ⟨_, rfl⟩
    refine t_refuse18 (w := (-2)) (kp := 2) C0 D hml hl.1 hP rW_av P_nil hS q494 q495 dX4_says_245 dX4_says_248 (fun kk => lv_bipush (v := (-2)) C.1 C.2.1 dX4_says_249 (by decide) kk) dX4_says_251 dX4_says_254 ⟨Nat.le_of_ble_eq_true rfl, Nat.le_of_ble_eq_true rfl, Nat.le_of_ble_eq_true rfl, Nat.le_of_ble_eq_true rfl⟩ (fun H locs hq hc hP _ hS => ?_)
    rw [← hq18e] at hq hc ⊢
    obtain rfl := Option.some.inj hE
    refine vx_widen (k := 4) (n := 977) (Nat.le_of_ble_eq_true rfl) (Nat.le_of_ble_eq_true rfl) ?_
    exact hthr _ _ _ _ _ _ _ (by
      rw [htab]
      intro z hz
      have hz : z ∈ ([⟨0, 243, 244, 21⟩] : List ExceptionTableEntry) := hz
      simp only [List.mem_cons, List.not_mem_nil, or_false] at hz
      rcases hz with rfl
      · exact Or.inl rfl) rfl hq.2.2 hc hP hS
  have hE := it_f c16 hE
  refine lv_tableOut (tgt := 198) C.1 C.2.1 dX4_says_1 (ts_e (ts_s (ts_s (ts_s (ts_s (ts_s (ts_s (ts_0 1) c1 rfl rfl) c4 rfl rfl) c7 rfl rfl) c10 rfl rfl) c13 rfl rfl) c16 rfl rfl) rfl) (by decide) ?_
  refine lv_aload_n C.1 C.2.1 dX4_says_198 rfl (lv_at hl 0 rfl) ?_
  refine p_get (j := 0) C hS ha (show vwCl[13]? = some (RX4, TX4, 1) from rfl) in_X4 (by decide) q233 rfl dX4_says_199 ?_
  refine lv_ifnonnull (tgt := 209) C.1 C.2.1 dX4_says_202 (by decide) ?_
  refine lv_aload_n C.1 C.2.1 dX4_says_209 rfl (lv_at hl 2 rfl) ?_
  refine rWg_0_7 q198 C hP dX4_says_210 ?_
  refine lv_aload_n C.1 C.2.1 dX4_says_213 rfl (lv_at hl 0 rfl) ?_
  refine p_get (j := 0) C hS ha (show vwCl[13]? = some (RX4, TX4, 1) from rfl) in_X4 (by decide) q233 rfl dX4_says_214 ?_
  refine t_castX (r := (RX8, TX8, 1)) hfl C0 D hP P_nil hS (by rw [hml]; exact hl.1) hlocks (P_mem (pl_at C.2.2.2.2.2.2.2.2 C.2.2.2.2.2.2.1 hS) hrw.2.2.2.1) rfl ⟨pk_bytes, by decide⟩ ⟨pk_home, by decide⟩ (List.mem_of_getElem? (i := 0) rfl) q520 dX4_says_217 ⟨Nat.le_of_ble_eq_true rfl, Nat.le_of_ble_eq_true rfl, Nat.le_of_ble_eq_true rfl, Nat.le_of_ble_eq_true rfl⟩ (fun H z19 ce hz hP _ hS g1 g2 g3 => ?_)
  refine t_catch (name := "java/lang/ClassCastException") (E := "java/lang/ClassCastException") C0 D [] ⟨0, 243, 244, 21⟩ [] htab (fun z hz => nomatch hz) rfl (by decide) q478 (List.mem_of_getElem? (i := 3) rfl) g1 g2 g3 ?_
  refine W.eq (g2 := F0 m 244 ls [.ref z19]) rfl ?_
  refine lv_astore_n (lv' := [(3, .ref z19), (0, .ref a), (1, .int p1), (2, .ref (ad 0))]) C.1 C.2.1 dX4_says_244 rfl hl (by decide) rfl (fun ls hl => ?_)
  obtain ⟨q20, hq20e⟩ : ∃ q, q = H.size := ⟨_, rfl⟩
  refine t_refuse18 (w := (-2)) (kp := 2) C0 D hml hl.1 hP rW_av P_nil hS q494 q495 dX4_says_245 dX4_says_248 (fun kk => lv_bipush (v := (-2)) C.1 C.2.1 dX4_says_249 (by decide) kk) dX4_says_251 dX4_says_254 ⟨Nat.le_of_ble_eq_true rfl, Nat.le_of_ble_eq_true rfl, Nat.le_of_ble_eq_true rfl, Nat.le_of_ble_eq_true rfl⟩ (fun H locs hq hc hP _ hS => ?_)
  rw [← hq20e] at hq hc ⊢
  obtain rfl := Option.some.inj hE
  refine vx_widen (k := 4) (n := 977) (Nat.le_of_ble_eq_true rfl) (Nat.le_of_ble_eq_true rfl) ?_
  exact hthr _ _ _ _ _ _ _ (by
      rw [htab]
      intro z hz
      have hz : z ∈ ([⟨0, 243, 244, 21⟩] : List ExceptionTableEntry) := hz
      simp only [List.mem_cons, List.not_mem_nil, or_false] at hz
      rcases hz with rfl
      · exact Or.inl rfl) rfl hq.2.2 hc hP hS
def sC_Shelf_says_R_1 (p1 : Int32) : Option (Option Int32 × Int32) :=
  if p1 = 1 then
    some (some (-2), 0)
  else
  if p1 = 2 then
    some (some (-2), 0)
  else
  if p1 = 3 then
    some (some (-2), 0)
  else
  if p1 = 4 then
    some (some (-2), 0)
  else
  if p1 = 5 then
    some (some (-2), 0)
  else
  if p1 = 6 then
    some (some (-2), 0)
  else
  some (some (-2), 0)
set_option maxHeartbeats 4000000 in
theorem metC_Shelf_says_R_1 (l : Launch) (hfl : l.stackTraces = false) (G : kG) (ad : Nat → Nat) (pl : va_W) (sz : Nat) (v_many : Int32) (v_pets : Int32) (v_last : Int32) (v_seed : Int32) (v_weight : Int32) (v_fright : Int32) (v_age : Int32) (v_asked : Nat → Int32) (v_homes : Nat → Option Nat) (v_marks : Nat → Int32) (v_had : Nat → Int32) (v_allergic : Nat → Int32) (v_deaths : Nat → Int32) (a q b n : Nat) (rx : Nat → Int64) (p1 : Int32) (ha : (a, .inr (13, [.ref q])) ∈ pl) (hrw : rowIn G q 1 b n rx pl) (res : Option Int32 × Int32) (hE : sC_Shelf_says_R_1 p1 = some res) : vx_Met l yX4_says (wsW_ yX4_says cX4_says 4 (some .int) [((0 : Nat), (243 : Nat), (244 : Nat), (21 : Nat))]) ({ frames := 9, cells := 4, slots := 977, locals := 10281 } : Room) (rPc G (rW G.2 ad v_many v_pets v_last v_seed v_weight v_fright v_age v_asked v_homes v_marks v_had v_allergic v_deaths) pl (rWV ad) sz [.ref a, .int p1, .ref (ad 0)]) (tQc G (rW G.2 ad v_many v_pets v_last v_seed v_weight v_fright v_age v_asked v_homes v_marks v_had v_allergic v_deaths) [] (tA sz (rWV ad) []) (res.1 = none) (some (.int res.2))) (tXC G (rW G.2 ad v_many v_pets v_last v_seed v_weight v_fright v_age v_asked v_homes v_marks v_had v_allergic v_deaths) [] (tA sz (rWV ad) []) 18 RX6 res.1 sz) 4 977 (tA sz (rWV ad) []) := by
  refine r_ofWH (own := RX4) (by decide) rfl (Nat.le_of_ble_eq_true rfl) ?_
  intro p e s m args below meth c ls C C0 D hml htab hP hS hl hr hlocks hsz
  have hl : lv_has ls 4 [(0, .ref a), (1, .int p1), (2, .ref (ad 0))] := hl
  obtain ⟨Q, hQ⟩ : ∃ Q, Q = vx_MQ below (tQc G (rW G.2 ad v_many v_pets v_last v_seed v_weight v_fright v_age v_asked v_homes v_marks v_had v_allergic v_deaths) [] (tA sz (rWV ad) []) (res.1 = none) (some (.int res.2))) (tXC G (rW G.2 ad v_many v_pets v_last v_seed v_weight v_fright v_age v_asked v_homes v_marks v_had v_allergic v_deaths) [] (tA sz (rWV ad) []) 18 RX6 res.1 sz) args s 4 977 (tA sz (rWV ad) []) := ⟨_, rfl⟩
  rw [← hQ]
  have hret : ∀ (pc : Nat) (ls : Array Slot) (H : Heap) (locs : List Loc), decode cX4_says pc = .ok (.ireturn, 1) → res.1 = none → va_P G.1 vwCl (rW G.2 ad v_many v_pets v_last v_seed v_weight v_fright v_age v_asked v_homes v_marks v_had v_allergic v_deaths) H → va_S (tA sz (rWV ad) []) s.heap H locs → W p l e ({ frames := 9, cells := 4, slots := 977, locals := 10281 } : Room) s m args below meth c H locs 4 977 Q (F0 m pc ls [(.int res.2)]) := by
    intro pc ls H locs hd hφ hP hS
    rw [hQ]
    exact t_iret C0 hr hlocks hd hφ hP P_nil hS
  have hthr : ∀ (pc : Nat) (ls : Array Slot) (rest : List Value) (H : Heap) (locs : List Loc) (w : Int32) (q : Nat), (∀ z ∈ c.exceptionTable.toList, covers z pc = false ∨ (z.catchType ≠ 0 ∧ ∃ nm : String, (Cond.classLink RX4 z.catchType nm).before args s = true ∧ va_Nc RX6 nm s)) → res.1 = some w → s.heap.size ≤ q → va_P G.1 vwCl [(q, .inr (18, xF w))] H → va_P G.1 vwCl (rW G.2 ad v_many v_pets v_last v_seed v_weight v_fright v_age v_asked v_homes v_marks v_had v_allergic v_deaths) H → va_S (tA sz (rWV ad) []) s.heap H locs → vx_W p l e ({ frames := 9, cells := 4, slots := 977, locals := 10281 } : Room) s m args below meth c H locs 4 977 Q (F0 m pc ls rest) q := by
    intro pc ls rest H locs w q hout hw hq hc hP hS
    rw [hQ]
    exact t_outP (r := (RX6, TX6, 7)) C0 rfl hout hlocks hw (by omega) hc hP P_nil hS
  clear hQ
  obtain ⟨H, hH⟩ : ∃ H, H = s.heap := ⟨_, rfl⟩
  obtain ⟨locs, hlo⟩ : ∃ locs : List Loc, locs = [] := ⟨_, rfl⟩
  have hP : va_P G.1 vwCl (rW G.2 ad v_many v_pets v_last v_seed v_weight v_fright v_age v_asked v_homes v_marks v_had v_allergic v_deaths) H := by rw [hH]; exact hP
  have hS : va_S (tA sz (rWV ad) []) s.heap H locs := by rw [hH, hlo]; exact hS
  suffices hZ : W p l e ({ frames := 9, cells := 4, slots := 977, locals := 10281 } : Room) s m args below meth c H locs 0 0 Q (F0 m 0 ls []) by rw [hH, hlo] at hZ; exact hZ
  clear hH hlo
  unfold sC_Shelf_says_R_1 at hE
  refine lv_iload_n C.1 C.2.1 dX4_says_0 rfl (lv_at hl 1 rfl) ?_
  by_cases c1 : p1 = 1
  · have hE := it_t c1 hE
    refine lv_tableIn (tgt := 40) C.1 C.2.1 dX4_says_1 (by rw [c1]; decide) (by rw [c1]; decide) (by rw [c1]; rfl) (by decide) ?_
    refine lv_aload_n C.1 C.2.1 dX4_says_40 rfl (lv_at hl 0 rfl) ?_
    refine p_get (j := 0) C hS ha (show vwCl[13]? = some (RX4, TX4, 1) from rfl) in_X4 (by decide) q233 rfl dX4_says_41 ?_
    refine lv_ifnonnull (tgt := 51) C.1 C.2.1 dX4_says_44 (by decide) ?_
    refine lv_aload_n C.1 C.2.1 dX4_says_51 rfl (lv_at hl 0 rfl) ?_
    refine p_get (j := 0) C hS ha (show vwCl[13]? = some (RX4, TX4, 1) from rfl) in_X4 (by decide) q233 rfl dX4_says_52 ?_
    refine t_castX (r := (RX9, TX9, 1)) hfl C0 D hP P_nil hS (by rw [hml]; exact hl.1) hlocks (P_mem (pl_at C.2.2.2.2.2.2.2.2 C.2.2.2.2.2.2.1 hS) hrw.2.2.2.1) rfl ⟨pk_shorts, by decide⟩ ⟨pk_good, by decide⟩ (List.mem_of_getElem? (i := 8) rfl) q601 dX4_says_55 ⟨Nat.le_of_ble_eq_true rfl, Nat.le_of_ble_eq_true rfl, Nat.le_of_ble_eq_true rfl, Nat.le_of_ble_eq_true rfl⟩ (fun H z2 ce hz hP _ hS g1 g2 g3 => ?_)
    refine t_catch (name := "java/lang/ClassCastException") (E := "java/lang/ClassCastException") C0 D [] ⟨0, 243, 244, 21⟩ [] htab (fun z hz => nomatch hz) rfl (by decide) q478 (List.mem_of_getElem? (i := 3) rfl) g1 g2 g3 ?_
    refine W.eq (g2 := F0 m 244 ls [.ref z2]) rfl ?_
    refine lv_astore_n (lv' := [(3, .ref z2), (0, .ref a), (1, .int p1), (2, .ref (ad 0))]) C.1 C.2.1 dX4_says_244 rfl hl (by decide) rfl (fun ls hl => ?_)
    obtain ⟨q3, hq3e⟩ : ∃ q, q = H.size := ⟨_, rfl⟩
    refine t_refuse18 (w := (-2)) (kp := 2) C0 D hml hl.1 hP rW_av P_nil hS q494 q495 dX4_says_245 dX4_says_248 (fun kk => lv_bipush (v := (-2)) C.1 C.2.1 dX4_says_249 (by decide) kk) dX4_says_251 dX4_says_254 ⟨Nat.le_of_ble_eq_true rfl, Nat.le_of_ble_eq_true rfl, Nat.le_of_ble_eq_true rfl, Nat.le_of_ble_eq_true rfl⟩ (fun H locs hq hc hP _ hS => ?_)
    rw [← hq3e] at hq hc ⊢
    obtain rfl := Option.some.inj hE
    refine vx_widen (k := 4) (n := 977) (Nat.le_of_ble_eq_true rfl) (Nat.le_of_ble_eq_true rfl) ?_
    exact hthr _ _ _ _ _ _ _ (by
      rw [htab]
      intro z hz
      have hz : z ∈ ([⟨0, 243, 244, 21⟩] : List ExceptionTableEntry) := hz
      simp only [List.mem_cons, List.not_mem_nil, or_false] at hz
      rcases hz with rfl
      · exact Or.inl rfl) rfl hq.2.2 hc hP hS
  have hE := it_f c1 hE
  by_cases c4 : p1 = 2
  · have hE := it_t c4 hE
    refine lv_tableIn (tgt := 65) C.1 C.2.1 dX4_says_1 (by rw [c4]; decide) (by rw [c4]; decide) (by rw [c4]; rfl) (by decide) ?_
    refine lv_aload_n C.1 C.2.1 dX4_says_65 rfl (lv_at hl 0 rfl) ?_
    refine p_get (j := 0) C hS ha (show vwCl[13]? = some (RX4, TX4, 1) from rfl) in_X4 (by decide) q233 rfl dX4_says_66 ?_
    refine lv_ifnonnull (tgt := 76) C.1 C.2.1 dX4_says_69 (by decide) ?_
    refine lv_aload_n C.1 C.2.1 dX4_says_76 rfl (lv_at hl 0 rfl) ?_
    refine p_get (j := 0) C hS ha (show vwCl[13]? = some (RX4, TX4, 1) from rfl) in_X4 (by decide) q233 rfl dX4_says_77 ?_
    refine t_castX (r := (RX9, TX9, 1)) hfl C0 D hP P_nil hS (by rw [hml]; exact hl.1) hlocks (P_mem (pl_at C.2.2.2.2.2.2.2.2 C.2.2.2.2.2.2.1 hS) hrw.2.2.2.1) rfl ⟨pk_shorts, by decide⟩ ⟨pk_cat, by decide⟩ (List.mem_of_getElem? (i := 9) rfl) q612 dX4_says_80 ⟨Nat.le_of_ble_eq_true rfl, Nat.le_of_ble_eq_true rfl, Nat.le_of_ble_eq_true rfl, Nat.le_of_ble_eq_true rfl⟩ (fun H z5 ce hz hP _ hS g1 g2 g3 => ?_)
    refine t_catch (name := "java/lang/ClassCastException") (E := "java/lang/ClassCastException") C0 D [] ⟨0, 243, 244, 21⟩ [] htab (fun z hz => nomatch hz) rfl (by decide) q478 (List.mem_of_getElem? (i := 3) rfl) g1 g2 g3 ?_
    refine W.eq (g2 := F0 m 244 ls [.ref z5]) rfl ?_
    refine lv_astore_n (lv' := [(3, .ref z5), (0, .ref a), (1, .int p1), (2, .ref (ad 0))]) C.1 C.2.1 dX4_says_244 rfl hl (by decide) rfl (fun ls hl => ?_)
    obtain ⟨q6, hq6e⟩ : ∃ q, q = H.size := ⟨_, rfl⟩
    refine t_refuse18 (w := (-2)) (kp := 2) C0 D hml hl.1 hP rW_av P_nil hS q494 q495 dX4_says_245 dX4_says_248 (fun kk => lv_bipush (v := (-2)) C.1 C.2.1 dX4_says_249 (by decide) kk) dX4_says_251 dX4_says_254 ⟨Nat.le_of_ble_eq_true rfl, Nat.le_of_ble_eq_true rfl, Nat.le_of_ble_eq_true rfl, Nat.le_of_ble_eq_true rfl⟩ (fun H locs hq hc hP _ hS => ?_)
    rw [← hq6e] at hq hc ⊢
    obtain rfl := Option.some.inj hE
    refine vx_widen (k := 4) (n := 977) (Nat.le_of_ble_eq_true rfl) (Nat.le_of_ble_eq_true rfl) ?_
    exact hthr _ _ _ _ _ _ _ (by
      rw [htab]
      intro z hz
      have hz : z ∈ ([⟨0, 243, 244, 21⟩] : List ExceptionTableEntry) := hz
      simp only [List.mem_cons, List.not_mem_nil, or_false] at hz
      rcases hz with rfl
      · exact Or.inl rfl) rfl hq.2.2 hc hP hS
  have hE := it_f c4 hE
  by_cases c7 : p1 = 3
  · have hE := it_t c7 hE
    refine lv_tableIn (tgt := 92) C.1 C.2.1 dX4_says_1 (by rw [c7]; decide) (by rw [c7]; decide) (by rw [c7]; rfl) (by decide) ?_
    refine lv_aload_n C.1 C.2.1 dX4_says_92 rfl (lv_at hl 0 rfl) ?_
    refine p_get (j := 0) C hS ha (show vwCl[13]? = some (RX4, TX4, 1) from rfl) in_X4 (by decide) q233 rfl dX4_says_93 ?_
    refine lv_ifnonnull (tgt := 103) C.1 C.2.1 dX4_says_96 (by decide) ?_
    refine lv_aload_n C.1 C.2.1 dX4_says_103 rfl (lv_at hl 0 rfl) ?_
    refine p_get (j := 0) C hS ha (show vwCl[13]? = some (RX4, TX4, 1) from rfl) in_X4 (by decide) q233 rfl dX4_says_104 ?_
    refine t_castX (r := (RX9, TX9, 1)) hfl C0 D hP P_nil hS (by rw [hml]; exact hl.1) hlocks (P_mem (pl_at C.2.2.2.2.2.2.2.2 C.2.2.2.2.2.2.1 hS) hrw.2.2.2.1) rfl ⟨pk_shorts, by decide⟩ ⟨pk_overfed, by decide⟩ (List.mem_of_getElem? (i := 10) rfl) q627 dX4_says_107 ⟨Nat.le_of_ble_eq_true rfl, Nat.le_of_ble_eq_true rfl, Nat.le_of_ble_eq_true rfl, Nat.le_of_ble_eq_true rfl⟩ (fun H z8 ce hz hP _ hS g1 g2 g3 => ?_)
    refine t_catch (name := "java/lang/ClassCastException") (E := "java/lang/ClassCastException") C0 D [] ⟨0, 243, 244, 21⟩ [] htab (fun z hz => nomatch hz) rfl (by decide) q478 (List.mem_of_getElem? (i := 3) rfl) g1 g2 g3 ?_
    refine W.eq (g2 := F0 m 244 ls [.ref z8]) rfl ?_
    refine lv_astore_n (lv' := [(3, .ref z8), (0, .ref a), (1, .int p1), (2, .ref (ad 0))]) C.1 C.2.1 dX4_says_244 rfl hl (by decide) rfl (fun ls hl => ?_)
    obtain ⟨q9, hq9e⟩ : ∃ q, q = H.size := ⟨_, rfl⟩
    refine t_refuse18 (w := (-2)) (kp := 2) C0 D hml hl.1 hP rW_av P_nil hS q494 q495 dX4_says_245 dX4_says_248 (fun kk => lv_bipush (v := (-2)) C.1 C.2.1 dX4_says_249 (by decide) kk) dX4_says_251 dX4_says_254 ⟨Nat.le_of_ble_eq_true rfl, Nat.le_of_ble_eq_true rfl, Nat.le_of_ble_eq_true rfl, Nat.le_of_ble_eq_true rfl⟩ (fun H locs hq hc hP _ hS => ?_)
    rw [← hq9e] at hq hc ⊢
    obtain rfl := Option.some.inj hE
    refine vx_widen (k := 4) (n := 977) (Nat.le_of_ble_eq_true rfl) (Nat.le_of_ble_eq_true rfl) ?_
    exact hthr _ _ _ _ _ _ _ (by
      rw [htab]
      intro z hz
      have hz : z ∈ ([⟨0, 243, 244, 21⟩] : List ExceptionTableEntry) := hz
      simp only [List.mem_cons, List.not_mem_nil, or_false] at hz
      rcases hz with rfl
      · exact Or.inl rfl) rfl hq.2.2 hc hP hS
  have hE := it_f c7 hE
  by_cases c10 : p1 = 4
  · have hE := it_t c10 hE
    refine lv_tableIn (tgt := 117) C.1 C.2.1 dX4_says_1 (by rw [c10]; decide) (by rw [c10]; decide) (by rw [c10]; rfl) (by decide) ?_
    refine lv_aload_n C.1 C.2.1 dX4_says_117 rfl (lv_at hl 0 rfl) ?_
    refine p_get (j := 0) C hS ha (show vwCl[13]? = some (RX4, TX4, 1) from rfl) in_X4 (by decide) q233 rfl dX4_says_118 ?_
    refine lv_ifnonnull (tgt := 128) C.1 C.2.1 dX4_says_121 (by decide) ?_
    refine lv_aload_n C.1 C.2.1 dX4_says_128 rfl (lv_at hl 0 rfl) ?_
    refine p_get (j := 0) C hS ha (show vwCl[13]? = some (RX4, TX4, 1) from rfl) in_X4 (by decide) q233 rfl dX4_says_129 ?_
    refine t_castX (r := (RX9, TX9, 1)) hfl C0 D hP P_nil hS (by rw [hml]; exact hl.1) hlocks (P_mem (pl_at C.2.2.2.2.2.2.2.2 C.2.2.2.2.2.2.1 hS) hrw.2.2.2.1) rfl ⟨pk_shorts, by decide⟩ ⟨pk_far, by decide⟩ (List.mem_of_getElem? (i := 11) rfl) q629 dX4_says_132 ⟨Nat.le_of_ble_eq_true rfl, Nat.le_of_ble_eq_true rfl, Nat.le_of_ble_eq_true rfl, Nat.le_of_ble_eq_true rfl⟩ (fun H z11 ce hz hP _ hS g1 g2 g3 => ?_)
    refine t_catch (name := "java/lang/ClassCastException") (E := "java/lang/ClassCastException") C0 D [] ⟨0, 243, 244, 21⟩ [] htab (fun z hz => nomatch hz) rfl (by decide) q478 (List.mem_of_getElem? (i := 3) rfl) g1 g2 g3 ?_
    refine W.eq (g2 := F0 m 244 ls [.ref z11]) rfl ?_
    refine lv_astore_n (lv' := [(3, .ref z11), (0, .ref a), (1, .int p1), (2, .ref (ad 0))]) C.1 C.2.1 dX4_says_244 rfl hl (by decide) rfl (fun ls hl => ?_)
    obtain ⟨q12, hq12e⟩ : ∃ q, q = H.size := ⟨_, rfl⟩
    refine t_refuse18 (w := (-2)) (kp := 2) C0 D hml hl.1 hP rW_av P_nil hS q494 q495 dX4_says_245 dX4_says_248 (fun kk => lv_bipush (v := (-2)) C.1 C.2.1 dX4_says_249 (by decide) kk) dX4_says_251 dX4_says_254 ⟨Nat.le_of_ble_eq_true rfl, Nat.le_of_ble_eq_true rfl, Nat.le_of_ble_eq_true rfl, Nat.le_of_ble_eq_true rfl⟩ (fun H locs hq hc hP _ hS => ?_)
    rw [← hq12e] at hq hc ⊢
    obtain rfl := Option.some.inj hE
    refine vx_widen (k := 4) (n := 977) (Nat.le_of_ble_eq_true rfl) (Nat.le_of_ble_eq_true rfl) ?_
    exact hthr _ _ _ _ _ _ _ (by
      rw [htab]
      intro z hz
      have hz : z ∈ ([⟨0, 243, 244, 21⟩] : List ExceptionTableEntry) := hz
      simp only [List.mem_cons, List.not_mem_nil, or_false] at hz
      rcases hz with rfl
      · exact Or.inl rfl) rfl hq.2.2 hc hP hS
  have hE := it_f c10 hE
  by_cases c13 : p1 = 5
  · have hE := it_t c13 hE
    refine lv_tableIn (tgt := 144) C.1 C.2.1 dX4_says_1 (by rw [c13]; decide) (by rw [c13]; decide) (by rw [c13]; rfl) (by decide) ?_
    refine lv_aload_n C.1 C.2.1 dX4_says_144 rfl (lv_at hl 0 rfl) ?_
    refine p_get (j := 0) C hS ha (show vwCl[13]? = some (RX4, TX4, 1) from rfl) in_X4 (by decide) q233 rfl dX4_says_145 ?_
    refine lv_ifnonnull (tgt := 155) C.1 C.2.1 dX4_says_148 (by decide) ?_
    refine lv_aload_n C.1 C.2.1 dX4_says_155 rfl (lv_at hl 0 rfl) ?_
    refine p_get (j := 0) C hS ha (show vwCl[13]? = some (RX4, TX4, 1) from rfl) in_X4 (by decide) q233 rfl dX4_says_156 ?_
    refine t_castX (r := (RX9, TX9, 1)) hfl C0 D hP P_nil hS (by rw [hml]; exact hl.1) hlocks (P_mem (pl_at C.2.2.2.2.2.2.2.2 C.2.2.2.2.2.2.1 hS) hrw.2.2.2.1) rfl ⟨pk_shorts, by decide⟩ ⟨pk_dog, by decide⟩ (List.mem_of_getElem? (i := 12) rfl) q640 dX4_says_159 ⟨Nat.le_of_ble_eq_true rfl, Nat.le_of_ble_eq_true rfl, Nat.le_of_ble_eq_true rfl, Nat.le_of_ble_eq_true rfl⟩ (fun H z14 ce hz hP _ hS g1 g2 g3 => ?_)
    refine t_catch (name := "java/lang/ClassCastException") (E := "java/lang/ClassCastException") C0 D [] ⟨0, 243, 244, 21⟩ [] htab (fun z hz => nomatch hz) rfl (by decide) q478 (List.mem_of_getElem? (i := 3) rfl) g1 g2 g3 ?_
    refine W.eq (g2 := F0 m 244 ls [.ref z14]) rfl ?_
    refine lv_astore_n (lv' := [(3, .ref z14), (0, .ref a), (1, .int p1), (2, .ref (ad 0))]) C.1 C.2.1 dX4_says_244 rfl hl (by decide) rfl (fun ls hl => ?_)
    obtain ⟨q15, hq15e⟩ : ∃ q, q = H.size := ⟨_, rfl⟩
    refine t_refuse18 (w := (-2)) (kp := 2) C0 D hml hl.1 hP rW_av P_nil hS q494 q495 dX4_says_245 dX4_says_248 (fun kk => lv_bipush (v := (-2)) C.1 C.2.1 dX4_says_249 (by decide) kk) dX4_says_251 dX4_says_254 ⟨Nat.le_of_ble_eq_true rfl, Nat.le_of_ble_eq_true rfl, Nat.le_of_ble_eq_true rfl, Nat.le_of_ble_eq_true rfl⟩ (fun H locs hq hc hP _ hS => ?_)
    rw [← hq15e] at hq hc ⊢
    obtain rfl := Option.some.inj hE
    refine vx_widen (k := 4) (n := 977) (Nat.le_of_ble_eq_true rfl) (Nat.le_of_ble_eq_true rfl) ?_
    exact hthr _ _ _ _ _ _ _ (by
      rw [htab]
      intro z hz
      have hz : z ∈ ([⟨0, 243, 244, 21⟩] : List ExceptionTableEntry) := hz
      simp only [List.mem_cons, List.not_mem_nil, or_false] at hz
      rcases hz with rfl
      · exact Or.inl rfl) rfl hq.2.2 hc hP hS
  have hE := it_f c13 hE
  by_cases c16 : p1 = 6
  · have hE := it_t c16 hE
    refine lv_tableIn (tgt := 171) C.1 C.2.1 dX4_says_1 (by rw [c16]; decide) (by rw [c16]; decide) (by rw [c16]; rfl) (by decide) ?_
    refine lv_aload_n C.1 C.2.1 dX4_says_171 rfl (lv_at hl 0 rfl) ?_
    refine p_get (j := 0) C hS ha (show vwCl[13]? = some (RX4, TX4, 1) from rfl) in_X4 (by decide) q233 rfl dX4_says_172 ?_
    refine lv_ifnonnull (tgt := 182) C.1 C.2.1 dX4_says_175 (by decide) ?_
    refine lv_aload_n C.1 C.2.1 dX4_says_182 rfl (lv_at hl 0 rfl) ?_
    refine p_get (j := 0) C hS ha (show vwCl[13]? = some (RX4, TX4, 1) from rfl) in_X4 (by decide) q233 rfl dX4_says_183 ?_
    refine t_castX (r := (RX9, TX9, 1)) hfl C0 D hP P_nil hS (by rw [hml]; exact hl.1) hlocks (P_mem (pl_at C.2.2.2.2.2.2.2.2 C.2.2.2.2.2.2.1 hS) hrw.2.2.2.1) rfl ⟨pk_shorts, by decide⟩ ⟨pk_bus, by decide⟩ (List.mem_of_getElem? (i := 13) rfl) q642 dX4_says_186 ⟨Nat.le_of_ble_eq_true rfl, Nat.le_of_ble_eq_true rfl, Nat.le_of_ble_eq_true rfl, Nat.le_of_ble_eq_true rfl⟩ (fun H z17 ce hz hP _ hS g1 g2 g3 => ?_)
    refine t_catch (name := "java/lang/ClassCastException") (E := "java/lang/ClassCastException") C0 D [] ⟨0, 243, 244, 21⟩ [] htab (fun z hz => nomatch hz) rfl (by decide) q478 (List.mem_of_getElem? (i := 3) rfl) g1 g2 g3 ?_
    refine W.eq (g2 := F0 m 244 ls [.ref z17]) rfl ?_
    refine lv_astore_n (lv' := [(3, .ref z17), (0, .ref a), (1, .int p1), (2, .ref (ad 0))]) C.1 C.2.1 dX4_says_244 rfl hl (by decide) rfl (fun ls hl => ?_)
    obtain ⟨q18, hq18e⟩ : ∃ q, q = H.size := ⟨_, rfl⟩
    refine t_refuse18 (w := (-2)) (kp := 2) C0 D hml hl.1 hP rW_av P_nil hS q494 q495 dX4_says_245 dX4_says_248 (fun kk => lv_bipush (v := (-2)) C.1 C.2.1 dX4_says_249 (by decide) kk) dX4_says_251 dX4_says_254 ⟨Nat.le_of_ble_eq_true rfl, Nat.le_of_ble_eq_true rfl, Nat.le_of_ble_eq_true rfl, Nat.le_of_ble_eq_true rfl⟩ (fun H locs hq hc hP _ hS => ?_)
    rw [← hq18e] at hq hc ⊢
    obtain rfl := Option.some.inj hE
    refine vx_widen (k := 4) (n := 977) (Nat.le_of_ble_eq_true rfl) (Nat.le_of_ble_eq_true rfl) ?_
    exact hthr _ _ _ _ _ _ _ (by
      rw [htab]
      intro z hz
      have hz : z ∈ ([⟨0, 243, 244, 21⟩] : List ExceptionTableEntry) := hz
      simp only [List.mem_cons, List.not_mem_nil, or_false] at hz
      rcases hz with rfl
      · exact Or.inl rfl) rfl hq.2.2 hc hP hS
  have hE := it_f c16 hE
  refine lv_tableOut (tgt := 198) C.1 C.2.1 dX4_says_1 (ts_e (ts_s (ts_s (ts_s (ts_s (ts_s (ts_s (ts_0 1) c1 rfl rfl) c4 rfl rfl) c7 rfl rfl) c10 rfl rfl) c13 rfl rfl) c16 rfl rfl) rfl) (by decide) ?_
  refine lv_aload_n C.1 C.2.1 dX4_says_198 rfl (lv_at hl 0 rfl) ?_
  refine p_get (j := 0) C hS ha (show vwCl[13]? = some (RX4, TX4, 1) from rfl) in_X4 (by decide) q233 rfl dX4_says_199 ?_
  refine lv_ifnonnull (tgt := 209) C.1 C.2.1 dX4_says_202 (by decide) ?_
  refine lv_aload_n C.1 C.2.1 dX4_says_209 rfl (lv_at hl 2 rfl) ?_
  refine rWg_0_7 q198 C hP dX4_says_210 ?_
  refine lv_aload_n C.1 C.2.1 dX4_says_213 rfl (lv_at hl 0 rfl) ?_
  refine p_get (j := 0) C hS ha (show vwCl[13]? = some (RX4, TX4, 1) from rfl) in_X4 (by decide) q233 rfl dX4_says_214 ?_
  refine t_castX (r := (RX9, TX9, 1)) hfl C0 D hP P_nil hS (by rw [hml]; exact hl.1) hlocks (P_mem (pl_at C.2.2.2.2.2.2.2.2 C.2.2.2.2.2.2.1 hS) hrw.2.2.2.1) rfl ⟨pk_shorts, by decide⟩ ⟨pk_home, by decide⟩ (List.mem_of_getElem? (i := 7) rfl) q520 dX4_says_217 ⟨Nat.le_of_ble_eq_true rfl, Nat.le_of_ble_eq_true rfl, Nat.le_of_ble_eq_true rfl, Nat.le_of_ble_eq_true rfl⟩ (fun H z19 ce hz hP _ hS g1 g2 g3 => ?_)
  refine t_catch (name := "java/lang/ClassCastException") (E := "java/lang/ClassCastException") C0 D [] ⟨0, 243, 244, 21⟩ [] htab (fun z hz => nomatch hz) rfl (by decide) q478 (List.mem_of_getElem? (i := 3) rfl) g1 g2 g3 ?_
  refine W.eq (g2 := F0 m 244 ls [.ref z19]) rfl ?_
  refine lv_astore_n (lv' := [(3, .ref z19), (0, .ref a), (1, .int p1), (2, .ref (ad 0))]) C.1 C.2.1 dX4_says_244 rfl hl (by decide) rfl (fun ls hl => ?_)
  obtain ⟨q20, hq20e⟩ : ∃ q, q = H.size := ⟨_, rfl⟩
  refine t_refuse18 (w := (-2)) (kp := 2) C0 D hml hl.1 hP rW_av P_nil hS q494 q495 dX4_says_245 dX4_says_248 (fun kk => lv_bipush (v := (-2)) C.1 C.2.1 dX4_says_249 (by decide) kk) dX4_says_251 dX4_says_254 ⟨Nat.le_of_ble_eq_true rfl, Nat.le_of_ble_eq_true rfl, Nat.le_of_ble_eq_true rfl, Nat.le_of_ble_eq_true rfl⟩ (fun H locs hq hc hP _ hS => ?_)
  rw [← hq20e] at hq hc ⊢
  obtain rfl := Option.some.inj hE
  refine vx_widen (k := 4) (n := 977) (Nat.le_of_ble_eq_true rfl) (Nat.le_of_ble_eq_true rfl) ?_
  exact hthr _ _ _ _ _ _ _ (by
      rw [htab]
      intro z hz
      have hz : z ∈ ([⟨0, 243, 244, 21⟩] : List ExceptionTableEntry) := hz
      simp only [List.mem_cons, List.not_mem_nil, or_false] at hz
      rcases hz with rfl
      · exact Or.inl rfl) rfl hq.2.2 hc hP hS
def sC_Shelf_says_R_2 (p1 : Int32) : Option (Option Int32 × Int32) :=
  if p1 = 1 then
    some (some (-2), 0)
  else
  if p1 = 2 then
    some (some (-2), 0)
  else
  if p1 = 3 then
    some (some (-2), 0)
  else
  if p1 = 4 then
    some (some (-2), 0)
  else
  if p1 = 5 then
    some (some (-2), 0)
  else
  if p1 = 6 then
    some (some (-2), 0)
  else
  some (some (-2), 0)
set_option maxHeartbeats 4000000 in
theorem metC_Shelf_says_R_2 (l : Launch) (hfl : l.stackTraces = false) (G : kG) (ad : Nat → Nat) (pl : va_W) (sz : Nat) (v_many : Int32) (v_pets : Int32) (v_last : Int32) (v_seed : Int32) (v_weight : Int32) (v_fright : Int32) (v_age : Int32) (v_asked : Nat → Int32) (v_homes : Nat → Option Nat) (v_marks : Nat → Int32) (v_had : Nat → Int32) (v_allergic : Nat → Int32) (v_deaths : Nat → Int32) (a q b n : Nat) (rx : Nat → Int64) (p1 : Int32) (ha : (a, .inr (13, [.ref q])) ∈ pl) (hrw : rowIn G q 2 b n rx pl) (res : Option Int32 × Int32) (hE : sC_Shelf_says_R_2 p1 = some res) : vx_Met l yX4_says (wsW_ yX4_says cX4_says 4 (some .int) [((0 : Nat), (243 : Nat), (244 : Nat), (21 : Nat))]) ({ frames := 9, cells := 4, slots := 977, locals := 10281 } : Room) (rPc G (rW G.2 ad v_many v_pets v_last v_seed v_weight v_fright v_age v_asked v_homes v_marks v_had v_allergic v_deaths) pl (rWV ad) sz [.ref a, .int p1, .ref (ad 0)]) (tQc G (rW G.2 ad v_many v_pets v_last v_seed v_weight v_fright v_age v_asked v_homes v_marks v_had v_allergic v_deaths) [] (tA sz (rWV ad) []) (res.1 = none) (some (.int res.2))) (tXC G (rW G.2 ad v_many v_pets v_last v_seed v_weight v_fright v_age v_asked v_homes v_marks v_had v_allergic v_deaths) [] (tA sz (rWV ad) []) 18 RX6 res.1 sz) 4 977 (tA sz (rWV ad) []) := by
  refine r_ofWH (own := RX4) (by decide) rfl (Nat.le_of_ble_eq_true rfl) ?_
  intro p e s m args below meth c ls C C0 D hml htab hP hS hl hr hlocks hsz
  have hl : lv_has ls 4 [(0, .ref a), (1, .int p1), (2, .ref (ad 0))] := hl
  obtain ⟨Q, hQ⟩ : ∃ Q, Q = vx_MQ below (tQc G (rW G.2 ad v_many v_pets v_last v_seed v_weight v_fright v_age v_asked v_homes v_marks v_had v_allergic v_deaths) [] (tA sz (rWV ad) []) (res.1 = none) (some (.int res.2))) (tXC G (rW G.2 ad v_many v_pets v_last v_seed v_weight v_fright v_age v_asked v_homes v_marks v_had v_allergic v_deaths) [] (tA sz (rWV ad) []) 18 RX6 res.1 sz) args s 4 977 (tA sz (rWV ad) []) := ⟨_, rfl⟩
  rw [← hQ]
  have hret : ∀ (pc : Nat) (ls : Array Slot) (H : Heap) (locs : List Loc), decode cX4_says pc = .ok (.ireturn, 1) → res.1 = none → va_P G.1 vwCl (rW G.2 ad v_many v_pets v_last v_seed v_weight v_fright v_age v_asked v_homes v_marks v_had v_allergic v_deaths) H → va_S (tA sz (rWV ad) []) s.heap H locs → W p l e ({ frames := 9, cells := 4, slots := 977, locals := 10281 } : Room) s m args below meth c H locs 4 977 Q (F0 m pc ls [(.int res.2)]) := by
    intro pc ls H locs hd hφ hP hS
    rw [hQ]
    exact t_iret C0 hr hlocks hd hφ hP P_nil hS
  have hthr : ∀ (pc : Nat) (ls : Array Slot) (rest : List Value) (H : Heap) (locs : List Loc) (w : Int32) (q : Nat), (∀ z ∈ c.exceptionTable.toList, covers z pc = false ∨ (z.catchType ≠ 0 ∧ ∃ nm : String, (Cond.classLink RX4 z.catchType nm).before args s = true ∧ va_Nc RX6 nm s)) → res.1 = some w → s.heap.size ≤ q → va_P G.1 vwCl [(q, .inr (18, xF w))] H → va_P G.1 vwCl (rW G.2 ad v_many v_pets v_last v_seed v_weight v_fright v_age v_asked v_homes v_marks v_had v_allergic v_deaths) H → va_S (tA sz (rWV ad) []) s.heap H locs → vx_W p l e ({ frames := 9, cells := 4, slots := 977, locals := 10281 } : Room) s m args below meth c H locs 4 977 Q (F0 m pc ls rest) q := by
    intro pc ls rest H locs w q hout hw hq hc hP hS
    rw [hQ]
    exact t_outP (r := (RX6, TX6, 7)) C0 rfl hout hlocks hw (by omega) hc hP P_nil hS
  clear hQ
  obtain ⟨H, hH⟩ : ∃ H, H = s.heap := ⟨_, rfl⟩
  obtain ⟨locs, hlo⟩ : ∃ locs : List Loc, locs = [] := ⟨_, rfl⟩
  have hP : va_P G.1 vwCl (rW G.2 ad v_many v_pets v_last v_seed v_weight v_fright v_age v_asked v_homes v_marks v_had v_allergic v_deaths) H := by rw [hH]; exact hP
  have hS : va_S (tA sz (rWV ad) []) s.heap H locs := by rw [hH, hlo]; exact hS
  suffices hZ : W p l e ({ frames := 9, cells := 4, slots := 977, locals := 10281 } : Room) s m args below meth c H locs 0 0 Q (F0 m 0 ls []) by rw [hH, hlo] at hZ; exact hZ
  clear hH hlo
  unfold sC_Shelf_says_R_2 at hE
  refine lv_iload_n C.1 C.2.1 dX4_says_0 rfl (lv_at hl 1 rfl) ?_
  by_cases c1 : p1 = 1
  · have hE := it_t c1 hE
    refine lv_tableIn (tgt := 40) C.1 C.2.1 dX4_says_1 (by rw [c1]; decide) (by rw [c1]; decide) (by rw [c1]; rfl) (by decide) ?_
    refine lv_aload_n C.1 C.2.1 dX4_says_40 rfl (lv_at hl 0 rfl) ?_
    refine p_get (j := 0) C hS ha (show vwCl[13]? = some (RX4, TX4, 1) from rfl) in_X4 (by decide) q233 rfl dX4_says_41 ?_
    refine lv_ifnonnull (tgt := 51) C.1 C.2.1 dX4_says_44 (by decide) ?_
    refine lv_aload_n C.1 C.2.1 dX4_says_51 rfl (lv_at hl 0 rfl) ?_
    refine p_get (j := 0) C hS ha (show vwCl[13]? = some (RX4, TX4, 1) from rfl) in_X4 (by decide) q233 rfl dX4_says_52 ?_
    refine t_castX (r := (RX10, TX10, 1)) hfl C0 D hP P_nil hS (by rw [hml]; exact hl.1) hlocks (P_mem (pl_at C.2.2.2.2.2.2.2.2 C.2.2.2.2.2.2.1 hS) hrw.2.2.2.1) rfl ⟨pk_ints, by decide⟩ ⟨pk_good, by decide⟩ (List.mem_of_getElem? (i := 15) rfl) q601 dX4_says_55 ⟨Nat.le_of_ble_eq_true rfl, Nat.le_of_ble_eq_true rfl, Nat.le_of_ble_eq_true rfl, Nat.le_of_ble_eq_true rfl⟩ (fun H z2 ce hz hP _ hS g1 g2 g3 => ?_)
    refine t_catch (name := "java/lang/ClassCastException") (E := "java/lang/ClassCastException") C0 D [] ⟨0, 243, 244, 21⟩ [] htab (fun z hz => nomatch hz) rfl (by decide) q478 (List.mem_of_getElem? (i := 3) rfl) g1 g2 g3 ?_
    refine W.eq (g2 := F0 m 244 ls [.ref z2]) rfl ?_
    refine lv_astore_n (lv' := [(3, .ref z2), (0, .ref a), (1, .int p1), (2, .ref (ad 0))]) C.1 C.2.1 dX4_says_244 rfl hl (by decide) rfl (fun ls hl => ?_)
    obtain ⟨q3, hq3e⟩ : ∃ q, q = H.size := ⟨_, rfl⟩
    refine t_refuse18 (w := (-2)) (kp := 2) C0 D hml hl.1 hP rW_av P_nil hS q494 q495 dX4_says_245 dX4_says_248 (fun kk => lv_bipush (v := (-2)) C.1 C.2.1 dX4_says_249 (by decide) kk) dX4_says_251 dX4_says_254 ⟨Nat.le_of_ble_eq_true rfl, Nat.le_of_ble_eq_true rfl, Nat.le_of_ble_eq_true rfl, Nat.le_of_ble_eq_true rfl⟩ (fun H locs hq hc hP _ hS => ?_)
    rw [← hq3e] at hq hc ⊢
    obtain rfl := Option.some.inj hE
    refine vx_widen (k := 4) (n := 977) (Nat.le_of_ble_eq_true rfl) (Nat.le_of_ble_eq_true rfl) ?_
    exact hthr _ _ _ _ _ _ _ (by
      rw [htab]
      intro z hz
      have hz : z ∈ ([⟨0, 243, 244, 21⟩] : List ExceptionTableEntry) := hz
      simp only [List.mem_cons, List.not_mem_nil, or_false] at hz
      rcases hz with rfl
      · exact Or.inl rfl) rfl hq.2.2 hc hP hS
  have hE := it_f c1 hE
  by_cases c4 : p1 = 2
  · have hE := it_t c4 hE
    refine lv_tableIn (tgt := 65) C.1 C.2.1 dX4_says_1 (by rw [c4]; decide) (by rw [c4]; decide) (by rw [c4]; rfl) (by decide) ?_
    refine lv_aload_n C.1 C.2.1 dX4_says_65 rfl (lv_at hl 0 rfl) ?_
    refine p_get (j := 0) C hS ha (show vwCl[13]? = some (RX4, TX4, 1) from rfl) in_X4 (by decide) q233 rfl dX4_says_66 ?_
    refine lv_ifnonnull (tgt := 76) C.1 C.2.1 dX4_says_69 (by decide) ?_
    refine lv_aload_n C.1 C.2.1 dX4_says_76 rfl (lv_at hl 0 rfl) ?_
    refine p_get (j := 0) C hS ha (show vwCl[13]? = some (RX4, TX4, 1) from rfl) in_X4 (by decide) q233 rfl dX4_says_77 ?_
    refine t_castX (r := (RX10, TX10, 1)) hfl C0 D hP P_nil hS (by rw [hml]; exact hl.1) hlocks (P_mem (pl_at C.2.2.2.2.2.2.2.2 C.2.2.2.2.2.2.1 hS) hrw.2.2.2.1) rfl ⟨pk_ints, by decide⟩ ⟨pk_cat, by decide⟩ (List.mem_of_getElem? (i := 16) rfl) q612 dX4_says_80 ⟨Nat.le_of_ble_eq_true rfl, Nat.le_of_ble_eq_true rfl, Nat.le_of_ble_eq_true rfl, Nat.le_of_ble_eq_true rfl⟩ (fun H z5 ce hz hP _ hS g1 g2 g3 => ?_)
    refine t_catch (name := "java/lang/ClassCastException") (E := "java/lang/ClassCastException") C0 D [] ⟨0, 243, 244, 21⟩ [] htab (fun z hz => nomatch hz) rfl (by decide) q478 (List.mem_of_getElem? (i := 3) rfl) g1 g2 g3 ?_
    refine W.eq (g2 := F0 m 244 ls [.ref z5]) rfl ?_
    refine lv_astore_n (lv' := [(3, .ref z5), (0, .ref a), (1, .int p1), (2, .ref (ad 0))]) C.1 C.2.1 dX4_says_244 rfl hl (by decide) rfl (fun ls hl => ?_)
    obtain ⟨q6, hq6e⟩ : ∃ q, q = H.size := ⟨_, rfl⟩
    refine t_refuse18 (w := (-2)) (kp := 2) C0 D hml hl.1 hP rW_av P_nil hS q494 q495 dX4_says_245 dX4_says_248 (fun kk => lv_bipush (v := (-2)) C.1 C.2.1 dX4_says_249 (by decide) kk) dX4_says_251 dX4_says_254 ⟨Nat.le_of_ble_eq_true rfl, Nat.le_of_ble_eq_true rfl, Nat.le_of_ble_eq_true rfl, Nat.le_of_ble_eq_true rfl⟩ (fun H locs hq hc hP _ hS => ?_)
    rw [← hq6e] at hq hc ⊢
    obtain rfl := Option.some.inj hE
    refine vx_widen (k := 4) (n := 977) (Nat.le_of_ble_eq_true rfl) (Nat.le_of_ble_eq_true rfl) ?_
    exact hthr _ _ _ _ _ _ _ (by
      rw [htab]
      intro z hz
      have hz : z ∈ ([⟨0, 243, 244, 21⟩] : List ExceptionTableEntry) := hz
      simp only [List.mem_cons, List.not_mem_nil, or_false] at hz
      rcases hz with rfl
      · exact Or.inl rfl) rfl hq.2.2 hc hP hS
  have hE := it_f c4 hE
  by_cases c7 : p1 = 3
  · have hE := it_t c7 hE
    refine lv_tableIn (tgt := 92) C.1 C.2.1 dX4_says_1 (by rw [c7]; decide) (by rw [c7]; decide) (by rw [c7]; rfl) (by decide) ?_
    refine lv_aload_n C.1 C.2.1 dX4_says_92 rfl (lv_at hl 0 rfl) ?_
    refine p_get (j := 0) C hS ha (show vwCl[13]? = some (RX4, TX4, 1) from rfl) in_X4 (by decide) q233 rfl dX4_says_93 ?_
    refine lv_ifnonnull (tgt := 103) C.1 C.2.1 dX4_says_96 (by decide) ?_
    refine lv_aload_n C.1 C.2.1 dX4_says_103 rfl (lv_at hl 0 rfl) ?_
    refine p_get (j := 0) C hS ha (show vwCl[13]? = some (RX4, TX4, 1) from rfl) in_X4 (by decide) q233 rfl dX4_says_104 ?_
    refine t_castX (r := (RX10, TX10, 1)) hfl C0 D hP P_nil hS (by rw [hml]; exact hl.1) hlocks (P_mem (pl_at C.2.2.2.2.2.2.2.2 C.2.2.2.2.2.2.1 hS) hrw.2.2.2.1) rfl ⟨pk_ints, by decide⟩ ⟨pk_overfed, by decide⟩ (List.mem_of_getElem? (i := 17) rfl) q627 dX4_says_107 ⟨Nat.le_of_ble_eq_true rfl, Nat.le_of_ble_eq_true rfl, Nat.le_of_ble_eq_true rfl, Nat.le_of_ble_eq_true rfl⟩ (fun H z8 ce hz hP _ hS g1 g2 g3 => ?_)
    refine t_catch (name := "java/lang/ClassCastException") (E := "java/lang/ClassCastException") C0 D [] ⟨0, 243, 244, 21⟩ [] htab (fun z hz => nomatch hz) rfl (by decide) q478 (List.mem_of_getElem? (i := 3) rfl) g1 g2 g3 ?_
    refine W.eq (g2 := F0 m 244 ls [.ref z8]) rfl ?_
    refine lv_astore_n (lv' := [(3, .ref z8), (0, .ref a), (1, .int p1), (2, .ref (ad 0))]) C.1 C.2.1 dX4_says_244 rfl hl (by decide) rfl (fun ls hl => ?_)
    obtain ⟨q9, hq9e⟩ : ∃ q, q = H.size := ⟨_, rfl⟩
    refine t_refuse18 (w := (-2)) (kp := 2) C0 D hml hl.1 hP rW_av P_nil hS q494 q495 dX4_says_245 dX4_says_248 (fun kk => lv_bipush (v := (-2)) C.1 C.2.1 dX4_says_249 (by decide) kk) dX4_says_251 dX4_says_254 ⟨Nat.le_of_ble_eq_true rfl, Nat.le_of_ble_eq_true rfl, Nat.le_of_ble_eq_true rfl, Nat.le_of_ble_eq_true rfl⟩ (fun H locs hq hc hP _ hS => ?_)
    rw [← hq9e] at hq hc ⊢
    obtain rfl := Option.some.inj hE
    refine vx_widen (k := 4) (n := 977) (Nat.le_of_ble_eq_true rfl) (Nat.le_of_ble_eq_true rfl) ?_
    exact hthr _ _ _ _ _ _ _ (by
      rw [htab]
      intro z hz
      have hz : z ∈ ([⟨0, 243, 244, 21⟩] : List ExceptionTableEntry) := hz
      simp only [List.mem_cons, List.not_mem_nil, or_false] at hz
      rcases hz with rfl
      · exact Or.inl rfl) rfl hq.2.2 hc hP hS
  have hE := it_f c7 hE
  by_cases c10 : p1 = 4
  · have hE := it_t c10 hE
    refine lv_tableIn (tgt := 117) C.1 C.2.1 dX4_says_1 (by rw [c10]; decide) (by rw [c10]; decide) (by rw [c10]; rfl) (by decide) ?_
    refine lv_aload_n C.1 C.2.1 dX4_says_117 rfl (lv_at hl 0 rfl) ?_
    refine p_get (j := 0) C hS ha (show vwCl[13]? = some (RX4, TX4, 1) from rfl) in_X4 (by decide) q233 rfl dX4_says_118 ?_
    refine lv_ifnonnull (tgt := 128) C.1 C.2.1 dX4_says_121 (by decide) ?_
    refine lv_aload_n C.1 C.2.1 dX4_says_128 rfl (lv_at hl 0 rfl) ?_
    refine p_get (j := 0) C hS ha (show vwCl[13]? = some (RX4, TX4, 1) from rfl) in_X4 (by decide) q233 rfl dX4_says_129 ?_
    refine t_castX (r := (RX10, TX10, 1)) hfl C0 D hP P_nil hS (by rw [hml]; exact hl.1) hlocks (P_mem (pl_at C.2.2.2.2.2.2.2.2 C.2.2.2.2.2.2.1 hS) hrw.2.2.2.1) rfl ⟨pk_ints, by decide⟩ ⟨pk_far, by decide⟩ (List.mem_of_getElem? (i := 18) rfl) q629 dX4_says_132 ⟨Nat.le_of_ble_eq_true rfl, Nat.le_of_ble_eq_true rfl, Nat.le_of_ble_eq_true rfl, Nat.le_of_ble_eq_true rfl⟩ (fun H z11 ce hz hP _ hS g1 g2 g3 => ?_)
    refine t_catch (name := "java/lang/ClassCastException") (E := "java/lang/ClassCastException") C0 D [] ⟨0, 243, 244, 21⟩ [] htab (fun z hz => nomatch hz) rfl (by decide) q478 (List.mem_of_getElem? (i := 3) rfl) g1 g2 g3 ?_
    refine W.eq (g2 := F0 m 244 ls [.ref z11]) rfl ?_
    refine lv_astore_n (lv' := [(3, .ref z11), (0, .ref a), (1, .int p1), (2, .ref (ad 0))]) C.1 C.2.1 dX4_says_244 rfl hl (by decide) rfl (fun ls hl => ?_)
    obtain ⟨q12, hq12e⟩ : ∃ q, q = H.size := ⟨_, rfl⟩
    refine t_refuse18 (w := (-2)) (kp := 2) C0 D hml hl.1 hP rW_av P_nil hS q494 q495 dX4_says_245 dX4_says_248 (fun kk => lv_bipush (v := (-2)) C.1 C.2.1 dX4_says_249 (by decide) kk) dX4_says_251 dX4_says_254 ⟨Nat.le_of_ble_eq_true rfl, Nat.le_of_ble_eq_true rfl, Nat.le_of_ble_eq_true rfl, Nat.le_of_ble_eq_true rfl⟩ (fun H locs hq hc hP _ hS => ?_)
    rw [← hq12e] at hq hc ⊢
    obtain rfl := Option.some.inj hE
    refine vx_widen (k := 4) (n := 977) (Nat.le_of_ble_eq_true rfl) (Nat.le_of_ble_eq_true rfl) ?_
    exact hthr _ _ _ _ _ _ _ (by
      rw [htab]
      intro z hz
      have hz : z ∈ ([⟨0, 243, 244, 21⟩] : List ExceptionTableEntry) := hz
      simp only [List.mem_cons, List.not_mem_nil, or_false] at hz
      rcases hz with rfl
      · exact Or.inl rfl) rfl hq.2.2 hc hP hS
  have hE := it_f c10 hE
  by_cases c13 : p1 = 5
  · have hE := it_t c13 hE
    refine lv_tableIn (tgt := 144) C.1 C.2.1 dX4_says_1 (by rw [c13]; decide) (by rw [c13]; decide) (by rw [c13]; rfl) (by decide) ?_
    refine lv_aload_n C.1 C.2.1 dX4_says_144 rfl (lv_at hl 0 rfl) ?_
    refine p_get (j := 0) C hS ha (show vwCl[13]? = some (RX4, TX4, 1) from rfl) in_X4 (by decide) q233 rfl dX4_says_145 ?_
    refine lv_ifnonnull (tgt := 155) C.1 C.2.1 dX4_says_148 (by decide) ?_
    refine lv_aload_n C.1 C.2.1 dX4_says_155 rfl (lv_at hl 0 rfl) ?_
    refine p_get (j := 0) C hS ha (show vwCl[13]? = some (RX4, TX4, 1) from rfl) in_X4 (by decide) q233 rfl dX4_says_156 ?_
    refine t_castX (r := (RX10, TX10, 1)) hfl C0 D hP P_nil hS (by rw [hml]; exact hl.1) hlocks (P_mem (pl_at C.2.2.2.2.2.2.2.2 C.2.2.2.2.2.2.1 hS) hrw.2.2.2.1) rfl ⟨pk_ints, by decide⟩ ⟨pk_dog, by decide⟩ (List.mem_of_getElem? (i := 19) rfl) q640 dX4_says_159 ⟨Nat.le_of_ble_eq_true rfl, Nat.le_of_ble_eq_true rfl, Nat.le_of_ble_eq_true rfl, Nat.le_of_ble_eq_true rfl⟩ (fun H z14 ce hz hP _ hS g1 g2 g3 => ?_)
    refine t_catch (name := "java/lang/ClassCastException") (E := "java/lang/ClassCastException") C0 D [] ⟨0, 243, 244, 21⟩ [] htab (fun z hz => nomatch hz) rfl (by decide) q478 (List.mem_of_getElem? (i := 3) rfl) g1 g2 g3 ?_
    refine W.eq (g2 := F0 m 244 ls [.ref z14]) rfl ?_
    refine lv_astore_n (lv' := [(3, .ref z14), (0, .ref a), (1, .int p1), (2, .ref (ad 0))]) C.1 C.2.1 dX4_says_244 rfl hl (by decide) rfl (fun ls hl => ?_)
    obtain ⟨q15, hq15e⟩ : ∃ q, q = H.size := ⟨_, rfl⟩
    refine t_refuse18 (w := (-2)) (kp := 2) C0 D hml hl.1 hP rW_av P_nil hS q494 q495 dX4_says_245 dX4_says_248 (fun kk => lv_bipush (v := (-2)) C.1 C.2.1 dX4_says_249 (by decide) kk) dX4_says_251 dX4_says_254 ⟨Nat.le_of_ble_eq_true rfl, Nat.le_of_ble_eq_true rfl, Nat.le_of_ble_eq_true rfl, Nat.le_of_ble_eq_true rfl⟩ (fun H locs hq hc hP _ hS => ?_)
    rw [← hq15e] at hq hc ⊢
    obtain rfl := Option.some.inj hE
    refine vx_widen (k := 4) (n := 977) (Nat.le_of_ble_eq_true rfl) (Nat.le_of_ble_eq_true rfl) ?_
    exact hthr _ _ _ _ _ _ _ (by
      rw [htab]
      intro z hz
      have hz : z ∈ ([⟨0, 243, 244, 21⟩] : List ExceptionTableEntry) := hz
      simp only [List.mem_cons, List.not_mem_nil, or_false] at hz
      rcases hz with rfl
      · exact Or.inl rfl) rfl hq.2.2 hc hP hS
  have hE := it_f c13 hE
  by_cases c16 : p1 = 6
  · have hE := it_t c16 hE
    refine lv_tableIn (tgt := 171) C.1 C.2.1 dX4_says_1 (by rw [c16]; decide) (by rw [c16]; decide) (by rw [c16]; rfl) (by decide) ?_
    refine lv_aload_n C.1 C.2.1 dX4_says_171 rfl (lv_at hl 0 rfl) ?_
    refine p_get (j := 0) C hS ha (show vwCl[13]? = some (RX4, TX4, 1) from rfl) in_X4 (by decide) q233 rfl dX4_says_172 ?_
    refine lv_ifnonnull (tgt := 182) C.1 C.2.1 dX4_says_175 (by decide) ?_
    refine lv_aload_n C.1 C.2.1 dX4_says_182 rfl (lv_at hl 0 rfl) ?_
    refine p_get (j := 0) C hS ha (show vwCl[13]? = some (RX4, TX4, 1) from rfl) in_X4 (by decide) q233 rfl dX4_says_183 ?_
    refine t_castX (r := (RX10, TX10, 1)) hfl C0 D hP P_nil hS (by rw [hml]; exact hl.1) hlocks (P_mem (pl_at C.2.2.2.2.2.2.2.2 C.2.2.2.2.2.2.1 hS) hrw.2.2.2.1) rfl ⟨pk_ints, by decide⟩ ⟨pk_bus, by decide⟩ (List.mem_of_getElem? (i := 20) rfl) q642 dX4_says_186 ⟨Nat.le_of_ble_eq_true rfl, Nat.le_of_ble_eq_true rfl, Nat.le_of_ble_eq_true rfl, Nat.le_of_ble_eq_true rfl⟩ (fun H z17 ce hz hP _ hS g1 g2 g3 => ?_)
    refine t_catch (name := "java/lang/ClassCastException") (E := "java/lang/ClassCastException") C0 D [] ⟨0, 243, 244, 21⟩ [] htab (fun z hz => nomatch hz) rfl (by decide) q478 (List.mem_of_getElem? (i := 3) rfl) g1 g2 g3 ?_
    refine W.eq (g2 := F0 m 244 ls [.ref z17]) rfl ?_
    refine lv_astore_n (lv' := [(3, .ref z17), (0, .ref a), (1, .int p1), (2, .ref (ad 0))]) C.1 C.2.1 dX4_says_244 rfl hl (by decide) rfl (fun ls hl => ?_)
    obtain ⟨q18, hq18e⟩ : ∃ q, q = H.size := ⟨_, rfl⟩
    refine t_refuse18 (w := (-2)) (kp := 2) C0 D hml hl.1 hP rW_av P_nil hS q494 q495 dX4_says_245 dX4_says_248 (fun kk => lv_bipush (v := (-2)) C.1 C.2.1 dX4_says_249 (by decide) kk) dX4_says_251 dX4_says_254 ⟨Nat.le_of_ble_eq_true rfl, Nat.le_of_ble_eq_true rfl, Nat.le_of_ble_eq_true rfl, Nat.le_of_ble_eq_true rfl⟩ (fun H locs hq hc hP _ hS => ?_)
    rw [← hq18e] at hq hc ⊢
    obtain rfl := Option.some.inj hE
    refine vx_widen (k := 4) (n := 977) (Nat.le_of_ble_eq_true rfl) (Nat.le_of_ble_eq_true rfl) ?_
    exact hthr _ _ _ _ _ _ _ (by
      rw [htab]
      intro z hz
      have hz : z ∈ ([⟨0, 243, 244, 21⟩] : List ExceptionTableEntry) := hz
      simp only [List.mem_cons, List.not_mem_nil, or_false] at hz
      rcases hz with rfl
      · exact Or.inl rfl) rfl hq.2.2 hc hP hS
  have hE := it_f c16 hE
  refine lv_tableOut (tgt := 198) C.1 C.2.1 dX4_says_1 (ts_e (ts_s (ts_s (ts_s (ts_s (ts_s (ts_s (ts_0 1) c1 rfl rfl) c4 rfl rfl) c7 rfl rfl) c10 rfl rfl) c13 rfl rfl) c16 rfl rfl) rfl) (by decide) ?_
  refine lv_aload_n C.1 C.2.1 dX4_says_198 rfl (lv_at hl 0 rfl) ?_
  refine p_get (j := 0) C hS ha (show vwCl[13]? = some (RX4, TX4, 1) from rfl) in_X4 (by decide) q233 rfl dX4_says_199 ?_
  refine lv_ifnonnull (tgt := 209) C.1 C.2.1 dX4_says_202 (by decide) ?_
  refine lv_aload_n C.1 C.2.1 dX4_says_209 rfl (lv_at hl 2 rfl) ?_
  refine rWg_0_7 q198 C hP dX4_says_210 ?_
  refine lv_aload_n C.1 C.2.1 dX4_says_213 rfl (lv_at hl 0 rfl) ?_
  refine p_get (j := 0) C hS ha (show vwCl[13]? = some (RX4, TX4, 1) from rfl) in_X4 (by decide) q233 rfl dX4_says_214 ?_
  refine t_castX (r := (RX10, TX10, 1)) hfl C0 D hP P_nil hS (by rw [hml]; exact hl.1) hlocks (P_mem (pl_at C.2.2.2.2.2.2.2.2 C.2.2.2.2.2.2.1 hS) hrw.2.2.2.1) rfl ⟨pk_ints, by decide⟩ ⟨pk_home, by decide⟩ (List.mem_of_getElem? (i := 14) rfl) q520 dX4_says_217 ⟨Nat.le_of_ble_eq_true rfl, Nat.le_of_ble_eq_true rfl, Nat.le_of_ble_eq_true rfl, Nat.le_of_ble_eq_true rfl⟩ (fun H z19 ce hz hP _ hS g1 g2 g3 => ?_)
  refine t_catch (name := "java/lang/ClassCastException") (E := "java/lang/ClassCastException") C0 D [] ⟨0, 243, 244, 21⟩ [] htab (fun z hz => nomatch hz) rfl (by decide) q478 (List.mem_of_getElem? (i := 3) rfl) g1 g2 g3 ?_
  refine W.eq (g2 := F0 m 244 ls [.ref z19]) rfl ?_
  refine lv_astore_n (lv' := [(3, .ref z19), (0, .ref a), (1, .int p1), (2, .ref (ad 0))]) C.1 C.2.1 dX4_says_244 rfl hl (by decide) rfl (fun ls hl => ?_)
  obtain ⟨q20, hq20e⟩ : ∃ q, q = H.size := ⟨_, rfl⟩
  refine t_refuse18 (w := (-2)) (kp := 2) C0 D hml hl.1 hP rW_av P_nil hS q494 q495 dX4_says_245 dX4_says_248 (fun kk => lv_bipush (v := (-2)) C.1 C.2.1 dX4_says_249 (by decide) kk) dX4_says_251 dX4_says_254 ⟨Nat.le_of_ble_eq_true rfl, Nat.le_of_ble_eq_true rfl, Nat.le_of_ble_eq_true rfl, Nat.le_of_ble_eq_true rfl⟩ (fun H locs hq hc hP _ hS => ?_)
  rw [← hq20e] at hq hc ⊢
  obtain rfl := Option.some.inj hE
  refine vx_widen (k := 4) (n := 977) (Nat.le_of_ble_eq_true rfl) (Nat.le_of_ble_eq_true rfl) ?_
  exact hthr _ _ _ _ _ _ _ (by
      rw [htab]
      intro z hz
      have hz : z ∈ ([⟨0, 243, 244, 21⟩] : List ExceptionTableEntry) := hz
      simp only [List.mem_cons, List.not_mem_nil, or_false] at hz
      rcases hz with rfl
      · exact Or.inl rfl) rfl hq.2.2 hc hP hS
def sC_Shelf_says_R_3 (p1 : Int32) : Option (Option Int32 × Int32) :=
  if p1 = 1 then
    some (some (-2), 0)
  else
  if p1 = 2 then
    some (some (-2), 0)
  else
  if p1 = 3 then
    some (some (-2), 0)
  else
  if p1 = 4 then
    some (some (-2), 0)
  else
  if p1 = 5 then
    some (some (-2), 0)
  else
  if p1 = 6 then
    some (some (-2), 0)
  else
  some (some (-2), 0)
set_option maxHeartbeats 4000000 in
theorem metC_Shelf_says_R_3 (l : Launch) (hfl : l.stackTraces = false) (G : kG) (ad : Nat → Nat) (pl : va_W) (sz : Nat) (v_many : Int32) (v_pets : Int32) (v_last : Int32) (v_seed : Int32) (v_weight : Int32) (v_fright : Int32) (v_age : Int32) (v_asked : Nat → Int32) (v_homes : Nat → Option Nat) (v_marks : Nat → Int32) (v_had : Nat → Int32) (v_allergic : Nat → Int32) (v_deaths : Nat → Int32) (a q b n : Nat) (rx : Nat → Int64) (p1 : Int32) (ha : (a, .inr (13, [.ref q])) ∈ pl) (hrw : rowIn G q 3 b n rx pl) (res : Option Int32 × Int32) (hE : sC_Shelf_says_R_3 p1 = some res) : vx_Met l yX4_says (wsW_ yX4_says cX4_says 4 (some .int) [((0 : Nat), (243 : Nat), (244 : Nat), (21 : Nat))]) ({ frames := 9, cells := 4, slots := 977, locals := 10281 } : Room) (rPc G (rW G.2 ad v_many v_pets v_last v_seed v_weight v_fright v_age v_asked v_homes v_marks v_had v_allergic v_deaths) pl (rWV ad) sz [.ref a, .int p1, .ref (ad 0)]) (tQc G (rW G.2 ad v_many v_pets v_last v_seed v_weight v_fright v_age v_asked v_homes v_marks v_had v_allergic v_deaths) [] (tA sz (rWV ad) []) (res.1 = none) (some (.int res.2))) (tXC G (rW G.2 ad v_many v_pets v_last v_seed v_weight v_fright v_age v_asked v_homes v_marks v_had v_allergic v_deaths) [] (tA sz (rWV ad) []) 18 RX6 res.1 sz) 4 977 (tA sz (rWV ad) []) := by
  refine r_ofWH (own := RX4) (by decide) rfl (Nat.le_of_ble_eq_true rfl) ?_
  intro p e s m args below meth c ls C C0 D hml htab hP hS hl hr hlocks hsz
  have hl : lv_has ls 4 [(0, .ref a), (1, .int p1), (2, .ref (ad 0))] := hl
  obtain ⟨Q, hQ⟩ : ∃ Q, Q = vx_MQ below (tQc G (rW G.2 ad v_many v_pets v_last v_seed v_weight v_fright v_age v_asked v_homes v_marks v_had v_allergic v_deaths) [] (tA sz (rWV ad) []) (res.1 = none) (some (.int res.2))) (tXC G (rW G.2 ad v_many v_pets v_last v_seed v_weight v_fright v_age v_asked v_homes v_marks v_had v_allergic v_deaths) [] (tA sz (rWV ad) []) 18 RX6 res.1 sz) args s 4 977 (tA sz (rWV ad) []) := ⟨_, rfl⟩
  rw [← hQ]
  have hret : ∀ (pc : Nat) (ls : Array Slot) (H : Heap) (locs : List Loc), decode cX4_says pc = .ok (.ireturn, 1) → res.1 = none → va_P G.1 vwCl (rW G.2 ad v_many v_pets v_last v_seed v_weight v_fright v_age v_asked v_homes v_marks v_had v_allergic v_deaths) H → va_S (tA sz (rWV ad) []) s.heap H locs → W p l e ({ frames := 9, cells := 4, slots := 977, locals := 10281 } : Room) s m args below meth c H locs 4 977 Q (F0 m pc ls [(.int res.2)]) := by
    intro pc ls H locs hd hφ hP hS
    rw [hQ]
    exact t_iret C0 hr hlocks hd hφ hP P_nil hS
  have hthr : ∀ (pc : Nat) (ls : Array Slot) (rest : List Value) (H : Heap) (locs : List Loc) (w : Int32) (q : Nat), (∀ z ∈ c.exceptionTable.toList, covers z pc = false ∨ (z.catchType ≠ 0 ∧ ∃ nm : String, (Cond.classLink RX4 z.catchType nm).before args s = true ∧ va_Nc RX6 nm s)) → res.1 = some w → s.heap.size ≤ q → va_P G.1 vwCl [(q, .inr (18, xF w))] H → va_P G.1 vwCl (rW G.2 ad v_many v_pets v_last v_seed v_weight v_fright v_age v_asked v_homes v_marks v_had v_allergic v_deaths) H → va_S (tA sz (rWV ad) []) s.heap H locs → vx_W p l e ({ frames := 9, cells := 4, slots := 977, locals := 10281 } : Room) s m args below meth c H locs 4 977 Q (F0 m pc ls rest) q := by
    intro pc ls rest H locs w q hout hw hq hc hP hS
    rw [hQ]
    exact t_outP (r := (RX6, TX6, 7)) C0 rfl hout hlocks hw (by omega) hc hP P_nil hS
  clear hQ
  obtain ⟨H, hH⟩ : ∃ H, H = s.heap := ⟨_, rfl⟩
  obtain ⟨locs, hlo⟩ : ∃ locs : List Loc, locs = [] := ⟨_, rfl⟩
  have hP : va_P G.1 vwCl (rW G.2 ad v_many v_pets v_last v_seed v_weight v_fright v_age v_asked v_homes v_marks v_had v_allergic v_deaths) H := by rw [hH]; exact hP
  have hS : va_S (tA sz (rWV ad) []) s.heap H locs := by rw [hH, hlo]; exact hS
  suffices hZ : W p l e ({ frames := 9, cells := 4, slots := 977, locals := 10281 } : Room) s m args below meth c H locs 0 0 Q (F0 m 0 ls []) by rw [hH, hlo] at hZ; exact hZ
  clear hH hlo
  unfold sC_Shelf_says_R_3 at hE
  refine lv_iload_n C.1 C.2.1 dX4_says_0 rfl (lv_at hl 1 rfl) ?_
  by_cases c1 : p1 = 1
  · have hE := it_t c1 hE
    refine lv_tableIn (tgt := 40) C.1 C.2.1 dX4_says_1 (by rw [c1]; decide) (by rw [c1]; decide) (by rw [c1]; rfl) (by decide) ?_
    refine lv_aload_n C.1 C.2.1 dX4_says_40 rfl (lv_at hl 0 rfl) ?_
    refine p_get (j := 0) C hS ha (show vwCl[13]? = some (RX4, TX4, 1) from rfl) in_X4 (by decide) q233 rfl dX4_says_41 ?_
    refine lv_ifnonnull (tgt := 51) C.1 C.2.1 dX4_says_44 (by decide) ?_
    refine lv_aload_n C.1 C.2.1 dX4_says_51 rfl (lv_at hl 0 rfl) ?_
    refine p_get (j := 0) C hS ha (show vwCl[13]? = some (RX4, TX4, 1) from rfl) in_X4 (by decide) q233 rfl dX4_says_52 ?_
    refine t_castX (r := (RX11, TX11, 1)) hfl C0 D hP P_nil hS (by rw [hml]; exact hl.1) hlocks (P_mem (pl_at C.2.2.2.2.2.2.2.2 C.2.2.2.2.2.2.1 hS) hrw.2.2.2.1) rfl ⟨pk_longs, by decide⟩ ⟨pk_good, by decide⟩ (List.mem_of_getElem? (i := 22) rfl) q601 dX4_says_55 ⟨Nat.le_of_ble_eq_true rfl, Nat.le_of_ble_eq_true rfl, Nat.le_of_ble_eq_true rfl, Nat.le_of_ble_eq_true rfl⟩ (fun H z2 ce hz hP _ hS g1 g2 g3 => ?_)
    refine t_catch (name := "java/lang/ClassCastException") (E := "java/lang/ClassCastException") C0 D [] ⟨0, 243, 244, 21⟩ [] htab (fun z hz => nomatch hz) rfl (by decide) q478 (List.mem_of_getElem? (i := 3) rfl) g1 g2 g3 ?_
    refine W.eq (g2 := F0 m 244 ls [.ref z2]) rfl ?_
    refine lv_astore_n (lv' := [(3, .ref z2), (0, .ref a), (1, .int p1), (2, .ref (ad 0))]) C.1 C.2.1 dX4_says_244 rfl hl (by decide) rfl (fun ls hl => ?_)
    obtain ⟨q3, hq3e⟩ : ∃ q, q = H.size := ⟨_, rfl⟩
    refine t_refuse18 (w := (-2)) (kp := 2) C0 D hml hl.1 hP rW_av P_nil hS q494 q495 dX4_says_245 dX4_says_248 (fun kk => lv_bipush (v := (-2)) C.1 C.2.1 dX4_says_249 (by decide) kk) dX4_says_251 dX4_says_254 ⟨Nat.le_of_ble_eq_true rfl, Nat.le_of_ble_eq_true rfl, Nat.le_of_ble_eq_true rfl, Nat.le_of_ble_eq_true rfl⟩ (fun H locs hq hc hP _ hS => ?_)
    rw [← hq3e] at hq hc ⊢
    obtain rfl := Option.some.inj hE
    refine vx_widen (k := 4) (n := 977) (Nat.le_of_ble_eq_true rfl) (Nat.le_of_ble_eq_true rfl) ?_
    exact hthr _ _ _ _ _ _ _ (by
      rw [htab]
      intro z hz
      have hz : z ∈ ([⟨0, 243, 244, 21⟩] : List ExceptionTableEntry) := hz
      simp only [List.mem_cons, List.not_mem_nil, or_false] at hz
      rcases hz with rfl
      · exact Or.inl rfl) rfl hq.2.2 hc hP hS
  have hE := it_f c1 hE
  by_cases c4 : p1 = 2
  · have hE := it_t c4 hE
    refine lv_tableIn (tgt := 65) C.1 C.2.1 dX4_says_1 (by rw [c4]; decide) (by rw [c4]; decide) (by rw [c4]; rfl) (by decide) ?_
    refine lv_aload_n C.1 C.2.1 dX4_says_65 rfl (lv_at hl 0 rfl) ?_
    refine p_get (j := 0) C hS ha (show vwCl[13]? = some (RX4, TX4, 1) from rfl) in_X4 (by decide) q233 rfl dX4_says_66 ?_
    refine lv_ifnonnull (tgt := 76) C.1 C.2.1 dX4_says_69 (by decide) ?_
    refine lv_aload_n C.1 C.2.1 dX4_says_76 rfl (lv_at hl 0 rfl) ?_
    refine p_get (j := 0) C hS ha (show vwCl[13]? = some (RX4, TX4, 1) from rfl) in_X4 (by decide) q233 rfl dX4_says_77 ?_
    refine t_castX (r := (RX11, TX11, 1)) hfl C0 D hP P_nil hS (by rw [hml]; exact hl.1) hlocks (P_mem (pl_at C.2.2.2.2.2.2.2.2 C.2.2.2.2.2.2.1 hS) hrw.2.2.2.1) rfl ⟨pk_longs, by decide⟩ ⟨pk_cat, by decide⟩ (List.mem_of_getElem? (i := 23) rfl) q612 dX4_says_80 ⟨Nat.le_of_ble_eq_true rfl, Nat.le_of_ble_eq_true rfl, Nat.le_of_ble_eq_true rfl, Nat.le_of_ble_eq_true rfl⟩ (fun H z5 ce hz hP _ hS g1 g2 g3 => ?_)
    refine t_catch (name := "java/lang/ClassCastException") (E := "java/lang/ClassCastException") C0 D [] ⟨0, 243, 244, 21⟩ [] htab (fun z hz => nomatch hz) rfl (by decide) q478 (List.mem_of_getElem? (i := 3) rfl) g1 g2 g3 ?_
    refine W.eq (g2 := F0 m 244 ls [.ref z5]) rfl ?_
    refine lv_astore_n (lv' := [(3, .ref z5), (0, .ref a), (1, .int p1), (2, .ref (ad 0))]) C.1 C.2.1 dX4_says_244 rfl hl (by decide) rfl (fun ls hl => ?_)
    obtain ⟨q6, hq6e⟩ : ∃ q, q = H.size := ⟨_, rfl⟩
    refine t_refuse18 (w := (-2)) (kp := 2) C0 D hml hl.1 hP rW_av P_nil hS q494 q495 dX4_says_245 dX4_says_248 (fun kk => lv_bipush (v := (-2)) C.1 C.2.1 dX4_says_249 (by decide) kk) dX4_says_251 dX4_says_254 ⟨Nat.le_of_ble_eq_true rfl, Nat.le_of_ble_eq_true rfl, Nat.le_of_ble_eq_true rfl, Nat.le_of_ble_eq_true rfl⟩ (fun H locs hq hc hP _ hS => ?_)
    rw [← hq6e] at hq hc ⊢
    obtain rfl := Option.some.inj hE
    refine vx_widen (k := 4) (n := 977) (Nat.le_of_ble_eq_true rfl) (Nat.le_of_ble_eq_true rfl) ?_
    exact hthr _ _ _ _ _ _ _ (by
      rw [htab]
      intro z hz
      have hz : z ∈ ([⟨0, 243, 244, 21⟩] : List ExceptionTableEntry) := hz
      simp only [List.mem_cons, List.not_mem_nil, or_false] at hz
      rcases hz with rfl
      · exact Or.inl rfl) rfl hq.2.2 hc hP hS
  have hE := it_f c4 hE
  by_cases c7 : p1 = 3
  · have hE := it_t c7 hE
    refine lv_tableIn (tgt := 92) C.1 C.2.1 dX4_says_1 (by rw [c7]; decide) (by rw [c7]; decide) (by rw [c7]; rfl) (by decide) ?_
    refine lv_aload_n C.1 C.2.1 dX4_says_92 rfl (lv_at hl 0 rfl) ?_
    refine p_get (j := 0) C hS ha (show vwCl[13]? = some (RX4, TX4, 1) from rfl) in_X4 (by decide) q233 rfl dX4_says_93 ?_
    refine lv_ifnonnull (tgt := 103) C.1 C.2.1 dX4_says_96 (by decide) ?_
    refine lv_aload_n C.1 C.2.1 dX4_says_103 rfl (lv_at hl 0 rfl) ?_
    refine p_get (j := 0) C hS ha (show vwCl[13]? = some (RX4, TX4, 1) from rfl) in_X4 (by decide) q233 rfl dX4_says_104 ?_
    refine t_castX (r := (RX11, TX11, 1)) hfl C0 D hP P_nil hS (by rw [hml]; exact hl.1) hlocks (P_mem (pl_at C.2.2.2.2.2.2.2.2 C.2.2.2.2.2.2.1 hS) hrw.2.2.2.1) rfl ⟨pk_longs, by decide⟩ ⟨pk_overfed, by decide⟩ (List.mem_of_getElem? (i := 24) rfl) q627 dX4_says_107 ⟨Nat.le_of_ble_eq_true rfl, Nat.le_of_ble_eq_true rfl, Nat.le_of_ble_eq_true rfl, Nat.le_of_ble_eq_true rfl⟩ (fun H z8 ce hz hP _ hS g1 g2 g3 => ?_)
    refine t_catch (name := "java/lang/ClassCastException") (E := "java/lang/ClassCastException") C0 D [] ⟨0, 243, 244, 21⟩ [] htab (fun z hz => nomatch hz) rfl (by decide) q478 (List.mem_of_getElem? (i := 3) rfl) g1 g2 g3 ?_
    refine W.eq (g2 := F0 m 244 ls [.ref z8]) rfl ?_
    refine lv_astore_n (lv' := [(3, .ref z8), (0, .ref a), (1, .int p1), (2, .ref (ad 0))]) C.1 C.2.1 dX4_says_244 rfl hl (by decide) rfl (fun ls hl => ?_)
    obtain ⟨q9, hq9e⟩ : ∃ q, q = H.size := ⟨_, rfl⟩
    refine t_refuse18 (w := (-2)) (kp := 2) C0 D hml hl.1 hP rW_av P_nil hS q494 q495 dX4_says_245 dX4_says_248 (fun kk => lv_bipush (v := (-2)) C.1 C.2.1 dX4_says_249 (by decide) kk) dX4_says_251 dX4_says_254 ⟨Nat.le_of_ble_eq_true rfl, Nat.le_of_ble_eq_true rfl, Nat.le_of_ble_eq_true rfl, Nat.le_of_ble_eq_true rfl⟩ (fun H locs hq hc hP _ hS => ?_)
    rw [← hq9e] at hq hc ⊢
    obtain rfl := Option.some.inj hE
    refine vx_widen (k := 4) (n := 977) (Nat.le_of_ble_eq_true rfl) (Nat.le_of_ble_eq_true rfl) ?_
    exact hthr _ _ _ _ _ _ _ (by
      rw [htab]
      intro z hz
      have hz : z ∈ ([⟨0, 243, 244, 21⟩] : List ExceptionTableEntry) := hz
      simp only [List.mem_cons, List.not_mem_nil, or_false] at hz
      rcases hz with rfl
      · exact Or.inl rfl) rfl hq.2.2 hc hP hS
  have hE := it_f c7 hE
  by_cases c10 : p1 = 4
  · have hE := it_t c10 hE
    refine lv_tableIn (tgt := 117) C.1 C.2.1 dX4_says_1 (by rw [c10]; decide) (by rw [c10]; decide) (by rw [c10]; rfl) (by decide) ?_
    refine lv_aload_n C.1 C.2.1 dX4_says_117 rfl (lv_at hl 0 rfl) ?_
    refine p_get (j := 0) C hS ha (show vwCl[13]? = some (RX4, TX4, 1) from rfl) in_X4 (by decide) q233 rfl dX4_says_118 ?_
    refine lv_ifnonnull (tgt := 128) C.1 C.2.1 dX4_says_121 (by decide) ?_
    refine lv_aload_n C.1 C.2.1 dX4_says_128 rfl (lv_at hl 0 rfl) ?_
    refine p_get (j := 0) C hS ha (show vwCl[13]? = some (RX4, TX4, 1) from rfl) in_X4 (by decide) q233 rfl dX4_says_129 ?_
    refine t_castX (r := (RX11, TX11, 1)) hfl C0 D hP P_nil hS (by rw [hml]; exact hl.1) hlocks (P_mem (pl_at C.2.2.2.2.2.2.2.2 C.2.2.2.2.2.2.1 hS) hrw.2.2.2.1) rfl ⟨pk_longs, by decide⟩ ⟨pk_far, by decide⟩ (List.mem_of_getElem? (i := 25) rfl) q629 dX4_says_132 ⟨Nat.le_of_ble_eq_true rfl, Nat.le_of_ble_eq_true rfl, Nat.le_of_ble_eq_true rfl, Nat.le_of_ble_eq_true rfl⟩ (fun H z11 ce hz hP _ hS g1 g2 g3 => ?_)
    refine t_catch (name := "java/lang/ClassCastException") (E := "java/lang/ClassCastException") C0 D [] ⟨0, 243, 244, 21⟩ [] htab (fun z hz => nomatch hz) rfl (by decide) q478 (List.mem_of_getElem? (i := 3) rfl) g1 g2 g3 ?_
    refine W.eq (g2 := F0 m 244 ls [.ref z11]) rfl ?_
    refine lv_astore_n (lv' := [(3, .ref z11), (0, .ref a), (1, .int p1), (2, .ref (ad 0))]) C.1 C.2.1 dX4_says_244 rfl hl (by decide) rfl (fun ls hl => ?_)
    obtain ⟨q12, hq12e⟩ : ∃ q, q = H.size := ⟨_, rfl⟩
    refine t_refuse18 (w := (-2)) (kp := 2) C0 D hml hl.1 hP rW_av P_nil hS q494 q495 dX4_says_245 dX4_says_248 (fun kk => lv_bipush (v := (-2)) C.1 C.2.1 dX4_says_249 (by decide) kk) dX4_says_251 dX4_says_254 ⟨Nat.le_of_ble_eq_true rfl, Nat.le_of_ble_eq_true rfl, Nat.le_of_ble_eq_true rfl, Nat.le_of_ble_eq_true rfl⟩ (fun H locs hq hc hP _ hS => ?_)
    rw [← hq12e] at hq hc ⊢
    obtain rfl := Option.some.inj hE
    refine vx_widen (k := 4) (n := 977) (Nat.le_of_ble_eq_true rfl) (Nat.le_of_ble_eq_true rfl) ?_
    exact hthr _ _ _ _ _ _ _ (by
      rw [htab]
      intro z hz
      have hz : z ∈ ([⟨0, 243, 244, 21⟩] : List ExceptionTableEntry) := hz
      simp only [List.mem_cons, List.not_mem_nil, or_false] at hz
      rcases hz with rfl
      · exact Or.inl rfl) rfl hq.2.2 hc hP hS
  have hE := it_f c10 hE
  by_cases c13 : p1 = 5
  · have hE := it_t c13 hE
    refine lv_tableIn (tgt := 144) C.1 C.2.1 dX4_says_1 (by rw [c13]; decide) (by rw [c13]; decide) (by rw [c13]; rfl) (by decide) ?_
    refine lv_aload_n C.1 C.2.1 dX4_says_144 rfl (lv_at hl 0 rfl) ?_
    refine p_get (j := 0) C hS ha (show vwCl[13]? = some (RX4, TX4, 1) from rfl) in_X4 (by decide) q233 rfl dX4_says_145 ?_
    refine lv_ifnonnull (tgt := 155) C.1 C.2.1 dX4_says_148 (by decide) ?_
    refine lv_aload_n C.1 C.2.1 dX4_says_155 rfl (lv_at hl 0 rfl) ?_
    refine p_get (j := 0) C hS ha (show vwCl[13]? = some (RX4, TX4, 1) from rfl) in_X4 (by decide) q233 rfl dX4_says_156 ?_
    refine t_castX (r := (RX11, TX11, 1)) hfl C0 D hP P_nil hS (by rw [hml]; exact hl.1) hlocks (P_mem (pl_at C.2.2.2.2.2.2.2.2 C.2.2.2.2.2.2.1 hS) hrw.2.2.2.1) rfl ⟨pk_longs, by decide⟩ ⟨pk_dog, by decide⟩ (List.mem_of_getElem? (i := 26) rfl) q640 dX4_says_159 ⟨Nat.le_of_ble_eq_true rfl, Nat.le_of_ble_eq_true rfl, Nat.le_of_ble_eq_true rfl, Nat.le_of_ble_eq_true rfl⟩ (fun H z14 ce hz hP _ hS g1 g2 g3 => ?_)
    refine t_catch (name := "java/lang/ClassCastException") (E := "java/lang/ClassCastException") C0 D [] ⟨0, 243, 244, 21⟩ [] htab (fun z hz => nomatch hz) rfl (by decide) q478 (List.mem_of_getElem? (i := 3) rfl) g1 g2 g3 ?_
    refine W.eq (g2 := F0 m 244 ls [.ref z14]) rfl ?_
    refine lv_astore_n (lv' := [(3, .ref z14), (0, .ref a), (1, .int p1), (2, .ref (ad 0))]) C.1 C.2.1 dX4_says_244 rfl hl (by decide) rfl (fun ls hl => ?_)
    obtain ⟨q15, hq15e⟩ : ∃ q, q = H.size := ⟨_, rfl⟩
    refine t_refuse18 (w := (-2)) (kp := 2) C0 D hml hl.1 hP rW_av P_nil hS q494 q495 dX4_says_245 dX4_says_248 (fun kk => lv_bipush (v := (-2)) C.1 C.2.1 dX4_says_249 (by decide) kk) dX4_says_251 dX4_says_254 ⟨Nat.le_of_ble_eq_true rfl, Nat.le_of_ble_eq_true rfl, Nat.le_of_ble_eq_true rfl, Nat.le_of_ble_eq_true rfl⟩ (fun H locs hq hc hP _ hS => ?_)
    rw [← hq15e] at hq hc ⊢
    obtain rfl := Option.some.inj hE
    refine vx_widen (k := 4) (n := 977) (Nat.le_of_ble_eq_true rfl) (Nat.le_of_ble_eq_true rfl) ?_
    exact hthr _ _ _ _ _ _ _ (by
      rw [htab]
      intro z hz
      have hz : z ∈ ([⟨0, 243, 244, 21⟩] : List ExceptionTableEntry) := hz
      simp only [List.mem_cons, List.not_mem_nil, or_false] at hz
      rcases hz with rfl
      · exact Or.inl rfl) rfl hq.2.2 hc hP hS
  have hE := it_f c13 hE
  by_cases c16 : p1 = 6
  · have hE := it_t c16 hE
    refine lv_tableIn (tgt := 171) C.1 C.2.1 dX4_says_1 (by rw [c16]; decide) (by rw [c16]; decide) (by rw [c16]; rfl) (by decide) ?_
    refine lv_aload_n C.1 C.2.1 dX4_says_171 rfl (lv_at hl 0 rfl) ?_
    refine p_get (j := 0) C hS ha (show vwCl[13]? = some (RX4, TX4, 1) from rfl) in_X4 (by decide) q233 rfl dX4_says_172 ?_
    refine lv_ifnonnull (tgt := 182) C.1 C.2.1 dX4_says_175 (by decide) ?_
    refine lv_aload_n C.1 C.2.1 dX4_says_182 rfl (lv_at hl 0 rfl) ?_
    refine p_get (j := 0) C hS ha (show vwCl[13]? = some (RX4, TX4, 1) from rfl) in_X4 (by decide) q233 rfl dX4_says_183 ?_
    refine t_castX (r := (RX11, TX11, 1)) hfl C0 D hP P_nil hS (by rw [hml]; exact hl.1) hlocks (P_mem (pl_at C.2.2.2.2.2.2.2.2 C.2.2.2.2.2.2.1 hS) hrw.2.2.2.1) rfl ⟨pk_longs, by decide⟩ ⟨pk_bus, by decide⟩ (List.mem_of_getElem? (i := 27) rfl) q642 dX4_says_186 ⟨Nat.le_of_ble_eq_true rfl, Nat.le_of_ble_eq_true rfl, Nat.le_of_ble_eq_true rfl, Nat.le_of_ble_eq_true rfl⟩ (fun H z17 ce hz hP _ hS g1 g2 g3 => ?_)
    refine t_catch (name := "java/lang/ClassCastException") (E := "java/lang/ClassCastException") C0 D [] ⟨0, 243, 244, 21⟩ [] htab (fun z hz => nomatch hz) rfl (by decide) q478 (List.mem_of_getElem? (i := 3) rfl) g1 g2 g3 ?_
    refine W.eq (g2 := F0 m 244 ls [.ref z17]) rfl ?_
    refine lv_astore_n (lv' := [(3, .ref z17), (0, .ref a), (1, .int p1), (2, .ref (ad 0))]) C.1 C.2.1 dX4_says_244 rfl hl (by decide) rfl (fun ls hl => ?_)
    obtain ⟨q18, hq18e⟩ : ∃ q, q = H.size := ⟨_, rfl⟩
    refine t_refuse18 (w := (-2)) (kp := 2) C0 D hml hl.1 hP rW_av P_nil hS q494 q495 dX4_says_245 dX4_says_248 (fun kk => lv_bipush (v := (-2)) C.1 C.2.1 dX4_says_249 (by decide) kk) dX4_says_251 dX4_says_254 ⟨Nat.le_of_ble_eq_true rfl, Nat.le_of_ble_eq_true rfl, Nat.le_of_ble_eq_true rfl, Nat.le_of_ble_eq_true rfl⟩ (fun H locs hq hc hP _ hS => ?_)
    rw [← hq18e] at hq hc ⊢
    obtain rfl := Option.some.inj hE
    refine vx_widen (k := 4) (n := 977) (Nat.le_of_ble_eq_true rfl) (Nat.le_of_ble_eq_true rfl) ?_
    exact hthr _ _ _ _ _ _ _ (by
      rw [htab]
      intro z hz
      have hz : z ∈ ([⟨0, 243, 244, 21⟩] : List ExceptionTableEntry) := hz
      simp only [List.mem_cons, List.not_mem_nil, or_false] at hz
      rcases hz with rfl
      · exact Or.inl rfl) rfl hq.2.2 hc hP hS
  have hE := it_f c16 hE
  refine lv_tableOut (tgt := 198) C.1 C.2.1 dX4_says_1 (ts_e (ts_s (ts_s (ts_s (ts_s (ts_s (ts_s (ts_0 1) c1 rfl rfl) c4 rfl rfl) c7 rfl rfl) c10 rfl rfl) c13 rfl rfl) c16 rfl rfl) rfl) (by decide) ?_
  refine lv_aload_n C.1 C.2.1 dX4_says_198 rfl (lv_at hl 0 rfl) ?_
  refine p_get (j := 0) C hS ha (show vwCl[13]? = some (RX4, TX4, 1) from rfl) in_X4 (by decide) q233 rfl dX4_says_199 ?_
  refine lv_ifnonnull (tgt := 209) C.1 C.2.1 dX4_says_202 (by decide) ?_
  refine lv_aload_n C.1 C.2.1 dX4_says_209 rfl (lv_at hl 2 rfl) ?_
  refine rWg_0_7 q198 C hP dX4_says_210 ?_
  refine lv_aload_n C.1 C.2.1 dX4_says_213 rfl (lv_at hl 0 rfl) ?_
  refine p_get (j := 0) C hS ha (show vwCl[13]? = some (RX4, TX4, 1) from rfl) in_X4 (by decide) q233 rfl dX4_says_214 ?_
  refine t_castX (r := (RX11, TX11, 1)) hfl C0 D hP P_nil hS (by rw [hml]; exact hl.1) hlocks (P_mem (pl_at C.2.2.2.2.2.2.2.2 C.2.2.2.2.2.2.1 hS) hrw.2.2.2.1) rfl ⟨pk_longs, by decide⟩ ⟨pk_home, by decide⟩ (List.mem_of_getElem? (i := 21) rfl) q520 dX4_says_217 ⟨Nat.le_of_ble_eq_true rfl, Nat.le_of_ble_eq_true rfl, Nat.le_of_ble_eq_true rfl, Nat.le_of_ble_eq_true rfl⟩ (fun H z19 ce hz hP _ hS g1 g2 g3 => ?_)
  refine t_catch (name := "java/lang/ClassCastException") (E := "java/lang/ClassCastException") C0 D [] ⟨0, 243, 244, 21⟩ [] htab (fun z hz => nomatch hz) rfl (by decide) q478 (List.mem_of_getElem? (i := 3) rfl) g1 g2 g3 ?_
  refine W.eq (g2 := F0 m 244 ls [.ref z19]) rfl ?_
  refine lv_astore_n (lv' := [(3, .ref z19), (0, .ref a), (1, .int p1), (2, .ref (ad 0))]) C.1 C.2.1 dX4_says_244 rfl hl (by decide) rfl (fun ls hl => ?_)
  obtain ⟨q20, hq20e⟩ : ∃ q, q = H.size := ⟨_, rfl⟩
  refine t_refuse18 (w := (-2)) (kp := 2) C0 D hml hl.1 hP rW_av P_nil hS q494 q495 dX4_says_245 dX4_says_248 (fun kk => lv_bipush (v := (-2)) C.1 C.2.1 dX4_says_249 (by decide) kk) dX4_says_251 dX4_says_254 ⟨Nat.le_of_ble_eq_true rfl, Nat.le_of_ble_eq_true rfl, Nat.le_of_ble_eq_true rfl, Nat.le_of_ble_eq_true rfl⟩ (fun H locs hq hc hP _ hS => ?_)
  rw [← hq20e] at hq hc ⊢
  obtain rfl := Option.some.inj hE
  refine vx_widen (k := 4) (n := 977) (Nat.le_of_ble_eq_true rfl) (Nat.le_of_ble_eq_true rfl) ?_
  exact hthr _ _ _ _ _ _ _ (by
      rw [htab]
      intro z hz
      have hz : z ∈ ([⟨0, 243, 244, 21⟩] : List ExceptionTableEntry) := hz
      simp only [List.mem_cons, List.not_mem_nil, or_false] at hz
      rcases hz with rfl
      · exact Or.inl rfl) rfl hq.2.2 hc hP hS
def sC_Shelf_says_H_0 (v_had : Nat → Int32) (ix : Int32) (hby : Int32) (p1 : Int32) : Option (Option Int32 × Int32) :=
  if p1 = 1 then
    some (some (-2), 0)
  else
  if p1 = 2 then
    some (some (-2), 0)
  else
  if p1 = 3 then
    some (some (-2), 0)
  else
  if p1 = 4 then
    some (some (-2), 0)
  else
  if p1 = 5 then
    some (some (-2), 0)
  else
  if p1 = 6 then
    some (some (-2), 0)
  else
  if gi ix 8 then
  some (none, (v_had (ix).toNatClampNeg))
  else none
set_option maxHeartbeats 4000000 in
theorem metC_Shelf_says_H_0 (l : Launch) (hfl : l.stackTraces = false) (G : kG) (ad : Nat → Nat) (pl : va_W) (sz : Nat) (v_many : Int32) (v_pets : Int32) (v_last : Int32) (v_seed : Int32) (v_weight : Int32) (v_fright : Int32) (v_age : Int32) (v_asked : Nat → Int32) (v_homes : Nat → Option Nat) (v_marks : Nat → Int32) (v_had : Nat → Int32) (v_allergic : Nat → Int32) (v_deaths : Nat → Int32) (a q : Nat) (ix : Int32) (hby : Int32) (p1 : Int32) (ha : (a, .inr (13, [.ref q])) ∈ pl) (hq0 : (q, .inr (0, [.int ix, .int hby])) ∈ pl) (res : Option Int32 × Int32) (hE : sC_Shelf_says_H_0 v_had ix hby p1 = some res) : vx_Met l yX4_says (wsW_ yX4_says cX4_says 4 (some .int) [((0 : Nat), (243 : Nat), (244 : Nat), (21 : Nat))]) ({ frames := 9, cells := 5, slots := 984, locals := 10281 } : Room) (rPc G (rW G.2 ad v_many v_pets v_last v_seed v_weight v_fright v_age v_asked v_homes v_marks v_had v_allergic v_deaths) pl (rWV ad) sz [.ref a, .int p1, .ref (ad 0)]) (tQc G (rW G.2 ad v_many v_pets v_last v_seed v_weight v_fright v_age v_asked v_homes v_marks v_had v_allergic v_deaths) [] (tA sz (rWV ad) []) (res.1 = none) (some (.int res.2))) (tXC G (rW G.2 ad v_many v_pets v_last v_seed v_weight v_fright v_age v_asked v_homes v_marks v_had v_allergic v_deaths) [] (tA sz (rWV ad) []) 18 RX6 res.1 sz) 5 984 (tA sz (rWV ad) []) := by
  refine r_ofWH (own := RX4) (by decide) rfl (Nat.le_of_ble_eq_true rfl) ?_
  intro p e s m args below meth c ls C C0 D hml htab hP hS hl hr hlocks hsz
  have hl : lv_has ls 4 [(0, .ref a), (1, .int p1), (2, .ref (ad 0))] := hl
  obtain ⟨Q, hQ⟩ : ∃ Q, Q = vx_MQ below (tQc G (rW G.2 ad v_many v_pets v_last v_seed v_weight v_fright v_age v_asked v_homes v_marks v_had v_allergic v_deaths) [] (tA sz (rWV ad) []) (res.1 = none) (some (.int res.2))) (tXC G (rW G.2 ad v_many v_pets v_last v_seed v_weight v_fright v_age v_asked v_homes v_marks v_had v_allergic v_deaths) [] (tA sz (rWV ad) []) 18 RX6 res.1 sz) args s 5 984 (tA sz (rWV ad) []) := ⟨_, rfl⟩
  rw [← hQ]
  have hret : ∀ (pc : Nat) (ls : Array Slot) (H : Heap) (locs : List Loc), decode cX4_says pc = .ok (.ireturn, 1) → res.1 = none → va_P G.1 vwCl (rW G.2 ad v_many v_pets v_last v_seed v_weight v_fright v_age v_asked v_homes v_marks v_had v_allergic v_deaths) H → va_S (tA sz (rWV ad) []) s.heap H locs → W p l e ({ frames := 9, cells := 5, slots := 984, locals := 10281 } : Room) s m args below meth c H locs 5 984 Q (F0 m pc ls [(.int res.2)]) := by
    intro pc ls H locs hd hφ hP hS
    rw [hQ]
    exact t_iret C0 hr hlocks hd hφ hP P_nil hS
  have hthr : ∀ (pc : Nat) (ls : Array Slot) (rest : List Value) (H : Heap) (locs : List Loc) (w : Int32) (q : Nat), (∀ z ∈ c.exceptionTable.toList, covers z pc = false ∨ (z.catchType ≠ 0 ∧ ∃ nm : String, (Cond.classLink RX4 z.catchType nm).before args s = true ∧ va_Nc RX6 nm s)) → res.1 = some w → s.heap.size ≤ q → va_P G.1 vwCl [(q, .inr (18, xF w))] H → va_P G.1 vwCl (rW G.2 ad v_many v_pets v_last v_seed v_weight v_fright v_age v_asked v_homes v_marks v_had v_allergic v_deaths) H → va_S (tA sz (rWV ad) []) s.heap H locs → vx_W p l e ({ frames := 9, cells := 5, slots := 984, locals := 10281 } : Room) s m args below meth c H locs 5 984 Q (F0 m pc ls rest) q := by
    intro pc ls rest H locs w q hout hw hq hc hP hS
    rw [hQ]
    exact t_outP (r := (RX6, TX6, 7)) C0 rfl hout hlocks hw (by omega) hc hP P_nil hS
  clear hQ
  obtain ⟨H, hH⟩ : ∃ H, H = s.heap := ⟨_, rfl⟩
  obtain ⟨locs, hlo⟩ : ∃ locs : List Loc, locs = [] := ⟨_, rfl⟩
  have hP : va_P G.1 vwCl (rW G.2 ad v_many v_pets v_last v_seed v_weight v_fright v_age v_asked v_homes v_marks v_had v_allergic v_deaths) H := by rw [hH]; exact hP
  have hS : va_S (tA sz (rWV ad) []) s.heap H locs := by rw [hH, hlo]; exact hS
  suffices hZ : W p l e ({ frames := 9, cells := 5, slots := 984, locals := 10281 } : Room) s m args below meth c H locs 0 0 Q (F0 m 0 ls []) by rw [hH, hlo] at hZ; exact hZ
  clear hH hlo
  unfold sC_Shelf_says_H_0 at hE
  refine lv_iload_n C.1 C.2.1 dX4_says_0 rfl (lv_at hl 1 rfl) ?_
  by_cases c1 : p1 = 1
  · have hE := it_t c1 hE
    refine lv_tableIn (tgt := 40) C.1 C.2.1 dX4_says_1 (by rw [c1]; decide) (by rw [c1]; decide) (by rw [c1]; rfl) (by decide) ?_
    refine lv_aload_n C.1 C.2.1 dX4_says_40 rfl (lv_at hl 0 rfl) ?_
    refine p_get (j := 0) C hS ha (show vwCl[13]? = some (RX4, TX4, 1) from rfl) in_X4 (by decide) q233 rfl dX4_says_41 ?_
    refine lv_ifnonnull (tgt := 51) C.1 C.2.1 dX4_says_44 (by decide) ?_
    refine lv_aload_n C.1 C.2.1 dX4_says_51 rfl (lv_at hl 0 rfl) ?_
    refine p_get (j := 0) C hS ha (show vwCl[13]? = some (RX4, TX4, 1) from rfl) in_X4 (by decide) q233 rfl dX4_says_52 ?_
    refine t_castX (r := (RX12, TX12, 2)) hfl C0 D hP P_nil hS (by rw [hml]; exact hl.1) hlocks (P_mem (pl_at C.2.2.2.2.2.2.2.2 C.2.2.2.2.2.2.1 hS) hq0) rfl ⟨pk_home, by decide⟩ ⟨pk_good, by decide⟩ (List.mem_of_getElem? (i := 35) rfl) q601 dX4_says_55 ⟨Nat.le_of_ble_eq_true rfl, Nat.le_of_ble_eq_true rfl, Nat.le_of_ble_eq_true rfl, Nat.le_of_ble_eq_true rfl⟩ (fun H z2 ce hz hP _ hS g1 g2 g3 => ?_)
    refine t_catch (name := "java/lang/ClassCastException") (E := "java/lang/ClassCastException") C0 D [] ⟨0, 243, 244, 21⟩ [] htab (fun z hz => nomatch hz) rfl (by decide) q478 (List.mem_of_getElem? (i := 3) rfl) g1 g2 g3 ?_
    refine W.eq (g2 := F0 m 244 ls [.ref z2]) rfl ?_
    refine lv_astore_n (lv' := [(3, .ref z2), (0, .ref a), (1, .int p1), (2, .ref (ad 0))]) C.1 C.2.1 dX4_says_244 rfl hl (by decide) rfl (fun ls hl => ?_)
    obtain ⟨q3, hq3e⟩ : ∃ q, q = H.size := ⟨_, rfl⟩
    refine t_refuse18 (w := (-2)) (kp := 2) C0 D hml hl.1 hP rW_av P_nil hS q494 q495 dX4_says_245 dX4_says_248 (fun kk => lv_bipush (v := (-2)) C.1 C.2.1 dX4_says_249 (by decide) kk) dX4_says_251 dX4_says_254 ⟨Nat.le_of_ble_eq_true rfl, Nat.le_of_ble_eq_true rfl, Nat.le_of_ble_eq_true rfl, Nat.le_of_ble_eq_true rfl⟩ (fun H locs hq hc hP _ hS => ?_)
    rw [← hq3e] at hq hc ⊢
    obtain rfl := Option.some.inj hE
    refine vx_widen (k := 5) (n := 984) (Nat.le_of_ble_eq_true rfl) (Nat.le_of_ble_eq_true rfl) ?_
    exact hthr _ _ _ _ _ _ _ (by
      rw [htab]
      intro z hz
      have hz : z ∈ ([⟨0, 243, 244, 21⟩] : List ExceptionTableEntry) := hz
      simp only [List.mem_cons, List.not_mem_nil, or_false] at hz
      rcases hz with rfl
      · exact Or.inl rfl) rfl hq.2.2 hc hP hS
  have hE := it_f c1 hE
  by_cases c4 : p1 = 2
  · have hE := it_t c4 hE
    refine lv_tableIn (tgt := 65) C.1 C.2.1 dX4_says_1 (by rw [c4]; decide) (by rw [c4]; decide) (by rw [c4]; rfl) (by decide) ?_
    refine lv_aload_n C.1 C.2.1 dX4_says_65 rfl (lv_at hl 0 rfl) ?_
    refine p_get (j := 0) C hS ha (show vwCl[13]? = some (RX4, TX4, 1) from rfl) in_X4 (by decide) q233 rfl dX4_says_66 ?_
    refine lv_ifnonnull (tgt := 76) C.1 C.2.1 dX4_says_69 (by decide) ?_
    refine lv_aload_n C.1 C.2.1 dX4_says_76 rfl (lv_at hl 0 rfl) ?_
    refine p_get (j := 0) C hS ha (show vwCl[13]? = some (RX4, TX4, 1) from rfl) in_X4 (by decide) q233 rfl dX4_says_77 ?_
    refine t_castX (r := (RX12, TX12, 2)) hfl C0 D hP P_nil hS (by rw [hml]; exact hl.1) hlocks (P_mem (pl_at C.2.2.2.2.2.2.2.2 C.2.2.2.2.2.2.1 hS) hq0) rfl ⟨pk_home, by decide⟩ ⟨pk_cat, by decide⟩ (List.mem_of_getElem? (i := 36) rfl) q612 dX4_says_80 ⟨Nat.le_of_ble_eq_true rfl, Nat.le_of_ble_eq_true rfl, Nat.le_of_ble_eq_true rfl, Nat.le_of_ble_eq_true rfl⟩ (fun H z5 ce hz hP _ hS g1 g2 g3 => ?_)
    refine t_catch (name := "java/lang/ClassCastException") (E := "java/lang/ClassCastException") C0 D [] ⟨0, 243, 244, 21⟩ [] htab (fun z hz => nomatch hz) rfl (by decide) q478 (List.mem_of_getElem? (i := 3) rfl) g1 g2 g3 ?_
    refine W.eq (g2 := F0 m 244 ls [.ref z5]) rfl ?_
    refine lv_astore_n (lv' := [(3, .ref z5), (0, .ref a), (1, .int p1), (2, .ref (ad 0))]) C.1 C.2.1 dX4_says_244 rfl hl (by decide) rfl (fun ls hl => ?_)
    obtain ⟨q6, hq6e⟩ : ∃ q, q = H.size := ⟨_, rfl⟩
    refine t_refuse18 (w := (-2)) (kp := 2) C0 D hml hl.1 hP rW_av P_nil hS q494 q495 dX4_says_245 dX4_says_248 (fun kk => lv_bipush (v := (-2)) C.1 C.2.1 dX4_says_249 (by decide) kk) dX4_says_251 dX4_says_254 ⟨Nat.le_of_ble_eq_true rfl, Nat.le_of_ble_eq_true rfl, Nat.le_of_ble_eq_true rfl, Nat.le_of_ble_eq_true rfl⟩ (fun H locs hq hc hP _ hS => ?_)
    rw [← hq6e] at hq hc ⊢
    obtain rfl := Option.some.inj hE
    refine vx_widen (k := 5) (n := 984) (Nat.le_of_ble_eq_true rfl) (Nat.le_of_ble_eq_true rfl) ?_
    exact hthr _ _ _ _ _ _ _ (by
      rw [htab]
      intro z hz
      have hz : z ∈ ([⟨0, 243, 244, 21⟩] : List ExceptionTableEntry) := hz
      simp only [List.mem_cons, List.not_mem_nil, or_false] at hz
      rcases hz with rfl
      · exact Or.inl rfl) rfl hq.2.2 hc hP hS
  have hE := it_f c4 hE
  by_cases c7 : p1 = 3
  · have hE := it_t c7 hE
    refine lv_tableIn (tgt := 92) C.1 C.2.1 dX4_says_1 (by rw [c7]; decide) (by rw [c7]; decide) (by rw [c7]; rfl) (by decide) ?_
    refine lv_aload_n C.1 C.2.1 dX4_says_92 rfl (lv_at hl 0 rfl) ?_
    refine p_get (j := 0) C hS ha (show vwCl[13]? = some (RX4, TX4, 1) from rfl) in_X4 (by decide) q233 rfl dX4_says_93 ?_
    refine lv_ifnonnull (tgt := 103) C.1 C.2.1 dX4_says_96 (by decide) ?_
    refine lv_aload_n C.1 C.2.1 dX4_says_103 rfl (lv_at hl 0 rfl) ?_
    refine p_get (j := 0) C hS ha (show vwCl[13]? = some (RX4, TX4, 1) from rfl) in_X4 (by decide) q233 rfl dX4_says_104 ?_
    refine t_castX (r := (RX12, TX12, 2)) hfl C0 D hP P_nil hS (by rw [hml]; exact hl.1) hlocks (P_mem (pl_at C.2.2.2.2.2.2.2.2 C.2.2.2.2.2.2.1 hS) hq0) rfl ⟨pk_home, by decide⟩ ⟨pk_overfed, by decide⟩ (List.mem_of_getElem? (i := 37) rfl) q627 dX4_says_107 ⟨Nat.le_of_ble_eq_true rfl, Nat.le_of_ble_eq_true rfl, Nat.le_of_ble_eq_true rfl, Nat.le_of_ble_eq_true rfl⟩ (fun H z8 ce hz hP _ hS g1 g2 g3 => ?_)
    refine t_catch (name := "java/lang/ClassCastException") (E := "java/lang/ClassCastException") C0 D [] ⟨0, 243, 244, 21⟩ [] htab (fun z hz => nomatch hz) rfl (by decide) q478 (List.mem_of_getElem? (i := 3) rfl) g1 g2 g3 ?_
    refine W.eq (g2 := F0 m 244 ls [.ref z8]) rfl ?_
    refine lv_astore_n (lv' := [(3, .ref z8), (0, .ref a), (1, .int p1), (2, .ref (ad 0))]) C.1 C.2.1 dX4_says_244 rfl hl (by decide) rfl (fun ls hl => ?_)
    obtain ⟨q9, hq9e⟩ : ∃ q, q = H.size := ⟨_, rfl⟩
    refine t_refuse18 (w := (-2)) (kp := 2) C0 D hml hl.1 hP rW_av P_nil hS q494 q495 dX4_says_245 dX4_says_248 (fun kk => lv_bipush (v := (-2)) C.1 C.2.1 dX4_says_249 (by decide) kk) dX4_says_251 dX4_says_254 ⟨Nat.le_of_ble_eq_true rfl, Nat.le_of_ble_eq_true rfl, Nat.le_of_ble_eq_true rfl, Nat.le_of_ble_eq_true rfl⟩ (fun H locs hq hc hP _ hS => ?_)
    rw [← hq9e] at hq hc ⊢
    obtain rfl := Option.some.inj hE
    refine vx_widen (k := 5) (n := 984) (Nat.le_of_ble_eq_true rfl) (Nat.le_of_ble_eq_true rfl) ?_
    exact hthr _ _ _ _ _ _ _ (by
      rw [htab]
      intro z hz
      have hz : z ∈ ([⟨0, 243, 244, 21⟩] : List ExceptionTableEntry) := hz
      simp only [List.mem_cons, List.not_mem_nil, or_false] at hz
      rcases hz with rfl
      · exact Or.inl rfl) rfl hq.2.2 hc hP hS
  have hE := it_f c7 hE
  by_cases c10 : p1 = 4
  · have hE := it_t c10 hE
    refine lv_tableIn (tgt := 117) C.1 C.2.1 dX4_says_1 (by rw [c10]; decide) (by rw [c10]; decide) (by rw [c10]; rfl) (by decide) ?_
    refine lv_aload_n C.1 C.2.1 dX4_says_117 rfl (lv_at hl 0 rfl) ?_
    refine p_get (j := 0) C hS ha (show vwCl[13]? = some (RX4, TX4, 1) from rfl) in_X4 (by decide) q233 rfl dX4_says_118 ?_
    refine lv_ifnonnull (tgt := 128) C.1 C.2.1 dX4_says_121 (by decide) ?_
    refine lv_aload_n C.1 C.2.1 dX4_says_128 rfl (lv_at hl 0 rfl) ?_
    refine p_get (j := 0) C hS ha (show vwCl[13]? = some (RX4, TX4, 1) from rfl) in_X4 (by decide) q233 rfl dX4_says_129 ?_
    refine t_castX (r := (RX12, TX12, 2)) hfl C0 D hP P_nil hS (by rw [hml]; exact hl.1) hlocks (P_mem (pl_at C.2.2.2.2.2.2.2.2 C.2.2.2.2.2.2.1 hS) hq0) rfl ⟨pk_home, by decide⟩ ⟨pk_far, by decide⟩ (List.mem_of_getElem? (i := 38) rfl) q629 dX4_says_132 ⟨Nat.le_of_ble_eq_true rfl, Nat.le_of_ble_eq_true rfl, Nat.le_of_ble_eq_true rfl, Nat.le_of_ble_eq_true rfl⟩ (fun H z11 ce hz hP _ hS g1 g2 g3 => ?_)
    refine t_catch (name := "java/lang/ClassCastException") (E := "java/lang/ClassCastException") C0 D [] ⟨0, 243, 244, 21⟩ [] htab (fun z hz => nomatch hz) rfl (by decide) q478 (List.mem_of_getElem? (i := 3) rfl) g1 g2 g3 ?_
    refine W.eq (g2 := F0 m 244 ls [.ref z11]) rfl ?_
    refine lv_astore_n (lv' := [(3, .ref z11), (0, .ref a), (1, .int p1), (2, .ref (ad 0))]) C.1 C.2.1 dX4_says_244 rfl hl (by decide) rfl (fun ls hl => ?_)
    obtain ⟨q12, hq12e⟩ : ∃ q, q = H.size := ⟨_, rfl⟩
    refine t_refuse18 (w := (-2)) (kp := 2) C0 D hml hl.1 hP rW_av P_nil hS q494 q495 dX4_says_245 dX4_says_248 (fun kk => lv_bipush (v := (-2)) C.1 C.2.1 dX4_says_249 (by decide) kk) dX4_says_251 dX4_says_254 ⟨Nat.le_of_ble_eq_true rfl, Nat.le_of_ble_eq_true rfl, Nat.le_of_ble_eq_true rfl, Nat.le_of_ble_eq_true rfl⟩ (fun H locs hq hc hP _ hS => ?_)
    rw [← hq12e] at hq hc ⊢
    obtain rfl := Option.some.inj hE
    refine vx_widen (k := 5) (n := 984) (Nat.le_of_ble_eq_true rfl) (Nat.le_of_ble_eq_true rfl) ?_
    exact hthr _ _ _ _ _ _ _ (by
      rw [htab]
      intro z hz
      have hz : z ∈ ([⟨0, 243, 244, 21⟩] : List ExceptionTableEntry) := hz
      simp only [List.mem_cons, List.not_mem_nil, or_false] at hz
      rcases hz with rfl
      · exact Or.inl rfl) rfl hq.2.2 hc hP hS
  have hE := it_f c10 hE
  by_cases c13 : p1 = 5
  · have hE := it_t c13 hE
    refine lv_tableIn (tgt := 144) C.1 C.2.1 dX4_says_1 (by rw [c13]; decide) (by rw [c13]; decide) (by rw [c13]; rfl) (by decide) ?_
    refine lv_aload_n C.1 C.2.1 dX4_says_144 rfl (lv_at hl 0 rfl) ?_
    refine p_get (j := 0) C hS ha (show vwCl[13]? = some (RX4, TX4, 1) from rfl) in_X4 (by decide) q233 rfl dX4_says_145 ?_
    refine lv_ifnonnull (tgt := 155) C.1 C.2.1 dX4_says_148 (by decide) ?_
    refine lv_aload_n C.1 C.2.1 dX4_says_155 rfl (lv_at hl 0 rfl) ?_
    refine p_get (j := 0) C hS ha (show vwCl[13]? = some (RX4, TX4, 1) from rfl) in_X4 (by decide) q233 rfl dX4_says_156 ?_
    refine t_castX (r := (RX12, TX12, 2)) hfl C0 D hP P_nil hS (by rw [hml]; exact hl.1) hlocks (P_mem (pl_at C.2.2.2.2.2.2.2.2 C.2.2.2.2.2.2.1 hS) hq0) rfl ⟨pk_home, by decide⟩ ⟨pk_dog, by decide⟩ (List.mem_of_getElem? (i := 39) rfl) q640 dX4_says_159 ⟨Nat.le_of_ble_eq_true rfl, Nat.le_of_ble_eq_true rfl, Nat.le_of_ble_eq_true rfl, Nat.le_of_ble_eq_true rfl⟩ (fun H z14 ce hz hP _ hS g1 g2 g3 => ?_)
    refine t_catch (name := "java/lang/ClassCastException") (E := "java/lang/ClassCastException") C0 D [] ⟨0, 243, 244, 21⟩ [] htab (fun z hz => nomatch hz) rfl (by decide) q478 (List.mem_of_getElem? (i := 3) rfl) g1 g2 g3 ?_
    refine W.eq (g2 := F0 m 244 ls [.ref z14]) rfl ?_
    refine lv_astore_n (lv' := [(3, .ref z14), (0, .ref a), (1, .int p1), (2, .ref (ad 0))]) C.1 C.2.1 dX4_says_244 rfl hl (by decide) rfl (fun ls hl => ?_)
    obtain ⟨q15, hq15e⟩ : ∃ q, q = H.size := ⟨_, rfl⟩
    refine t_refuse18 (w := (-2)) (kp := 2) C0 D hml hl.1 hP rW_av P_nil hS q494 q495 dX4_says_245 dX4_says_248 (fun kk => lv_bipush (v := (-2)) C.1 C.2.1 dX4_says_249 (by decide) kk) dX4_says_251 dX4_says_254 ⟨Nat.le_of_ble_eq_true rfl, Nat.le_of_ble_eq_true rfl, Nat.le_of_ble_eq_true rfl, Nat.le_of_ble_eq_true rfl⟩ (fun H locs hq hc hP _ hS => ?_)
    rw [← hq15e] at hq hc ⊢
    obtain rfl := Option.some.inj hE
    refine vx_widen (k := 5) (n := 984) (Nat.le_of_ble_eq_true rfl) (Nat.le_of_ble_eq_true rfl) ?_
    exact hthr _ _ _ _ _ _ _ (by
      rw [htab]
      intro z hz
      have hz : z ∈ ([⟨0, 243, 244, 21⟩] : List ExceptionTableEntry) := hz
      simp only [List.mem_cons, List.not_mem_nil, or_false] at hz
      rcases hz with rfl
      · exact Or.inl rfl) rfl hq.2.2 hc hP hS
  have hE := it_f c13 hE
  by_cases c16 : p1 = 6
  · have hE := it_t c16 hE
    refine lv_tableIn (tgt := 171) C.1 C.2.1 dX4_says_1 (by rw [c16]; decide) (by rw [c16]; decide) (by rw [c16]; rfl) (by decide) ?_
    refine lv_aload_n C.1 C.2.1 dX4_says_171 rfl (lv_at hl 0 rfl) ?_
    refine p_get (j := 0) C hS ha (show vwCl[13]? = some (RX4, TX4, 1) from rfl) in_X4 (by decide) q233 rfl dX4_says_172 ?_
    refine lv_ifnonnull (tgt := 182) C.1 C.2.1 dX4_says_175 (by decide) ?_
    refine lv_aload_n C.1 C.2.1 dX4_says_182 rfl (lv_at hl 0 rfl) ?_
    refine p_get (j := 0) C hS ha (show vwCl[13]? = some (RX4, TX4, 1) from rfl) in_X4 (by decide) q233 rfl dX4_says_183 ?_
    refine t_castX (r := (RX12, TX12, 2)) hfl C0 D hP P_nil hS (by rw [hml]; exact hl.1) hlocks (P_mem (pl_at C.2.2.2.2.2.2.2.2 C.2.2.2.2.2.2.1 hS) hq0) rfl ⟨pk_home, by decide⟩ ⟨pk_bus, by decide⟩ (List.mem_of_getElem? (i := 40) rfl) q642 dX4_says_186 ⟨Nat.le_of_ble_eq_true rfl, Nat.le_of_ble_eq_true rfl, Nat.le_of_ble_eq_true rfl, Nat.le_of_ble_eq_true rfl⟩ (fun H z17 ce hz hP _ hS g1 g2 g3 => ?_)
    refine t_catch (name := "java/lang/ClassCastException") (E := "java/lang/ClassCastException") C0 D [] ⟨0, 243, 244, 21⟩ [] htab (fun z hz => nomatch hz) rfl (by decide) q478 (List.mem_of_getElem? (i := 3) rfl) g1 g2 g3 ?_
    refine W.eq (g2 := F0 m 244 ls [.ref z17]) rfl ?_
    refine lv_astore_n (lv' := [(3, .ref z17), (0, .ref a), (1, .int p1), (2, .ref (ad 0))]) C.1 C.2.1 dX4_says_244 rfl hl (by decide) rfl (fun ls hl => ?_)
    obtain ⟨q18, hq18e⟩ : ∃ q, q = H.size := ⟨_, rfl⟩
    refine t_refuse18 (w := (-2)) (kp := 2) C0 D hml hl.1 hP rW_av P_nil hS q494 q495 dX4_says_245 dX4_says_248 (fun kk => lv_bipush (v := (-2)) C.1 C.2.1 dX4_says_249 (by decide) kk) dX4_says_251 dX4_says_254 ⟨Nat.le_of_ble_eq_true rfl, Nat.le_of_ble_eq_true rfl, Nat.le_of_ble_eq_true rfl, Nat.le_of_ble_eq_true rfl⟩ (fun H locs hq hc hP _ hS => ?_)
    rw [← hq18e] at hq hc ⊢
    obtain rfl := Option.some.inj hE
    refine vx_widen (k := 5) (n := 984) (Nat.le_of_ble_eq_true rfl) (Nat.le_of_ble_eq_true rfl) ?_
    exact hthr _ _ _ _ _ _ _ (by
      rw [htab]
      intro z hz
      have hz : z ∈ ([⟨0, 243, 244, 21⟩] : List ExceptionTableEntry) := hz
      simp only [List.mem_cons, List.not_mem_nil, or_false] at hz
      rcases hz with rfl
      · exact Or.inl rfl) rfl hq.2.2 hc hP hS
  have hE := it_f c16 hE
  refine lv_tableOut (tgt := 198) C.1 C.2.1 dX4_says_1 (ts_e (ts_s (ts_s (ts_s (ts_s (ts_s (ts_s (ts_0 1) c1 rfl rfl) c4 rfl rfl) c7 rfl rfl) c10 rfl rfl) c13 rfl rfl) c16 rfl rfl) rfl) (by decide) ?_
  refine lv_aload_n C.1 C.2.1 dX4_says_198 rfl (lv_at hl 0 rfl) ?_
  refine p_get (j := 0) C hS ha (show vwCl[13]? = some (RX4, TX4, 1) from rfl) in_X4 (by decide) q233 rfl dX4_says_199 ?_
  refine lv_ifnonnull (tgt := 209) C.1 C.2.1 dX4_says_202 (by decide) ?_
  refine lv_aload_n C.1 C.2.1 dX4_says_209 rfl (lv_at hl 2 rfl) ?_
  refine rWg_0_7 q198 C hP dX4_says_210 ?_
  refine lv_aload_n C.1 C.2.1 dX4_says_213 rfl (lv_at hl 0 rfl) ?_
  refine p_get (j := 0) C hS ha (show vwCl[13]? = some (RX4, TX4, 1) from rfl) in_X4 (by decide) q233 rfl dX4_says_214 ?_
  refine va_castS C.1 C.2.1 C.2.2.1 (C.2.2.2.1 _ q520) (C.2.2.2.2.1.1 0 _ (show vwCl[0]? = some (RX12, TX12, 2) from rfl)).2 (n_recvH C hS hq0 (show vwCl[0]? = some (RX12, TX12, 2) from rfl)) dX4_says_217 ?_
  refine h_get (j := 0) C hS hq0 (show vwCl[0]? = some (RX12, TX12, 2) from rfl) in_X12 (by decide) rfl rfl rfl q666 (Or.inl rfl) rfl dX4_says_220 ?_
  obtain ⟨g19, hE⟩ := it_g hE
  refine rWl_5 (v := (v_had (ix).toNatClampNeg)) C hP (gi_in g19) rfl dX4_says_223 ?_
  refine lv_istore_n (lv' := [(3, .int (v_had (ix).toNatClampNeg)), (0, .ref a), (1, .int p1), (2, .ref (ad 0))]) C.1 C.2.1 dX4_says_224 rfl hl (by decide) rfl (fun ls hl => ?_)
  refine lv_aload_n C.1 C.2.1 dX4_says_225 rfl (lv_at hl 1 rfl) ?_
  refine p_get (j := 0) C hS ha (show vwCl[13]? = some (RX4, TX4, 1) from rfl) in_X4 (by decide) q233 rfl dX4_says_226 ?_
  refine lv_ifnull C.1 C.2.1 dX4_says_229 ?_
  refine lv_iconst (v := 1) C.1 C.2.1 dX4_says_232 (by decide) ?_
  refine lv_goto (tgt := 237) C.1 C.2.1 dX4_says_233 (by decide) ?_
  refine lv_bipush (v := (-3)) C.1 C.2.1 dX4_says_237 (by decide) ?_
  refine t_after [] C0 D hP P_nil hS (vx_runS (As := [.int 1, .int (-3)]) (rest := []) ⟨C.1, C.2.1, hml, C.2.2.1, C.2.2.2.1⟩ (metC_HW_need l hfl G ad pl H.size 1 (-3) _ (need_eq _ _)) (va_cwS 2 C.2.2.2.1 (lw_S q493 q398 q80 q399) rfl rfl rfl (by decide +kernel) ⟨Nat.le_of_ble_eq_true rfl, Nat.le_of_ble_eq_true rfl⟩) (rr_preS C D hP hS [] rfl (by decide) rfl) rfl rfl hl.1 rfl (lv_room (Nat.le_of_ble_eq_true rfl)) dX4_says_239 ⟨Nat.le_of_ble_eq_true rfl, Nat.le_of_ble_eq_true rfl⟩) rW_av rfl rfl rfl (fun hφ H locs hP _ hS => ?_) (fun w q H locs hw hq hc hP _ hS => ?_)
  rotate_left
  · exact absurd (nd_x hw).1 (by decide)
  refine lv_iload_n C.1 C.2.1 dX4_says_242 rfl (lv_at hl 0 rfl) ?_
  obtain rfl := Option.some.inj hE
  refine W.widen (k := 5) (n := 984) (Nat.le_of_ble_eq_true rfl) (Nat.le_of_ble_eq_true rfl) ?_
  exact hret _ _ _ _ dX4_says_243 rfl hP hS
def sC_Shelf_says_H_1 (v_had : Nat → Int32) (ix : Int32) (hby : Int32) (p1 : Int32) : Option (Option Int32 × Int32) :=
  if p1 = 1 then
    (sC_Good_more_1 ix hby).bind fun r2 =>
    some (none, r2)
  else
  if p1 = 2 then
    some (some (-2), 0)
  else
  if p1 = 3 then
    some (some (-2), 0)
  else
  if p1 = 4 then
    some (some (-2), 0)
  else
  if p1 = 5 then
    some (some (-2), 0)
  else
  if p1 = 6 then
    some (some (-2), 0)
  else
  if gi ix 8 then
  some (none, (v_had (ix).toNatClampNeg))
  else none
set_option maxHeartbeats 4000000 in
theorem metC_Shelf_says_H_1 (l : Launch) (hfl : l.stackTraces = false) (G : kG) (ad : Nat → Nat) (pl : va_W) (sz : Nat) (v_many : Int32) (v_pets : Int32) (v_last : Int32) (v_seed : Int32) (v_weight : Int32) (v_fright : Int32) (v_age : Int32) (v_asked : Nat → Int32) (v_homes : Nat → Option Nat) (v_marks : Nat → Int32) (v_had : Nat → Int32) (v_allergic : Nat → Int32) (v_deaths : Nat → Int32) (a q : Nat) (ix : Int32) (hby : Int32) (p1 : Int32) (ha : (a, .inr (13, [.ref q])) ∈ pl) (hq0 : (q, .inr (1, [.int ix, .int hby])) ∈ pl) (res : Option Int32 × Int32) (hE : sC_Shelf_says_H_1 v_had ix hby p1 = some res) : vx_Met l yX4_says (wsW_ yX4_says cX4_says 4 (some .int) [((0 : Nat), (243 : Nat), (244 : Nat), (21 : Nat))]) ({ frames := 9, cells := 5, slots := 984, locals := 10281 } : Room) (rPc G (rW G.2 ad v_many v_pets v_last v_seed v_weight v_fright v_age v_asked v_homes v_marks v_had v_allergic v_deaths) pl (rWV ad) sz [.ref a, .int p1, .ref (ad 0)]) (tQc G (rW G.2 ad v_many v_pets v_last v_seed v_weight v_fright v_age v_asked v_homes v_marks v_had v_allergic v_deaths) [] (tA sz (rWV ad) []) (res.1 = none) (some (.int res.2))) (tXC G (rW G.2 ad v_many v_pets v_last v_seed v_weight v_fright v_age v_asked v_homes v_marks v_had v_allergic v_deaths) [] (tA sz (rWV ad) []) 18 RX6 res.1 sz) 5 984 (tA sz (rWV ad) []) := by
  refine r_ofWH (own := RX4) (by decide) rfl (Nat.le_of_ble_eq_true rfl) ?_
  intro p e s m args below meth c ls C C0 D hml htab hP hS hl hr hlocks hsz
  have hl : lv_has ls 4 [(0, .ref a), (1, .int p1), (2, .ref (ad 0))] := hl
  obtain ⟨Q, hQ⟩ : ∃ Q, Q = vx_MQ below (tQc G (rW G.2 ad v_many v_pets v_last v_seed v_weight v_fright v_age v_asked v_homes v_marks v_had v_allergic v_deaths) [] (tA sz (rWV ad) []) (res.1 = none) (some (.int res.2))) (tXC G (rW G.2 ad v_many v_pets v_last v_seed v_weight v_fright v_age v_asked v_homes v_marks v_had v_allergic v_deaths) [] (tA sz (rWV ad) []) 18 RX6 res.1 sz) args s 5 984 (tA sz (rWV ad) []) := ⟨_, rfl⟩
  rw [← hQ]
  have hret : ∀ (pc : Nat) (ls : Array Slot) (H : Heap) (locs : List Loc), decode cX4_says pc = .ok (.ireturn, 1) → res.1 = none → va_P G.1 vwCl (rW G.2 ad v_many v_pets v_last v_seed v_weight v_fright v_age v_asked v_homes v_marks v_had v_allergic v_deaths) H → va_S (tA sz (rWV ad) []) s.heap H locs → W p l e ({ frames := 9, cells := 5, slots := 984, locals := 10281 } : Room) s m args below meth c H locs 5 984 Q (F0 m pc ls [(.int res.2)]) := by
    intro pc ls H locs hd hφ hP hS
    rw [hQ]
    exact t_iret C0 hr hlocks hd hφ hP P_nil hS
  have hthr : ∀ (pc : Nat) (ls : Array Slot) (rest : List Value) (H : Heap) (locs : List Loc) (w : Int32) (q : Nat), (∀ z ∈ c.exceptionTable.toList, covers z pc = false ∨ (z.catchType ≠ 0 ∧ ∃ nm : String, (Cond.classLink RX4 z.catchType nm).before args s = true ∧ va_Nc RX6 nm s)) → res.1 = some w → s.heap.size ≤ q → va_P G.1 vwCl [(q, .inr (18, xF w))] H → va_P G.1 vwCl (rW G.2 ad v_many v_pets v_last v_seed v_weight v_fright v_age v_asked v_homes v_marks v_had v_allergic v_deaths) H → va_S (tA sz (rWV ad) []) s.heap H locs → vx_W p l e ({ frames := 9, cells := 5, slots := 984, locals := 10281 } : Room) s m args below meth c H locs 5 984 Q (F0 m pc ls rest) q := by
    intro pc ls rest H locs w q hout hw hq hc hP hS
    rw [hQ]
    exact t_outP (r := (RX6, TX6, 7)) C0 rfl hout hlocks hw (by omega) hc hP P_nil hS
  clear hQ
  obtain ⟨H, hH⟩ : ∃ H, H = s.heap := ⟨_, rfl⟩
  obtain ⟨locs, hlo⟩ : ∃ locs : List Loc, locs = [] := ⟨_, rfl⟩
  have hP : va_P G.1 vwCl (rW G.2 ad v_many v_pets v_last v_seed v_weight v_fright v_age v_asked v_homes v_marks v_had v_allergic v_deaths) H := by rw [hH]; exact hP
  have hS : va_S (tA sz (rWV ad) []) s.heap H locs := by rw [hH, hlo]; exact hS
  suffices hZ : W p l e ({ frames := 9, cells := 5, slots := 984, locals := 10281 } : Room) s m args below meth c H locs 0 0 Q (F0 m 0 ls []) by rw [hH, hlo] at hZ; exact hZ
  clear hH hlo
  unfold sC_Shelf_says_H_1 at hE
  refine lv_iload_n C.1 C.2.1 dX4_says_0 rfl (lv_at hl 1 rfl) ?_
  by_cases c1 : p1 = 1
  · have hE := it_t c1 hE
    refine lv_tableIn (tgt := 40) C.1 C.2.1 dX4_says_1 (by rw [c1]; decide) (by rw [c1]; decide) (by rw [c1]; rfl) (by decide) ?_
    refine lv_aload_n C.1 C.2.1 dX4_says_40 rfl (lv_at hl 0 rfl) ?_
    refine p_get (j := 0) C hS ha (show vwCl[13]? = some (RX4, TX4, 1) from rfl) in_X4 (by decide) q233 rfl dX4_says_41 ?_
    refine lv_ifnonnull (tgt := 51) C.1 C.2.1 dX4_says_44 (by decide) ?_
    refine lv_aload_n C.1 C.2.1 dX4_says_51 rfl (lv_at hl 0 rfl) ?_
    refine p_get (j := 0) C hS ha (show vwCl[13]? = some (RX4, TX4, 1) from rfl) in_X4 (by decide) q233 rfl dX4_says_52 ?_
    refine va_castS C.1 C.2.1 C.2.2.1 (C.2.2.2.1 _ q601) (C.2.2.2.2.1.1 1 _ (show vwCl[1]? = some (RX13, TX13, 2) from rfl)).2 (n_recvH C hS hq0 (show vwCl[1]? = some (RX13, TX13, 2) from rfl)) dX4_says_55 ?_
    obtain ⟨r2, hr2, hE⟩ := it_b hE
    refine n_after [] C.2.2.2.2.2.1 C.2.2.2.2.2.2.2.1 hP hS (va_runV (As := []) (rest := []) ⟨C.1, C.2.1, hml, C.2.2.1, C.2.2.2.1⟩ (metC_Good_more_1 l G ad pl  q ix hby hq0 r2 hr2) (cwV (C := RX13) 0 C.2.2.2.1 (lw_V q602 q603 q604 q103 q611) rfl rfl rfl (by decide +kernel) ⟨Nat.le_of_ble_eq_true rfl, Nat.le_of_ble_eq_true rfl⟩) (n_preV C hP hS [] rfl (by decide) rfl (n_recvH C hS hq0 rfl)) rfl rfl hl.1 rfl (lv_room (Nat.le_of_ble_eq_true rfl)) dX4_says_58 ⟨Nat.le_of_ble_eq_true rfl, Nat.le_of_ble_eq_true rfl⟩) rW_av rfl rfl rfl (fun H locs hP hS => ?_)
    refine lv_istore_n (lv' := [(3, .int r2), (0, .ref a), (1, .int p1), (2, .ref (ad 0))]) C.1 C.2.1 dX4_says_61 rfl hl (by decide) rfl (fun ls hl => ?_)
    refine lv_goto (tgt := 225) C.1 C.2.1 dX4_says_62 (by decide) ?_
    refine lv_aload_n C.1 C.2.1 dX4_says_225 rfl (lv_at hl 1 rfl) ?_
    refine p_get (j := 0) C hS ha (show vwCl[13]? = some (RX4, TX4, 1) from rfl) in_X4 (by decide) q233 rfl dX4_says_226 ?_
    refine lv_ifnull C.1 C.2.1 dX4_says_229 ?_
    refine lv_iconst (v := 1) C.1 C.2.1 dX4_says_232 (by decide) ?_
    refine lv_goto (tgt := 237) C.1 C.2.1 dX4_says_233 (by decide) ?_
    refine lv_bipush (v := (-3)) C.1 C.2.1 dX4_says_237 (by decide) ?_
    refine t_after [] C0 D hP P_nil hS (vx_runS (As := [.int 1, .int (-3)]) (rest := []) ⟨C.1, C.2.1, hml, C.2.2.1, C.2.2.2.1⟩ (metC_HW_need l hfl G ad pl H.size 1 (-3) _ (need_eq _ _)) (va_cwS 2 C.2.2.2.1 (lw_S q493 q398 q80 q399) rfl rfl rfl (by decide +kernel) ⟨Nat.le_of_ble_eq_true rfl, Nat.le_of_ble_eq_true rfl⟩) (rr_preS C D hP hS [] rfl (by decide) rfl) rfl rfl hl.1 rfl (lv_room (Nat.le_of_ble_eq_true rfl)) dX4_says_239 ⟨Nat.le_of_ble_eq_true rfl, Nat.le_of_ble_eq_true rfl⟩) rW_av rfl rfl rfl (fun hφ H locs hP _ hS => ?_) (fun w q H locs hw hq hc hP _ hS => ?_)
    rotate_left
    · exact absurd (nd_x hw).1 (by decide)
    refine lv_iload_n C.1 C.2.1 dX4_says_242 rfl (lv_at hl 0 rfl) ?_
    obtain rfl := Option.some.inj hE
    refine W.widen (k := 5) (n := 984) (Nat.le_of_ble_eq_true rfl) (Nat.le_of_ble_eq_true rfl) ?_
    exact hret _ _ _ _ dX4_says_243 rfl hP hS
  have hE := it_f c1 hE
  by_cases c5 : p1 = 2
  · have hE := it_t c5 hE
    refine lv_tableIn (tgt := 65) C.1 C.2.1 dX4_says_1 (by rw [c5]; decide) (by rw [c5]; decide) (by rw [c5]; rfl) (by decide) ?_
    refine lv_aload_n C.1 C.2.1 dX4_says_65 rfl (lv_at hl 0 rfl) ?_
    refine p_get (j := 0) C hS ha (show vwCl[13]? = some (RX4, TX4, 1) from rfl) in_X4 (by decide) q233 rfl dX4_says_66 ?_
    refine lv_ifnonnull (tgt := 76) C.1 C.2.1 dX4_says_69 (by decide) ?_
    refine lv_aload_n C.1 C.2.1 dX4_says_76 rfl (lv_at hl 0 rfl) ?_
    refine p_get (j := 0) C hS ha (show vwCl[13]? = some (RX4, TX4, 1) from rfl) in_X4 (by decide) q233 rfl dX4_says_77 ?_
    refine t_castX (r := (RX13, TX13, 2)) hfl C0 D hP P_nil hS (by rw [hml]; exact hl.1) hlocks (P_mem (pl_at C.2.2.2.2.2.2.2.2 C.2.2.2.2.2.2.1 hS) hq0) rfl ⟨pk_good, by decide⟩ ⟨pk_cat, by decide⟩ (List.mem_of_getElem? (i := 41) rfl) q612 dX4_says_80 ⟨Nat.le_of_ble_eq_true rfl, Nat.le_of_ble_eq_true rfl, Nat.le_of_ble_eq_true rfl, Nat.le_of_ble_eq_true rfl⟩ (fun H z6 ce hz hP _ hS g1 g2 g3 => ?_)
    refine t_catch (name := "java/lang/ClassCastException") (E := "java/lang/ClassCastException") C0 D [] ⟨0, 243, 244, 21⟩ [] htab (fun z hz => nomatch hz) rfl (by decide) q478 (List.mem_of_getElem? (i := 3) rfl) g1 g2 g3 ?_
    refine W.eq (g2 := F0 m 244 ls [.ref z6]) rfl ?_
    refine lv_astore_n (lv' := [(3, .ref z6), (0, .ref a), (1, .int p1), (2, .ref (ad 0))]) C.1 C.2.1 dX4_says_244 rfl hl (by decide) rfl (fun ls hl => ?_)
    obtain ⟨q7, hq7e⟩ : ∃ q, q = H.size := ⟨_, rfl⟩
    refine t_refuse18 (w := (-2)) (kp := 2) C0 D hml hl.1 hP rW_av P_nil hS q494 q495 dX4_says_245 dX4_says_248 (fun kk => lv_bipush (v := (-2)) C.1 C.2.1 dX4_says_249 (by decide) kk) dX4_says_251 dX4_says_254 ⟨Nat.le_of_ble_eq_true rfl, Nat.le_of_ble_eq_true rfl, Nat.le_of_ble_eq_true rfl, Nat.le_of_ble_eq_true rfl⟩ (fun H locs hq hc hP _ hS => ?_)
    rw [← hq7e] at hq hc ⊢
    obtain rfl := Option.some.inj hE
    refine vx_widen (k := 5) (n := 984) (Nat.le_of_ble_eq_true rfl) (Nat.le_of_ble_eq_true rfl) ?_
    exact hthr _ _ _ _ _ _ _ (by
      rw [htab]
      intro z hz
      have hz : z ∈ ([⟨0, 243, 244, 21⟩] : List ExceptionTableEntry) := hz
      simp only [List.mem_cons, List.not_mem_nil, or_false] at hz
      rcases hz with rfl
      · exact Or.inl rfl) rfl hq.2.2 hc hP hS
  have hE := it_f c5 hE
  by_cases c8 : p1 = 3
  · have hE := it_t c8 hE
    refine lv_tableIn (tgt := 92) C.1 C.2.1 dX4_says_1 (by rw [c8]; decide) (by rw [c8]; decide) (by rw [c8]; rfl) (by decide) ?_
    refine lv_aload_n C.1 C.2.1 dX4_says_92 rfl (lv_at hl 0 rfl) ?_
    refine p_get (j := 0) C hS ha (show vwCl[13]? = some (RX4, TX4, 1) from rfl) in_X4 (by decide) q233 rfl dX4_says_93 ?_
    refine lv_ifnonnull (tgt := 103) C.1 C.2.1 dX4_says_96 (by decide) ?_
    refine lv_aload_n C.1 C.2.1 dX4_says_103 rfl (lv_at hl 0 rfl) ?_
    refine p_get (j := 0) C hS ha (show vwCl[13]? = some (RX4, TX4, 1) from rfl) in_X4 (by decide) q233 rfl dX4_says_104 ?_
    refine t_castX (r := (RX13, TX13, 2)) hfl C0 D hP P_nil hS (by rw [hml]; exact hl.1) hlocks (P_mem (pl_at C.2.2.2.2.2.2.2.2 C.2.2.2.2.2.2.1 hS) hq0) rfl ⟨pk_good, by decide⟩ ⟨pk_overfed, by decide⟩ (List.mem_of_getElem? (i := 42) rfl) q627 dX4_says_107 ⟨Nat.le_of_ble_eq_true rfl, Nat.le_of_ble_eq_true rfl, Nat.le_of_ble_eq_true rfl, Nat.le_of_ble_eq_true rfl⟩ (fun H z9 ce hz hP _ hS g1 g2 g3 => ?_)
    refine t_catch (name := "java/lang/ClassCastException") (E := "java/lang/ClassCastException") C0 D [] ⟨0, 243, 244, 21⟩ [] htab (fun z hz => nomatch hz) rfl (by decide) q478 (List.mem_of_getElem? (i := 3) rfl) g1 g2 g3 ?_
    refine W.eq (g2 := F0 m 244 ls [.ref z9]) rfl ?_
    refine lv_astore_n (lv' := [(3, .ref z9), (0, .ref a), (1, .int p1), (2, .ref (ad 0))]) C.1 C.2.1 dX4_says_244 rfl hl (by decide) rfl (fun ls hl => ?_)
    obtain ⟨q10, hq10e⟩ : ∃ q, q = H.size := ⟨_, rfl⟩
    refine t_refuse18 (w := (-2)) (kp := 2) C0 D hml hl.1 hP rW_av P_nil hS q494 q495 dX4_says_245 dX4_says_248 (fun kk => lv_bipush (v := (-2)) C.1 C.2.1 dX4_says_249 (by decide) kk) dX4_says_251 dX4_says_254 ⟨Nat.le_of_ble_eq_true rfl, Nat.le_of_ble_eq_true rfl, Nat.le_of_ble_eq_true rfl, Nat.le_of_ble_eq_true rfl⟩ (fun H locs hq hc hP _ hS => ?_)
    rw [← hq10e] at hq hc ⊢
    obtain rfl := Option.some.inj hE
    refine vx_widen (k := 5) (n := 984) (Nat.le_of_ble_eq_true rfl) (Nat.le_of_ble_eq_true rfl) ?_
    exact hthr _ _ _ _ _ _ _ (by
      rw [htab]
      intro z hz
      have hz : z ∈ ([⟨0, 243, 244, 21⟩] : List ExceptionTableEntry) := hz
      simp only [List.mem_cons, List.not_mem_nil, or_false] at hz
      rcases hz with rfl
      · exact Or.inl rfl) rfl hq.2.2 hc hP hS
  have hE := it_f c8 hE
  by_cases c11 : p1 = 4
  · have hE := it_t c11 hE
    refine lv_tableIn (tgt := 117) C.1 C.2.1 dX4_says_1 (by rw [c11]; decide) (by rw [c11]; decide) (by rw [c11]; rfl) (by decide) ?_
    refine lv_aload_n C.1 C.2.1 dX4_says_117 rfl (lv_at hl 0 rfl) ?_
    refine p_get (j := 0) C hS ha (show vwCl[13]? = some (RX4, TX4, 1) from rfl) in_X4 (by decide) q233 rfl dX4_says_118 ?_
    refine lv_ifnonnull (tgt := 128) C.1 C.2.1 dX4_says_121 (by decide) ?_
    refine lv_aload_n C.1 C.2.1 dX4_says_128 rfl (lv_at hl 0 rfl) ?_
    refine p_get (j := 0) C hS ha (show vwCl[13]? = some (RX4, TX4, 1) from rfl) in_X4 (by decide) q233 rfl dX4_says_129 ?_
    refine t_castX (r := (RX13, TX13, 2)) hfl C0 D hP P_nil hS (by rw [hml]; exact hl.1) hlocks (P_mem (pl_at C.2.2.2.2.2.2.2.2 C.2.2.2.2.2.2.1 hS) hq0) rfl ⟨pk_good, by decide⟩ ⟨pk_far, by decide⟩ (List.mem_of_getElem? (i := 43) rfl) q629 dX4_says_132 ⟨Nat.le_of_ble_eq_true rfl, Nat.le_of_ble_eq_true rfl, Nat.le_of_ble_eq_true rfl, Nat.le_of_ble_eq_true rfl⟩ (fun H z12 ce hz hP _ hS g1 g2 g3 => ?_)
    refine t_catch (name := "java/lang/ClassCastException") (E := "java/lang/ClassCastException") C0 D [] ⟨0, 243, 244, 21⟩ [] htab (fun z hz => nomatch hz) rfl (by decide) q478 (List.mem_of_getElem? (i := 3) rfl) g1 g2 g3 ?_
    refine W.eq (g2 := F0 m 244 ls [.ref z12]) rfl ?_
    refine lv_astore_n (lv' := [(3, .ref z12), (0, .ref a), (1, .int p1), (2, .ref (ad 0))]) C.1 C.2.1 dX4_says_244 rfl hl (by decide) rfl (fun ls hl => ?_)
    obtain ⟨q13, hq13e⟩ : ∃ q, q = H.size := ⟨_, rfl⟩
    refine t_refuse18 (w := (-2)) (kp := 2) C0 D hml hl.1 hP rW_av P_nil hS q494 q495 dX4_says_245 dX4_says_248 (fun kk => lv_bipush (v := (-2)) C.1 C.2.1 dX4_says_249 (by decide) kk) dX4_says_251 dX4_says_254 ⟨Nat.le_of_ble_eq_true rfl, Nat.le_of_ble_eq_true rfl, Nat.le_of_ble_eq_true rfl, Nat.le_of_ble_eq_true rfl⟩ (fun H locs hq hc hP _ hS => ?_)
    rw [← hq13e] at hq hc ⊢
    obtain rfl := Option.some.inj hE
    refine vx_widen (k := 5) (n := 984) (Nat.le_of_ble_eq_true rfl) (Nat.le_of_ble_eq_true rfl) ?_
    exact hthr _ _ _ _ _ _ _ (by
      rw [htab]
      intro z hz
      have hz : z ∈ ([⟨0, 243, 244, 21⟩] : List ExceptionTableEntry) := hz
      simp only [List.mem_cons, List.not_mem_nil, or_false] at hz
      rcases hz with rfl
      · exact Or.inl rfl) rfl hq.2.2 hc hP hS
  have hE := it_f c11 hE
  by_cases c14 : p1 = 5
  · have hE := it_t c14 hE
    refine lv_tableIn (tgt := 144) C.1 C.2.1 dX4_says_1 (by rw [c14]; decide) (by rw [c14]; decide) (by rw [c14]; rfl) (by decide) ?_
    refine lv_aload_n C.1 C.2.1 dX4_says_144 rfl (lv_at hl 0 rfl) ?_
    refine p_get (j := 0) C hS ha (show vwCl[13]? = some (RX4, TX4, 1) from rfl) in_X4 (by decide) q233 rfl dX4_says_145 ?_
    refine lv_ifnonnull (tgt := 155) C.1 C.2.1 dX4_says_148 (by decide) ?_
    refine lv_aload_n C.1 C.2.1 dX4_says_155 rfl (lv_at hl 0 rfl) ?_
    refine p_get (j := 0) C hS ha (show vwCl[13]? = some (RX4, TX4, 1) from rfl) in_X4 (by decide) q233 rfl dX4_says_156 ?_
    refine t_castX (r := (RX13, TX13, 2)) hfl C0 D hP P_nil hS (by rw [hml]; exact hl.1) hlocks (P_mem (pl_at C.2.2.2.2.2.2.2.2 C.2.2.2.2.2.2.1 hS) hq0) rfl ⟨pk_good, by decide⟩ ⟨pk_dog, by decide⟩ (List.mem_of_getElem? (i := 44) rfl) q640 dX4_says_159 ⟨Nat.le_of_ble_eq_true rfl, Nat.le_of_ble_eq_true rfl, Nat.le_of_ble_eq_true rfl, Nat.le_of_ble_eq_true rfl⟩ (fun H z15 ce hz hP _ hS g1 g2 g3 => ?_)
    refine t_catch (name := "java/lang/ClassCastException") (E := "java/lang/ClassCastException") C0 D [] ⟨0, 243, 244, 21⟩ [] htab (fun z hz => nomatch hz) rfl (by decide) q478 (List.mem_of_getElem? (i := 3) rfl) g1 g2 g3 ?_
    refine W.eq (g2 := F0 m 244 ls [.ref z15]) rfl ?_
    refine lv_astore_n (lv' := [(3, .ref z15), (0, .ref a), (1, .int p1), (2, .ref (ad 0))]) C.1 C.2.1 dX4_says_244 rfl hl (by decide) rfl (fun ls hl => ?_)
    obtain ⟨q16, hq16e⟩ : ∃ q, q = H.size := ⟨_, rfl⟩
    refine t_refuse18 (w := (-2)) (kp := 2) C0 D hml hl.1 hP rW_av P_nil hS q494 q495 dX4_says_245 dX4_says_248 (fun kk => lv_bipush (v := (-2)) C.1 C.2.1 dX4_says_249 (by decide) kk) dX4_says_251 dX4_says_254 ⟨Nat.le_of_ble_eq_true rfl, Nat.le_of_ble_eq_true rfl, Nat.le_of_ble_eq_true rfl, Nat.le_of_ble_eq_true rfl⟩ (fun H locs hq hc hP _ hS => ?_)
    rw [← hq16e] at hq hc ⊢
    obtain rfl := Option.some.inj hE
    refine vx_widen (k := 5) (n := 984) (Nat.le_of_ble_eq_true rfl) (Nat.le_of_ble_eq_true rfl) ?_
    exact hthr _ _ _ _ _ _ _ (by
      rw [htab]
      intro z hz
      have hz : z ∈ ([⟨0, 243, 244, 21⟩] : List ExceptionTableEntry) := hz
      simp only [List.mem_cons, List.not_mem_nil, or_false] at hz
      rcases hz with rfl
      · exact Or.inl rfl) rfl hq.2.2 hc hP hS
  have hE := it_f c14 hE
  by_cases c17 : p1 = 6
  · have hE := it_t c17 hE
    refine lv_tableIn (tgt := 171) C.1 C.2.1 dX4_says_1 (by rw [c17]; decide) (by rw [c17]; decide) (by rw [c17]; rfl) (by decide) ?_
    refine lv_aload_n C.1 C.2.1 dX4_says_171 rfl (lv_at hl 0 rfl) ?_
    refine p_get (j := 0) C hS ha (show vwCl[13]? = some (RX4, TX4, 1) from rfl) in_X4 (by decide) q233 rfl dX4_says_172 ?_
    refine lv_ifnonnull (tgt := 182) C.1 C.2.1 dX4_says_175 (by decide) ?_
    refine lv_aload_n C.1 C.2.1 dX4_says_182 rfl (lv_at hl 0 rfl) ?_
    refine p_get (j := 0) C hS ha (show vwCl[13]? = some (RX4, TX4, 1) from rfl) in_X4 (by decide) q233 rfl dX4_says_183 ?_
    refine t_castX (r := (RX13, TX13, 2)) hfl C0 D hP P_nil hS (by rw [hml]; exact hl.1) hlocks (P_mem (pl_at C.2.2.2.2.2.2.2.2 C.2.2.2.2.2.2.1 hS) hq0) rfl ⟨pk_good, by decide⟩ ⟨pk_bus, by decide⟩ (List.mem_of_getElem? (i := 45) rfl) q642 dX4_says_186 ⟨Nat.le_of_ble_eq_true rfl, Nat.le_of_ble_eq_true rfl, Nat.le_of_ble_eq_true rfl, Nat.le_of_ble_eq_true rfl⟩ (fun H z18 ce hz hP _ hS g1 g2 g3 => ?_)
    refine t_catch (name := "java/lang/ClassCastException") (E := "java/lang/ClassCastException") C0 D [] ⟨0, 243, 244, 21⟩ [] htab (fun z hz => nomatch hz) rfl (by decide) q478 (List.mem_of_getElem? (i := 3) rfl) g1 g2 g3 ?_
    refine W.eq (g2 := F0 m 244 ls [.ref z18]) rfl ?_
    refine lv_astore_n (lv' := [(3, .ref z18), (0, .ref a), (1, .int p1), (2, .ref (ad 0))]) C.1 C.2.1 dX4_says_244 rfl hl (by decide) rfl (fun ls hl => ?_)
    obtain ⟨q19, hq19e⟩ : ∃ q, q = H.size := ⟨_, rfl⟩
    refine t_refuse18 (w := (-2)) (kp := 2) C0 D hml hl.1 hP rW_av P_nil hS q494 q495 dX4_says_245 dX4_says_248 (fun kk => lv_bipush (v := (-2)) C.1 C.2.1 dX4_says_249 (by decide) kk) dX4_says_251 dX4_says_254 ⟨Nat.le_of_ble_eq_true rfl, Nat.le_of_ble_eq_true rfl, Nat.le_of_ble_eq_true rfl, Nat.le_of_ble_eq_true rfl⟩ (fun H locs hq hc hP _ hS => ?_)
    rw [← hq19e] at hq hc ⊢
    obtain rfl := Option.some.inj hE
    refine vx_widen (k := 5) (n := 984) (Nat.le_of_ble_eq_true rfl) (Nat.le_of_ble_eq_true rfl) ?_
    exact hthr _ _ _ _ _ _ _ (by
      rw [htab]
      intro z hz
      have hz : z ∈ ([⟨0, 243, 244, 21⟩] : List ExceptionTableEntry) := hz
      simp only [List.mem_cons, List.not_mem_nil, or_false] at hz
      rcases hz with rfl
      · exact Or.inl rfl) rfl hq.2.2 hc hP hS
  have hE := it_f c17 hE
  refine lv_tableOut (tgt := 198) C.1 C.2.1 dX4_says_1 (ts_e (ts_s (ts_s (ts_s (ts_s (ts_s (ts_s (ts_0 1) c1 rfl rfl) c5 rfl rfl) c8 rfl rfl) c11 rfl rfl) c14 rfl rfl) c17 rfl rfl) rfl) (by decide) ?_
  refine lv_aload_n C.1 C.2.1 dX4_says_198 rfl (lv_at hl 0 rfl) ?_
  refine p_get (j := 0) C hS ha (show vwCl[13]? = some (RX4, TX4, 1) from rfl) in_X4 (by decide) q233 rfl dX4_says_199 ?_
  refine lv_ifnonnull (tgt := 209) C.1 C.2.1 dX4_says_202 (by decide) ?_
  refine lv_aload_n C.1 C.2.1 dX4_says_209 rfl (lv_at hl 2 rfl) ?_
  refine rWg_0_7 q198 C hP dX4_says_210 ?_
  refine lv_aload_n C.1 C.2.1 dX4_says_213 rfl (lv_at hl 0 rfl) ?_
  refine p_get (j := 0) C hS ha (show vwCl[13]? = some (RX4, TX4, 1) from rfl) in_X4 (by decide) q233 rfl dX4_says_214 ?_
  refine va_castY C.1 C.2.1 C.2.2.1 (C.2.2.2.1 _ q520) (D.2.2.2.2.1 _ (List.mem_of_getElem? (i := 14) rfl)) (n_recvH C hS hq0 (show vwCl[1]? = some (RX13, TX13, 2) from rfl)) dX4_says_217 ?_
  refine h_get (j := 0) C hS hq0 (show vwCl[1]? = some (RX13, TX13, 2) from rfl) in_X13 (by decide) rfl rfl rfl q666 (Or.inl rfl) rfl dX4_says_220 ?_
  obtain ⟨g20, hE⟩ := it_g hE
  refine rWl_5 (v := (v_had (ix).toNatClampNeg)) C hP (gi_in g20) rfl dX4_says_223 ?_
  refine lv_istore_n (lv' := [(3, .int (v_had (ix).toNatClampNeg)), (0, .ref a), (1, .int p1), (2, .ref (ad 0))]) C.1 C.2.1 dX4_says_224 rfl hl (by decide) rfl (fun ls hl => ?_)
  refine lv_aload_n C.1 C.2.1 dX4_says_225 rfl (lv_at hl 1 rfl) ?_
  refine p_get (j := 0) C hS ha (show vwCl[13]? = some (RX4, TX4, 1) from rfl) in_X4 (by decide) q233 rfl dX4_says_226 ?_
  refine lv_ifnull C.1 C.2.1 dX4_says_229 ?_
  refine lv_iconst (v := 1) C.1 C.2.1 dX4_says_232 (by decide) ?_
  refine lv_goto (tgt := 237) C.1 C.2.1 dX4_says_233 (by decide) ?_
  refine lv_bipush (v := (-3)) C.1 C.2.1 dX4_says_237 (by decide) ?_
  refine t_after [] C0 D hP P_nil hS (vx_runS (As := [.int 1, .int (-3)]) (rest := []) ⟨C.1, C.2.1, hml, C.2.2.1, C.2.2.2.1⟩ (metC_HW_need l hfl G ad pl H.size 1 (-3) _ (need_eq _ _)) (va_cwS 2 C.2.2.2.1 (lw_S q493 q398 q80 q399) rfl rfl rfl (by decide +kernel) ⟨Nat.le_of_ble_eq_true rfl, Nat.le_of_ble_eq_true rfl⟩) (rr_preS C D hP hS [] rfl (by decide) rfl) rfl rfl hl.1 rfl (lv_room (Nat.le_of_ble_eq_true rfl)) dX4_says_239 ⟨Nat.le_of_ble_eq_true rfl, Nat.le_of_ble_eq_true rfl⟩) rW_av rfl rfl rfl (fun hφ H locs hP _ hS => ?_) (fun w q H locs hw hq hc hP _ hS => ?_)
  rotate_left
  · exact absurd (nd_x hw).1 (by decide)
  refine lv_iload_n C.1 C.2.1 dX4_says_242 rfl (lv_at hl 0 rfl) ?_
  obtain rfl := Option.some.inj hE
  refine W.widen (k := 5) (n := 984) (Nat.le_of_ble_eq_true rfl) (Nat.le_of_ble_eq_true rfl) ?_
  exact hret _ _ _ _ dX4_says_243 rfl hP hS
def sC_Shelf_says_H_2 (v_had : Nat → Int32) (ix : Int32) (hby : Int32) (p1 : Int32) : Option (Option Int32 × Int32) :=
  if p1 = 1 then
    some (some (-2), 0)
  else
  if p1 = 2 then
    (sC_Cat_frightens_2 ix hby 10).bind fun r5 =>
    some (none, r5)
  else
  if p1 = 3 then
    some (some (-2), 0)
  else
  if p1 = 4 then
    some (some (-2), 0)
  else
  if p1 = 5 then
    some (some (-2), 0)
  else
  if p1 = 6 then
    some (some (-2), 0)
  else
  if gi ix 8 then
  some (none, (v_had (ix).toNatClampNeg))
  else none
set_option maxHeartbeats 4000000 in
theorem metC_Shelf_says_H_2 (l : Launch) (hfl : l.stackTraces = false) (G : kG) (ad : Nat → Nat) (pl : va_W) (sz : Nat) (v_many : Int32) (v_pets : Int32) (v_last : Int32) (v_seed : Int32) (v_weight : Int32) (v_fright : Int32) (v_age : Int32) (v_asked : Nat → Int32) (v_homes : Nat → Option Nat) (v_marks : Nat → Int32) (v_had : Nat → Int32) (v_allergic : Nat → Int32) (v_deaths : Nat → Int32) (a q : Nat) (ix : Int32) (hby : Int32) (p1 : Int32) (ha : (a, .inr (13, [.ref q])) ∈ pl) (hq0 : (q, .inr (2, [.int ix, .int hby])) ∈ pl) (res : Option Int32 × Int32) (hE : sC_Shelf_says_H_2 v_had ix hby p1 = some res) : vx_Met l yX4_says (wsW_ yX4_says cX4_says 4 (some .int) [((0 : Nat), (243 : Nat), (244 : Nat), (21 : Nat))]) ({ frames := 9, cells := 5, slots := 984, locals := 10281 } : Room) (rPc G (rW G.2 ad v_many v_pets v_last v_seed v_weight v_fright v_age v_asked v_homes v_marks v_had v_allergic v_deaths) pl (rWV ad) sz [.ref a, .int p1, .ref (ad 0)]) (tQc G (rW G.2 ad v_many v_pets v_last v_seed v_weight v_fright v_age v_asked v_homes v_marks v_had v_allergic v_deaths) [] (tA sz (rWV ad) []) (res.1 = none) (some (.int res.2))) (tXC G (rW G.2 ad v_many v_pets v_last v_seed v_weight v_fright v_age v_asked v_homes v_marks v_had v_allergic v_deaths) [] (tA sz (rWV ad) []) 18 RX6 res.1 sz) 5 984 (tA sz (rWV ad) []) := by
  refine r_ofWH (own := RX4) (by decide) rfl (Nat.le_of_ble_eq_true rfl) ?_
  intro p e s m args below meth c ls C C0 D hml htab hP hS hl hr hlocks hsz
  have hl : lv_has ls 4 [(0, .ref a), (1, .int p1), (2, .ref (ad 0))] := hl
  obtain ⟨Q, hQ⟩ : ∃ Q, Q = vx_MQ below (tQc G (rW G.2 ad v_many v_pets v_last v_seed v_weight v_fright v_age v_asked v_homes v_marks v_had v_allergic v_deaths) [] (tA sz (rWV ad) []) (res.1 = none) (some (.int res.2))) (tXC G (rW G.2 ad v_many v_pets v_last v_seed v_weight v_fright v_age v_asked v_homes v_marks v_had v_allergic v_deaths) [] (tA sz (rWV ad) []) 18 RX6 res.1 sz) args s 5 984 (tA sz (rWV ad) []) := ⟨_, rfl⟩
  rw [← hQ]
  have hret : ∀ (pc : Nat) (ls : Array Slot) (H : Heap) (locs : List Loc), decode cX4_says pc = .ok (.ireturn, 1) → res.1 = none → va_P G.1 vwCl (rW G.2 ad v_many v_pets v_last v_seed v_weight v_fright v_age v_asked v_homes v_marks v_had v_allergic v_deaths) H → va_S (tA sz (rWV ad) []) s.heap H locs → W p l e ({ frames := 9, cells := 5, slots := 984, locals := 10281 } : Room) s m args below meth c H locs 5 984 Q (F0 m pc ls [(.int res.2)]) := by
    intro pc ls H locs hd hφ hP hS
    rw [hQ]
    exact t_iret C0 hr hlocks hd hφ hP P_nil hS
  have hthr : ∀ (pc : Nat) (ls : Array Slot) (rest : List Value) (H : Heap) (locs : List Loc) (w : Int32) (q : Nat), (∀ z ∈ c.exceptionTable.toList, covers z pc = false ∨ (z.catchType ≠ 0 ∧ ∃ nm : String, (Cond.classLink RX4 z.catchType nm).before args s = true ∧ va_Nc RX6 nm s)) → res.1 = some w → s.heap.size ≤ q → va_P G.1 vwCl [(q, .inr (18, xF w))] H → va_P G.1 vwCl (rW G.2 ad v_many v_pets v_last v_seed v_weight v_fright v_age v_asked v_homes v_marks v_had v_allergic v_deaths) H → va_S (tA sz (rWV ad) []) s.heap H locs → vx_W p l e ({ frames := 9, cells := 5, slots := 984, locals := 10281 } : Room) s m args below meth c H locs 5 984 Q (F0 m pc ls rest) q := by
    intro pc ls rest H locs w q hout hw hq hc hP hS
    rw [hQ]
    exact t_outP (r := (RX6, TX6, 7)) C0 rfl hout hlocks hw (by omega) hc hP P_nil hS
  clear hQ
  obtain ⟨H, hH⟩ : ∃ H, H = s.heap := ⟨_, rfl⟩
  obtain ⟨locs, hlo⟩ : ∃ locs : List Loc, locs = [] := ⟨_, rfl⟩
  have hP : va_P G.1 vwCl (rW G.2 ad v_many v_pets v_last v_seed v_weight v_fright v_age v_asked v_homes v_marks v_had v_allergic v_deaths) H := by rw [hH]; exact hP
  have hS : va_S (tA sz (rWV ad) []) s.heap H locs := by rw [hH, hlo]; exact hS
  suffices hZ : W p l e ({ frames := 9, cells := 5, slots := 984, locals := 10281 } : Room) s m args below meth c H locs 0 0 Q (F0 m 0 ls []) by rw [hH, hlo] at hZ; exact hZ
  clear hH hlo
  unfold sC_Shelf_says_H_2 at hE
  refine lv_iload_n C.1 C.2.1 dX4_says_0 rfl (lv_at hl 1 rfl) ?_
  by_cases c1 : p1 = 1
  · have hE := it_t c1 hE
    refine lv_tableIn (tgt := 40) C.1 C.2.1 dX4_says_1 (by rw [c1]; decide) (by rw [c1]; decide) (by rw [c1]; rfl) (by decide) ?_
    refine lv_aload_n C.1 C.2.1 dX4_says_40 rfl (lv_at hl 0 rfl) ?_
    refine p_get (j := 0) C hS ha (show vwCl[13]? = some (RX4, TX4, 1) from rfl) in_X4 (by decide) q233 rfl dX4_says_41 ?_
    refine lv_ifnonnull (tgt := 51) C.1 C.2.1 dX4_says_44 (by decide) ?_
    refine lv_aload_n C.1 C.2.1 dX4_says_51 rfl (lv_at hl 0 rfl) ?_
    refine p_get (j := 0) C hS ha (show vwCl[13]? = some (RX4, TX4, 1) from rfl) in_X4 (by decide) q233 rfl dX4_says_52 ?_
    refine t_castX (r := (RX14, TX14, 2)) hfl C0 D hP P_nil hS (by rw [hml]; exact hl.1) hlocks (P_mem (pl_at C.2.2.2.2.2.2.2.2 C.2.2.2.2.2.2.1 hS) hq0) rfl ⟨pk_cat, by decide⟩ ⟨pk_good, by decide⟩ (List.mem_of_getElem? (i := 46) rfl) q601 dX4_says_55 ⟨Nat.le_of_ble_eq_true rfl, Nat.le_of_ble_eq_true rfl, Nat.le_of_ble_eq_true rfl, Nat.le_of_ble_eq_true rfl⟩ (fun H z2 ce hz hP _ hS g1 g2 g3 => ?_)
    refine t_catch (name := "java/lang/ClassCastException") (E := "java/lang/ClassCastException") C0 D [] ⟨0, 243, 244, 21⟩ [] htab (fun z hz => nomatch hz) rfl (by decide) q478 (List.mem_of_getElem? (i := 3) rfl) g1 g2 g3 ?_
    refine W.eq (g2 := F0 m 244 ls [.ref z2]) rfl ?_
    refine lv_astore_n (lv' := [(3, .ref z2), (0, .ref a), (1, .int p1), (2, .ref (ad 0))]) C.1 C.2.1 dX4_says_244 rfl hl (by decide) rfl (fun ls hl => ?_)
    obtain ⟨q3, hq3e⟩ : ∃ q, q = H.size := ⟨_, rfl⟩
    refine t_refuse18 (w := (-2)) (kp := 2) C0 D hml hl.1 hP rW_av P_nil hS q494 q495 dX4_says_245 dX4_says_248 (fun kk => lv_bipush (v := (-2)) C.1 C.2.1 dX4_says_249 (by decide) kk) dX4_says_251 dX4_says_254 ⟨Nat.le_of_ble_eq_true rfl, Nat.le_of_ble_eq_true rfl, Nat.le_of_ble_eq_true rfl, Nat.le_of_ble_eq_true rfl⟩ (fun H locs hq hc hP _ hS => ?_)
    rw [← hq3e] at hq hc ⊢
    obtain rfl := Option.some.inj hE
    refine vx_widen (k := 5) (n := 984) (Nat.le_of_ble_eq_true rfl) (Nat.le_of_ble_eq_true rfl) ?_
    exact hthr _ _ _ _ _ _ _ (by
      rw [htab]
      intro z hz
      have hz : z ∈ ([⟨0, 243, 244, 21⟩] : List ExceptionTableEntry) := hz
      simp only [List.mem_cons, List.not_mem_nil, or_false] at hz
      rcases hz with rfl
      · exact Or.inl rfl) rfl hq.2.2 hc hP hS
  have hE := it_f c1 hE
  by_cases c4 : p1 = 2
  · have hE := it_t c4 hE
    refine lv_tableIn (tgt := 65) C.1 C.2.1 dX4_says_1 (by rw [c4]; decide) (by rw [c4]; decide) (by rw [c4]; rfl) (by decide) ?_
    refine lv_aload_n C.1 C.2.1 dX4_says_65 rfl (lv_at hl 0 rfl) ?_
    refine p_get (j := 0) C hS ha (show vwCl[13]? = some (RX4, TX4, 1) from rfl) in_X4 (by decide) q233 rfl dX4_says_66 ?_
    refine lv_ifnonnull (tgt := 76) C.1 C.2.1 dX4_says_69 (by decide) ?_
    refine lv_aload_n C.1 C.2.1 dX4_says_76 rfl (lv_at hl 0 rfl) ?_
    refine p_get (j := 0) C hS ha (show vwCl[13]? = some (RX4, TX4, 1) from rfl) in_X4 (by decide) q233 rfl dX4_says_77 ?_
    refine va_castS C.1 C.2.1 C.2.2.1 (C.2.2.2.1 _ q612) (C.2.2.2.2.1.1 2 _ (show vwCl[2]? = some (RX14, TX14, 2) from rfl)).2 (n_recvH C hS hq0 (show vwCl[2]? = some (RX14, TX14, 2) from rfl)) dX4_says_80 ?_
    refine lv_bipush (v := 10) C.1 C.2.1 dX4_says_83 (by decide) ?_
    obtain ⟨r5, hr5, hE⟩ := it_b hE
    refine n_after [] C.2.2.2.2.2.1 C.2.2.2.2.2.2.2.1 hP hS (va_runV (As := [.int 10]) (rest := []) ⟨C.1, C.2.1, hml, C.2.2.1, C.2.2.2.1⟩ (metC_Cat_frightens_2 l G ad pl  q ix hby 10 hq0 r5 hr5) (cwV (C := RX14) 1 C.2.2.2.1 (lw_V q613 q614 q615 q104 q625) rfl rfl rfl (by decide +kernel) ⟨Nat.le_of_ble_eq_true rfl, Nat.le_of_ble_eq_true rfl⟩) (n_preV C hP hS [] rfl (by decide) rfl (n_recvH C hS hq0 rfl)) rfl rfl hl.1 rfl (lv_room (Nat.le_of_ble_eq_true rfl)) dX4_says_85 ⟨Nat.le_of_ble_eq_true rfl, Nat.le_of_ble_eq_true rfl⟩) rW_av rfl rfl rfl (fun H locs hP hS => ?_)
    refine lv_istore_n (lv' := [(3, .int r5), (0, .ref a), (1, .int p1), (2, .ref (ad 0))]) C.1 C.2.1 dX4_says_88 rfl hl (by decide) rfl (fun ls hl => ?_)
    refine lv_goto (tgt := 225) C.1 C.2.1 dX4_says_89 (by decide) ?_
    refine lv_aload_n C.1 C.2.1 dX4_says_225 rfl (lv_at hl 1 rfl) ?_
    refine p_get (j := 0) C hS ha (show vwCl[13]? = some (RX4, TX4, 1) from rfl) in_X4 (by decide) q233 rfl dX4_says_226 ?_
    refine lv_ifnull C.1 C.2.1 dX4_says_229 ?_
    refine lv_iconst (v := 1) C.1 C.2.1 dX4_says_232 (by decide) ?_
    refine lv_goto (tgt := 237) C.1 C.2.1 dX4_says_233 (by decide) ?_
    refine lv_bipush (v := (-3)) C.1 C.2.1 dX4_says_237 (by decide) ?_
    refine t_after [] C0 D hP P_nil hS (vx_runS (As := [.int 1, .int (-3)]) (rest := []) ⟨C.1, C.2.1, hml, C.2.2.1, C.2.2.2.1⟩ (metC_HW_need l hfl G ad pl H.size 1 (-3) _ (need_eq _ _)) (va_cwS 2 C.2.2.2.1 (lw_S q493 q398 q80 q399) rfl rfl rfl (by decide +kernel) ⟨Nat.le_of_ble_eq_true rfl, Nat.le_of_ble_eq_true rfl⟩) (rr_preS C D hP hS [] rfl (by decide) rfl) rfl rfl hl.1 rfl (lv_room (Nat.le_of_ble_eq_true rfl)) dX4_says_239 ⟨Nat.le_of_ble_eq_true rfl, Nat.le_of_ble_eq_true rfl⟩) rW_av rfl rfl rfl (fun hφ H locs hP _ hS => ?_) (fun w q H locs hw hq hc hP _ hS => ?_)
    rotate_left
    · exact absurd (nd_x hw).1 (by decide)
    refine lv_iload_n C.1 C.2.1 dX4_says_242 rfl (lv_at hl 0 rfl) ?_
    obtain rfl := Option.some.inj hE
    refine W.widen (k := 5) (n := 984) (Nat.le_of_ble_eq_true rfl) (Nat.le_of_ble_eq_true rfl) ?_
    exact hret _ _ _ _ dX4_says_243 rfl hP hS
  have hE := it_f c4 hE
  by_cases c8 : p1 = 3
  · have hE := it_t c8 hE
    refine lv_tableIn (tgt := 92) C.1 C.2.1 dX4_says_1 (by rw [c8]; decide) (by rw [c8]; decide) (by rw [c8]; rfl) (by decide) ?_
    refine lv_aload_n C.1 C.2.1 dX4_says_92 rfl (lv_at hl 0 rfl) ?_
    refine p_get (j := 0) C hS ha (show vwCl[13]? = some (RX4, TX4, 1) from rfl) in_X4 (by decide) q233 rfl dX4_says_93 ?_
    refine lv_ifnonnull (tgt := 103) C.1 C.2.1 dX4_says_96 (by decide) ?_
    refine lv_aload_n C.1 C.2.1 dX4_says_103 rfl (lv_at hl 0 rfl) ?_
    refine p_get (j := 0) C hS ha (show vwCl[13]? = some (RX4, TX4, 1) from rfl) in_X4 (by decide) q233 rfl dX4_says_104 ?_
    refine t_castX (r := (RX14, TX14, 2)) hfl C0 D hP P_nil hS (by rw [hml]; exact hl.1) hlocks (P_mem (pl_at C.2.2.2.2.2.2.2.2 C.2.2.2.2.2.2.1 hS) hq0) rfl ⟨pk_cat, by decide⟩ ⟨pk_overfed, by decide⟩ (List.mem_of_getElem? (i := 47) rfl) q627 dX4_says_107 ⟨Nat.le_of_ble_eq_true rfl, Nat.le_of_ble_eq_true rfl, Nat.le_of_ble_eq_true rfl, Nat.le_of_ble_eq_true rfl⟩ (fun H z9 ce hz hP _ hS g1 g2 g3 => ?_)
    refine t_catch (name := "java/lang/ClassCastException") (E := "java/lang/ClassCastException") C0 D [] ⟨0, 243, 244, 21⟩ [] htab (fun z hz => nomatch hz) rfl (by decide) q478 (List.mem_of_getElem? (i := 3) rfl) g1 g2 g3 ?_
    refine W.eq (g2 := F0 m 244 ls [.ref z9]) rfl ?_
    refine lv_astore_n (lv' := [(3, .ref z9), (0, .ref a), (1, .int p1), (2, .ref (ad 0))]) C.1 C.2.1 dX4_says_244 rfl hl (by decide) rfl (fun ls hl => ?_)
    obtain ⟨q10, hq10e⟩ : ∃ q, q = H.size := ⟨_, rfl⟩
    refine t_refuse18 (w := (-2)) (kp := 2) C0 D hml hl.1 hP rW_av P_nil hS q494 q495 dX4_says_245 dX4_says_248 (fun kk => lv_bipush (v := (-2)) C.1 C.2.1 dX4_says_249 (by decide) kk) dX4_says_251 dX4_says_254 ⟨Nat.le_of_ble_eq_true rfl, Nat.le_of_ble_eq_true rfl, Nat.le_of_ble_eq_true rfl, Nat.le_of_ble_eq_true rfl⟩ (fun H locs hq hc hP _ hS => ?_)
    rw [← hq10e] at hq hc ⊢
    obtain rfl := Option.some.inj hE
    refine vx_widen (k := 5) (n := 984) (Nat.le_of_ble_eq_true rfl) (Nat.le_of_ble_eq_true rfl) ?_
    exact hthr _ _ _ _ _ _ _ (by
      rw [htab]
      intro z hz
      have hz : z ∈ ([⟨0, 243, 244, 21⟩] : List ExceptionTableEntry) := hz
      simp only [List.mem_cons, List.not_mem_nil, or_false] at hz
      rcases hz with rfl
      · exact Or.inl rfl) rfl hq.2.2 hc hP hS
  have hE := it_f c8 hE
  by_cases c11 : p1 = 4
  · have hE := it_t c11 hE
    refine lv_tableIn (tgt := 117) C.1 C.2.1 dX4_says_1 (by rw [c11]; decide) (by rw [c11]; decide) (by rw [c11]; rfl) (by decide) ?_
    refine lv_aload_n C.1 C.2.1 dX4_says_117 rfl (lv_at hl 0 rfl) ?_
    refine p_get (j := 0) C hS ha (show vwCl[13]? = some (RX4, TX4, 1) from rfl) in_X4 (by decide) q233 rfl dX4_says_118 ?_
    refine lv_ifnonnull (tgt := 128) C.1 C.2.1 dX4_says_121 (by decide) ?_
    refine lv_aload_n C.1 C.2.1 dX4_says_128 rfl (lv_at hl 0 rfl) ?_
    refine p_get (j := 0) C hS ha (show vwCl[13]? = some (RX4, TX4, 1) from rfl) in_X4 (by decide) q233 rfl dX4_says_129 ?_
    refine t_castX (r := (RX14, TX14, 2)) hfl C0 D hP P_nil hS (by rw [hml]; exact hl.1) hlocks (P_mem (pl_at C.2.2.2.2.2.2.2.2 C.2.2.2.2.2.2.1 hS) hq0) rfl ⟨pk_cat, by decide⟩ ⟨pk_far, by decide⟩ (List.mem_of_getElem? (i := 48) rfl) q629 dX4_says_132 ⟨Nat.le_of_ble_eq_true rfl, Nat.le_of_ble_eq_true rfl, Nat.le_of_ble_eq_true rfl, Nat.le_of_ble_eq_true rfl⟩ (fun H z12 ce hz hP _ hS g1 g2 g3 => ?_)
    refine t_catch (name := "java/lang/ClassCastException") (E := "java/lang/ClassCastException") C0 D [] ⟨0, 243, 244, 21⟩ [] htab (fun z hz => nomatch hz) rfl (by decide) q478 (List.mem_of_getElem? (i := 3) rfl) g1 g2 g3 ?_
    refine W.eq (g2 := F0 m 244 ls [.ref z12]) rfl ?_
    refine lv_astore_n (lv' := [(3, .ref z12), (0, .ref a), (1, .int p1), (2, .ref (ad 0))]) C.1 C.2.1 dX4_says_244 rfl hl (by decide) rfl (fun ls hl => ?_)
    obtain ⟨q13, hq13e⟩ : ∃ q, q = H.size := ⟨_, rfl⟩
    refine t_refuse18 (w := (-2)) (kp := 2) C0 D hml hl.1 hP rW_av P_nil hS q494 q495 dX4_says_245 dX4_says_248 (fun kk => lv_bipush (v := (-2)) C.1 C.2.1 dX4_says_249 (by decide) kk) dX4_says_251 dX4_says_254 ⟨Nat.le_of_ble_eq_true rfl, Nat.le_of_ble_eq_true rfl, Nat.le_of_ble_eq_true rfl, Nat.le_of_ble_eq_true rfl⟩ (fun H locs hq hc hP _ hS => ?_)
    rw [← hq13e] at hq hc ⊢
    obtain rfl := Option.some.inj hE
    refine vx_widen (k := 5) (n := 984) (Nat.le_of_ble_eq_true rfl) (Nat.le_of_ble_eq_true rfl) ?_
    exact hthr _ _ _ _ _ _ _ (by
      rw [htab]
      intro z hz
      have hz : z ∈ ([⟨0, 243, 244, 21⟩] : List ExceptionTableEntry) := hz
      simp only [List.mem_cons, List.not_mem_nil, or_false] at hz
      rcases hz with rfl
      · exact Or.inl rfl) rfl hq.2.2 hc hP hS
  have hE := it_f c11 hE
  by_cases c14 : p1 = 5
  · have hE := it_t c14 hE
    refine lv_tableIn (tgt := 144) C.1 C.2.1 dX4_says_1 (by rw [c14]; decide) (by rw [c14]; decide) (by rw [c14]; rfl) (by decide) ?_
    refine lv_aload_n C.1 C.2.1 dX4_says_144 rfl (lv_at hl 0 rfl) ?_
    refine p_get (j := 0) C hS ha (show vwCl[13]? = some (RX4, TX4, 1) from rfl) in_X4 (by decide) q233 rfl dX4_says_145 ?_
    refine lv_ifnonnull (tgt := 155) C.1 C.2.1 dX4_says_148 (by decide) ?_
    refine lv_aload_n C.1 C.2.1 dX4_says_155 rfl (lv_at hl 0 rfl) ?_
    refine p_get (j := 0) C hS ha (show vwCl[13]? = some (RX4, TX4, 1) from rfl) in_X4 (by decide) q233 rfl dX4_says_156 ?_
    refine t_castX (r := (RX14, TX14, 2)) hfl C0 D hP P_nil hS (by rw [hml]; exact hl.1) hlocks (P_mem (pl_at C.2.2.2.2.2.2.2.2 C.2.2.2.2.2.2.1 hS) hq0) rfl ⟨pk_cat, by decide⟩ ⟨pk_dog, by decide⟩ (List.mem_of_getElem? (i := 49) rfl) q640 dX4_says_159 ⟨Nat.le_of_ble_eq_true rfl, Nat.le_of_ble_eq_true rfl, Nat.le_of_ble_eq_true rfl, Nat.le_of_ble_eq_true rfl⟩ (fun H z15 ce hz hP _ hS g1 g2 g3 => ?_)
    refine t_catch (name := "java/lang/ClassCastException") (E := "java/lang/ClassCastException") C0 D [] ⟨0, 243, 244, 21⟩ [] htab (fun z hz => nomatch hz) rfl (by decide) q478 (List.mem_of_getElem? (i := 3) rfl) g1 g2 g3 ?_
    refine W.eq (g2 := F0 m 244 ls [.ref z15]) rfl ?_
    refine lv_astore_n (lv' := [(3, .ref z15), (0, .ref a), (1, .int p1), (2, .ref (ad 0))]) C.1 C.2.1 dX4_says_244 rfl hl (by decide) rfl (fun ls hl => ?_)
    obtain ⟨q16, hq16e⟩ : ∃ q, q = H.size := ⟨_, rfl⟩
    refine t_refuse18 (w := (-2)) (kp := 2) C0 D hml hl.1 hP rW_av P_nil hS q494 q495 dX4_says_245 dX4_says_248 (fun kk => lv_bipush (v := (-2)) C.1 C.2.1 dX4_says_249 (by decide) kk) dX4_says_251 dX4_says_254 ⟨Nat.le_of_ble_eq_true rfl, Nat.le_of_ble_eq_true rfl, Nat.le_of_ble_eq_true rfl, Nat.le_of_ble_eq_true rfl⟩ (fun H locs hq hc hP _ hS => ?_)
    rw [← hq16e] at hq hc ⊢
    obtain rfl := Option.some.inj hE
    refine vx_widen (k := 5) (n := 984) (Nat.le_of_ble_eq_true rfl) (Nat.le_of_ble_eq_true rfl) ?_
    exact hthr _ _ _ _ _ _ _ (by
      rw [htab]
      intro z hz
      have hz : z ∈ ([⟨0, 243, 244, 21⟩] : List ExceptionTableEntry) := hz
      simp only [List.mem_cons, List.not_mem_nil, or_false] at hz
      rcases hz with rfl
      · exact Or.inl rfl) rfl hq.2.2 hc hP hS
  have hE := it_f c14 hE
  by_cases c17 : p1 = 6
  · have hE := it_t c17 hE
    refine lv_tableIn (tgt := 171) C.1 C.2.1 dX4_says_1 (by rw [c17]; decide) (by rw [c17]; decide) (by rw [c17]; rfl) (by decide) ?_
    refine lv_aload_n C.1 C.2.1 dX4_says_171 rfl (lv_at hl 0 rfl) ?_
    refine p_get (j := 0) C hS ha (show vwCl[13]? = some (RX4, TX4, 1) from rfl) in_X4 (by decide) q233 rfl dX4_says_172 ?_
    refine lv_ifnonnull (tgt := 182) C.1 C.2.1 dX4_says_175 (by decide) ?_
    refine lv_aload_n C.1 C.2.1 dX4_says_182 rfl (lv_at hl 0 rfl) ?_
    refine p_get (j := 0) C hS ha (show vwCl[13]? = some (RX4, TX4, 1) from rfl) in_X4 (by decide) q233 rfl dX4_says_183 ?_
    refine t_castX (r := (RX14, TX14, 2)) hfl C0 D hP P_nil hS (by rw [hml]; exact hl.1) hlocks (P_mem (pl_at C.2.2.2.2.2.2.2.2 C.2.2.2.2.2.2.1 hS) hq0) rfl ⟨pk_cat, by decide⟩ ⟨pk_bus, by decide⟩ (List.mem_of_getElem? (i := 50) rfl) q642 dX4_says_186 ⟨Nat.le_of_ble_eq_true rfl, Nat.le_of_ble_eq_true rfl, Nat.le_of_ble_eq_true rfl, Nat.le_of_ble_eq_true rfl⟩ (fun H z18 ce hz hP _ hS g1 g2 g3 => ?_)
    refine t_catch (name := "java/lang/ClassCastException") (E := "java/lang/ClassCastException") C0 D [] ⟨0, 243, 244, 21⟩ [] htab (fun z hz => nomatch hz) rfl (by decide) q478 (List.mem_of_getElem? (i := 3) rfl) g1 g2 g3 ?_
    refine W.eq (g2 := F0 m 244 ls [.ref z18]) rfl ?_
    refine lv_astore_n (lv' := [(3, .ref z18), (0, .ref a), (1, .int p1), (2, .ref (ad 0))]) C.1 C.2.1 dX4_says_244 rfl hl (by decide) rfl (fun ls hl => ?_)
    obtain ⟨q19, hq19e⟩ : ∃ q, q = H.size := ⟨_, rfl⟩
    refine t_refuse18 (w := (-2)) (kp := 2) C0 D hml hl.1 hP rW_av P_nil hS q494 q495 dX4_says_245 dX4_says_248 (fun kk => lv_bipush (v := (-2)) C.1 C.2.1 dX4_says_249 (by decide) kk) dX4_says_251 dX4_says_254 ⟨Nat.le_of_ble_eq_true rfl, Nat.le_of_ble_eq_true rfl, Nat.le_of_ble_eq_true rfl, Nat.le_of_ble_eq_true rfl⟩ (fun H locs hq hc hP _ hS => ?_)
    rw [← hq19e] at hq hc ⊢
    obtain rfl := Option.some.inj hE
    refine vx_widen (k := 5) (n := 984) (Nat.le_of_ble_eq_true rfl) (Nat.le_of_ble_eq_true rfl) ?_
    exact hthr _ _ _ _ _ _ _ (by
      rw [htab]
      intro z hz
      have hz : z ∈ ([⟨0, 243, 244, 21⟩] : List ExceptionTableEntry) := hz
      simp only [List.mem_cons, List.not_mem_nil, or_false] at hz
      rcases hz with rfl
      · exact Or.inl rfl) rfl hq.2.2 hc hP hS
  have hE := it_f c17 hE
  refine lv_tableOut (tgt := 198) C.1 C.2.1 dX4_says_1 (ts_e (ts_s (ts_s (ts_s (ts_s (ts_s (ts_s (ts_0 1) c1 rfl rfl) c4 rfl rfl) c8 rfl rfl) c11 rfl rfl) c14 rfl rfl) c17 rfl rfl) rfl) (by decide) ?_
  refine lv_aload_n C.1 C.2.1 dX4_says_198 rfl (lv_at hl 0 rfl) ?_
  refine p_get (j := 0) C hS ha (show vwCl[13]? = some (RX4, TX4, 1) from rfl) in_X4 (by decide) q233 rfl dX4_says_199 ?_
  refine lv_ifnonnull (tgt := 209) C.1 C.2.1 dX4_says_202 (by decide) ?_
  refine lv_aload_n C.1 C.2.1 dX4_says_209 rfl (lv_at hl 2 rfl) ?_
  refine rWg_0_7 q198 C hP dX4_says_210 ?_
  refine lv_aload_n C.1 C.2.1 dX4_says_213 rfl (lv_at hl 0 rfl) ?_
  refine p_get (j := 0) C hS ha (show vwCl[13]? = some (RX4, TX4, 1) from rfl) in_X4 (by decide) q233 rfl dX4_says_214 ?_
  refine va_castY C.1 C.2.1 C.2.2.1 (C.2.2.2.1 _ q520) (D.2.2.2.2.1 _ (List.mem_of_getElem? (i := 11) rfl)) (n_recvH C hS hq0 (show vwCl[2]? = some (RX14, TX14, 2) from rfl)) dX4_says_217 ?_
  refine h_get (j := 0) C hS hq0 (show vwCl[2]? = some (RX14, TX14, 2) from rfl) in_X14 (by decide) rfl rfl rfl q666 (Or.inl rfl) rfl dX4_says_220 ?_
  obtain ⟨g20, hE⟩ := it_g hE
  refine rWl_5 (v := (v_had (ix).toNatClampNeg)) C hP (gi_in g20) rfl dX4_says_223 ?_
  refine lv_istore_n (lv' := [(3, .int (v_had (ix).toNatClampNeg)), (0, .ref a), (1, .int p1), (2, .ref (ad 0))]) C.1 C.2.1 dX4_says_224 rfl hl (by decide) rfl (fun ls hl => ?_)
  refine lv_aload_n C.1 C.2.1 dX4_says_225 rfl (lv_at hl 1 rfl) ?_
  refine p_get (j := 0) C hS ha (show vwCl[13]? = some (RX4, TX4, 1) from rfl) in_X4 (by decide) q233 rfl dX4_says_226 ?_
  refine lv_ifnull C.1 C.2.1 dX4_says_229 ?_
  refine lv_iconst (v := 1) C.1 C.2.1 dX4_says_232 (by decide) ?_
  refine lv_goto (tgt := 237) C.1 C.2.1 dX4_says_233 (by decide) ?_
  refine lv_bipush (v := (-3)) C.1 C.2.1 dX4_says_237 (by decide) ?_
  refine t_after [] C0 D hP P_nil hS (vx_runS (As := [.int 1, .int (-3)]) (rest := []) ⟨C.1, C.2.1, hml, C.2.2.1, C.2.2.2.1⟩ (metC_HW_need l hfl G ad pl H.size 1 (-3) _ (need_eq _ _)) (va_cwS 2 C.2.2.2.1 (lw_S q493 q398 q80 q399) rfl rfl rfl (by decide +kernel) ⟨Nat.le_of_ble_eq_true rfl, Nat.le_of_ble_eq_true rfl⟩) (rr_preS C D hP hS [] rfl (by decide) rfl) rfl rfl hl.1 rfl (lv_room (Nat.le_of_ble_eq_true rfl)) dX4_says_239 ⟨Nat.le_of_ble_eq_true rfl, Nat.le_of_ble_eq_true rfl⟩) rW_av rfl rfl rfl (fun hφ H locs hP _ hS => ?_) (fun w q H locs hw hq hc hP _ hS => ?_)
  rotate_left
  · exact absurd (nd_x hw).1 (by decide)
  refine lv_iload_n C.1 C.2.1 dX4_says_242 rfl (lv_at hl 0 rfl) ?_
  obtain rfl := Option.some.inj hE
  refine W.widen (k := 5) (n := 984) (Nat.le_of_ble_eq_true rfl) (Nat.le_of_ble_eq_true rfl) ?_
  exact hret _ _ _ _ dX4_says_243 rfl hP hS
def sC_Shelf_says_H_3 (v_had : Nat → Int32) (ix : Int32) (hby : Int32) (p1 : Int32) : Option (Option Int32 × Int32) :=
  if p1 = 1 then
    (sC_Overfed_more_3 ix hby).bind fun r2 =>
    some (none, r2)
  else
  if p1 = 2 then
    some (some (-2), 0)
  else
  if p1 = 3 then
    (sC_Overfed_more_3 ix hby).bind fun r9 =>
    some (none, r9)
  else
  if p1 = 4 then
    some (some (-2), 0)
  else
  if p1 = 5 then
    some (some (-2), 0)
  else
  if p1 = 6 then
    some (some (-2), 0)
  else
  if gi ix 8 then
  some (none, (v_had (ix).toNatClampNeg))
  else none
set_option maxHeartbeats 4000000 in
theorem metC_Shelf_says_H_3 (l : Launch) (hfl : l.stackTraces = false) (G : kG) (ad : Nat → Nat) (pl : va_W) (sz : Nat) (v_many : Int32) (v_pets : Int32) (v_last : Int32) (v_seed : Int32) (v_weight : Int32) (v_fright : Int32) (v_age : Int32) (v_asked : Nat → Int32) (v_homes : Nat → Option Nat) (v_marks : Nat → Int32) (v_had : Nat → Int32) (v_allergic : Nat → Int32) (v_deaths : Nat → Int32) (a q : Nat) (ix : Int32) (hby : Int32) (p1 : Int32) (ha : (a, .inr (13, [.ref q])) ∈ pl) (hq0 : (q, .inr (3, [.int ix, .int hby])) ∈ pl) (res : Option Int32 × Int32) (hE : sC_Shelf_says_H_3 v_had ix hby p1 = some res) : vx_Met l yX4_says (wsW_ yX4_says cX4_says 4 (some .int) [((0 : Nat), (243 : Nat), (244 : Nat), (21 : Nat))]) ({ frames := 9, cells := 5, slots := 984, locals := 10281 } : Room) (rPc G (rW G.2 ad v_many v_pets v_last v_seed v_weight v_fright v_age v_asked v_homes v_marks v_had v_allergic v_deaths) pl (rWV ad) sz [.ref a, .int p1, .ref (ad 0)]) (tQc G (rW G.2 ad v_many v_pets v_last v_seed v_weight v_fright v_age v_asked v_homes v_marks v_had v_allergic v_deaths) [] (tA sz (rWV ad) []) (res.1 = none) (some (.int res.2))) (tXC G (rW G.2 ad v_many v_pets v_last v_seed v_weight v_fright v_age v_asked v_homes v_marks v_had v_allergic v_deaths) [] (tA sz (rWV ad) []) 18 RX6 res.1 sz) 5 984 (tA sz (rWV ad) []) := by
  refine r_ofWH (own := RX4) (by decide) rfl (Nat.le_of_ble_eq_true rfl) ?_
  intro p e s m args below meth c ls C C0 D hml htab hP hS hl hr hlocks hsz
  have hl : lv_has ls 4 [(0, .ref a), (1, .int p1), (2, .ref (ad 0))] := hl
  obtain ⟨Q, hQ⟩ : ∃ Q, Q = vx_MQ below (tQc G (rW G.2 ad v_many v_pets v_last v_seed v_weight v_fright v_age v_asked v_homes v_marks v_had v_allergic v_deaths) [] (tA sz (rWV ad) []) (res.1 = none) (some (.int res.2))) (tXC G (rW G.2 ad v_many v_pets v_last v_seed v_weight v_fright v_age v_asked v_homes v_marks v_had v_allergic v_deaths) [] (tA sz (rWV ad) []) 18 RX6 res.1 sz) args s 5 984 (tA sz (rWV ad) []) := ⟨_, rfl⟩
  rw [← hQ]
  have hret : ∀ (pc : Nat) (ls : Array Slot) (H : Heap) (locs : List Loc), decode cX4_says pc = .ok (.ireturn, 1) → res.1 = none → va_P G.1 vwCl (rW G.2 ad v_many v_pets v_last v_seed v_weight v_fright v_age v_asked v_homes v_marks v_had v_allergic v_deaths) H → va_S (tA sz (rWV ad) []) s.heap H locs → W p l e ({ frames := 9, cells := 5, slots := 984, locals := 10281 } : Room) s m args below meth c H locs 5 984 Q (F0 m pc ls [(.int res.2)]) := by
    intro pc ls H locs hd hφ hP hS
    rw [hQ]
    exact t_iret C0 hr hlocks hd hφ hP P_nil hS
  have hthr : ∀ (pc : Nat) (ls : Array Slot) (rest : List Value) (H : Heap) (locs : List Loc) (w : Int32) (q : Nat), (∀ z ∈ c.exceptionTable.toList, covers z pc = false ∨ (z.catchType ≠ 0 ∧ ∃ nm : String, (Cond.classLink RX4 z.catchType nm).before args s = true ∧ va_Nc RX6 nm s)) → res.1 = some w → s.heap.size ≤ q → va_P G.1 vwCl [(q, .inr (18, xF w))] H → va_P G.1 vwCl (rW G.2 ad v_many v_pets v_last v_seed v_weight v_fright v_age v_asked v_homes v_marks v_had v_allergic v_deaths) H → va_S (tA sz (rWV ad) []) s.heap H locs → vx_W p l e ({ frames := 9, cells := 5, slots := 984, locals := 10281 } : Room) s m args below meth c H locs 5 984 Q (F0 m pc ls rest) q := by
    intro pc ls rest H locs w q hout hw hq hc hP hS
    rw [hQ]
    exact t_outP (r := (RX6, TX6, 7)) C0 rfl hout hlocks hw (by omega) hc hP P_nil hS
  clear hQ
  obtain ⟨H, hH⟩ : ∃ H, H = s.heap := ⟨_, rfl⟩
  obtain ⟨locs, hlo⟩ : ∃ locs : List Loc, locs = [] := ⟨_, rfl⟩
  have hP : va_P G.1 vwCl (rW G.2 ad v_many v_pets v_last v_seed v_weight v_fright v_age v_asked v_homes v_marks v_had v_allergic v_deaths) H := by rw [hH]; exact hP
  have hS : va_S (tA sz (rWV ad) []) s.heap H locs := by rw [hH, hlo]; exact hS
  suffices hZ : W p l e ({ frames := 9, cells := 5, slots := 984, locals := 10281 } : Room) s m args below meth c H locs 0 0 Q (F0 m 0 ls []) by rw [hH, hlo] at hZ; exact hZ
  clear hH hlo
  unfold sC_Shelf_says_H_3 at hE
  refine lv_iload_n C.1 C.2.1 dX4_says_0 rfl (lv_at hl 1 rfl) ?_
  by_cases c1 : p1 = 1
  · have hE := it_t c1 hE
    refine lv_tableIn (tgt := 40) C.1 C.2.1 dX4_says_1 (by rw [c1]; decide) (by rw [c1]; decide) (by rw [c1]; rfl) (by decide) ?_
    refine lv_aload_n C.1 C.2.1 dX4_says_40 rfl (lv_at hl 0 rfl) ?_
    refine p_get (j := 0) C hS ha (show vwCl[13]? = some (RX4, TX4, 1) from rfl) in_X4 (by decide) q233 rfl dX4_says_41 ?_
    refine lv_ifnonnull (tgt := 51) C.1 C.2.1 dX4_says_44 (by decide) ?_
    refine lv_aload_n C.1 C.2.1 dX4_says_51 rfl (lv_at hl 0 rfl) ?_
    refine p_get (j := 0) C hS ha (show vwCl[13]? = some (RX4, TX4, 1) from rfl) in_X4 (by decide) q233 rfl dX4_says_52 ?_
    refine va_castY C.1 C.2.1 C.2.2.1 (C.2.2.2.1 _ q601) (D.2.2.2.2.1 _ (List.mem_of_getElem? (i := 16) rfl)) (n_recvH C hS hq0 (show vwCl[3]? = some (RX15, TX15, 2) from rfl)) dX4_says_55 ?_
    obtain ⟨r2, hr2, hE⟩ := it_b hE
    refine n_after [] C.2.2.2.2.2.1 C.2.2.2.2.2.2.2.1 hP hS (va_runU (As := []) (rest := []) ⟨C.1, C.2.1, hml, C.2.2.1, C.2.2.2.1⟩ (metC_Overfed_more_3 l G ad pl  q ix hby hq0 r2 hr2) (va_cwO (C := RX15) (owner := "HamsterWeekends$Good") 0 C.2.2.2.1 (lw_O q602 q605 q603 q606 q607 q105 q608) rfl rfl rfl q611 (by decide +kernel) ⟨Nat.le_of_ble_eq_true rfl, Nat.le_of_ble_eq_true rfl⟩) (n_preV C hP hS [] rfl (by decide) rfl (n_recvH C hS hq0 rfl)) rfl rfl hl.1 rfl (lv_room (Nat.le_of_ble_eq_true rfl)) dX4_says_58 ⟨Nat.le_of_ble_eq_true rfl, Nat.le_of_ble_eq_true rfl⟩) rW_av rfl rfl rfl (fun H locs hP hS => ?_)
    refine lv_istore_n (lv' := [(3, .int r2), (0, .ref a), (1, .int p1), (2, .ref (ad 0))]) C.1 C.2.1 dX4_says_61 rfl hl (by decide) rfl (fun ls hl => ?_)
    refine lv_goto (tgt := 225) C.1 C.2.1 dX4_says_62 (by decide) ?_
    refine lv_aload_n C.1 C.2.1 dX4_says_225 rfl (lv_at hl 1 rfl) ?_
    refine p_get (j := 0) C hS ha (show vwCl[13]? = some (RX4, TX4, 1) from rfl) in_X4 (by decide) q233 rfl dX4_says_226 ?_
    refine lv_ifnull C.1 C.2.1 dX4_says_229 ?_
    refine lv_iconst (v := 1) C.1 C.2.1 dX4_says_232 (by decide) ?_
    refine lv_goto (tgt := 237) C.1 C.2.1 dX4_says_233 (by decide) ?_
    refine lv_bipush (v := (-3)) C.1 C.2.1 dX4_says_237 (by decide) ?_
    refine t_after [] C0 D hP P_nil hS (vx_runS (As := [.int 1, .int (-3)]) (rest := []) ⟨C.1, C.2.1, hml, C.2.2.1, C.2.2.2.1⟩ (metC_HW_need l hfl G ad pl H.size 1 (-3) _ (need_eq _ _)) (va_cwS 2 C.2.2.2.1 (lw_S q493 q398 q80 q399) rfl rfl rfl (by decide +kernel) ⟨Nat.le_of_ble_eq_true rfl, Nat.le_of_ble_eq_true rfl⟩) (rr_preS C D hP hS [] rfl (by decide) rfl) rfl rfl hl.1 rfl (lv_room (Nat.le_of_ble_eq_true rfl)) dX4_says_239 ⟨Nat.le_of_ble_eq_true rfl, Nat.le_of_ble_eq_true rfl⟩) rW_av rfl rfl rfl (fun hφ H locs hP _ hS => ?_) (fun w q H locs hw hq hc hP _ hS => ?_)
    rotate_left
    · exact absurd (nd_x hw).1 (by decide)
    refine lv_iload_n C.1 C.2.1 dX4_says_242 rfl (lv_at hl 0 rfl) ?_
    obtain rfl := Option.some.inj hE
    refine W.widen (k := 5) (n := 984) (Nat.le_of_ble_eq_true rfl) (Nat.le_of_ble_eq_true rfl) ?_
    exact hret _ _ _ _ dX4_says_243 rfl hP hS
  have hE := it_f c1 hE
  by_cases c5 : p1 = 2
  · have hE := it_t c5 hE
    refine lv_tableIn (tgt := 65) C.1 C.2.1 dX4_says_1 (by rw [c5]; decide) (by rw [c5]; decide) (by rw [c5]; rfl) (by decide) ?_
    refine lv_aload_n C.1 C.2.1 dX4_says_65 rfl (lv_at hl 0 rfl) ?_
    refine p_get (j := 0) C hS ha (show vwCl[13]? = some (RX4, TX4, 1) from rfl) in_X4 (by decide) q233 rfl dX4_says_66 ?_
    refine lv_ifnonnull (tgt := 76) C.1 C.2.1 dX4_says_69 (by decide) ?_
    refine lv_aload_n C.1 C.2.1 dX4_says_76 rfl (lv_at hl 0 rfl) ?_
    refine p_get (j := 0) C hS ha (show vwCl[13]? = some (RX4, TX4, 1) from rfl) in_X4 (by decide) q233 rfl dX4_says_77 ?_
    refine t_castX (r := (RX15, TX15, 2)) hfl C0 D hP P_nil hS (by rw [hml]; exact hl.1) hlocks (P_mem (pl_at C.2.2.2.2.2.2.2.2 C.2.2.2.2.2.2.1 hS) hq0) rfl ⟨pk_overfed, by decide⟩ ⟨pk_cat, by decide⟩ (List.mem_of_getElem? (i := 51) rfl) q612 dX4_says_80 ⟨Nat.le_of_ble_eq_true rfl, Nat.le_of_ble_eq_true rfl, Nat.le_of_ble_eq_true rfl, Nat.le_of_ble_eq_true rfl⟩ (fun H z6 ce hz hP _ hS g1 g2 g3 => ?_)
    refine t_catch (name := "java/lang/ClassCastException") (E := "java/lang/ClassCastException") C0 D [] ⟨0, 243, 244, 21⟩ [] htab (fun z hz => nomatch hz) rfl (by decide) q478 (List.mem_of_getElem? (i := 3) rfl) g1 g2 g3 ?_
    refine W.eq (g2 := F0 m 244 ls [.ref z6]) rfl ?_
    refine lv_astore_n (lv' := [(3, .ref z6), (0, .ref a), (1, .int p1), (2, .ref (ad 0))]) C.1 C.2.1 dX4_says_244 rfl hl (by decide) rfl (fun ls hl => ?_)
    obtain ⟨q7, hq7e⟩ : ∃ q, q = H.size := ⟨_, rfl⟩
    refine t_refuse18 (w := (-2)) (kp := 2) C0 D hml hl.1 hP rW_av P_nil hS q494 q495 dX4_says_245 dX4_says_248 (fun kk => lv_bipush (v := (-2)) C.1 C.2.1 dX4_says_249 (by decide) kk) dX4_says_251 dX4_says_254 ⟨Nat.le_of_ble_eq_true rfl, Nat.le_of_ble_eq_true rfl, Nat.le_of_ble_eq_true rfl, Nat.le_of_ble_eq_true rfl⟩ (fun H locs hq hc hP _ hS => ?_)
    rw [← hq7e] at hq hc ⊢
    obtain rfl := Option.some.inj hE
    refine vx_widen (k := 5) (n := 984) (Nat.le_of_ble_eq_true rfl) (Nat.le_of_ble_eq_true rfl) ?_
    exact hthr _ _ _ _ _ _ _ (by
      rw [htab]
      intro z hz
      have hz : z ∈ ([⟨0, 243, 244, 21⟩] : List ExceptionTableEntry) := hz
      simp only [List.mem_cons, List.not_mem_nil, or_false] at hz
      rcases hz with rfl
      · exact Or.inl rfl) rfl hq.2.2 hc hP hS
  have hE := it_f c5 hE
  by_cases c8 : p1 = 3
  · have hE := it_t c8 hE
    refine lv_tableIn (tgt := 92) C.1 C.2.1 dX4_says_1 (by rw [c8]; decide) (by rw [c8]; decide) (by rw [c8]; rfl) (by decide) ?_
    refine lv_aload_n C.1 C.2.1 dX4_says_92 rfl (lv_at hl 0 rfl) ?_
    refine p_get (j := 0) C hS ha (show vwCl[13]? = some (RX4, TX4, 1) from rfl) in_X4 (by decide) q233 rfl dX4_says_93 ?_
    refine lv_ifnonnull (tgt := 103) C.1 C.2.1 dX4_says_96 (by decide) ?_
    refine lv_aload_n C.1 C.2.1 dX4_says_103 rfl (lv_at hl 0 rfl) ?_
    refine p_get (j := 0) C hS ha (show vwCl[13]? = some (RX4, TX4, 1) from rfl) in_X4 (by decide) q233 rfl dX4_says_104 ?_
    refine va_castS C.1 C.2.1 C.2.2.1 (C.2.2.2.1 _ q627) (C.2.2.2.2.1.1 3 _ (show vwCl[3]? = some (RX15, TX15, 2) from rfl)).2 (n_recvH C hS hq0 (show vwCl[3]? = some (RX15, TX15, 2) from rfl)) dX4_says_107 ?_
    obtain ⟨r9, hr9, hE⟩ := it_b hE
    refine n_after [] C.2.2.2.2.2.1 C.2.2.2.2.2.2.2.1 hP hS (va_runV (As := []) (rest := []) ⟨C.1, C.2.1, hml, C.2.2.1, C.2.2.2.1⟩ (metC_Overfed_more_3 l G ad pl  q ix hby hq0 r9 hr9) (cwV (C := RX15) 0 C.2.2.2.1 (lw_V q628 q607 q1826 q105 q608) rfl rfl rfl (by decide +kernel) ⟨Nat.le_of_ble_eq_true rfl, Nat.le_of_ble_eq_true rfl⟩) (n_preV C hP hS [] rfl (by decide) rfl (n_recvH C hS hq0 rfl)) rfl rfl hl.1 rfl (lv_room (Nat.le_of_ble_eq_true rfl)) dX4_says_110 ⟨Nat.le_of_ble_eq_true rfl, Nat.le_of_ble_eq_true rfl⟩) rW_av rfl rfl rfl (fun H locs hP hS => ?_)
    refine lv_istore_n (lv' := [(3, .int r9), (0, .ref a), (1, .int p1), (2, .ref (ad 0))]) C.1 C.2.1 dX4_says_113 rfl hl (by decide) rfl (fun ls hl => ?_)
    refine lv_goto (tgt := 225) C.1 C.2.1 dX4_says_114 (by decide) ?_
    refine lv_aload_n C.1 C.2.1 dX4_says_225 rfl (lv_at hl 1 rfl) ?_
    refine p_get (j := 0) C hS ha (show vwCl[13]? = some (RX4, TX4, 1) from rfl) in_X4 (by decide) q233 rfl dX4_says_226 ?_
    refine lv_ifnull C.1 C.2.1 dX4_says_229 ?_
    refine lv_iconst (v := 1) C.1 C.2.1 dX4_says_232 (by decide) ?_
    refine lv_goto (tgt := 237) C.1 C.2.1 dX4_says_233 (by decide) ?_
    refine lv_bipush (v := (-3)) C.1 C.2.1 dX4_says_237 (by decide) ?_
    refine t_after [] C0 D hP P_nil hS (vx_runS (As := [.int 1, .int (-3)]) (rest := []) ⟨C.1, C.2.1, hml, C.2.2.1, C.2.2.2.1⟩ (metC_HW_need l hfl G ad pl H.size 1 (-3) _ (need_eq _ _)) (va_cwS 2 C.2.2.2.1 (lw_S q493 q398 q80 q399) rfl rfl rfl (by decide +kernel) ⟨Nat.le_of_ble_eq_true rfl, Nat.le_of_ble_eq_true rfl⟩) (rr_preS C D hP hS [] rfl (by decide) rfl) rfl rfl hl.1 rfl (lv_room (Nat.le_of_ble_eq_true rfl)) dX4_says_239 ⟨Nat.le_of_ble_eq_true rfl, Nat.le_of_ble_eq_true rfl⟩) rW_av rfl rfl rfl (fun hφ H locs hP _ hS => ?_) (fun w q H locs hw hq hc hP _ hS => ?_)
    rotate_left
    · exact absurd (nd_x hw).1 (by decide)
    refine lv_iload_n C.1 C.2.1 dX4_says_242 rfl (lv_at hl 0 rfl) ?_
    obtain rfl := Option.some.inj hE
    refine W.widen (k := 5) (n := 984) (Nat.le_of_ble_eq_true rfl) (Nat.le_of_ble_eq_true rfl) ?_
    exact hret _ _ _ _ dX4_says_243 rfl hP hS
  have hE := it_f c8 hE
  by_cases c12 : p1 = 4
  · have hE := it_t c12 hE
    refine lv_tableIn (tgt := 117) C.1 C.2.1 dX4_says_1 (by rw [c12]; decide) (by rw [c12]; decide) (by rw [c12]; rfl) (by decide) ?_
    refine lv_aload_n C.1 C.2.1 dX4_says_117 rfl (lv_at hl 0 rfl) ?_
    refine p_get (j := 0) C hS ha (show vwCl[13]? = some (RX4, TX4, 1) from rfl) in_X4 (by decide) q233 rfl dX4_says_118 ?_
    refine lv_ifnonnull (tgt := 128) C.1 C.2.1 dX4_says_121 (by decide) ?_
    refine lv_aload_n C.1 C.2.1 dX4_says_128 rfl (lv_at hl 0 rfl) ?_
    refine p_get (j := 0) C hS ha (show vwCl[13]? = some (RX4, TX4, 1) from rfl) in_X4 (by decide) q233 rfl dX4_says_129 ?_
    refine t_castX (r := (RX15, TX15, 2)) hfl C0 D hP P_nil hS (by rw [hml]; exact hl.1) hlocks (P_mem (pl_at C.2.2.2.2.2.2.2.2 C.2.2.2.2.2.2.1 hS) hq0) rfl ⟨pk_overfed, by decide⟩ ⟨pk_far, by decide⟩ (List.mem_of_getElem? (i := 52) rfl) q629 dX4_says_132 ⟨Nat.le_of_ble_eq_true rfl, Nat.le_of_ble_eq_true rfl, Nat.le_of_ble_eq_true rfl, Nat.le_of_ble_eq_true rfl⟩ (fun H z13 ce hz hP _ hS g1 g2 g3 => ?_)
    refine t_catch (name := "java/lang/ClassCastException") (E := "java/lang/ClassCastException") C0 D [] ⟨0, 243, 244, 21⟩ [] htab (fun z hz => nomatch hz) rfl (by decide) q478 (List.mem_of_getElem? (i := 3) rfl) g1 g2 g3 ?_
    refine W.eq (g2 := F0 m 244 ls [.ref z13]) rfl ?_
    refine lv_astore_n (lv' := [(3, .ref z13), (0, .ref a), (1, .int p1), (2, .ref (ad 0))]) C.1 C.2.1 dX4_says_244 rfl hl (by decide) rfl (fun ls hl => ?_)
    obtain ⟨q14, hq14e⟩ : ∃ q, q = H.size := ⟨_, rfl⟩
    refine t_refuse18 (w := (-2)) (kp := 2) C0 D hml hl.1 hP rW_av P_nil hS q494 q495 dX4_says_245 dX4_says_248 (fun kk => lv_bipush (v := (-2)) C.1 C.2.1 dX4_says_249 (by decide) kk) dX4_says_251 dX4_says_254 ⟨Nat.le_of_ble_eq_true rfl, Nat.le_of_ble_eq_true rfl, Nat.le_of_ble_eq_true rfl, Nat.le_of_ble_eq_true rfl⟩ (fun H locs hq hc hP _ hS => ?_)
    rw [← hq14e] at hq hc ⊢
    obtain rfl := Option.some.inj hE
    refine vx_widen (k := 5) (n := 984) (Nat.le_of_ble_eq_true rfl) (Nat.le_of_ble_eq_true rfl) ?_
    exact hthr _ _ _ _ _ _ _ (by
      rw [htab]
      intro z hz
      have hz : z ∈ ([⟨0, 243, 244, 21⟩] : List ExceptionTableEntry) := hz
      simp only [List.mem_cons, List.not_mem_nil, or_false] at hz
      rcases hz with rfl
      · exact Or.inl rfl) rfl hq.2.2 hc hP hS
  have hE := it_f c12 hE
  by_cases c15 : p1 = 5
  · have hE := it_t c15 hE
    refine lv_tableIn (tgt := 144) C.1 C.2.1 dX4_says_1 (by rw [c15]; decide) (by rw [c15]; decide) (by rw [c15]; rfl) (by decide) ?_
    refine lv_aload_n C.1 C.2.1 dX4_says_144 rfl (lv_at hl 0 rfl) ?_
    refine p_get (j := 0) C hS ha (show vwCl[13]? = some (RX4, TX4, 1) from rfl) in_X4 (by decide) q233 rfl dX4_says_145 ?_
    refine lv_ifnonnull (tgt := 155) C.1 C.2.1 dX4_says_148 (by decide) ?_
    refine lv_aload_n C.1 C.2.1 dX4_says_155 rfl (lv_at hl 0 rfl) ?_
    refine p_get (j := 0) C hS ha (show vwCl[13]? = some (RX4, TX4, 1) from rfl) in_X4 (by decide) q233 rfl dX4_says_156 ?_
    refine t_castX (r := (RX15, TX15, 2)) hfl C0 D hP P_nil hS (by rw [hml]; exact hl.1) hlocks (P_mem (pl_at C.2.2.2.2.2.2.2.2 C.2.2.2.2.2.2.1 hS) hq0) rfl ⟨pk_overfed, by decide⟩ ⟨pk_dog, by decide⟩ (List.mem_of_getElem? (i := 53) rfl) q640 dX4_says_159 ⟨Nat.le_of_ble_eq_true rfl, Nat.le_of_ble_eq_true rfl, Nat.le_of_ble_eq_true rfl, Nat.le_of_ble_eq_true rfl⟩ (fun H z16 ce hz hP _ hS g1 g2 g3 => ?_)
    refine t_catch (name := "java/lang/ClassCastException") (E := "java/lang/ClassCastException") C0 D [] ⟨0, 243, 244, 21⟩ [] htab (fun z hz => nomatch hz) rfl (by decide) q478 (List.mem_of_getElem? (i := 3) rfl) g1 g2 g3 ?_
    refine W.eq (g2 := F0 m 244 ls [.ref z16]) rfl ?_
    refine lv_astore_n (lv' := [(3, .ref z16), (0, .ref a), (1, .int p1), (2, .ref (ad 0))]) C.1 C.2.1 dX4_says_244 rfl hl (by decide) rfl (fun ls hl => ?_)
    obtain ⟨q17, hq17e⟩ : ∃ q, q = H.size := ⟨_, rfl⟩
    refine t_refuse18 (w := (-2)) (kp := 2) C0 D hml hl.1 hP rW_av P_nil hS q494 q495 dX4_says_245 dX4_says_248 (fun kk => lv_bipush (v := (-2)) C.1 C.2.1 dX4_says_249 (by decide) kk) dX4_says_251 dX4_says_254 ⟨Nat.le_of_ble_eq_true rfl, Nat.le_of_ble_eq_true rfl, Nat.le_of_ble_eq_true rfl, Nat.le_of_ble_eq_true rfl⟩ (fun H locs hq hc hP _ hS => ?_)
    rw [← hq17e] at hq hc ⊢
    obtain rfl := Option.some.inj hE
    refine vx_widen (k := 5) (n := 984) (Nat.le_of_ble_eq_true rfl) (Nat.le_of_ble_eq_true rfl) ?_
    exact hthr _ _ _ _ _ _ _ (by
      rw [htab]
      intro z hz
      have hz : z ∈ ([⟨0, 243, 244, 21⟩] : List ExceptionTableEntry) := hz
      simp only [List.mem_cons, List.not_mem_nil, or_false] at hz
      rcases hz with rfl
      · exact Or.inl rfl) rfl hq.2.2 hc hP hS
  have hE := it_f c15 hE
  by_cases c18 : p1 = 6
  · have hE := it_t c18 hE
    refine lv_tableIn (tgt := 171) C.1 C.2.1 dX4_says_1 (by rw [c18]; decide) (by rw [c18]; decide) (by rw [c18]; rfl) (by decide) ?_
    refine lv_aload_n C.1 C.2.1 dX4_says_171 rfl (lv_at hl 0 rfl) ?_
    refine p_get (j := 0) C hS ha (show vwCl[13]? = some (RX4, TX4, 1) from rfl) in_X4 (by decide) q233 rfl dX4_says_172 ?_
    refine lv_ifnonnull (tgt := 182) C.1 C.2.1 dX4_says_175 (by decide) ?_
    refine lv_aload_n C.1 C.2.1 dX4_says_182 rfl (lv_at hl 0 rfl) ?_
    refine p_get (j := 0) C hS ha (show vwCl[13]? = some (RX4, TX4, 1) from rfl) in_X4 (by decide) q233 rfl dX4_says_183 ?_
    refine t_castX (r := (RX15, TX15, 2)) hfl C0 D hP P_nil hS (by rw [hml]; exact hl.1) hlocks (P_mem (pl_at C.2.2.2.2.2.2.2.2 C.2.2.2.2.2.2.1 hS) hq0) rfl ⟨pk_overfed, by decide⟩ ⟨pk_bus, by decide⟩ (List.mem_of_getElem? (i := 54) rfl) q642 dX4_says_186 ⟨Nat.le_of_ble_eq_true rfl, Nat.le_of_ble_eq_true rfl, Nat.le_of_ble_eq_true rfl, Nat.le_of_ble_eq_true rfl⟩ (fun H z19 ce hz hP _ hS g1 g2 g3 => ?_)
    refine t_catch (name := "java/lang/ClassCastException") (E := "java/lang/ClassCastException") C0 D [] ⟨0, 243, 244, 21⟩ [] htab (fun z hz => nomatch hz) rfl (by decide) q478 (List.mem_of_getElem? (i := 3) rfl) g1 g2 g3 ?_
    refine W.eq (g2 := F0 m 244 ls [.ref z19]) rfl ?_
    refine lv_astore_n (lv' := [(3, .ref z19), (0, .ref a), (1, .int p1), (2, .ref (ad 0))]) C.1 C.2.1 dX4_says_244 rfl hl (by decide) rfl (fun ls hl => ?_)
    obtain ⟨q20, hq20e⟩ : ∃ q, q = H.size := ⟨_, rfl⟩
    refine t_refuse18 (w := (-2)) (kp := 2) C0 D hml hl.1 hP rW_av P_nil hS q494 q495 dX4_says_245 dX4_says_248 (fun kk => lv_bipush (v := (-2)) C.1 C.2.1 dX4_says_249 (by decide) kk) dX4_says_251 dX4_says_254 ⟨Nat.le_of_ble_eq_true rfl, Nat.le_of_ble_eq_true rfl, Nat.le_of_ble_eq_true rfl, Nat.le_of_ble_eq_true rfl⟩ (fun H locs hq hc hP _ hS => ?_)
    rw [← hq20e] at hq hc ⊢
    obtain rfl := Option.some.inj hE
    refine vx_widen (k := 5) (n := 984) (Nat.le_of_ble_eq_true rfl) (Nat.le_of_ble_eq_true rfl) ?_
    exact hthr _ _ _ _ _ _ _ (by
      rw [htab]
      intro z hz
      have hz : z ∈ ([⟨0, 243, 244, 21⟩] : List ExceptionTableEntry) := hz
      simp only [List.mem_cons, List.not_mem_nil, or_false] at hz
      rcases hz with rfl
      · exact Or.inl rfl) rfl hq.2.2 hc hP hS
  have hE := it_f c18 hE
  refine lv_tableOut (tgt := 198) C.1 C.2.1 dX4_says_1 (ts_e (ts_s (ts_s (ts_s (ts_s (ts_s (ts_s (ts_0 1) c1 rfl rfl) c5 rfl rfl) c8 rfl rfl) c12 rfl rfl) c15 rfl rfl) c18 rfl rfl) rfl) (by decide) ?_
  refine lv_aload_n C.1 C.2.1 dX4_says_198 rfl (lv_at hl 0 rfl) ?_
  refine p_get (j := 0) C hS ha (show vwCl[13]? = some (RX4, TX4, 1) from rfl) in_X4 (by decide) q233 rfl dX4_says_199 ?_
  refine lv_ifnonnull (tgt := 209) C.1 C.2.1 dX4_says_202 (by decide) ?_
  refine lv_aload_n C.1 C.2.1 dX4_says_209 rfl (lv_at hl 2 rfl) ?_
  refine rWg_0_7 q198 C hP dX4_says_210 ?_
  refine lv_aload_n C.1 C.2.1 dX4_says_213 rfl (lv_at hl 0 rfl) ?_
  refine p_get (j := 0) C hS ha (show vwCl[13]? = some (RX4, TX4, 1) from rfl) in_X4 (by decide) q233 rfl dX4_says_214 ?_
  refine va_castY C.1 C.2.1 C.2.2.1 (C.2.2.2.1 _ q520) (D.2.2.2.2.1 _ (List.mem_of_getElem? (i := 15) rfl)) (n_recvH C hS hq0 (show vwCl[3]? = some (RX15, TX15, 2) from rfl)) dX4_says_217 ?_
  refine h_get (j := 0) C hS hq0 (show vwCl[3]? = some (RX15, TX15, 2) from rfl) in_X15 (by decide) rfl rfl rfl q666 (Or.inl rfl) rfl dX4_says_220 ?_
  obtain ⟨g21, hE⟩ := it_g hE
  refine rWl_5 (v := (v_had (ix).toNatClampNeg)) C hP (gi_in g21) rfl dX4_says_223 ?_
  refine lv_istore_n (lv' := [(3, .int (v_had (ix).toNatClampNeg)), (0, .ref a), (1, .int p1), (2, .ref (ad 0))]) C.1 C.2.1 dX4_says_224 rfl hl (by decide) rfl (fun ls hl => ?_)
  refine lv_aload_n C.1 C.2.1 dX4_says_225 rfl (lv_at hl 1 rfl) ?_
  refine p_get (j := 0) C hS ha (show vwCl[13]? = some (RX4, TX4, 1) from rfl) in_X4 (by decide) q233 rfl dX4_says_226 ?_
  refine lv_ifnull C.1 C.2.1 dX4_says_229 ?_
  refine lv_iconst (v := 1) C.1 C.2.1 dX4_says_232 (by decide) ?_
  refine lv_goto (tgt := 237) C.1 C.2.1 dX4_says_233 (by decide) ?_
  refine lv_bipush (v := (-3)) C.1 C.2.1 dX4_says_237 (by decide) ?_
  refine t_after [] C0 D hP P_nil hS (vx_runS (As := [.int 1, .int (-3)]) (rest := []) ⟨C.1, C.2.1, hml, C.2.2.1, C.2.2.2.1⟩ (metC_HW_need l hfl G ad pl H.size 1 (-3) _ (need_eq _ _)) (va_cwS 2 C.2.2.2.1 (lw_S q493 q398 q80 q399) rfl rfl rfl (by decide +kernel) ⟨Nat.le_of_ble_eq_true rfl, Nat.le_of_ble_eq_true rfl⟩) (rr_preS C D hP hS [] rfl (by decide) rfl) rfl rfl hl.1 rfl (lv_room (Nat.le_of_ble_eq_true rfl)) dX4_says_239 ⟨Nat.le_of_ble_eq_true rfl, Nat.le_of_ble_eq_true rfl⟩) rW_av rfl rfl rfl (fun hφ H locs hP _ hS => ?_) (fun w q H locs hw hq hc hP _ hS => ?_)
  rotate_left
  · exact absurd (nd_x hw).1 (by decide)
  refine lv_iload_n C.1 C.2.1 dX4_says_242 rfl (lv_at hl 0 rfl) ?_
  obtain rfl := Option.some.inj hE
  refine W.widen (k := 5) (n := 984) (Nat.le_of_ble_eq_true rfl) (Nat.le_of_ble_eq_true rfl) ?_
  exact hret _ _ _ _ dX4_says_243 rfl hP hS
def sC_Shelf_says_H_4 (v_had : Nat → Int32) (ix : Int32) (hby : Int32) (p1 : Int32) : Option (Option Int32 × Int32) :=
  if p1 = 1 then
    some (some (-2), 0)
  else
  if p1 = 2 then
    some (some (-2), 0)
  else
  if p1 = 3 then
    some (some (-2), 0)
  else
  if p1 = 4 then
    (sC_Far_less_4 ix hby 30).bind fun r11 =>
    some (none, r11)
  else
  if p1 = 5 then
    some (some (-2), 0)
  else
  if p1 = 6 then
    some (some (-2), 0)
  else
  if gi ix 8 then
  some (none, (v_had (ix).toNatClampNeg))
  else none
set_option maxHeartbeats 4000000 in
theorem metC_Shelf_says_H_4 (l : Launch) (hfl : l.stackTraces = false) (G : kG) (ad : Nat → Nat) (pl : va_W) (sz : Nat) (v_many : Int32) (v_pets : Int32) (v_last : Int32) (v_seed : Int32) (v_weight : Int32) (v_fright : Int32) (v_age : Int32) (v_asked : Nat → Int32) (v_homes : Nat → Option Nat) (v_marks : Nat → Int32) (v_had : Nat → Int32) (v_allergic : Nat → Int32) (v_deaths : Nat → Int32) (a q : Nat) (ix : Int32) (hby : Int32) (p1 : Int32) (ha : (a, .inr (13, [.ref q])) ∈ pl) (hq0 : (q, .inr (4, [.int ix, .int hby])) ∈ pl) (res : Option Int32 × Int32) (hE : sC_Shelf_says_H_4 v_had ix hby p1 = some res) : vx_Met l yX4_says (wsW_ yX4_says cX4_says 4 (some .int) [((0 : Nat), (243 : Nat), (244 : Nat), (21 : Nat))]) ({ frames := 9, cells := 5, slots := 984, locals := 10281 } : Room) (rPc G (rW G.2 ad v_many v_pets v_last v_seed v_weight v_fright v_age v_asked v_homes v_marks v_had v_allergic v_deaths) pl (rWV ad) sz [.ref a, .int p1, .ref (ad 0)]) (tQc G (rW G.2 ad v_many v_pets v_last v_seed v_weight v_fright v_age v_asked v_homes v_marks v_had v_allergic v_deaths) [] (tA sz (rWV ad) []) (res.1 = none) (some (.int res.2))) (tXC G (rW G.2 ad v_many v_pets v_last v_seed v_weight v_fright v_age v_asked v_homes v_marks v_had v_allergic v_deaths) [] (tA sz (rWV ad) []) 18 RX6 res.1 sz) 5 984 (tA sz (rWV ad) []) := by
  refine r_ofWH (own := RX4) (by decide) rfl (Nat.le_of_ble_eq_true rfl) ?_
  intro p e s m args below meth c ls C C0 D hml htab hP hS hl hr hlocks hsz
  have hl : lv_has ls 4 [(0, .ref a), (1, .int p1), (2, .ref (ad 0))] := hl
  obtain ⟨Q, hQ⟩ : ∃ Q, Q = vx_MQ below (tQc G (rW G.2 ad v_many v_pets v_last v_seed v_weight v_fright v_age v_asked v_homes v_marks v_had v_allergic v_deaths) [] (tA sz (rWV ad) []) (res.1 = none) (some (.int res.2))) (tXC G (rW G.2 ad v_many v_pets v_last v_seed v_weight v_fright v_age v_asked v_homes v_marks v_had v_allergic v_deaths) [] (tA sz (rWV ad) []) 18 RX6 res.1 sz) args s 5 984 (tA sz (rWV ad) []) := ⟨_, rfl⟩
  rw [← hQ]
  have hret : ∀ (pc : Nat) (ls : Array Slot) (H : Heap) (locs : List Loc), decode cX4_says pc = .ok (.ireturn, 1) → res.1 = none → va_P G.1 vwCl (rW G.2 ad v_many v_pets v_last v_seed v_weight v_fright v_age v_asked v_homes v_marks v_had v_allergic v_deaths) H → va_S (tA sz (rWV ad) []) s.heap H locs → W p l e ({ frames := 9, cells := 5, slots := 984, locals := 10281 } : Room) s m args below meth c H locs 5 984 Q (F0 m pc ls [(.int res.2)]) := by
    intro pc ls H locs hd hφ hP hS
    rw [hQ]
    exact t_iret C0 hr hlocks hd hφ hP P_nil hS
  have hthr : ∀ (pc : Nat) (ls : Array Slot) (rest : List Value) (H : Heap) (locs : List Loc) (w : Int32) (q : Nat), (∀ z ∈ c.exceptionTable.toList, covers z pc = false ∨ (z.catchType ≠ 0 ∧ ∃ nm : String, (Cond.classLink RX4 z.catchType nm).before args s = true ∧ va_Nc RX6 nm s)) → res.1 = some w → s.heap.size ≤ q → va_P G.1 vwCl [(q, .inr (18, xF w))] H → va_P G.1 vwCl (rW G.2 ad v_many v_pets v_last v_seed v_weight v_fright v_age v_asked v_homes v_marks v_had v_allergic v_deaths) H → va_S (tA sz (rWV ad) []) s.heap H locs → vx_W p l e ({ frames := 9, cells := 5, slots := 984, locals := 10281 } : Room) s m args below meth c H locs 5 984 Q (F0 m pc ls rest) q := by
    intro pc ls rest H locs w q hout hw hq hc hP hS
    rw [hQ]
    exact t_outP (r := (RX6, TX6, 7)) C0 rfl hout hlocks hw (by omega) hc hP P_nil hS
  clear hQ
  obtain ⟨H, hH⟩ : ∃ H, H = s.heap := ⟨_, rfl⟩
  obtain ⟨locs, hlo⟩ : ∃ locs : List Loc, locs = [] := ⟨_, rfl⟩
  have hP : va_P G.1 vwCl (rW G.2 ad v_many v_pets v_last v_seed v_weight v_fright v_age v_asked v_homes v_marks v_had v_allergic v_deaths) H := by rw [hH]; exact hP
  have hS : va_S (tA sz (rWV ad) []) s.heap H locs := by rw [hH, hlo]; exact hS
  suffices hZ : W p l e ({ frames := 9, cells := 5, slots := 984, locals := 10281 } : Room) s m args below meth c H locs 0 0 Q (F0 m 0 ls []) by rw [hH, hlo] at hZ; exact hZ
  clear hH hlo
  unfold sC_Shelf_says_H_4 at hE
  refine lv_iload_n C.1 C.2.1 dX4_says_0 rfl (lv_at hl 1 rfl) ?_
  by_cases c1 : p1 = 1
  · have hE := it_t c1 hE
    refine lv_tableIn (tgt := 40) C.1 C.2.1 dX4_says_1 (by rw [c1]; decide) (by rw [c1]; decide) (by rw [c1]; rfl) (by decide) ?_
    refine lv_aload_n C.1 C.2.1 dX4_says_40 rfl (lv_at hl 0 rfl) ?_
    refine p_get (j := 0) C hS ha (show vwCl[13]? = some (RX4, TX4, 1) from rfl) in_X4 (by decide) q233 rfl dX4_says_41 ?_
    refine lv_ifnonnull (tgt := 51) C.1 C.2.1 dX4_says_44 (by decide) ?_
    refine lv_aload_n C.1 C.2.1 dX4_says_51 rfl (lv_at hl 0 rfl) ?_
    refine p_get (j := 0) C hS ha (show vwCl[13]? = some (RX4, TX4, 1) from rfl) in_X4 (by decide) q233 rfl dX4_says_52 ?_
    refine t_castX (r := (RX16, TX16, 2)) hfl C0 D hP P_nil hS (by rw [hml]; exact hl.1) hlocks (P_mem (pl_at C.2.2.2.2.2.2.2.2 C.2.2.2.2.2.2.1 hS) hq0) rfl ⟨pk_far, by decide⟩ ⟨pk_good, by decide⟩ (List.mem_of_getElem? (i := 55) rfl) q601 dX4_says_55 ⟨Nat.le_of_ble_eq_true rfl, Nat.le_of_ble_eq_true rfl, Nat.le_of_ble_eq_true rfl, Nat.le_of_ble_eq_true rfl⟩ (fun H z2 ce hz hP _ hS g1 g2 g3 => ?_)
    refine t_catch (name := "java/lang/ClassCastException") (E := "java/lang/ClassCastException") C0 D [] ⟨0, 243, 244, 21⟩ [] htab (fun z hz => nomatch hz) rfl (by decide) q478 (List.mem_of_getElem? (i := 3) rfl) g1 g2 g3 ?_
    refine W.eq (g2 := F0 m 244 ls [.ref z2]) rfl ?_
    refine lv_astore_n (lv' := [(3, .ref z2), (0, .ref a), (1, .int p1), (2, .ref (ad 0))]) C.1 C.2.1 dX4_says_244 rfl hl (by decide) rfl (fun ls hl => ?_)
    obtain ⟨q3, hq3e⟩ : ∃ q, q = H.size := ⟨_, rfl⟩
    refine t_refuse18 (w := (-2)) (kp := 2) C0 D hml hl.1 hP rW_av P_nil hS q494 q495 dX4_says_245 dX4_says_248 (fun kk => lv_bipush (v := (-2)) C.1 C.2.1 dX4_says_249 (by decide) kk) dX4_says_251 dX4_says_254 ⟨Nat.le_of_ble_eq_true rfl, Nat.le_of_ble_eq_true rfl, Nat.le_of_ble_eq_true rfl, Nat.le_of_ble_eq_true rfl⟩ (fun H locs hq hc hP _ hS => ?_)
    rw [← hq3e] at hq hc ⊢
    obtain rfl := Option.some.inj hE
    refine vx_widen (k := 5) (n := 984) (Nat.le_of_ble_eq_true rfl) (Nat.le_of_ble_eq_true rfl) ?_
    exact hthr _ _ _ _ _ _ _ (by
      rw [htab]
      intro z hz
      have hz : z ∈ ([⟨0, 243, 244, 21⟩] : List ExceptionTableEntry) := hz
      simp only [List.mem_cons, List.not_mem_nil, or_false] at hz
      rcases hz with rfl
      · exact Or.inl rfl) rfl hq.2.2 hc hP hS
  have hE := it_f c1 hE
  by_cases c4 : p1 = 2
  · have hE := it_t c4 hE
    refine lv_tableIn (tgt := 65) C.1 C.2.1 dX4_says_1 (by rw [c4]; decide) (by rw [c4]; decide) (by rw [c4]; rfl) (by decide) ?_
    refine lv_aload_n C.1 C.2.1 dX4_says_65 rfl (lv_at hl 0 rfl) ?_
    refine p_get (j := 0) C hS ha (show vwCl[13]? = some (RX4, TX4, 1) from rfl) in_X4 (by decide) q233 rfl dX4_says_66 ?_
    refine lv_ifnonnull (tgt := 76) C.1 C.2.1 dX4_says_69 (by decide) ?_
    refine lv_aload_n C.1 C.2.1 dX4_says_76 rfl (lv_at hl 0 rfl) ?_
    refine p_get (j := 0) C hS ha (show vwCl[13]? = some (RX4, TX4, 1) from rfl) in_X4 (by decide) q233 rfl dX4_says_77 ?_
    refine t_castX (r := (RX16, TX16, 2)) hfl C0 D hP P_nil hS (by rw [hml]; exact hl.1) hlocks (P_mem (pl_at C.2.2.2.2.2.2.2.2 C.2.2.2.2.2.2.1 hS) hq0) rfl ⟨pk_far, by decide⟩ ⟨pk_cat, by decide⟩ (List.mem_of_getElem? (i := 56) rfl) q612 dX4_says_80 ⟨Nat.le_of_ble_eq_true rfl, Nat.le_of_ble_eq_true rfl, Nat.le_of_ble_eq_true rfl, Nat.le_of_ble_eq_true rfl⟩ (fun H z5 ce hz hP _ hS g1 g2 g3 => ?_)
    refine t_catch (name := "java/lang/ClassCastException") (E := "java/lang/ClassCastException") C0 D [] ⟨0, 243, 244, 21⟩ [] htab (fun z hz => nomatch hz) rfl (by decide) q478 (List.mem_of_getElem? (i := 3) rfl) g1 g2 g3 ?_
    refine W.eq (g2 := F0 m 244 ls [.ref z5]) rfl ?_
    refine lv_astore_n (lv' := [(3, .ref z5), (0, .ref a), (1, .int p1), (2, .ref (ad 0))]) C.1 C.2.1 dX4_says_244 rfl hl (by decide) rfl (fun ls hl => ?_)
    obtain ⟨q6, hq6e⟩ : ∃ q, q = H.size := ⟨_, rfl⟩
    refine t_refuse18 (w := (-2)) (kp := 2) C0 D hml hl.1 hP rW_av P_nil hS q494 q495 dX4_says_245 dX4_says_248 (fun kk => lv_bipush (v := (-2)) C.1 C.2.1 dX4_says_249 (by decide) kk) dX4_says_251 dX4_says_254 ⟨Nat.le_of_ble_eq_true rfl, Nat.le_of_ble_eq_true rfl, Nat.le_of_ble_eq_true rfl, Nat.le_of_ble_eq_true rfl⟩ (fun H locs hq hc hP _ hS => ?_)
    rw [← hq6e] at hq hc ⊢
    obtain rfl := Option.some.inj hE
    refine vx_widen (k := 5) (n := 984) (Nat.le_of_ble_eq_true rfl) (Nat.le_of_ble_eq_true rfl) ?_
    exact hthr _ _ _ _ _ _ _ (by
      rw [htab]
      intro z hz
      have hz : z ∈ ([⟨0, 243, 244, 21⟩] : List ExceptionTableEntry) := hz
      simp only [List.mem_cons, List.not_mem_nil, or_false] at hz
      rcases hz with rfl
      · exact Or.inl rfl) rfl hq.2.2 hc hP hS
  have hE := it_f c4 hE
  by_cases c7 : p1 = 3
  · have hE := it_t c7 hE
    refine lv_tableIn (tgt := 92) C.1 C.2.1 dX4_says_1 (by rw [c7]; decide) (by rw [c7]; decide) (by rw [c7]; rfl) (by decide) ?_
    refine lv_aload_n C.1 C.2.1 dX4_says_92 rfl (lv_at hl 0 rfl) ?_
    refine p_get (j := 0) C hS ha (show vwCl[13]? = some (RX4, TX4, 1) from rfl) in_X4 (by decide) q233 rfl dX4_says_93 ?_
    refine lv_ifnonnull (tgt := 103) C.1 C.2.1 dX4_says_96 (by decide) ?_
    refine lv_aload_n C.1 C.2.1 dX4_says_103 rfl (lv_at hl 0 rfl) ?_
    refine p_get (j := 0) C hS ha (show vwCl[13]? = some (RX4, TX4, 1) from rfl) in_X4 (by decide) q233 rfl dX4_says_104 ?_
    refine t_castX (r := (RX16, TX16, 2)) hfl C0 D hP P_nil hS (by rw [hml]; exact hl.1) hlocks (P_mem (pl_at C.2.2.2.2.2.2.2.2 C.2.2.2.2.2.2.1 hS) hq0) rfl ⟨pk_far, by decide⟩ ⟨pk_overfed, by decide⟩ (List.mem_of_getElem? (i := 57) rfl) q627 dX4_says_107 ⟨Nat.le_of_ble_eq_true rfl, Nat.le_of_ble_eq_true rfl, Nat.le_of_ble_eq_true rfl, Nat.le_of_ble_eq_true rfl⟩ (fun H z8 ce hz hP _ hS g1 g2 g3 => ?_)
    refine t_catch (name := "java/lang/ClassCastException") (E := "java/lang/ClassCastException") C0 D [] ⟨0, 243, 244, 21⟩ [] htab (fun z hz => nomatch hz) rfl (by decide) q478 (List.mem_of_getElem? (i := 3) rfl) g1 g2 g3 ?_
    refine W.eq (g2 := F0 m 244 ls [.ref z8]) rfl ?_
    refine lv_astore_n (lv' := [(3, .ref z8), (0, .ref a), (1, .int p1), (2, .ref (ad 0))]) C.1 C.2.1 dX4_says_244 rfl hl (by decide) rfl (fun ls hl => ?_)
    obtain ⟨q9, hq9e⟩ : ∃ q, q = H.size := ⟨_, rfl⟩
    refine t_refuse18 (w := (-2)) (kp := 2) C0 D hml hl.1 hP rW_av P_nil hS q494 q495 dX4_says_245 dX4_says_248 (fun kk => lv_bipush (v := (-2)) C.1 C.2.1 dX4_says_249 (by decide) kk) dX4_says_251 dX4_says_254 ⟨Nat.le_of_ble_eq_true rfl, Nat.le_of_ble_eq_true rfl, Nat.le_of_ble_eq_true rfl, Nat.le_of_ble_eq_true rfl⟩ (fun H locs hq hc hP _ hS => ?_)
    rw [← hq9e] at hq hc ⊢
    obtain rfl := Option.some.inj hE
    refine vx_widen (k := 5) (n := 984) (Nat.le_of_ble_eq_true rfl) (Nat.le_of_ble_eq_true rfl) ?_
    exact hthr _ _ _ _ _ _ _ (by
      rw [htab]
      intro z hz
      have hz : z ∈ ([⟨0, 243, 244, 21⟩] : List ExceptionTableEntry) := hz
      simp only [List.mem_cons, List.not_mem_nil, or_false] at hz
      rcases hz with rfl
      · exact Or.inl rfl) rfl hq.2.2 hc hP hS
  have hE := it_f c7 hE
  by_cases c10 : p1 = 4
  · have hE := it_t c10 hE
    refine lv_tableIn (tgt := 117) C.1 C.2.1 dX4_says_1 (by rw [c10]; decide) (by rw [c10]; decide) (by rw [c10]; rfl) (by decide) ?_
    refine lv_aload_n C.1 C.2.1 dX4_says_117 rfl (lv_at hl 0 rfl) ?_
    refine p_get (j := 0) C hS ha (show vwCl[13]? = some (RX4, TX4, 1) from rfl) in_X4 (by decide) q233 rfl dX4_says_118 ?_
    refine lv_ifnonnull (tgt := 128) C.1 C.2.1 dX4_says_121 (by decide) ?_
    refine lv_aload_n C.1 C.2.1 dX4_says_128 rfl (lv_at hl 0 rfl) ?_
    refine p_get (j := 0) C hS ha (show vwCl[13]? = some (RX4, TX4, 1) from rfl) in_X4 (by decide) q233 rfl dX4_says_129 ?_
    refine va_castS C.1 C.2.1 C.2.2.1 (C.2.2.2.1 _ q629) (C.2.2.2.2.1.1 4 _ (show vwCl[4]? = some (RX16, TX16, 2) from rfl)).2 (n_recvH C hS hq0 (show vwCl[4]? = some (RX16, TX16, 2) from rfl)) dX4_says_132 ?_
    refine lv_bipush (v := 30) C.1 C.2.1 dX4_says_135 (by decide) ?_
    obtain ⟨r11, hr11, hE⟩ := it_b hE
    refine n_after [] C.2.2.2.2.2.1 C.2.2.2.2.2.2.2.1 hP hS (va_runV (As := [.int 30]) (rest := []) ⟨C.1, C.2.1, hml, C.2.2.1, C.2.2.2.1⟩ (metC_Far_less_4 l G ad pl  q ix hby 30 hq0 r11 hr11) (cwV (C := RX16) 1 C.2.2.2.1 (lw_V q630 q631 q632 q106 q639) rfl rfl rfl (by decide +kernel) ⟨Nat.le_of_ble_eq_true rfl, Nat.le_of_ble_eq_true rfl⟩) (n_preV C hP hS [] rfl (by decide) rfl (n_recvH C hS hq0 rfl)) rfl rfl hl.1 rfl (lv_room (Nat.le_of_ble_eq_true rfl)) dX4_says_137 ⟨Nat.le_of_ble_eq_true rfl, Nat.le_of_ble_eq_true rfl⟩) rW_av rfl rfl rfl (fun H locs hP hS => ?_)
    refine lv_istore_n (lv' := [(3, .int r11), (0, .ref a), (1, .int p1), (2, .ref (ad 0))]) C.1 C.2.1 dX4_says_140 rfl hl (by decide) rfl (fun ls hl => ?_)
    refine lv_goto (tgt := 225) C.1 C.2.1 dX4_says_141 (by decide) ?_
    refine lv_aload_n C.1 C.2.1 dX4_says_225 rfl (lv_at hl 1 rfl) ?_
    refine p_get (j := 0) C hS ha (show vwCl[13]? = some (RX4, TX4, 1) from rfl) in_X4 (by decide) q233 rfl dX4_says_226 ?_
    refine lv_ifnull C.1 C.2.1 dX4_says_229 ?_
    refine lv_iconst (v := 1) C.1 C.2.1 dX4_says_232 (by decide) ?_
    refine lv_goto (tgt := 237) C.1 C.2.1 dX4_says_233 (by decide) ?_
    refine lv_bipush (v := (-3)) C.1 C.2.1 dX4_says_237 (by decide) ?_
    refine t_after [] C0 D hP P_nil hS (vx_runS (As := [.int 1, .int (-3)]) (rest := []) ⟨C.1, C.2.1, hml, C.2.2.1, C.2.2.2.1⟩ (metC_HW_need l hfl G ad pl H.size 1 (-3) _ (need_eq _ _)) (va_cwS 2 C.2.2.2.1 (lw_S q493 q398 q80 q399) rfl rfl rfl (by decide +kernel) ⟨Nat.le_of_ble_eq_true rfl, Nat.le_of_ble_eq_true rfl⟩) (rr_preS C D hP hS [] rfl (by decide) rfl) rfl rfl hl.1 rfl (lv_room (Nat.le_of_ble_eq_true rfl)) dX4_says_239 ⟨Nat.le_of_ble_eq_true rfl, Nat.le_of_ble_eq_true rfl⟩) rW_av rfl rfl rfl (fun hφ H locs hP _ hS => ?_) (fun w q H locs hw hq hc hP _ hS => ?_)
    rotate_left
    · exact absurd (nd_x hw).1 (by decide)
    refine lv_iload_n C.1 C.2.1 dX4_says_242 rfl (lv_at hl 0 rfl) ?_
    obtain rfl := Option.some.inj hE
    refine W.widen (k := 5) (n := 984) (Nat.le_of_ble_eq_true rfl) (Nat.le_of_ble_eq_true rfl) ?_
    exact hret _ _ _ _ dX4_says_243 rfl hP hS
  have hE := it_f c10 hE
  by_cases c14 : p1 = 5
  · have hE := it_t c14 hE
    refine lv_tableIn (tgt := 144) C.1 C.2.1 dX4_says_1 (by rw [c14]; decide) (by rw [c14]; decide) (by rw [c14]; rfl) (by decide) ?_
    refine lv_aload_n C.1 C.2.1 dX4_says_144 rfl (lv_at hl 0 rfl) ?_
    refine p_get (j := 0) C hS ha (show vwCl[13]? = some (RX4, TX4, 1) from rfl) in_X4 (by decide) q233 rfl dX4_says_145 ?_
    refine lv_ifnonnull (tgt := 155) C.1 C.2.1 dX4_says_148 (by decide) ?_
    refine lv_aload_n C.1 C.2.1 dX4_says_155 rfl (lv_at hl 0 rfl) ?_
    refine p_get (j := 0) C hS ha (show vwCl[13]? = some (RX4, TX4, 1) from rfl) in_X4 (by decide) q233 rfl dX4_says_156 ?_
    refine t_castX (r := (RX16, TX16, 2)) hfl C0 D hP P_nil hS (by rw [hml]; exact hl.1) hlocks (P_mem (pl_at C.2.2.2.2.2.2.2.2 C.2.2.2.2.2.2.1 hS) hq0) rfl ⟨pk_far, by decide⟩ ⟨pk_dog, by decide⟩ (List.mem_of_getElem? (i := 58) rfl) q640 dX4_says_159 ⟨Nat.le_of_ble_eq_true rfl, Nat.le_of_ble_eq_true rfl, Nat.le_of_ble_eq_true rfl, Nat.le_of_ble_eq_true rfl⟩ (fun H z15 ce hz hP _ hS g1 g2 g3 => ?_)
    refine t_catch (name := "java/lang/ClassCastException") (E := "java/lang/ClassCastException") C0 D [] ⟨0, 243, 244, 21⟩ [] htab (fun z hz => nomatch hz) rfl (by decide) q478 (List.mem_of_getElem? (i := 3) rfl) g1 g2 g3 ?_
    refine W.eq (g2 := F0 m 244 ls [.ref z15]) rfl ?_
    refine lv_astore_n (lv' := [(3, .ref z15), (0, .ref a), (1, .int p1), (2, .ref (ad 0))]) C.1 C.2.1 dX4_says_244 rfl hl (by decide) rfl (fun ls hl => ?_)
    obtain ⟨q16, hq16e⟩ : ∃ q, q = H.size := ⟨_, rfl⟩
    refine t_refuse18 (w := (-2)) (kp := 2) C0 D hml hl.1 hP rW_av P_nil hS q494 q495 dX4_says_245 dX4_says_248 (fun kk => lv_bipush (v := (-2)) C.1 C.2.1 dX4_says_249 (by decide) kk) dX4_says_251 dX4_says_254 ⟨Nat.le_of_ble_eq_true rfl, Nat.le_of_ble_eq_true rfl, Nat.le_of_ble_eq_true rfl, Nat.le_of_ble_eq_true rfl⟩ (fun H locs hq hc hP _ hS => ?_)
    rw [← hq16e] at hq hc ⊢
    obtain rfl := Option.some.inj hE
    refine vx_widen (k := 5) (n := 984) (Nat.le_of_ble_eq_true rfl) (Nat.le_of_ble_eq_true rfl) ?_
    exact hthr _ _ _ _ _ _ _ (by
      rw [htab]
      intro z hz
      have hz : z ∈ ([⟨0, 243, 244, 21⟩] : List ExceptionTableEntry) := hz
      simp only [List.mem_cons, List.not_mem_nil, or_false] at hz
      rcases hz with rfl
      · exact Or.inl rfl) rfl hq.2.2 hc hP hS
  have hE := it_f c14 hE
  by_cases c17 : p1 = 6
  · have hE := it_t c17 hE
    refine lv_tableIn (tgt := 171) C.1 C.2.1 dX4_says_1 (by rw [c17]; decide) (by rw [c17]; decide) (by rw [c17]; rfl) (by decide) ?_
    refine lv_aload_n C.1 C.2.1 dX4_says_171 rfl (lv_at hl 0 rfl) ?_
    refine p_get (j := 0) C hS ha (show vwCl[13]? = some (RX4, TX4, 1) from rfl) in_X4 (by decide) q233 rfl dX4_says_172 ?_
    refine lv_ifnonnull (tgt := 182) C.1 C.2.1 dX4_says_175 (by decide) ?_
    refine lv_aload_n C.1 C.2.1 dX4_says_182 rfl (lv_at hl 0 rfl) ?_
    refine p_get (j := 0) C hS ha (show vwCl[13]? = some (RX4, TX4, 1) from rfl) in_X4 (by decide) q233 rfl dX4_says_183 ?_
    refine t_castX (r := (RX16, TX16, 2)) hfl C0 D hP P_nil hS (by rw [hml]; exact hl.1) hlocks (P_mem (pl_at C.2.2.2.2.2.2.2.2 C.2.2.2.2.2.2.1 hS) hq0) rfl ⟨pk_far, by decide⟩ ⟨pk_bus, by decide⟩ (List.mem_of_getElem? (i := 59) rfl) q642 dX4_says_186 ⟨Nat.le_of_ble_eq_true rfl, Nat.le_of_ble_eq_true rfl, Nat.le_of_ble_eq_true rfl, Nat.le_of_ble_eq_true rfl⟩ (fun H z18 ce hz hP _ hS g1 g2 g3 => ?_)
    refine t_catch (name := "java/lang/ClassCastException") (E := "java/lang/ClassCastException") C0 D [] ⟨0, 243, 244, 21⟩ [] htab (fun z hz => nomatch hz) rfl (by decide) q478 (List.mem_of_getElem? (i := 3) rfl) g1 g2 g3 ?_
    refine W.eq (g2 := F0 m 244 ls [.ref z18]) rfl ?_
    refine lv_astore_n (lv' := [(3, .ref z18), (0, .ref a), (1, .int p1), (2, .ref (ad 0))]) C.1 C.2.1 dX4_says_244 rfl hl (by decide) rfl (fun ls hl => ?_)
    obtain ⟨q19, hq19e⟩ : ∃ q, q = H.size := ⟨_, rfl⟩
    refine t_refuse18 (w := (-2)) (kp := 2) C0 D hml hl.1 hP rW_av P_nil hS q494 q495 dX4_says_245 dX4_says_248 (fun kk => lv_bipush (v := (-2)) C.1 C.2.1 dX4_says_249 (by decide) kk) dX4_says_251 dX4_says_254 ⟨Nat.le_of_ble_eq_true rfl, Nat.le_of_ble_eq_true rfl, Nat.le_of_ble_eq_true rfl, Nat.le_of_ble_eq_true rfl⟩ (fun H locs hq hc hP _ hS => ?_)
    rw [← hq19e] at hq hc ⊢
    obtain rfl := Option.some.inj hE
    refine vx_widen (k := 5) (n := 984) (Nat.le_of_ble_eq_true rfl) (Nat.le_of_ble_eq_true rfl) ?_
    exact hthr _ _ _ _ _ _ _ (by
      rw [htab]
      intro z hz
      have hz : z ∈ ([⟨0, 243, 244, 21⟩] : List ExceptionTableEntry) := hz
      simp only [List.mem_cons, List.not_mem_nil, or_false] at hz
      rcases hz with rfl
      · exact Or.inl rfl) rfl hq.2.2 hc hP hS
  have hE := it_f c17 hE
  refine lv_tableOut (tgt := 198) C.1 C.2.1 dX4_says_1 (ts_e (ts_s (ts_s (ts_s (ts_s (ts_s (ts_s (ts_0 1) c1 rfl rfl) c4 rfl rfl) c7 rfl rfl) c10 rfl rfl) c14 rfl rfl) c17 rfl rfl) rfl) (by decide) ?_
  refine lv_aload_n C.1 C.2.1 dX4_says_198 rfl (lv_at hl 0 rfl) ?_
  refine p_get (j := 0) C hS ha (show vwCl[13]? = some (RX4, TX4, 1) from rfl) in_X4 (by decide) q233 rfl dX4_says_199 ?_
  refine lv_ifnonnull (tgt := 209) C.1 C.2.1 dX4_says_202 (by decide) ?_
  refine lv_aload_n C.1 C.2.1 dX4_says_209 rfl (lv_at hl 2 rfl) ?_
  refine rWg_0_7 q198 C hP dX4_says_210 ?_
  refine lv_aload_n C.1 C.2.1 dX4_says_213 rfl (lv_at hl 0 rfl) ?_
  refine p_get (j := 0) C hS ha (show vwCl[13]? = some (RX4, TX4, 1) from rfl) in_X4 (by decide) q233 rfl dX4_says_214 ?_
  refine va_castY C.1 C.2.1 C.2.2.1 (C.2.2.2.1 _ q520) (D.2.2.2.2.1 _ (List.mem_of_getElem? (i := 13) rfl)) (n_recvH C hS hq0 (show vwCl[4]? = some (RX16, TX16, 2) from rfl)) dX4_says_217 ?_
  refine h_get (j := 0) C hS hq0 (show vwCl[4]? = some (RX16, TX16, 2) from rfl) in_X16 (by decide) rfl rfl rfl q666 (Or.inl rfl) rfl dX4_says_220 ?_
  obtain ⟨g20, hE⟩ := it_g hE
  refine rWl_5 (v := (v_had (ix).toNatClampNeg)) C hP (gi_in g20) rfl dX4_says_223 ?_
  refine lv_istore_n (lv' := [(3, .int (v_had (ix).toNatClampNeg)), (0, .ref a), (1, .int p1), (2, .ref (ad 0))]) C.1 C.2.1 dX4_says_224 rfl hl (by decide) rfl (fun ls hl => ?_)
  refine lv_aload_n C.1 C.2.1 dX4_says_225 rfl (lv_at hl 1 rfl) ?_
  refine p_get (j := 0) C hS ha (show vwCl[13]? = some (RX4, TX4, 1) from rfl) in_X4 (by decide) q233 rfl dX4_says_226 ?_
  refine lv_ifnull C.1 C.2.1 dX4_says_229 ?_
  refine lv_iconst (v := 1) C.1 C.2.1 dX4_says_232 (by decide) ?_
  refine lv_goto (tgt := 237) C.1 C.2.1 dX4_says_233 (by decide) ?_
  refine lv_bipush (v := (-3)) C.1 C.2.1 dX4_says_237 (by decide) ?_
  refine t_after [] C0 D hP P_nil hS (vx_runS (As := [.int 1, .int (-3)]) (rest := []) ⟨C.1, C.2.1, hml, C.2.2.1, C.2.2.2.1⟩ (metC_HW_need l hfl G ad pl H.size 1 (-3) _ (need_eq _ _)) (va_cwS 2 C.2.2.2.1 (lw_S q493 q398 q80 q399) rfl rfl rfl (by decide +kernel) ⟨Nat.le_of_ble_eq_true rfl, Nat.le_of_ble_eq_true rfl⟩) (rr_preS C D hP hS [] rfl (by decide) rfl) rfl rfl hl.1 rfl (lv_room (Nat.le_of_ble_eq_true rfl)) dX4_says_239 ⟨Nat.le_of_ble_eq_true rfl, Nat.le_of_ble_eq_true rfl⟩) rW_av rfl rfl rfl (fun hφ H locs hP _ hS => ?_) (fun w q H locs hw hq hc hP _ hS => ?_)
  rotate_left
  · exact absurd (nd_x hw).1 (by decide)
  refine lv_iload_n C.1 C.2.1 dX4_says_242 rfl (lv_at hl 0 rfl) ?_
  obtain rfl := Option.some.inj hE
  refine W.widen (k := 5) (n := 984) (Nat.le_of_ble_eq_true rfl) (Nat.le_of_ble_eq_true rfl) ?_
  exact hret _ _ _ _ dX4_says_243 rfl hP hS
def sC_Shelf_says_H_5 (v_had : Nat → Int32) (ix : Int32) (hby : Int32) (p1 : Int32) : Option (Option Int32 × Int32) :=
  if p1 = 1 then
    some (some (-2), 0)
  else
  if p1 = 2 then
    (sC_Dog_frightens_5 ix hby 10).bind fun r5 =>
    some (none, r5)
  else
  if p1 = 3 then
    some (some (-2), 0)
  else
  if p1 = 4 then
    some (some (-2), 0)
  else
  if p1 = 5 then
    (sC_Dog_frightens_5 ix hby 10).bind fun r15 =>
    some (none, r15)
  else
  if p1 = 6 then
    some (some (-2), 0)
  else
  if gi ix 8 then
  some (none, (v_had (ix).toNatClampNeg))
  else none
set_option maxHeartbeats 4000000 in
theorem metC_Shelf_says_H_5 (l : Launch) (hfl : l.stackTraces = false) (G : kG) (ad : Nat → Nat) (pl : va_W) (sz : Nat) (v_many : Int32) (v_pets : Int32) (v_last : Int32) (v_seed : Int32) (v_weight : Int32) (v_fright : Int32) (v_age : Int32) (v_asked : Nat → Int32) (v_homes : Nat → Option Nat) (v_marks : Nat → Int32) (v_had : Nat → Int32) (v_allergic : Nat → Int32) (v_deaths : Nat → Int32) (a q : Nat) (ix : Int32) (hby : Int32) (p1 : Int32) (ha : (a, .inr (13, [.ref q])) ∈ pl) (hq0 : (q, .inr (5, [.int ix, .int hby])) ∈ pl) (res : Option Int32 × Int32) (hE : sC_Shelf_says_H_5 v_had ix hby p1 = some res) : vx_Met l yX4_says (wsW_ yX4_says cX4_says 4 (some .int) [((0 : Nat), (243 : Nat), (244 : Nat), (21 : Nat))]) ({ frames := 9, cells := 5, slots := 984, locals := 10281 } : Room) (rPc G (rW G.2 ad v_many v_pets v_last v_seed v_weight v_fright v_age v_asked v_homes v_marks v_had v_allergic v_deaths) pl (rWV ad) sz [.ref a, .int p1, .ref (ad 0)]) (tQc G (rW G.2 ad v_many v_pets v_last v_seed v_weight v_fright v_age v_asked v_homes v_marks v_had v_allergic v_deaths) [] (tA sz (rWV ad) []) (res.1 = none) (some (.int res.2))) (tXC G (rW G.2 ad v_many v_pets v_last v_seed v_weight v_fright v_age v_asked v_homes v_marks v_had v_allergic v_deaths) [] (tA sz (rWV ad) []) 18 RX6 res.1 sz) 5 984 (tA sz (rWV ad) []) := by
  refine r_ofWH (own := RX4) (by decide) rfl (Nat.le_of_ble_eq_true rfl) ?_
  intro p e s m args below meth c ls C C0 D hml htab hP hS hl hr hlocks hsz
  have hl : lv_has ls 4 [(0, .ref a), (1, .int p1), (2, .ref (ad 0))] := hl
  obtain ⟨Q, hQ⟩ : ∃ Q, Q = vx_MQ below (tQc G (rW G.2 ad v_many v_pets v_last v_seed v_weight v_fright v_age v_asked v_homes v_marks v_had v_allergic v_deaths) [] (tA sz (rWV ad) []) (res.1 = none) (some (.int res.2))) (tXC G (rW G.2 ad v_many v_pets v_last v_seed v_weight v_fright v_age v_asked v_homes v_marks v_had v_allergic v_deaths) [] (tA sz (rWV ad) []) 18 RX6 res.1 sz) args s 5 984 (tA sz (rWV ad) []) := ⟨_, rfl⟩
  rw [← hQ]
  have hret : ∀ (pc : Nat) (ls : Array Slot) (H : Heap) (locs : List Loc), decode cX4_says pc = .ok (.ireturn, 1) → res.1 = none → va_P G.1 vwCl (rW G.2 ad v_many v_pets v_last v_seed v_weight v_fright v_age v_asked v_homes v_marks v_had v_allergic v_deaths) H → va_S (tA sz (rWV ad) []) s.heap H locs → W p l e ({ frames := 9, cells := 5, slots := 984, locals := 10281 } : Room) s m args below meth c H locs 5 984 Q (F0 m pc ls [(.int res.2)]) := by
    intro pc ls H locs hd hφ hP hS
    rw [hQ]
    exact t_iret C0 hr hlocks hd hφ hP P_nil hS
  have hthr : ∀ (pc : Nat) (ls : Array Slot) (rest : List Value) (H : Heap) (locs : List Loc) (w : Int32) (q : Nat), (∀ z ∈ c.exceptionTable.toList, covers z pc = false ∨ (z.catchType ≠ 0 ∧ ∃ nm : String, (Cond.classLink RX4 z.catchType nm).before args s = true ∧ va_Nc RX6 nm s)) → res.1 = some w → s.heap.size ≤ q → va_P G.1 vwCl [(q, .inr (18, xF w))] H → va_P G.1 vwCl (rW G.2 ad v_many v_pets v_last v_seed v_weight v_fright v_age v_asked v_homes v_marks v_had v_allergic v_deaths) H → va_S (tA sz (rWV ad) []) s.heap H locs → vx_W p l e ({ frames := 9, cells := 5, slots := 984, locals := 10281 } : Room) s m args below meth c H locs 5 984 Q (F0 m pc ls rest) q := by
    intro pc ls rest H locs w q hout hw hq hc hP hS
    rw [hQ]
    exact t_outP (r := (RX6, TX6, 7)) C0 rfl hout hlocks hw (by omega) hc hP P_nil hS
  clear hQ
  obtain ⟨H, hH⟩ : ∃ H, H = s.heap := ⟨_, rfl⟩
  obtain ⟨locs, hlo⟩ : ∃ locs : List Loc, locs = [] := ⟨_, rfl⟩
  have hP : va_P G.1 vwCl (rW G.2 ad v_many v_pets v_last v_seed v_weight v_fright v_age v_asked v_homes v_marks v_had v_allergic v_deaths) H := by rw [hH]; exact hP
  have hS : va_S (tA sz (rWV ad) []) s.heap H locs := by rw [hH, hlo]; exact hS
  suffices hZ : W p l e ({ frames := 9, cells := 5, slots := 984, locals := 10281 } : Room) s m args below meth c H locs 0 0 Q (F0 m 0 ls []) by rw [hH, hlo] at hZ; exact hZ
  clear hH hlo
  unfold sC_Shelf_says_H_5 at hE
  refine lv_iload_n C.1 C.2.1 dX4_says_0 rfl (lv_at hl 1 rfl) ?_
  by_cases c1 : p1 = 1
  · have hE := it_t c1 hE
    refine lv_tableIn (tgt := 40) C.1 C.2.1 dX4_says_1 (by rw [c1]; decide) (by rw [c1]; decide) (by rw [c1]; rfl) (by decide) ?_
    refine lv_aload_n C.1 C.2.1 dX4_says_40 rfl (lv_at hl 0 rfl) ?_
    refine p_get (j := 0) C hS ha (show vwCl[13]? = some (RX4, TX4, 1) from rfl) in_X4 (by decide) q233 rfl dX4_says_41 ?_
    refine lv_ifnonnull (tgt := 51) C.1 C.2.1 dX4_says_44 (by decide) ?_
    refine lv_aload_n C.1 C.2.1 dX4_says_51 rfl (lv_at hl 0 rfl) ?_
    refine p_get (j := 0) C hS ha (show vwCl[13]? = some (RX4, TX4, 1) from rfl) in_X4 (by decide) q233 rfl dX4_says_52 ?_
    refine t_castX (r := (RX17, TX17, 2)) hfl C0 D hP P_nil hS (by rw [hml]; exact hl.1) hlocks (P_mem (pl_at C.2.2.2.2.2.2.2.2 C.2.2.2.2.2.2.1 hS) hq0) rfl ⟨pk_dog, by decide⟩ ⟨pk_good, by decide⟩ (List.mem_of_getElem? (i := 60) rfl) q601 dX4_says_55 ⟨Nat.le_of_ble_eq_true rfl, Nat.le_of_ble_eq_true rfl, Nat.le_of_ble_eq_true rfl, Nat.le_of_ble_eq_true rfl⟩ (fun H z2 ce hz hP _ hS g1 g2 g3 => ?_)
    refine t_catch (name := "java/lang/ClassCastException") (E := "java/lang/ClassCastException") C0 D [] ⟨0, 243, 244, 21⟩ [] htab (fun z hz => nomatch hz) rfl (by decide) q478 (List.mem_of_getElem? (i := 3) rfl) g1 g2 g3 ?_
    refine W.eq (g2 := F0 m 244 ls [.ref z2]) rfl ?_
    refine lv_astore_n (lv' := [(3, .ref z2), (0, .ref a), (1, .int p1), (2, .ref (ad 0))]) C.1 C.2.1 dX4_says_244 rfl hl (by decide) rfl (fun ls hl => ?_)
    obtain ⟨q3, hq3e⟩ : ∃ q, q = H.size := ⟨_, rfl⟩
    refine t_refuse18 (w := (-2)) (kp := 2) C0 D hml hl.1 hP rW_av P_nil hS q494 q495 dX4_says_245 dX4_says_248 (fun kk => lv_bipush (v := (-2)) C.1 C.2.1 dX4_says_249 (by decide) kk) dX4_says_251 dX4_says_254 ⟨Nat.le_of_ble_eq_true rfl, Nat.le_of_ble_eq_true rfl, Nat.le_of_ble_eq_true rfl, Nat.le_of_ble_eq_true rfl⟩ (fun H locs hq hc hP _ hS => ?_)
    rw [← hq3e] at hq hc ⊢
    obtain rfl := Option.some.inj hE
    refine vx_widen (k := 5) (n := 984) (Nat.le_of_ble_eq_true rfl) (Nat.le_of_ble_eq_true rfl) ?_
    exact hthr _ _ _ _ _ _ _ (by
      rw [htab]
      intro z hz
      have hz : z ∈ ([⟨0, 243, 244, 21⟩] : List ExceptionTableEntry) := hz
      simp only [List.mem_cons, List.not_mem_nil, or_false] at hz
      rcases hz with rfl
      · exact Or.inl rfl) rfl hq.2.2 hc hP hS
  have hE := it_f c1 hE
  by_cases c4 : p1 = 2
  · have hE := it_t c4 hE
    refine lv_tableIn (tgt := 65) C.1 C.2.1 dX4_says_1 (by rw [c4]; decide) (by rw [c4]; decide) (by rw [c4]; rfl) (by decide) ?_
    refine lv_aload_n C.1 C.2.1 dX4_says_65 rfl (lv_at hl 0 rfl) ?_
    refine p_get (j := 0) C hS ha (show vwCl[13]? = some (RX4, TX4, 1) from rfl) in_X4 (by decide) q233 rfl dX4_says_66 ?_
    refine lv_ifnonnull (tgt := 76) C.1 C.2.1 dX4_says_69 (by decide) ?_
    refine lv_aload_n C.1 C.2.1 dX4_says_76 rfl (lv_at hl 0 rfl) ?_
    refine p_get (j := 0) C hS ha (show vwCl[13]? = some (RX4, TX4, 1) from rfl) in_X4 (by decide) q233 rfl dX4_says_77 ?_
    refine va_castY C.1 C.2.1 C.2.2.1 (C.2.2.2.1 _ q612) (D.2.2.2.2.1 _ (List.mem_of_getElem? (i := 17) rfl)) (n_recvH C hS hq0 (show vwCl[5]? = some (RX17, TX17, 2) from rfl)) dX4_says_80 ?_
    refine lv_bipush (v := 10) C.1 C.2.1 dX4_says_83 (by decide) ?_
    obtain ⟨r5, hr5, hE⟩ := it_b hE
    refine n_after [] C.2.2.2.2.2.1 C.2.2.2.2.2.2.2.1 hP hS (va_runU (As := [.int 10]) (rest := []) ⟨C.1, C.2.1, hml, C.2.2.1, C.2.2.2.1⟩ (metC_Dog_frightens_5 l G ad pl  q ix hby 10 hq0 r5 hr5) (va_cwO (C := RX17) (owner := "HamsterWeekends$Cat") 1 C.2.2.2.1 (lw_O q613 q616 q614 q617 q618 q107 q619) rfl rfl rfl q625 (by decide +kernel) ⟨Nat.le_of_ble_eq_true rfl, Nat.le_of_ble_eq_true rfl⟩) (n_preV C hP hS [] rfl (by decide) rfl (n_recvH C hS hq0 rfl)) rfl rfl hl.1 rfl (lv_room (Nat.le_of_ble_eq_true rfl)) dX4_says_85 ⟨Nat.le_of_ble_eq_true rfl, Nat.le_of_ble_eq_true rfl⟩) rW_av rfl rfl rfl (fun H locs hP hS => ?_)
    refine lv_istore_n (lv' := [(3, .int r5), (0, .ref a), (1, .int p1), (2, .ref (ad 0))]) C.1 C.2.1 dX4_says_88 rfl hl (by decide) rfl (fun ls hl => ?_)
    refine lv_goto (tgt := 225) C.1 C.2.1 dX4_says_89 (by decide) ?_
    refine lv_aload_n C.1 C.2.1 dX4_says_225 rfl (lv_at hl 1 rfl) ?_
    refine p_get (j := 0) C hS ha (show vwCl[13]? = some (RX4, TX4, 1) from rfl) in_X4 (by decide) q233 rfl dX4_says_226 ?_
    refine lv_ifnull C.1 C.2.1 dX4_says_229 ?_
    refine lv_iconst (v := 1) C.1 C.2.1 dX4_says_232 (by decide) ?_
    refine lv_goto (tgt := 237) C.1 C.2.1 dX4_says_233 (by decide) ?_
    refine lv_bipush (v := (-3)) C.1 C.2.1 dX4_says_237 (by decide) ?_
    refine t_after [] C0 D hP P_nil hS (vx_runS (As := [.int 1, .int (-3)]) (rest := []) ⟨C.1, C.2.1, hml, C.2.2.1, C.2.2.2.1⟩ (metC_HW_need l hfl G ad pl H.size 1 (-3) _ (need_eq _ _)) (va_cwS 2 C.2.2.2.1 (lw_S q493 q398 q80 q399) rfl rfl rfl (by decide +kernel) ⟨Nat.le_of_ble_eq_true rfl, Nat.le_of_ble_eq_true rfl⟩) (rr_preS C D hP hS [] rfl (by decide) rfl) rfl rfl hl.1 rfl (lv_room (Nat.le_of_ble_eq_true rfl)) dX4_says_239 ⟨Nat.le_of_ble_eq_true rfl, Nat.le_of_ble_eq_true rfl⟩) rW_av rfl rfl rfl (fun hφ H locs hP _ hS => ?_) (fun w q H locs hw hq hc hP _ hS => ?_)
    rotate_left
    · exact absurd (nd_x hw).1 (by decide)
    refine lv_iload_n C.1 C.2.1 dX4_says_242 rfl (lv_at hl 0 rfl) ?_
    obtain rfl := Option.some.inj hE
    refine W.widen (k := 5) (n := 984) (Nat.le_of_ble_eq_true rfl) (Nat.le_of_ble_eq_true rfl) ?_
    exact hret _ _ _ _ dX4_says_243 rfl hP hS
  have hE := it_f c4 hE
  by_cases c8 : p1 = 3
  · have hE := it_t c8 hE
    refine lv_tableIn (tgt := 92) C.1 C.2.1 dX4_says_1 (by rw [c8]; decide) (by rw [c8]; decide) (by rw [c8]; rfl) (by decide) ?_
    refine lv_aload_n C.1 C.2.1 dX4_says_92 rfl (lv_at hl 0 rfl) ?_
    refine p_get (j := 0) C hS ha (show vwCl[13]? = some (RX4, TX4, 1) from rfl) in_X4 (by decide) q233 rfl dX4_says_93 ?_
    refine lv_ifnonnull (tgt := 103) C.1 C.2.1 dX4_says_96 (by decide) ?_
    refine lv_aload_n C.1 C.2.1 dX4_says_103 rfl (lv_at hl 0 rfl) ?_
    refine p_get (j := 0) C hS ha (show vwCl[13]? = some (RX4, TX4, 1) from rfl) in_X4 (by decide) q233 rfl dX4_says_104 ?_
    refine t_castX (r := (RX17, TX17, 2)) hfl C0 D hP P_nil hS (by rw [hml]; exact hl.1) hlocks (P_mem (pl_at C.2.2.2.2.2.2.2.2 C.2.2.2.2.2.2.1 hS) hq0) rfl ⟨pk_dog, by decide⟩ ⟨pk_overfed, by decide⟩ (List.mem_of_getElem? (i := 61) rfl) q627 dX4_says_107 ⟨Nat.le_of_ble_eq_true rfl, Nat.le_of_ble_eq_true rfl, Nat.le_of_ble_eq_true rfl, Nat.le_of_ble_eq_true rfl⟩ (fun H z9 ce hz hP _ hS g1 g2 g3 => ?_)
    refine t_catch (name := "java/lang/ClassCastException") (E := "java/lang/ClassCastException") C0 D [] ⟨0, 243, 244, 21⟩ [] htab (fun z hz => nomatch hz) rfl (by decide) q478 (List.mem_of_getElem? (i := 3) rfl) g1 g2 g3 ?_
    refine W.eq (g2 := F0 m 244 ls [.ref z9]) rfl ?_
    refine lv_astore_n (lv' := [(3, .ref z9), (0, .ref a), (1, .int p1), (2, .ref (ad 0))]) C.1 C.2.1 dX4_says_244 rfl hl (by decide) rfl (fun ls hl => ?_)
    obtain ⟨q10, hq10e⟩ : ∃ q, q = H.size := ⟨_, rfl⟩
    refine t_refuse18 (w := (-2)) (kp := 2) C0 D hml hl.1 hP rW_av P_nil hS q494 q495 dX4_says_245 dX4_says_248 (fun kk => lv_bipush (v := (-2)) C.1 C.2.1 dX4_says_249 (by decide) kk) dX4_says_251 dX4_says_254 ⟨Nat.le_of_ble_eq_true rfl, Nat.le_of_ble_eq_true rfl, Nat.le_of_ble_eq_true rfl, Nat.le_of_ble_eq_true rfl⟩ (fun H locs hq hc hP _ hS => ?_)
    rw [← hq10e] at hq hc ⊢
    obtain rfl := Option.some.inj hE
    refine vx_widen (k := 5) (n := 984) (Nat.le_of_ble_eq_true rfl) (Nat.le_of_ble_eq_true rfl) ?_
    exact hthr _ _ _ _ _ _ _ (by
      rw [htab]
      intro z hz
      have hz : z ∈ ([⟨0, 243, 244, 21⟩] : List ExceptionTableEntry) := hz
      simp only [List.mem_cons, List.not_mem_nil, or_false] at hz
      rcases hz with rfl
      · exact Or.inl rfl) rfl hq.2.2 hc hP hS
  have hE := it_f c8 hE
  by_cases c11 : p1 = 4
  · have hE := it_t c11 hE
    refine lv_tableIn (tgt := 117) C.1 C.2.1 dX4_says_1 (by rw [c11]; decide) (by rw [c11]; decide) (by rw [c11]; rfl) (by decide) ?_
    refine lv_aload_n C.1 C.2.1 dX4_says_117 rfl (lv_at hl 0 rfl) ?_
    refine p_get (j := 0) C hS ha (show vwCl[13]? = some (RX4, TX4, 1) from rfl) in_X4 (by decide) q233 rfl dX4_says_118 ?_
    refine lv_ifnonnull (tgt := 128) C.1 C.2.1 dX4_says_121 (by decide) ?_
    refine lv_aload_n C.1 C.2.1 dX4_says_128 rfl (lv_at hl 0 rfl) ?_
    refine p_get (j := 0) C hS ha (show vwCl[13]? = some (RX4, TX4, 1) from rfl) in_X4 (by decide) q233 rfl dX4_says_129 ?_
    refine t_castX (r := (RX17, TX17, 2)) hfl C0 D hP P_nil hS (by rw [hml]; exact hl.1) hlocks (P_mem (pl_at C.2.2.2.2.2.2.2.2 C.2.2.2.2.2.2.1 hS) hq0) rfl ⟨pk_dog, by decide⟩ ⟨pk_far, by decide⟩ (List.mem_of_getElem? (i := 62) rfl) q629 dX4_says_132 ⟨Nat.le_of_ble_eq_true rfl, Nat.le_of_ble_eq_true rfl, Nat.le_of_ble_eq_true rfl, Nat.le_of_ble_eq_true rfl⟩ (fun H z12 ce hz hP _ hS g1 g2 g3 => ?_)
    refine t_catch (name := "java/lang/ClassCastException") (E := "java/lang/ClassCastException") C0 D [] ⟨0, 243, 244, 21⟩ [] htab (fun z hz => nomatch hz) rfl (by decide) q478 (List.mem_of_getElem? (i := 3) rfl) g1 g2 g3 ?_
    refine W.eq (g2 := F0 m 244 ls [.ref z12]) rfl ?_
    refine lv_astore_n (lv' := [(3, .ref z12), (0, .ref a), (1, .int p1), (2, .ref (ad 0))]) C.1 C.2.1 dX4_says_244 rfl hl (by decide) rfl (fun ls hl => ?_)
    obtain ⟨q13, hq13e⟩ : ∃ q, q = H.size := ⟨_, rfl⟩
    refine t_refuse18 (w := (-2)) (kp := 2) C0 D hml hl.1 hP rW_av P_nil hS q494 q495 dX4_says_245 dX4_says_248 (fun kk => lv_bipush (v := (-2)) C.1 C.2.1 dX4_says_249 (by decide) kk) dX4_says_251 dX4_says_254 ⟨Nat.le_of_ble_eq_true rfl, Nat.le_of_ble_eq_true rfl, Nat.le_of_ble_eq_true rfl, Nat.le_of_ble_eq_true rfl⟩ (fun H locs hq hc hP _ hS => ?_)
    rw [← hq13e] at hq hc ⊢
    obtain rfl := Option.some.inj hE
    refine vx_widen (k := 5) (n := 984) (Nat.le_of_ble_eq_true rfl) (Nat.le_of_ble_eq_true rfl) ?_
    exact hthr _ _ _ _ _ _ _ (by
      rw [htab]
      intro z hz
      have hz : z ∈ ([⟨0, 243, 244, 21⟩] : List ExceptionTableEntry) := hz
      simp only [List.mem_cons, List.not_mem_nil, or_false] at hz
      rcases hz with rfl
      · exact Or.inl rfl) rfl hq.2.2 hc hP hS
  have hE := it_f c11 hE
  by_cases c14 : p1 = 5
  · have hE := it_t c14 hE
    refine lv_tableIn (tgt := 144) C.1 C.2.1 dX4_says_1 (by rw [c14]; decide) (by rw [c14]; decide) (by rw [c14]; rfl) (by decide) ?_
    refine lv_aload_n C.1 C.2.1 dX4_says_144 rfl (lv_at hl 0 rfl) ?_
    refine p_get (j := 0) C hS ha (show vwCl[13]? = some (RX4, TX4, 1) from rfl) in_X4 (by decide) q233 rfl dX4_says_145 ?_
    refine lv_ifnonnull (tgt := 155) C.1 C.2.1 dX4_says_148 (by decide) ?_
    refine lv_aload_n C.1 C.2.1 dX4_says_155 rfl (lv_at hl 0 rfl) ?_
    refine p_get (j := 0) C hS ha (show vwCl[13]? = some (RX4, TX4, 1) from rfl) in_X4 (by decide) q233 rfl dX4_says_156 ?_
    refine va_castS C.1 C.2.1 C.2.2.1 (C.2.2.2.1 _ q640) (C.2.2.2.2.1.1 5 _ (show vwCl[5]? = some (RX17, TX17, 2) from rfl)).2 (n_recvH C hS hq0 (show vwCl[5]? = some (RX17, TX17, 2) from rfl)) dX4_says_159 ?_
    refine lv_bipush (v := 10) C.1 C.2.1 dX4_says_162 (by decide) ?_
    obtain ⟨r15, hr15, hE⟩ := it_b hE
    refine n_after [] C.2.2.2.2.2.1 C.2.2.2.2.2.2.2.1 hP hS (va_runV (As := [.int 10]) (rest := []) ⟨C.1, C.2.1, hml, C.2.2.1, C.2.2.2.1⟩ (metC_Dog_frightens_5 l G ad pl  q ix hby 10 hq0 r15 hr15) (cwV (C := RX17) 1 C.2.2.2.1 (lw_V q641 q618 q1827 q107 q619) rfl rfl rfl (by decide +kernel) ⟨Nat.le_of_ble_eq_true rfl, Nat.le_of_ble_eq_true rfl⟩) (n_preV C hP hS [] rfl (by decide) rfl (n_recvH C hS hq0 rfl)) rfl rfl hl.1 rfl (lv_room (Nat.le_of_ble_eq_true rfl)) dX4_says_164 ⟨Nat.le_of_ble_eq_true rfl, Nat.le_of_ble_eq_true rfl⟩) rW_av rfl rfl rfl (fun H locs hP hS => ?_)
    refine lv_istore_n (lv' := [(3, .int r15), (0, .ref a), (1, .int p1), (2, .ref (ad 0))]) C.1 C.2.1 dX4_says_167 rfl hl (by decide) rfl (fun ls hl => ?_)
    refine lv_goto (tgt := 225) C.1 C.2.1 dX4_says_168 (by decide) ?_
    refine lv_aload_n C.1 C.2.1 dX4_says_225 rfl (lv_at hl 1 rfl) ?_
    refine p_get (j := 0) C hS ha (show vwCl[13]? = some (RX4, TX4, 1) from rfl) in_X4 (by decide) q233 rfl dX4_says_226 ?_
    refine lv_ifnull C.1 C.2.1 dX4_says_229 ?_
    refine lv_iconst (v := 1) C.1 C.2.1 dX4_says_232 (by decide) ?_
    refine lv_goto (tgt := 237) C.1 C.2.1 dX4_says_233 (by decide) ?_
    refine lv_bipush (v := (-3)) C.1 C.2.1 dX4_says_237 (by decide) ?_
    refine t_after [] C0 D hP P_nil hS (vx_runS (As := [.int 1, .int (-3)]) (rest := []) ⟨C.1, C.2.1, hml, C.2.2.1, C.2.2.2.1⟩ (metC_HW_need l hfl G ad pl H.size 1 (-3) _ (need_eq _ _)) (va_cwS 2 C.2.2.2.1 (lw_S q493 q398 q80 q399) rfl rfl rfl (by decide +kernel) ⟨Nat.le_of_ble_eq_true rfl, Nat.le_of_ble_eq_true rfl⟩) (rr_preS C D hP hS [] rfl (by decide) rfl) rfl rfl hl.1 rfl (lv_room (Nat.le_of_ble_eq_true rfl)) dX4_says_239 ⟨Nat.le_of_ble_eq_true rfl, Nat.le_of_ble_eq_true rfl⟩) rW_av rfl rfl rfl (fun hφ H locs hP _ hS => ?_) (fun w q H locs hw hq hc hP _ hS => ?_)
    rotate_left
    · exact absurd (nd_x hw).1 (by decide)
    refine lv_iload_n C.1 C.2.1 dX4_says_242 rfl (lv_at hl 0 rfl) ?_
    obtain rfl := Option.some.inj hE
    refine W.widen (k := 5) (n := 984) (Nat.le_of_ble_eq_true rfl) (Nat.le_of_ble_eq_true rfl) ?_
    exact hret _ _ _ _ dX4_says_243 rfl hP hS
  have hE := it_f c14 hE
  by_cases c18 : p1 = 6
  · have hE := it_t c18 hE
    refine lv_tableIn (tgt := 171) C.1 C.2.1 dX4_says_1 (by rw [c18]; decide) (by rw [c18]; decide) (by rw [c18]; rfl) (by decide) ?_
    refine lv_aload_n C.1 C.2.1 dX4_says_171 rfl (lv_at hl 0 rfl) ?_
    refine p_get (j := 0) C hS ha (show vwCl[13]? = some (RX4, TX4, 1) from rfl) in_X4 (by decide) q233 rfl dX4_says_172 ?_
    refine lv_ifnonnull (tgt := 182) C.1 C.2.1 dX4_says_175 (by decide) ?_
    refine lv_aload_n C.1 C.2.1 dX4_says_182 rfl (lv_at hl 0 rfl) ?_
    refine p_get (j := 0) C hS ha (show vwCl[13]? = some (RX4, TX4, 1) from rfl) in_X4 (by decide) q233 rfl dX4_says_183 ?_
    refine t_castX (r := (RX17, TX17, 2)) hfl C0 D hP P_nil hS (by rw [hml]; exact hl.1) hlocks (P_mem (pl_at C.2.2.2.2.2.2.2.2 C.2.2.2.2.2.2.1 hS) hq0) rfl ⟨pk_dog, by decide⟩ ⟨pk_bus, by decide⟩ (List.mem_of_getElem? (i := 63) rfl) q642 dX4_says_186 ⟨Nat.le_of_ble_eq_true rfl, Nat.le_of_ble_eq_true rfl, Nat.le_of_ble_eq_true rfl, Nat.le_of_ble_eq_true rfl⟩ (fun H z19 ce hz hP _ hS g1 g2 g3 => ?_)
    refine t_catch (name := "java/lang/ClassCastException") (E := "java/lang/ClassCastException") C0 D [] ⟨0, 243, 244, 21⟩ [] htab (fun z hz => nomatch hz) rfl (by decide) q478 (List.mem_of_getElem? (i := 3) rfl) g1 g2 g3 ?_
    refine W.eq (g2 := F0 m 244 ls [.ref z19]) rfl ?_
    refine lv_astore_n (lv' := [(3, .ref z19), (0, .ref a), (1, .int p1), (2, .ref (ad 0))]) C.1 C.2.1 dX4_says_244 rfl hl (by decide) rfl (fun ls hl => ?_)
    obtain ⟨q20, hq20e⟩ : ∃ q, q = H.size := ⟨_, rfl⟩
    refine t_refuse18 (w := (-2)) (kp := 2) C0 D hml hl.1 hP rW_av P_nil hS q494 q495 dX4_says_245 dX4_says_248 (fun kk => lv_bipush (v := (-2)) C.1 C.2.1 dX4_says_249 (by decide) kk) dX4_says_251 dX4_says_254 ⟨Nat.le_of_ble_eq_true rfl, Nat.le_of_ble_eq_true rfl, Nat.le_of_ble_eq_true rfl, Nat.le_of_ble_eq_true rfl⟩ (fun H locs hq hc hP _ hS => ?_)
    rw [← hq20e] at hq hc ⊢
    obtain rfl := Option.some.inj hE
    refine vx_widen (k := 5) (n := 984) (Nat.le_of_ble_eq_true rfl) (Nat.le_of_ble_eq_true rfl) ?_
    exact hthr _ _ _ _ _ _ _ (by
      rw [htab]
      intro z hz
      have hz : z ∈ ([⟨0, 243, 244, 21⟩] : List ExceptionTableEntry) := hz
      simp only [List.mem_cons, List.not_mem_nil, or_false] at hz
      rcases hz with rfl
      · exact Or.inl rfl) rfl hq.2.2 hc hP hS
  have hE := it_f c18 hE
  refine lv_tableOut (tgt := 198) C.1 C.2.1 dX4_says_1 (ts_e (ts_s (ts_s (ts_s (ts_s (ts_s (ts_s (ts_0 1) c1 rfl rfl) c4 rfl rfl) c8 rfl rfl) c11 rfl rfl) c14 rfl rfl) c18 rfl rfl) rfl) (by decide) ?_
  refine lv_aload_n C.1 C.2.1 dX4_says_198 rfl (lv_at hl 0 rfl) ?_
  refine p_get (j := 0) C hS ha (show vwCl[13]? = some (RX4, TX4, 1) from rfl) in_X4 (by decide) q233 rfl dX4_says_199 ?_
  refine lv_ifnonnull (tgt := 209) C.1 C.2.1 dX4_says_202 (by decide) ?_
  refine lv_aload_n C.1 C.2.1 dX4_says_209 rfl (lv_at hl 2 rfl) ?_
  refine rWg_0_7 q198 C hP dX4_says_210 ?_
  refine lv_aload_n C.1 C.2.1 dX4_says_213 rfl (lv_at hl 0 rfl) ?_
  refine p_get (j := 0) C hS ha (show vwCl[13]? = some (RX4, TX4, 1) from rfl) in_X4 (by decide) q233 rfl dX4_says_214 ?_
  refine va_castY C.1 C.2.1 C.2.2.1 (C.2.2.2.1 _ q520) (D.2.2.2.2.1 _ (List.mem_of_getElem? (i := 12) rfl)) (n_recvH C hS hq0 (show vwCl[5]? = some (RX17, TX17, 2) from rfl)) dX4_says_217 ?_
  refine h_get (j := 0) C hS hq0 (show vwCl[5]? = some (RX17, TX17, 2) from rfl) in_X17 (by decide) rfl rfl rfl q666 (Or.inl rfl) rfl dX4_says_220 ?_
  obtain ⟨g21, hE⟩ := it_g hE
  refine rWl_5 (v := (v_had (ix).toNatClampNeg)) C hP (gi_in g21) rfl dX4_says_223 ?_
  refine lv_istore_n (lv' := [(3, .int (v_had (ix).toNatClampNeg)), (0, .ref a), (1, .int p1), (2, .ref (ad 0))]) C.1 C.2.1 dX4_says_224 rfl hl (by decide) rfl (fun ls hl => ?_)
  refine lv_aload_n C.1 C.2.1 dX4_says_225 rfl (lv_at hl 1 rfl) ?_
  refine p_get (j := 0) C hS ha (show vwCl[13]? = some (RX4, TX4, 1) from rfl) in_X4 (by decide) q233 rfl dX4_says_226 ?_
  refine lv_ifnull C.1 C.2.1 dX4_says_229 ?_
  refine lv_iconst (v := 1) C.1 C.2.1 dX4_says_232 (by decide) ?_
  refine lv_goto (tgt := 237) C.1 C.2.1 dX4_says_233 (by decide) ?_
  refine lv_bipush (v := (-3)) C.1 C.2.1 dX4_says_237 (by decide) ?_
  refine t_after [] C0 D hP P_nil hS (vx_runS (As := [.int 1, .int (-3)]) (rest := []) ⟨C.1, C.2.1, hml, C.2.2.1, C.2.2.2.1⟩ (metC_HW_need l hfl G ad pl H.size 1 (-3) _ (need_eq _ _)) (va_cwS 2 C.2.2.2.1 (lw_S q493 q398 q80 q399) rfl rfl rfl (by decide +kernel) ⟨Nat.le_of_ble_eq_true rfl, Nat.le_of_ble_eq_true rfl⟩) (rr_preS C D hP hS [] rfl (by decide) rfl) rfl rfl hl.1 rfl (lv_room (Nat.le_of_ble_eq_true rfl)) dX4_says_239 ⟨Nat.le_of_ble_eq_true rfl, Nat.le_of_ble_eq_true rfl⟩) rW_av rfl rfl rfl (fun hφ H locs hP _ hS => ?_) (fun w q H locs hw hq hc hP _ hS => ?_)
  rotate_left
  · exact absurd (nd_x hw).1 (by decide)
  refine lv_iload_n C.1 C.2.1 dX4_says_242 rfl (lv_at hl 0 rfl) ?_
  obtain rfl := Option.some.inj hE
  refine W.widen (k := 5) (n := 984) (Nat.le_of_ble_eq_true rfl) (Nat.le_of_ble_eq_true rfl) ?_
  exact hret _ _ _ _ dX4_says_243 rfl hP hS
def sC_Shelf_says_H_6 (v_had : Nat → Int32) (ix : Int32) (hby : Int32) (p1 : Int32) : Option (Option Int32 × Int32) :=
  if p1 = 1 then
    some (some (-2), 0)
  else
  if p1 = 2 then
    some (some (-2), 0)
  else
  if p1 = 3 then
    some (some (-2), 0)
  else
  if p1 = 4 then
    (sC_Bus_less_6 ix hby 30).bind fun r11 =>
    some (none, r11)
  else
  if p1 = 5 then
    some (some (-2), 0)
  else
  if p1 = 6 then
    (sC_Bus_less_6 ix hby 30).bind fun r18 =>
    some (none, r18)
  else
  if gi ix 8 then
  some (none, (v_had (ix).toNatClampNeg))
  else none
set_option maxHeartbeats 4000000 in
theorem metC_Shelf_says_H_6 (l : Launch) (hfl : l.stackTraces = false) (G : kG) (ad : Nat → Nat) (pl : va_W) (sz : Nat) (v_many : Int32) (v_pets : Int32) (v_last : Int32) (v_seed : Int32) (v_weight : Int32) (v_fright : Int32) (v_age : Int32) (v_asked : Nat → Int32) (v_homes : Nat → Option Nat) (v_marks : Nat → Int32) (v_had : Nat → Int32) (v_allergic : Nat → Int32) (v_deaths : Nat → Int32) (a q : Nat) (ix : Int32) (hby : Int32) (p1 : Int32) (ha : (a, .inr (13, [.ref q])) ∈ pl) (hq0 : (q, .inr (6, [.int ix, .int hby])) ∈ pl) (res : Option Int32 × Int32) (hE : sC_Shelf_says_H_6 v_had ix hby p1 = some res) : vx_Met l yX4_says (wsW_ yX4_says cX4_says 4 (some .int) [((0 : Nat), (243 : Nat), (244 : Nat), (21 : Nat))]) ({ frames := 9, cells := 5, slots := 984, locals := 10281 } : Room) (rPc G (rW G.2 ad v_many v_pets v_last v_seed v_weight v_fright v_age v_asked v_homes v_marks v_had v_allergic v_deaths) pl (rWV ad) sz [.ref a, .int p1, .ref (ad 0)]) (tQc G (rW G.2 ad v_many v_pets v_last v_seed v_weight v_fright v_age v_asked v_homes v_marks v_had v_allergic v_deaths) [] (tA sz (rWV ad) []) (res.1 = none) (some (.int res.2))) (tXC G (rW G.2 ad v_many v_pets v_last v_seed v_weight v_fright v_age v_asked v_homes v_marks v_had v_allergic v_deaths) [] (tA sz (rWV ad) []) 18 RX6 res.1 sz) 5 984 (tA sz (rWV ad) []) := by
  refine r_ofWH (own := RX4) (by decide) rfl (Nat.le_of_ble_eq_true rfl) ?_
  intro p e s m args below meth c ls C C0 D hml htab hP hS hl hr hlocks hsz
  have hl : lv_has ls 4 [(0, .ref a), (1, .int p1), (2, .ref (ad 0))] := hl
  obtain ⟨Q, hQ⟩ : ∃ Q, Q = vx_MQ below (tQc G (rW G.2 ad v_many v_pets v_last v_seed v_weight v_fright v_age v_asked v_homes v_marks v_had v_allergic v_deaths) [] (tA sz (rWV ad) []) (res.1 = none) (some (.int res.2))) (tXC G (rW G.2 ad v_many v_pets v_last v_seed v_weight v_fright v_age v_asked v_homes v_marks v_had v_allergic v_deaths) [] (tA sz (rWV ad) []) 18 RX6 res.1 sz) args s 5 984 (tA sz (rWV ad) []) := ⟨_, rfl⟩
  rw [← hQ]
  have hret : ∀ (pc : Nat) (ls : Array Slot) (H : Heap) (locs : List Loc), decode cX4_says pc = .ok (.ireturn, 1) → res.1 = none → va_P G.1 vwCl (rW G.2 ad v_many v_pets v_last v_seed v_weight v_fright v_age v_asked v_homes v_marks v_had v_allergic v_deaths) H → va_S (tA sz (rWV ad) []) s.heap H locs → W p l e ({ frames := 9, cells := 5, slots := 984, locals := 10281 } : Room) s m args below meth c H locs 5 984 Q (F0 m pc ls [(.int res.2)]) := by
    intro pc ls H locs hd hφ hP hS
    rw [hQ]
    exact t_iret C0 hr hlocks hd hφ hP P_nil hS
  have hthr : ∀ (pc : Nat) (ls : Array Slot) (rest : List Value) (H : Heap) (locs : List Loc) (w : Int32) (q : Nat), (∀ z ∈ c.exceptionTable.toList, covers z pc = false ∨ (z.catchType ≠ 0 ∧ ∃ nm : String, (Cond.classLink RX4 z.catchType nm).before args s = true ∧ va_Nc RX6 nm s)) → res.1 = some w → s.heap.size ≤ q → va_P G.1 vwCl [(q, .inr (18, xF w))] H → va_P G.1 vwCl (rW G.2 ad v_many v_pets v_last v_seed v_weight v_fright v_age v_asked v_homes v_marks v_had v_allergic v_deaths) H → va_S (tA sz (rWV ad) []) s.heap H locs → vx_W p l e ({ frames := 9, cells := 5, slots := 984, locals := 10281 } : Room) s m args below meth c H locs 5 984 Q (F0 m pc ls rest) q := by
    intro pc ls rest H locs w q hout hw hq hc hP hS
    rw [hQ]
    exact t_outP (r := (RX6, TX6, 7)) C0 rfl hout hlocks hw (by omega) hc hP P_nil hS
  clear hQ
  obtain ⟨H, hH⟩ : ∃ H, H = s.heap := ⟨_, rfl⟩
  obtain ⟨locs, hlo⟩ : ∃ locs : List Loc, locs = [] := ⟨_, rfl⟩
  have hP : va_P G.1 vwCl (rW G.2 ad v_many v_pets v_last v_seed v_weight v_fright v_age v_asked v_homes v_marks v_had v_allergic v_deaths) H := by rw [hH]; exact hP
  have hS : va_S (tA sz (rWV ad) []) s.heap H locs := by rw [hH, hlo]; exact hS
  suffices hZ : W p l e ({ frames := 9, cells := 5, slots := 984, locals := 10281 } : Room) s m args below meth c H locs 0 0 Q (F0 m 0 ls []) by rw [hH, hlo] at hZ; exact hZ
  clear hH hlo
  unfold sC_Shelf_says_H_6 at hE
  refine lv_iload_n C.1 C.2.1 dX4_says_0 rfl (lv_at hl 1 rfl) ?_
  by_cases c1 : p1 = 1
  · have hE := it_t c1 hE
    refine lv_tableIn (tgt := 40) C.1 C.2.1 dX4_says_1 (by rw [c1]; decide) (by rw [c1]; decide) (by rw [c1]; rfl) (by decide) ?_
    refine lv_aload_n C.1 C.2.1 dX4_says_40 rfl (lv_at hl 0 rfl) ?_
    refine p_get (j := 0) C hS ha (show vwCl[13]? = some (RX4, TX4, 1) from rfl) in_X4 (by decide) q233 rfl dX4_says_41 ?_
    refine lv_ifnonnull (tgt := 51) C.1 C.2.1 dX4_says_44 (by decide) ?_
    refine lv_aload_n C.1 C.2.1 dX4_says_51 rfl (lv_at hl 0 rfl) ?_
    refine p_get (j := 0) C hS ha (show vwCl[13]? = some (RX4, TX4, 1) from rfl) in_X4 (by decide) q233 rfl dX4_says_52 ?_
    refine t_castX (r := (RX18, TX18, 2)) hfl C0 D hP P_nil hS (by rw [hml]; exact hl.1) hlocks (P_mem (pl_at C.2.2.2.2.2.2.2.2 C.2.2.2.2.2.2.1 hS) hq0) rfl ⟨pk_bus, by decide⟩ ⟨pk_good, by decide⟩ (List.mem_of_getElem? (i := 64) rfl) q601 dX4_says_55 ⟨Nat.le_of_ble_eq_true rfl, Nat.le_of_ble_eq_true rfl, Nat.le_of_ble_eq_true rfl, Nat.le_of_ble_eq_true rfl⟩ (fun H z2 ce hz hP _ hS g1 g2 g3 => ?_)
    refine t_catch (name := "java/lang/ClassCastException") (E := "java/lang/ClassCastException") C0 D [] ⟨0, 243, 244, 21⟩ [] htab (fun z hz => nomatch hz) rfl (by decide) q478 (List.mem_of_getElem? (i := 3) rfl) g1 g2 g3 ?_
    refine W.eq (g2 := F0 m 244 ls [.ref z2]) rfl ?_
    refine lv_astore_n (lv' := [(3, .ref z2), (0, .ref a), (1, .int p1), (2, .ref (ad 0))]) C.1 C.2.1 dX4_says_244 rfl hl (by decide) rfl (fun ls hl => ?_)
    obtain ⟨q3, hq3e⟩ : ∃ q, q = H.size := ⟨_, rfl⟩
    refine t_refuse18 (w := (-2)) (kp := 2) C0 D hml hl.1 hP rW_av P_nil hS q494 q495 dX4_says_245 dX4_says_248 (fun kk => lv_bipush (v := (-2)) C.1 C.2.1 dX4_says_249 (by decide) kk) dX4_says_251 dX4_says_254 ⟨Nat.le_of_ble_eq_true rfl, Nat.le_of_ble_eq_true rfl, Nat.le_of_ble_eq_true rfl, Nat.le_of_ble_eq_true rfl⟩ (fun H locs hq hc hP _ hS => ?_)
    rw [← hq3e] at hq hc ⊢
    obtain rfl := Option.some.inj hE
    refine vx_widen (k := 5) (n := 984) (Nat.le_of_ble_eq_true rfl) (Nat.le_of_ble_eq_true rfl) ?_
    exact hthr _ _ _ _ _ _ _ (by
      rw [htab]
      intro z hz
      have hz : z ∈ ([⟨0, 243, 244, 21⟩] : List ExceptionTableEntry) := hz
      simp only [List.mem_cons, List.not_mem_nil, or_false] at hz
      rcases hz with rfl
      · exact Or.inl rfl) rfl hq.2.2 hc hP hS
  have hE := it_f c1 hE
  by_cases c4 : p1 = 2
  · have hE := it_t c4 hE
    refine lv_tableIn (tgt := 65) C.1 C.2.1 dX4_says_1 (by rw [c4]; decide) (by rw [c4]; decide) (by rw [c4]; rfl) (by decide) ?_
    refine lv_aload_n C.1 C.2.1 dX4_says_65 rfl (lv_at hl 0 rfl) ?_
    refine p_get (j := 0) C hS ha (show vwCl[13]? = some (RX4, TX4, 1) from rfl) in_X4 (by decide) q233 rfl dX4_says_66 ?_
    refine lv_ifnonnull (tgt := 76) C.1 C.2.1 dX4_says_69 (by decide) ?_
    refine lv_aload_n C.1 C.2.1 dX4_says_76 rfl (lv_at hl 0 rfl) ?_
    refine p_get (j := 0) C hS ha (show vwCl[13]? = some (RX4, TX4, 1) from rfl) in_X4 (by decide) q233 rfl dX4_says_77 ?_
    refine t_castX (r := (RX18, TX18, 2)) hfl C0 D hP P_nil hS (by rw [hml]; exact hl.1) hlocks (P_mem (pl_at C.2.2.2.2.2.2.2.2 C.2.2.2.2.2.2.1 hS) hq0) rfl ⟨pk_bus, by decide⟩ ⟨pk_cat, by decide⟩ (List.mem_of_getElem? (i := 65) rfl) q612 dX4_says_80 ⟨Nat.le_of_ble_eq_true rfl, Nat.le_of_ble_eq_true rfl, Nat.le_of_ble_eq_true rfl, Nat.le_of_ble_eq_true rfl⟩ (fun H z5 ce hz hP _ hS g1 g2 g3 => ?_)
    refine t_catch (name := "java/lang/ClassCastException") (E := "java/lang/ClassCastException") C0 D [] ⟨0, 243, 244, 21⟩ [] htab (fun z hz => nomatch hz) rfl (by decide) q478 (List.mem_of_getElem? (i := 3) rfl) g1 g2 g3 ?_
    refine W.eq (g2 := F0 m 244 ls [.ref z5]) rfl ?_
    refine lv_astore_n (lv' := [(3, .ref z5), (0, .ref a), (1, .int p1), (2, .ref (ad 0))]) C.1 C.2.1 dX4_says_244 rfl hl (by decide) rfl (fun ls hl => ?_)
    obtain ⟨q6, hq6e⟩ : ∃ q, q = H.size := ⟨_, rfl⟩
    refine t_refuse18 (w := (-2)) (kp := 2) C0 D hml hl.1 hP rW_av P_nil hS q494 q495 dX4_says_245 dX4_says_248 (fun kk => lv_bipush (v := (-2)) C.1 C.2.1 dX4_says_249 (by decide) kk) dX4_says_251 dX4_says_254 ⟨Nat.le_of_ble_eq_true rfl, Nat.le_of_ble_eq_true rfl, Nat.le_of_ble_eq_true rfl, Nat.le_of_ble_eq_true rfl⟩ (fun H locs hq hc hP _ hS => ?_)
    rw [← hq6e] at hq hc ⊢
    obtain rfl := Option.some.inj hE
    refine vx_widen (k := 5) (n := 984) (Nat.le_of_ble_eq_true rfl) (Nat.le_of_ble_eq_true rfl) ?_
    exact hthr _ _ _ _ _ _ _ (by
      rw [htab]
      intro z hz
      have hz : z ∈ ([⟨0, 243, 244, 21⟩] : List ExceptionTableEntry) := hz
      simp only [List.mem_cons, List.not_mem_nil, or_false] at hz
      rcases hz with rfl
      · exact Or.inl rfl) rfl hq.2.2 hc hP hS
  have hE := it_f c4 hE
  by_cases c7 : p1 = 3
  · have hE := it_t c7 hE
    refine lv_tableIn (tgt := 92) C.1 C.2.1 dX4_says_1 (by rw [c7]; decide) (by rw [c7]; decide) (by rw [c7]; rfl) (by decide) ?_
    refine lv_aload_n C.1 C.2.1 dX4_says_92 rfl (lv_at hl 0 rfl) ?_
    refine p_get (j := 0) C hS ha (show vwCl[13]? = some (RX4, TX4, 1) from rfl) in_X4 (by decide) q233 rfl dX4_says_93 ?_
    refine lv_ifnonnull (tgt := 103) C.1 C.2.1 dX4_says_96 (by decide) ?_
    refine lv_aload_n C.1 C.2.1 dX4_says_103 rfl (lv_at hl 0 rfl) ?_
    refine p_get (j := 0) C hS ha (show vwCl[13]? = some (RX4, TX4, 1) from rfl) in_X4 (by decide) q233 rfl dX4_says_104 ?_
    refine t_castX (r := (RX18, TX18, 2)) hfl C0 D hP P_nil hS (by rw [hml]; exact hl.1) hlocks (P_mem (pl_at C.2.2.2.2.2.2.2.2 C.2.2.2.2.2.2.1 hS) hq0) rfl ⟨pk_bus, by decide⟩ ⟨pk_overfed, by decide⟩ (List.mem_of_getElem? (i := 66) rfl) q627 dX4_says_107 ⟨Nat.le_of_ble_eq_true rfl, Nat.le_of_ble_eq_true rfl, Nat.le_of_ble_eq_true rfl, Nat.le_of_ble_eq_true rfl⟩ (fun H z8 ce hz hP _ hS g1 g2 g3 => ?_)
    refine t_catch (name := "java/lang/ClassCastException") (E := "java/lang/ClassCastException") C0 D [] ⟨0, 243, 244, 21⟩ [] htab (fun z hz => nomatch hz) rfl (by decide) q478 (List.mem_of_getElem? (i := 3) rfl) g1 g2 g3 ?_
    refine W.eq (g2 := F0 m 244 ls [.ref z8]) rfl ?_
    refine lv_astore_n (lv' := [(3, .ref z8), (0, .ref a), (1, .int p1), (2, .ref (ad 0))]) C.1 C.2.1 dX4_says_244 rfl hl (by decide) rfl (fun ls hl => ?_)
    obtain ⟨q9, hq9e⟩ : ∃ q, q = H.size := ⟨_, rfl⟩
    refine t_refuse18 (w := (-2)) (kp := 2) C0 D hml hl.1 hP rW_av P_nil hS q494 q495 dX4_says_245 dX4_says_248 (fun kk => lv_bipush (v := (-2)) C.1 C.2.1 dX4_says_249 (by decide) kk) dX4_says_251 dX4_says_254 ⟨Nat.le_of_ble_eq_true rfl, Nat.le_of_ble_eq_true rfl, Nat.le_of_ble_eq_true rfl, Nat.le_of_ble_eq_true rfl⟩ (fun H locs hq hc hP _ hS => ?_)
    rw [← hq9e] at hq hc ⊢
    obtain rfl := Option.some.inj hE
    refine vx_widen (k := 5) (n := 984) (Nat.le_of_ble_eq_true rfl) (Nat.le_of_ble_eq_true rfl) ?_
    exact hthr _ _ _ _ _ _ _ (by
      rw [htab]
      intro z hz
      have hz : z ∈ ([⟨0, 243, 244, 21⟩] : List ExceptionTableEntry) := hz
      simp only [List.mem_cons, List.not_mem_nil, or_false] at hz
      rcases hz with rfl
      · exact Or.inl rfl) rfl hq.2.2 hc hP hS
  have hE := it_f c7 hE
  by_cases c10 : p1 = 4
  · have hE := it_t c10 hE
    refine lv_tableIn (tgt := 117) C.1 C.2.1 dX4_says_1 (by rw [c10]; decide) (by rw [c10]; decide) (by rw [c10]; rfl) (by decide) ?_
    refine lv_aload_n C.1 C.2.1 dX4_says_117 rfl (lv_at hl 0 rfl) ?_
    refine p_get (j := 0) C hS ha (show vwCl[13]? = some (RX4, TX4, 1) from rfl) in_X4 (by decide) q233 rfl dX4_says_118 ?_
    refine lv_ifnonnull (tgt := 128) C.1 C.2.1 dX4_says_121 (by decide) ?_
    refine lv_aload_n C.1 C.2.1 dX4_says_128 rfl (lv_at hl 0 rfl) ?_
    refine p_get (j := 0) C hS ha (show vwCl[13]? = some (RX4, TX4, 1) from rfl) in_X4 (by decide) q233 rfl dX4_says_129 ?_
    refine va_castY C.1 C.2.1 C.2.2.1 (C.2.2.2.1 _ q629) (D.2.2.2.2.1 _ (List.mem_of_getElem? (i := 18) rfl)) (n_recvH C hS hq0 (show vwCl[6]? = some (RX18, TX18, 2) from rfl)) dX4_says_132 ?_
    refine lv_bipush (v := 30) C.1 C.2.1 dX4_says_135 (by decide) ?_
    obtain ⟨r11, hr11, hE⟩ := it_b hE
    refine n_after [] C.2.2.2.2.2.1 C.2.2.2.2.2.2.2.1 hP hS (va_runU (As := [.int 30]) (rest := []) ⟨C.1, C.2.1, hml, C.2.2.1, C.2.2.2.1⟩ (metC_Bus_less_6 l G ad pl  q ix hby 30 hq0 r11 hr11) (va_cwO (C := RX18) (owner := "HamsterWeekends$Far") 1 C.2.2.2.1 (lw_O q630 q633 q631 q634 q635 q108 q636) rfl rfl rfl q639 (by decide +kernel) ⟨Nat.le_of_ble_eq_true rfl, Nat.le_of_ble_eq_true rfl⟩) (n_preV C hP hS [] rfl (by decide) rfl (n_recvH C hS hq0 rfl)) rfl rfl hl.1 rfl (lv_room (Nat.le_of_ble_eq_true rfl)) dX4_says_137 ⟨Nat.le_of_ble_eq_true rfl, Nat.le_of_ble_eq_true rfl⟩) rW_av rfl rfl rfl (fun H locs hP hS => ?_)
    refine lv_istore_n (lv' := [(3, .int r11), (0, .ref a), (1, .int p1), (2, .ref (ad 0))]) C.1 C.2.1 dX4_says_140 rfl hl (by decide) rfl (fun ls hl => ?_)
    refine lv_goto (tgt := 225) C.1 C.2.1 dX4_says_141 (by decide) ?_
    refine lv_aload_n C.1 C.2.1 dX4_says_225 rfl (lv_at hl 1 rfl) ?_
    refine p_get (j := 0) C hS ha (show vwCl[13]? = some (RX4, TX4, 1) from rfl) in_X4 (by decide) q233 rfl dX4_says_226 ?_
    refine lv_ifnull C.1 C.2.1 dX4_says_229 ?_
    refine lv_iconst (v := 1) C.1 C.2.1 dX4_says_232 (by decide) ?_
    refine lv_goto (tgt := 237) C.1 C.2.1 dX4_says_233 (by decide) ?_
    refine lv_bipush (v := (-3)) C.1 C.2.1 dX4_says_237 (by decide) ?_
    refine t_after [] C0 D hP P_nil hS (vx_runS (As := [.int 1, .int (-3)]) (rest := []) ⟨C.1, C.2.1, hml, C.2.2.1, C.2.2.2.1⟩ (metC_HW_need l hfl G ad pl H.size 1 (-3) _ (need_eq _ _)) (va_cwS 2 C.2.2.2.1 (lw_S q493 q398 q80 q399) rfl rfl rfl (by decide +kernel) ⟨Nat.le_of_ble_eq_true rfl, Nat.le_of_ble_eq_true rfl⟩) (rr_preS C D hP hS [] rfl (by decide) rfl) rfl rfl hl.1 rfl (lv_room (Nat.le_of_ble_eq_true rfl)) dX4_says_239 ⟨Nat.le_of_ble_eq_true rfl, Nat.le_of_ble_eq_true rfl⟩) rW_av rfl rfl rfl (fun hφ H locs hP _ hS => ?_) (fun w q H locs hw hq hc hP _ hS => ?_)
    rotate_left
    · exact absurd (nd_x hw).1 (by decide)
    refine lv_iload_n C.1 C.2.1 dX4_says_242 rfl (lv_at hl 0 rfl) ?_
    obtain rfl := Option.some.inj hE
    refine W.widen (k := 5) (n := 984) (Nat.le_of_ble_eq_true rfl) (Nat.le_of_ble_eq_true rfl) ?_
    exact hret _ _ _ _ dX4_says_243 rfl hP hS
  have hE := it_f c10 hE
  by_cases c14 : p1 = 5
  · have hE := it_t c14 hE
    refine lv_tableIn (tgt := 144) C.1 C.2.1 dX4_says_1 (by rw [c14]; decide) (by rw [c14]; decide) (by rw [c14]; rfl) (by decide) ?_
    refine lv_aload_n C.1 C.2.1 dX4_says_144 rfl (lv_at hl 0 rfl) ?_
    refine p_get (j := 0) C hS ha (show vwCl[13]? = some (RX4, TX4, 1) from rfl) in_X4 (by decide) q233 rfl dX4_says_145 ?_
    refine lv_ifnonnull (tgt := 155) C.1 C.2.1 dX4_says_148 (by decide) ?_
    refine lv_aload_n C.1 C.2.1 dX4_says_155 rfl (lv_at hl 0 rfl) ?_
    refine p_get (j := 0) C hS ha (show vwCl[13]? = some (RX4, TX4, 1) from rfl) in_X4 (by decide) q233 rfl dX4_says_156 ?_
    refine t_castX (r := (RX18, TX18, 2)) hfl C0 D hP P_nil hS (by rw [hml]; exact hl.1) hlocks (P_mem (pl_at C.2.2.2.2.2.2.2.2 C.2.2.2.2.2.2.1 hS) hq0) rfl ⟨pk_bus, by decide⟩ ⟨pk_dog, by decide⟩ (List.mem_of_getElem? (i := 67) rfl) q640 dX4_says_159 ⟨Nat.le_of_ble_eq_true rfl, Nat.le_of_ble_eq_true rfl, Nat.le_of_ble_eq_true rfl, Nat.le_of_ble_eq_true rfl⟩ (fun H z15 ce hz hP _ hS g1 g2 g3 => ?_)
    refine t_catch (name := "java/lang/ClassCastException") (E := "java/lang/ClassCastException") C0 D [] ⟨0, 243, 244, 21⟩ [] htab (fun z hz => nomatch hz) rfl (by decide) q478 (List.mem_of_getElem? (i := 3) rfl) g1 g2 g3 ?_
    refine W.eq (g2 := F0 m 244 ls [.ref z15]) rfl ?_
    refine lv_astore_n (lv' := [(3, .ref z15), (0, .ref a), (1, .int p1), (2, .ref (ad 0))]) C.1 C.2.1 dX4_says_244 rfl hl (by decide) rfl (fun ls hl => ?_)
    obtain ⟨q16, hq16e⟩ : ∃ q, q = H.size := ⟨_, rfl⟩
    refine t_refuse18 (w := (-2)) (kp := 2) C0 D hml hl.1 hP rW_av P_nil hS q494 q495 dX4_says_245 dX4_says_248 (fun kk => lv_bipush (v := (-2)) C.1 C.2.1 dX4_says_249 (by decide) kk) dX4_says_251 dX4_says_254 ⟨Nat.le_of_ble_eq_true rfl, Nat.le_of_ble_eq_true rfl, Nat.le_of_ble_eq_true rfl, Nat.le_of_ble_eq_true rfl⟩ (fun H locs hq hc hP _ hS => ?_)
    rw [← hq16e] at hq hc ⊢
    obtain rfl := Option.some.inj hE
    refine vx_widen (k := 5) (n := 984) (Nat.le_of_ble_eq_true rfl) (Nat.le_of_ble_eq_true rfl) ?_
    exact hthr _ _ _ _ _ _ _ (by
      rw [htab]
      intro z hz
      have hz : z ∈ ([⟨0, 243, 244, 21⟩] : List ExceptionTableEntry) := hz
      simp only [List.mem_cons, List.not_mem_nil, or_false] at hz
      rcases hz with rfl
      · exact Or.inl rfl) rfl hq.2.2 hc hP hS
  have hE := it_f c14 hE
  by_cases c17 : p1 = 6
  · have hE := it_t c17 hE
    refine lv_tableIn (tgt := 171) C.1 C.2.1 dX4_says_1 (by rw [c17]; decide) (by rw [c17]; decide) (by rw [c17]; rfl) (by decide) ?_
    refine lv_aload_n C.1 C.2.1 dX4_says_171 rfl (lv_at hl 0 rfl) ?_
    refine p_get (j := 0) C hS ha (show vwCl[13]? = some (RX4, TX4, 1) from rfl) in_X4 (by decide) q233 rfl dX4_says_172 ?_
    refine lv_ifnonnull (tgt := 182) C.1 C.2.1 dX4_says_175 (by decide) ?_
    refine lv_aload_n C.1 C.2.1 dX4_says_182 rfl (lv_at hl 0 rfl) ?_
    refine p_get (j := 0) C hS ha (show vwCl[13]? = some (RX4, TX4, 1) from rfl) in_X4 (by decide) q233 rfl dX4_says_183 ?_
    refine va_castS C.1 C.2.1 C.2.2.1 (C.2.2.2.1 _ q642) (C.2.2.2.2.1.1 6 _ (show vwCl[6]? = some (RX18, TX18, 2) from rfl)).2 (n_recvH C hS hq0 (show vwCl[6]? = some (RX18, TX18, 2) from rfl)) dX4_says_186 ?_
    refine lv_bipush (v := 30) C.1 C.2.1 dX4_says_189 (by decide) ?_
    obtain ⟨r18, hr18, hE⟩ := it_b hE
    refine n_after [] C.2.2.2.2.2.1 C.2.2.2.2.2.2.2.1 hP hS (va_runV (As := [.int 30]) (rest := []) ⟨C.1, C.2.1, hml, C.2.2.1, C.2.2.2.1⟩ (metC_Bus_less_6 l G ad pl  q ix hby 30 hq0 r18 hr18) (cwV (C := RX18) 1 C.2.2.2.1 (lw_V q643 q635 q1828 q108 q636) rfl rfl rfl (by decide +kernel) ⟨Nat.le_of_ble_eq_true rfl, Nat.le_of_ble_eq_true rfl⟩) (n_preV C hP hS [] rfl (by decide) rfl (n_recvH C hS hq0 rfl)) rfl rfl hl.1 rfl (lv_room (Nat.le_of_ble_eq_true rfl)) dX4_says_191 ⟨Nat.le_of_ble_eq_true rfl, Nat.le_of_ble_eq_true rfl⟩) rW_av rfl rfl rfl (fun H locs hP hS => ?_)
    refine lv_istore_n (lv' := [(3, .int r18), (0, .ref a), (1, .int p1), (2, .ref (ad 0))]) C.1 C.2.1 dX4_says_194 rfl hl (by decide) rfl (fun ls hl => ?_)
    refine lv_goto (tgt := 225) C.1 C.2.1 dX4_says_195 (by decide) ?_
    refine lv_aload_n C.1 C.2.1 dX4_says_225 rfl (lv_at hl 1 rfl) ?_
    refine p_get (j := 0) C hS ha (show vwCl[13]? = some (RX4, TX4, 1) from rfl) in_X4 (by decide) q233 rfl dX4_says_226 ?_
    refine lv_ifnull C.1 C.2.1 dX4_says_229 ?_
    refine lv_iconst (v := 1) C.1 C.2.1 dX4_says_232 (by decide) ?_
    refine lv_goto (tgt := 237) C.1 C.2.1 dX4_says_233 (by decide) ?_
    refine lv_bipush (v := (-3)) C.1 C.2.1 dX4_says_237 (by decide) ?_
    refine t_after [] C0 D hP P_nil hS (vx_runS (As := [.int 1, .int (-3)]) (rest := []) ⟨C.1, C.2.1, hml, C.2.2.1, C.2.2.2.1⟩ (metC_HW_need l hfl G ad pl H.size 1 (-3) _ (need_eq _ _)) (va_cwS 2 C.2.2.2.1 (lw_S q493 q398 q80 q399) rfl rfl rfl (by decide +kernel) ⟨Nat.le_of_ble_eq_true rfl, Nat.le_of_ble_eq_true rfl⟩) (rr_preS C D hP hS [] rfl (by decide) rfl) rfl rfl hl.1 rfl (lv_room (Nat.le_of_ble_eq_true rfl)) dX4_says_239 ⟨Nat.le_of_ble_eq_true rfl, Nat.le_of_ble_eq_true rfl⟩) rW_av rfl rfl rfl (fun hφ H locs hP _ hS => ?_) (fun w q H locs hw hq hc hP _ hS => ?_)
    rotate_left
    · exact absurd (nd_x hw).1 (by decide)
    refine lv_iload_n C.1 C.2.1 dX4_says_242 rfl (lv_at hl 0 rfl) ?_
    obtain rfl := Option.some.inj hE
    refine W.widen (k := 5) (n := 984) (Nat.le_of_ble_eq_true rfl) (Nat.le_of_ble_eq_true rfl) ?_
    exact hret _ _ _ _ dX4_says_243 rfl hP hS
  have hE := it_f c17 hE
  refine lv_tableOut (tgt := 198) C.1 C.2.1 dX4_says_1 (ts_e (ts_s (ts_s (ts_s (ts_s (ts_s (ts_s (ts_0 1) c1 rfl rfl) c4 rfl rfl) c7 rfl rfl) c10 rfl rfl) c14 rfl rfl) c17 rfl rfl) rfl) (by decide) ?_
  refine lv_aload_n C.1 C.2.1 dX4_says_198 rfl (lv_at hl 0 rfl) ?_
  refine p_get (j := 0) C hS ha (show vwCl[13]? = some (RX4, TX4, 1) from rfl) in_X4 (by decide) q233 rfl dX4_says_199 ?_
  refine lv_ifnonnull (tgt := 209) C.1 C.2.1 dX4_says_202 (by decide) ?_
  refine lv_aload_n C.1 C.2.1 dX4_says_209 rfl (lv_at hl 2 rfl) ?_
  refine rWg_0_7 q198 C hP dX4_says_210 ?_
  refine lv_aload_n C.1 C.2.1 dX4_says_213 rfl (lv_at hl 0 rfl) ?_
  refine p_get (j := 0) C hS ha (show vwCl[13]? = some (RX4, TX4, 1) from rfl) in_X4 (by decide) q233 rfl dX4_says_214 ?_
  refine va_castY C.1 C.2.1 C.2.2.1 (C.2.2.2.1 _ q520) (D.2.2.2.2.1 _ (List.mem_of_getElem? (i := 10) rfl)) (n_recvH C hS hq0 (show vwCl[6]? = some (RX18, TX18, 2) from rfl)) dX4_says_217 ?_
  refine h_get (j := 0) C hS hq0 (show vwCl[6]? = some (RX18, TX18, 2) from rfl) in_X18 (by decide) rfl rfl rfl q666 (Or.inl rfl) rfl dX4_says_220 ?_
  obtain ⟨g21, hE⟩ := it_g hE
  refine rWl_5 (v := (v_had (ix).toNatClampNeg)) C hP (gi_in g21) rfl dX4_says_223 ?_
  refine lv_istore_n (lv' := [(3, .int (v_had (ix).toNatClampNeg)), (0, .ref a), (1, .int p1), (2, .ref (ad 0))]) C.1 C.2.1 dX4_says_224 rfl hl (by decide) rfl (fun ls hl => ?_)
  refine lv_aload_n C.1 C.2.1 dX4_says_225 rfl (lv_at hl 1 rfl) ?_
  refine p_get (j := 0) C hS ha (show vwCl[13]? = some (RX4, TX4, 1) from rfl) in_X4 (by decide) q233 rfl dX4_says_226 ?_
  refine lv_ifnull C.1 C.2.1 dX4_says_229 ?_
  refine lv_iconst (v := 1) C.1 C.2.1 dX4_says_232 (by decide) ?_
  refine lv_goto (tgt := 237) C.1 C.2.1 dX4_says_233 (by decide) ?_
  refine lv_bipush (v := (-3)) C.1 C.2.1 dX4_says_237 (by decide) ?_
  refine t_after [] C0 D hP P_nil hS (vx_runS (As := [.int 1, .int (-3)]) (rest := []) ⟨C.1, C.2.1, hml, C.2.2.1, C.2.2.2.1⟩ (metC_HW_need l hfl G ad pl H.size 1 (-3) _ (need_eq _ _)) (va_cwS 2 C.2.2.2.1 (lw_S q493 q398 q80 q399) rfl rfl rfl (by decide +kernel) ⟨Nat.le_of_ble_eq_true rfl, Nat.le_of_ble_eq_true rfl⟩) (rr_preS C D hP hS [] rfl (by decide) rfl) rfl rfl hl.1 rfl (lv_room (Nat.le_of_ble_eq_true rfl)) dX4_says_239 ⟨Nat.le_of_ble_eq_true rfl, Nat.le_of_ble_eq_true rfl⟩) rW_av rfl rfl rfl (fun hφ H locs hP _ hS => ?_) (fun w q H locs hw hq hc hP _ hS => ?_)
  rotate_left
  · exact absurd (nd_x hw).1 (by decide)
  refine lv_iload_n C.1 C.2.1 dX4_says_242 rfl (lv_at hl 0 rfl) ?_
  obtain rfl := Option.some.inj hE
  refine W.widen (k := 5) (n := 984) (Nat.le_of_ble_eq_true rfl) (Nat.le_of_ble_eq_true rfl) ?_
  exact hret _ _ _ _ dX4_says_243 rfl hP hS
def sC_HW_says (v_refusals : Nat → Int32) (v_had : Nat → Int32) (hd : Nat → Nat) (rs : Nat → Nat) (rn : Nat → Nat) (rc : Nat → Nat → Int64) (sk : Nat → Nat) (si : Nat → Int32) (sb : Nat → Int32) (p1 : Int32) (p2 : Int32) : Option (Int32 × (Nat → Int32)) :=
  if gi p1 8 then
    (sC_HW_in ((p2 : Int32).toInt64) 0 6).bind fun r4 =>
    if r4 = 0 then
      (sC_HW_refused v_refusals (-1)).bind fun r68 =>
      some (r68.1, r68.2)
    else
      if hd (p1).toNatClampNeg = 0 then
        (sC_Shelf_says_N p2).bind fun r10 =>
        if r10.1 = none then
          some (r10.2, v_refusals)
        else
          (sC_HW_refused v_refusals (r10.1.getD 0)).bind fun r12 =>
          some (r12.1, r12.2)
      else
      if hd (p1).toNatClampNeg = 1 then
        if rs (p1).toNatClampNeg = 0 then
          (sC_Shelf_says_R_0 p2).bind fun r15 =>
          if r15.1 = none then
            some (r15.2, v_refusals)
          else
            (sC_HW_refused v_refusals (r15.1.getD 0)).bind fun r17 =>
            some (r17.1, r17.2)
        else
        if rs (p1).toNatClampNeg = 1 then
          (sC_Shelf_says_R_1 p2).bind fun r20 =>
          if r20.1 = none then
            some (r20.2, v_refusals)
          else
            (sC_HW_refused v_refusals (r20.1.getD 0)).bind fun r22 =>
            some (r22.1, r22.2)
        else
        if rs (p1).toNatClampNeg = 2 then
          (sC_Shelf_says_R_2 p2).bind fun r25 =>
          if r25.1 = none then
            some (r25.2, v_refusals)
          else
            (sC_HW_refused v_refusals (r25.1.getD 0)).bind fun r27 =>
            some (r27.1, r27.2)
        else
        if rs (p1).toNatClampNeg = 3 then
          (sC_Shelf_says_R_3 p2).bind fun r30 =>
          if r30.1 = none then
            some (r30.2, v_refusals)
          else
            (sC_HW_refused v_refusals (r30.1.getD 0)).bind fun r32 =>
            some (r32.1, r32.2)
        else
        none
      else
      if hd (p1).toNatClampNeg = 2 then
        if sk (p1).toNatClampNeg = 0 then
          (sC_Shelf_says_H_0 v_had (si (p1).toNatClampNeg) (sb (p1).toNatClampNeg) p2).bind fun r35 =>
          if r35.1 = none then
            some (r35.2, v_refusals)
          else
            (sC_HW_refused v_refusals (r35.1.getD 0)).bind fun r37 =>
            some (r37.1, r37.2)
        else
        if sk (p1).toNatClampNeg = 1 then
          (sC_Shelf_says_H_1 v_had (si (p1).toNatClampNeg) (sb (p1).toNatClampNeg) p2).bind fun r40 =>
          if r40.1 = none then
            some (r40.2, v_refusals)
          else
            (sC_HW_refused v_refusals (r40.1.getD 0)).bind fun r42 =>
            some (r42.1, r42.2)
        else
        if sk (p1).toNatClampNeg = 2 then
          (sC_Shelf_says_H_2 v_had (si (p1).toNatClampNeg) (sb (p1).toNatClampNeg) p2).bind fun r45 =>
          if r45.1 = none then
            some (r45.2, v_refusals)
          else
            (sC_HW_refused v_refusals (r45.1.getD 0)).bind fun r47 =>
            some (r47.1, r47.2)
        else
        if sk (p1).toNatClampNeg = 3 then
          (sC_Shelf_says_H_3 v_had (si (p1).toNatClampNeg) (sb (p1).toNatClampNeg) p2).bind fun r50 =>
          if r50.1 = none then
            some (r50.2, v_refusals)
          else
            (sC_HW_refused v_refusals (r50.1.getD 0)).bind fun r52 =>
            some (r52.1, r52.2)
        else
        if sk (p1).toNatClampNeg = 4 then
          (sC_Shelf_says_H_4 v_had (si (p1).toNatClampNeg) (sb (p1).toNatClampNeg) p2).bind fun r55 =>
          if r55.1 = none then
            some (r55.2, v_refusals)
          else
            (sC_HW_refused v_refusals (r55.1.getD 0)).bind fun r57 =>
            some (r57.1, r57.2)
        else
        if sk (p1).toNatClampNeg = 5 then
          (sC_Shelf_says_H_5 v_had (si (p1).toNatClampNeg) (sb (p1).toNatClampNeg) p2).bind fun r60 =>
          if r60.1 = none then
            some (r60.2, v_refusals)
          else
            (sC_HW_refused v_refusals (r60.1.getD 0)).bind fun r62 =>
            some (r62.1, r62.2)
        else
        if sk (p1).toNatClampNeg = 6 then
          (sC_Shelf_says_H_6 v_had (si (p1).toNatClampNeg) (sb (p1).toNatClampNeg) p2).bind fun r65 =>
          if r65.1 = none then
            some (r65.2, v_refusals)
          else
            (sC_HW_refused v_refusals (r65.1.getD 0)).bind fun r67 =>
            some (r67.1, r67.2)
        else
        none
      else
      none
  else
    (sC_HW_refused v_refusals (-1)).bind fun r69 =>
    some (r69.1, r69.2)
set_option maxHeartbeats 4000000 in
theorem metC_HW_says (l : Launch) (hfl : l.stackTraces = false) (G : kG) (ad : Nat → Nat) (pl : va_W) (sa ra rb hd rs rn : Nat → Nat) (rc : Nat → Nat → Int64) (sk : Nat → Nat) (si sb : Nat → Int32) (sz : Nat) (v_latestFault : Int32) (v_died : Int32) (v_leastWeight : Int32) (v_noticedBy : Int32) (v_noticed : Int32) (v_orderDied : Int32) (v_orderLeast : Int32) (v_imaged : Option Nat) (v_shelves : Nat → Option Nat) (v_refusals : Nat → Int32) (v_ran : Int32) (v_bodies : Nat → Int32) (v_tweight : Int32) (v_tfright : Int32) (v_tage : Int32) (v_tasked : Nat → Int32) (v_told : Nat → Int32) (v_bestRow : Nat → Int32) (v_weight_a1 : Int32) (v_fright_a1 : Int32) (v_age_a1 : Int32) (v_asked_a1 : Nat → Int32) (v_weight_a2 : Int32) (v_fright_a2 : Int32) (v_age_a2 : Int32) (v_asked_a2 : Nat → Int32) (v_weight_a3 : Int32) (v_fright_a3 : Int32) (v_age_a3 : Int32) (v_asked_a3 : Nat → Int32) (v_weight_a4 : Int32) (v_fright_a4 : Int32) (v_age_a4 : Int32) (v_asked_a4 : Nat → Int32) (v_many : Int32) (v_pets : Int32) (v_last : Int32) (v_seed : Int32) (v_weight : Int32) (v_fright : Int32) (v_age : Int32) (v_asked : Nat → Int32) (v_homes : Nat → Option Nat) (v_marks : Nat → Int32) (v_had : Nat → Int32) (v_allergic : Nat → Int32) (v_deaths : Nat → Int32) (shok : shOK G v_shelves sa hd ra rb rs rn rc sk si sb pl) (p1 : Int32) (p2 : Int32) (res : Int32 × (Nat → Int32)) (hE : sC_HW_says v_refusals v_had hd rs rn rc sk si sb p1 p2 = some res) : vx_Met l yX0_says (wsW_ yX0_says cX0_says 4 (some .int) [((0 : Nat), (28 : Nat), (29 : Nat), (21 : Nat))]) ({ frames := 10, cells := 10, slots := 1220, locals := 10304 } : Room) (rPc G (xW G.2 ad v_latestFault v_died v_leastWeight v_noticedBy v_noticed v_orderDied v_orderLeast v_imaged v_shelves v_refusals v_ran v_bodies v_tweight v_tfright v_tage v_tasked v_told v_bestRow v_weight_a1 v_fright_a1 v_age_a1 v_asked_a1 v_weight_a2 v_fright_a2 v_age_a2 v_asked_a2 v_weight_a3 v_fright_a3 v_age_a3 v_asked_a3 v_weight_a4 v_fright_a4 v_age_a4 v_asked_a4 v_many v_pets v_last v_seed v_weight v_fright v_age v_asked v_homes v_marks v_had v_allergic v_deaths) pl (xWV ad) sz [.ref (ad 0), .int p1, .int p2]) (tQc G (xW G.2 ad v_latestFault v_died v_leastWeight v_noticedBy v_noticed v_orderDied v_orderLeast v_imaged v_shelves res.2 v_ran v_bodies v_tweight v_tfright v_tage v_tasked v_told v_bestRow v_weight_a1 v_fright_a1 v_age_a1 v_asked_a1 v_weight_a2 v_fright_a2 v_age_a2 v_asked_a2 v_weight_a3 v_fright_a3 v_age_a3 v_asked_a3 v_weight_a4 v_fright_a4 v_age_a4 v_asked_a4 v_many v_pets v_last v_seed v_weight v_fright v_age v_asked v_homes v_marks v_had v_allergic v_deaths) [] (tA sz (xWV ad) []) (True) (some (.int res.1))) (tXC G (xW G.2 ad v_latestFault v_died v_leastWeight v_noticedBy v_noticed v_orderDied v_orderLeast v_imaged v_shelves res.2 v_ran v_bodies v_tweight v_tfright v_tage v_tasked v_told v_bestRow v_weight_a1 v_fright_a1 v_age_a1 v_asked_a1 v_weight_a2 v_fright_a2 v_age_a2 v_asked_a2 v_weight_a3 v_fright_a3 v_age_a3 v_asked_a3 v_weight_a4 v_fright_a4 v_age_a4 v_asked_a4 v_many v_pets v_last v_seed v_weight v_fright v_age v_asked v_homes v_marks v_had v_allergic v_deaths) [] (tA sz (xWV ad) []) 18 RX6 none sz) 10 1220 (tA sz (xWV ad) []) := by
  refine r_ofWH (own := RX0) (by decide) rfl (Nat.le_of_ble_eq_true rfl) ?_
  intro p e s m args below meth c ls C C0 D hml htab hP hS hl hr hlocks hsz
  have hl : lv_has ls 4 [(0, .ref (ad 0)), (1, .int p1), (2, .int p2)] := hl
  obtain ⟨Q, hQ⟩ : ∃ Q, Q = vx_MQ below (tQc G (xW G.2 ad v_latestFault v_died v_leastWeight v_noticedBy v_noticed v_orderDied v_orderLeast v_imaged v_shelves res.2 v_ran v_bodies v_tweight v_tfright v_tage v_tasked v_told v_bestRow v_weight_a1 v_fright_a1 v_age_a1 v_asked_a1 v_weight_a2 v_fright_a2 v_age_a2 v_asked_a2 v_weight_a3 v_fright_a3 v_age_a3 v_asked_a3 v_weight_a4 v_fright_a4 v_age_a4 v_asked_a4 v_many v_pets v_last v_seed v_weight v_fright v_age v_asked v_homes v_marks v_had v_allergic v_deaths) [] (tA sz (xWV ad) []) (True) (some (.int res.1))) (tXC G (xW G.2 ad v_latestFault v_died v_leastWeight v_noticedBy v_noticed v_orderDied v_orderLeast v_imaged v_shelves res.2 v_ran v_bodies v_tweight v_tfright v_tage v_tasked v_told v_bestRow v_weight_a1 v_fright_a1 v_age_a1 v_asked_a1 v_weight_a2 v_fright_a2 v_age_a2 v_asked_a2 v_weight_a3 v_fright_a3 v_age_a3 v_asked_a3 v_weight_a4 v_fright_a4 v_age_a4 v_asked_a4 v_many v_pets v_last v_seed v_weight v_fright v_age v_asked v_homes v_marks v_had v_allergic v_deaths) [] (tA sz (xWV ad) []) 18 RX6 none sz) args s 10 1220 (tA sz (xWV ad) []) := ⟨_, rfl⟩
  rw [← hQ]
  have hret : ∀ (pc : Nat) (ls : Array Slot) (H : Heap) (locs : List Loc), decode cX0_says pc = .ok (.ireturn, 1) → True → va_P G.1 vwCl (xW G.2 ad v_latestFault v_died v_leastWeight v_noticedBy v_noticed v_orderDied v_orderLeast v_imaged v_shelves res.2 v_ran v_bodies v_tweight v_tfright v_tage v_tasked v_told v_bestRow v_weight_a1 v_fright_a1 v_age_a1 v_asked_a1 v_weight_a2 v_fright_a2 v_age_a2 v_asked_a2 v_weight_a3 v_fright_a3 v_age_a3 v_asked_a3 v_weight_a4 v_fright_a4 v_age_a4 v_asked_a4 v_many v_pets v_last v_seed v_weight v_fright v_age v_asked v_homes v_marks v_had v_allergic v_deaths) H → va_S (tA sz (xWV ad) []) s.heap H locs → W p l e ({ frames := 10, cells := 10, slots := 1220, locals := 10304 } : Room) s m args below meth c H locs 10 1220 Q (F0 m pc ls [(.int res.1)]) := by
    intro pc ls H locs hd hφ hP hS
    rw [hQ]
    exact t_iret C0 hr hlocks hd hφ hP P_nil hS
  clear hQ
  obtain ⟨H, hH⟩ : ∃ H, H = s.heap := ⟨_, rfl⟩
  obtain ⟨locs, hlo⟩ : ∃ locs : List Loc, locs = [] := ⟨_, rfl⟩
  have hP : va_P G.1 vwCl (xW G.2 ad v_latestFault v_died v_leastWeight v_noticedBy v_noticed v_orderDied v_orderLeast v_imaged v_shelves v_refusals v_ran v_bodies v_tweight v_tfright v_tage v_tasked v_told v_bestRow v_weight_a1 v_fright_a1 v_age_a1 v_asked_a1 v_weight_a2 v_fright_a2 v_age_a2 v_asked_a2 v_weight_a3 v_fright_a3 v_age_a3 v_asked_a3 v_weight_a4 v_fright_a4 v_age_a4 v_asked_a4 v_many v_pets v_last v_seed v_weight v_fright v_age v_asked v_homes v_marks v_had v_allergic v_deaths) H := by rw [hH]; exact hP
  have hS : va_S (tA sz (xWV ad) []) s.heap H locs := by rw [hH, hlo]; exact hS
  suffices hZ : W p l e ({ frames := 10, cells := 10, slots := 1220, locals := 10304 } : Room) s m args below meth c H locs 0 0 Q (F0 m 0 ls []) by rw [hH, hlo] at hZ; exact hZ
  clear hH hlo
  unfold sC_HW_says at hE
  refine lv_aload_n C.1 C.2.1 dX0_says_0 rfl (lv_at hl 0 rfl) ?_
  refine lv_iload_n C.1 C.2.1 dX0_says_1 rfl (lv_at hl 1 rfl) ?_
  refine t_afterS C0 D hP P_nil hS (vx_runVX (As := [.int p1]) (rest := []) ⟨C.1, C.2.1, hml, C.2.2.1, C.2.2.2.1⟩ (metC_HW_shelf l hfl G ad pl H.size _ _ _ _ _ _ _ _ _ _ _ _ _ _ _ _ _ _ _ _ _ _ _ _ _ _ _ _ _ _ _ _ _ _ _ _ _ _ _ _ _ _ _ _ _ _ _ p1) (vx_cwVW (C := RX0) 1 C.2.2.2.1 (lw_VW q292 q294 qs0 q80 q295) rfl rfl rfl (by decide +kernel) ⟨Nat.le_of_ble_eq_true rfl, Nat.le_of_ble_eq_true rfl⟩) (rr_preV0 C D hP hS (va_recv C.2.2.2.2.1 hP (ci := 16) (q0 := 0) rfl rfl)) rfl rfl hl.1 rfl (lv_room (Nat.le_of_ble_eq_true rfl)) dX0_says_2 ⟨Nat.le_of_ble_eq_true rfl, Nat.le_of_ble_eq_true rfl⟩) xW_av (fun hφ H locs hP _ hS => ?_) (fun w q H locs hw hq hc hP _ hS => ?_)
  · have hE := it_t hφ hE
    obtain ⟨hsag1, hshg1⟩ := shok _ (gi_lt hφ)
    rw [hsag1]
    refine lv_astore_n (lv' := [(3, .ref (sa (p1).toNatClampNeg)), (0, .ref (ad 0)), (1, .int p1), (2, .int p2)]) C.1 C.2.1 dX0_says_5 rfl hl (by decide) rfl (fun ls hl => ?_)
    refine lv_iload_n C.1 C.2.1 dX0_says_6 rfl (lv_at hl 3 rfl) ?_
    refine lv_i2l C.1 C.2.1 dX0_says_7 rfl ?_
    refine lv_lconst (v := 0) C.1 C.2.1 dX0_says_8 (by decide) ?_
    refine lv_ldc2 C.1 C.2.1 C.2.2.1 (C.2.2.2.1 _ q596) dX0_says_9 ?_
    obtain ⟨r4, hr4, hE⟩ := it_b hE
    refine n_after [] C.2.2.2.2.2.1 C.2.2.2.2.2.2.2.1 hP hS (va_runS (As := [.long ((p2 : Int32).toInt64), .long 0, .long 6]) (rest := []) ⟨C.1, C.2.1, hml, C.2.2.1, C.2.2.2.1⟩ (metC_HW_in l G ad pl  ((p2 : Int32).toInt64) 0 6  r4 hr4) (va_cwS 3 C.2.2.2.1 (lw_S q401 q402 q80 q403) rfl rfl rfl (by decide +kernel) ⟨Nat.le_of_ble_eq_true rfl, Nat.le_of_ble_eq_true rfl⟩) (n_preS C hP hS [] rfl (by decide) rfl) rfl rfl hl.1 rfl (lv_room (Nat.le_of_ble_eq_true rfl)) dX0_says_12 ⟨Nat.le_of_ble_eq_true rfl, Nat.le_of_ble_eq_true rfl⟩) xW_av rfl rfl rfl (fun H locs hP hS => ?_)
    refine lv_iconst (v := (-1)) C.1 C.2.1 dX0_says_15 (by decide) ?_
    refine t_after [] C0 D hP P_nil hS (vx_runS (As := [.int r4, .int (-1)]) (rest := []) ⟨C.1, C.2.1, hml, C.2.2.1, C.2.2.2.1⟩ (metC_HW_need l hfl G ad pl H.size r4 (-1) _ (need_eq _ _)) (va_cwS 2 C.2.2.2.1 (lw_S q397 q398 q80 q399) rfl rfl rfl (by decide +kernel) ⟨Nat.le_of_ble_eq_true rfl, Nat.le_of_ble_eq_true rfl⟩) (rr_preS C D hP hS [] rfl (by decide) rfl) rfl rfl hl.1 rfl (lv_room (Nat.le_of_ble_eq_true rfl)) dX0_says_16 ⟨Nat.le_of_ble_eq_true rfl, Nat.le_of_ble_eq_true rfl⟩) xW_av rfl rfl rfl (fun hφ H locs hP _ hS => ?_) (fun w q H locs hw hq hc hP _ hS => ?_)
    · have hE := it_f (nd_n hφ) hE
      refine lv_aload_n C.1 C.2.1 dX0_says_19 rfl (lv_at hl 0 rfl) ?_
      refine lv_iload_n C.1 C.2.1 dX0_says_20 rfl (lv_at hl 3 rfl) ?_
      refine lv_aload_n C.1 C.2.1 dX0_says_21 rfl (lv_at hl 1 rfl) ?_
      refine xWg_0_6 q244 C hP dX0_says_22 ?_
      by_cases c7 : hd (p1).toNatClampNeg = 0
      · have hE := it_t c7 hE
        obtain ⟨r10, hr10, hE⟩ := it_b hE
        refine t_after [18, 19, 20, 21, 22, 23, 24, 25] C0 D hP P_nil hS (vx_runVX (As := [.int p2, .ref (ad 18)]) (rest := []) ⟨C.1, C.2.1, hml, C.2.2.1, C.2.2.2.1⟩ (metC_Shelf_says_N l hfl G (fun i => ad (18 + i)) pl H.size _ _ _ _ _ _ _ _ _ _ _ _ _ (sa (p1).toNatClampNeg) p2 (shAt_0 hshg1 c7) r10 hr10) (vx_cwVW (C := RX4) 2 C.2.2.2.1 (lw_VW q597 q598 q599 q84 q600) rfl rfl rfl (by decide +kernel) ⟨Nat.le_of_ble_eq_true rfl, Nat.le_of_ble_eq_true rfl⟩) (rr_preV C D hP hS [18, 19, 20, 21, 22, 23, 24, 25] sub_xW_rW_18 (by decide) rfl (n_recvH C hS (shAt_0 hshg1 c7) (show vwCl[13]? = some (RX4, TX4, 1) from rfl))) rfl rfl hl.1 rfl (lv_room (Nat.le_of_ble_eq_true rfl)) dX0_says_25 ⟨Nat.le_of_ble_eq_true rfl, Nat.le_of_ble_eq_true rfl⟩) xW_av rfl rfl mg_xW_rW_18 (fun hφ H locs hP _ hS => ?_) (fun w q H locs hw hq hc hP _ hS => ?_)
        · have hE := it_t hφ hE
          obtain rfl := Option.some.inj hE
          refine W.widen (k := 10) (n := 1220) (Nat.le_of_ble_eq_true rfl) (Nat.le_of_ble_eq_true rfl) ?_
          exact hret _ _ _ _ dX0_says_28 trivial hP hS
        · have hE := it_f (by rw [hw]; exact fun h => nomatch h) hE
          obtain ⟨q11, rfl⟩ : ∃ z, z = q := ⟨_, rfl⟩
          obtain rfl : w = (r10.1.getD 0) := by rw [hw]; rfl
          obtain ⟨ce, g1, g2, g3⟩ := t_cell C0 hc rfl
          refine t_catch (name := "HamsterWeekends$Refused") (E := "HamsterWeekends$Refused") C0 D [] ⟨0, 28, 29, 21⟩ [] htab (fun z hz => nomatch hz) rfl (by decide) q291 (List.mem_of_getElem? (i := 1) rfl) g1 g2 g3 ?_
          refine W.eq (g2 := F0 m 29 ls [.ref q11]) rfl ?_
          refine lv_astore_n (lv' := [(3, .ref q11), (0, .ref (ad 0)), (1, .int p1), (2, .int p2)]) C.1 C.2.1 dX0_says_29 rfl hl (by decide) rfl (fun ls hl => ?_)
          refine lv_aload_n C.1 C.2.1 dX0_says_30 rfl (lv_at hl 1 rfl) ?_
          refine lv_aload_n C.1 C.2.1 dX0_says_31 rfl (lv_at hl 0 rfl) ?_
          obtain ⟨r12, hr12, hE⟩ := it_b hE
          refine n_afterS C.2.2.2.2.2.2.2.1 hS (va_runV (As := [.ref q11]) (rest := []) ⟨C.1, C.2.1, hml, C.2.2.1, C.2.2.2.1⟩ (metC_HW_refused l G ad [(q11, .inr (18, xF (r10.1.getD 0)))] _ _ _ _ _ _ _ _ _ _ _ _ _ _ _ _ _ _ _ _ _ _ _ _ _ _ _ _ _ _ _ _ _ _ _ _ _ _ _ _ _ _ _ _ _ _ _ q11 (r10.1.getD 0) (List.mem_singleton.mpr rfl) r12 hr12) (cwV (C := RX0) 1 C.2.2.2.1 (lw_V q466 q468 qs2 q80 q469) rfl rfl rfl (by decide +kernel) ⟨Nat.le_of_ble_eq_true rfl, Nat.le_of_ble_eq_true rfl⟩) (t_preX C0 hP hc hq.1 (va_recv C.2.2.2.2.1 hP (ci := 16) (q0 := 0) rfl rfl)) rfl rfl hl.1 rfl (lv_room (Nat.le_of_ble_eq_true rfl)) dX0_says_32 ⟨Nat.le_of_ble_eq_true rfl, Nat.le_of_ble_eq_true rfl⟩) (fun H locs hP hS => ?_)
          obtain rfl := Option.some.inj hE
          refine W.widen (k := 10) (n := 1220) (Nat.le_of_ble_eq_true rfl) (Nat.le_of_ble_eq_true rfl) ?_
          exact hret _ _ _ _ dX0_says_35 trivial hP hS
      have hE := it_f c7 hE
      by_cases c8 : hd (p1).toNatClampNeg = 1
      · have hE := it_t c8 hE
        by_cases c13 : rs (p1).toNatClampNeg = 0
        · have hE := it_t c13 hE
          have hrwy14 := (shAt_1 hshg1 c8).2
          rw [c13] at hrwy14
          obtain ⟨r15, hr15, hE⟩ := it_b hE
          refine t_after [18, 19, 20, 21, 22, 23, 24, 25] C0 D hP P_nil hS (vx_runVX (As := [.int p2, .ref (ad 18)]) (rest := []) ⟨C.1, C.2.1, hml, C.2.2.1, C.2.2.2.1⟩ (metC_Shelf_says_R_0 l hfl G (fun i => ad (18 + i)) pl H.size _ _ _ _ _ _ _ _ _ _ _ _ _ (sa (p1).toNatClampNeg) (ra (p1).toNatClampNeg) (rb (p1).toNatClampNeg) (rn (p1).toNatClampNeg) (rc (p1).toNatClampNeg) p2 (shAt_1 hshg1 c8).1 hrwy14 r15 hr15) (vx_cwVW (C := RX4) 2 C.2.2.2.1 (lw_VW q597 q598 q599 q84 q600) rfl rfl rfl (by decide +kernel) ⟨Nat.le_of_ble_eq_true rfl, Nat.le_of_ble_eq_true rfl⟩) (rr_preV C D hP hS [18, 19, 20, 21, 22, 23, 24, 25] sub_xW_rW_18 (by decide) rfl (n_recvH C hS (shAt_1 hshg1 c8).1 (show vwCl[13]? = some (RX4, TX4, 1) from rfl))) rfl rfl hl.1 rfl (lv_room (Nat.le_of_ble_eq_true rfl)) dX0_says_25 ⟨Nat.le_of_ble_eq_true rfl, Nat.le_of_ble_eq_true rfl⟩) xW_av rfl rfl mg_xW_rW_18 (fun hφ H locs hP _ hS => ?_) (fun w q H locs hw hq hc hP _ hS => ?_)
          · have hE := it_t hφ hE
            obtain rfl := Option.some.inj hE
            refine W.widen (k := 10) (n := 1220) (Nat.le_of_ble_eq_true rfl) (Nat.le_of_ble_eq_true rfl) ?_
            exact hret _ _ _ _ dX0_says_28 trivial hP hS
          · have hE := it_f (by rw [hw]; exact fun h => nomatch h) hE
            obtain ⟨q16, rfl⟩ : ∃ z, z = q := ⟨_, rfl⟩
            obtain rfl : w = (r15.1.getD 0) := by rw [hw]; rfl
            obtain ⟨ce, g1, g2, g3⟩ := t_cell C0 hc rfl
            refine t_catch (name := "HamsterWeekends$Refused") (E := "HamsterWeekends$Refused") C0 D [] ⟨0, 28, 29, 21⟩ [] htab (fun z hz => nomatch hz) rfl (by decide) q291 (List.mem_of_getElem? (i := 1) rfl) g1 g2 g3 ?_
            refine W.eq (g2 := F0 m 29 ls [.ref q16]) rfl ?_
            refine lv_astore_n (lv' := [(3, .ref q16), (0, .ref (ad 0)), (1, .int p1), (2, .int p2)]) C.1 C.2.1 dX0_says_29 rfl hl (by decide) rfl (fun ls hl => ?_)
            refine lv_aload_n C.1 C.2.1 dX0_says_30 rfl (lv_at hl 1 rfl) ?_
            refine lv_aload_n C.1 C.2.1 dX0_says_31 rfl (lv_at hl 0 rfl) ?_
            obtain ⟨r17, hr17, hE⟩ := it_b hE
            refine n_afterS C.2.2.2.2.2.2.2.1 hS (va_runV (As := [.ref q16]) (rest := []) ⟨C.1, C.2.1, hml, C.2.2.1, C.2.2.2.1⟩ (metC_HW_refused l G ad [(q16, .inr (18, xF (r15.1.getD 0)))] _ _ _ _ _ _ _ _ _ _ _ _ _ _ _ _ _ _ _ _ _ _ _ _ _ _ _ _ _ _ _ _ _ _ _ _ _ _ _ _ _ _ _ _ _ _ _ q16 (r15.1.getD 0) (List.mem_singleton.mpr rfl) r17 hr17) (cwV (C := RX0) 1 C.2.2.2.1 (lw_V q466 q468 qs2 q80 q469) rfl rfl rfl (by decide +kernel) ⟨Nat.le_of_ble_eq_true rfl, Nat.le_of_ble_eq_true rfl⟩) (t_preX C0 hP hc hq.1 (va_recv C.2.2.2.2.1 hP (ci := 16) (q0 := 0) rfl rfl)) rfl rfl hl.1 rfl (lv_room (Nat.le_of_ble_eq_true rfl)) dX0_says_32 ⟨Nat.le_of_ble_eq_true rfl, Nat.le_of_ble_eq_true rfl⟩) (fun H locs hP hS => ?_)
            obtain rfl := Option.some.inj hE
            refine W.widen (k := 10) (n := 1220) (Nat.le_of_ble_eq_true rfl) (Nat.le_of_ble_eq_true rfl) ?_
            exact hret _ _ _ _ dX0_says_35 trivial hP hS
        have hE := it_f c13 hE
        by_cases c18 : rs (p1).toNatClampNeg = 1
        · have hE := it_t c18 hE
          have hrwy19 := (shAt_1 hshg1 c8).2
          rw [c18] at hrwy19
          obtain ⟨r20, hr20, hE⟩ := it_b hE
          refine t_after [18, 19, 20, 21, 22, 23, 24, 25] C0 D hP P_nil hS (vx_runVX (As := [.int p2, .ref (ad 18)]) (rest := []) ⟨C.1, C.2.1, hml, C.2.2.1, C.2.2.2.1⟩ (metC_Shelf_says_R_1 l hfl G (fun i => ad (18 + i)) pl H.size _ _ _ _ _ _ _ _ _ _ _ _ _ (sa (p1).toNatClampNeg) (ra (p1).toNatClampNeg) (rb (p1).toNatClampNeg) (rn (p1).toNatClampNeg) (rc (p1).toNatClampNeg) p2 (shAt_1 hshg1 c8).1 hrwy19 r20 hr20) (vx_cwVW (C := RX4) 2 C.2.2.2.1 (lw_VW q597 q598 q599 q84 q600) rfl rfl rfl (by decide +kernel) ⟨Nat.le_of_ble_eq_true rfl, Nat.le_of_ble_eq_true rfl⟩) (rr_preV C D hP hS [18, 19, 20, 21, 22, 23, 24, 25] sub_xW_rW_18 (by decide) rfl (n_recvH C hS (shAt_1 hshg1 c8).1 (show vwCl[13]? = some (RX4, TX4, 1) from rfl))) rfl rfl hl.1 rfl (lv_room (Nat.le_of_ble_eq_true rfl)) dX0_says_25 ⟨Nat.le_of_ble_eq_true rfl, Nat.le_of_ble_eq_true rfl⟩) xW_av rfl rfl mg_xW_rW_18 (fun hφ H locs hP _ hS => ?_) (fun w q H locs hw hq hc hP _ hS => ?_)
          · have hE := it_t hφ hE
            obtain rfl := Option.some.inj hE
            refine W.widen (k := 10) (n := 1220) (Nat.le_of_ble_eq_true rfl) (Nat.le_of_ble_eq_true rfl) ?_
            exact hret _ _ _ _ dX0_says_28 trivial hP hS
          · have hE := it_f (by rw [hw]; exact fun h => nomatch h) hE
            obtain ⟨q21, rfl⟩ : ∃ z, z = q := ⟨_, rfl⟩
            obtain rfl : w = (r20.1.getD 0) := by rw [hw]; rfl
            obtain ⟨ce, g1, g2, g3⟩ := t_cell C0 hc rfl
            refine t_catch (name := "HamsterWeekends$Refused") (E := "HamsterWeekends$Refused") C0 D [] ⟨0, 28, 29, 21⟩ [] htab (fun z hz => nomatch hz) rfl (by decide) q291 (List.mem_of_getElem? (i := 1) rfl) g1 g2 g3 ?_
            refine W.eq (g2 := F0 m 29 ls [.ref q21]) rfl ?_
            refine lv_astore_n (lv' := [(3, .ref q21), (0, .ref (ad 0)), (1, .int p1), (2, .int p2)]) C.1 C.2.1 dX0_says_29 rfl hl (by decide) rfl (fun ls hl => ?_)
            refine lv_aload_n C.1 C.2.1 dX0_says_30 rfl (lv_at hl 1 rfl) ?_
            refine lv_aload_n C.1 C.2.1 dX0_says_31 rfl (lv_at hl 0 rfl) ?_
            obtain ⟨r22, hr22, hE⟩ := it_b hE
            refine n_afterS C.2.2.2.2.2.2.2.1 hS (va_runV (As := [.ref q21]) (rest := []) ⟨C.1, C.2.1, hml, C.2.2.1, C.2.2.2.1⟩ (metC_HW_refused l G ad [(q21, .inr (18, xF (r20.1.getD 0)))] _ _ _ _ _ _ _ _ _ _ _ _ _ _ _ _ _ _ _ _ _ _ _ _ _ _ _ _ _ _ _ _ _ _ _ _ _ _ _ _ _ _ _ _ _ _ _ q21 (r20.1.getD 0) (List.mem_singleton.mpr rfl) r22 hr22) (cwV (C := RX0) 1 C.2.2.2.1 (lw_V q466 q468 qs2 q80 q469) rfl rfl rfl (by decide +kernel) ⟨Nat.le_of_ble_eq_true rfl, Nat.le_of_ble_eq_true rfl⟩) (t_preX C0 hP hc hq.1 (va_recv C.2.2.2.2.1 hP (ci := 16) (q0 := 0) rfl rfl)) rfl rfl hl.1 rfl (lv_room (Nat.le_of_ble_eq_true rfl)) dX0_says_32 ⟨Nat.le_of_ble_eq_true rfl, Nat.le_of_ble_eq_true rfl⟩) (fun H locs hP hS => ?_)
            obtain rfl := Option.some.inj hE
            refine W.widen (k := 10) (n := 1220) (Nat.le_of_ble_eq_true rfl) (Nat.le_of_ble_eq_true rfl) ?_
            exact hret _ _ _ _ dX0_says_35 trivial hP hS
        have hE := it_f c18 hE
        by_cases c23 : rs (p1).toNatClampNeg = 2
        · have hE := it_t c23 hE
          have hrwy24 := (shAt_1 hshg1 c8).2
          rw [c23] at hrwy24
          obtain ⟨r25, hr25, hE⟩ := it_b hE
          refine t_after [18, 19, 20, 21, 22, 23, 24, 25] C0 D hP P_nil hS (vx_runVX (As := [.int p2, .ref (ad 18)]) (rest := []) ⟨C.1, C.2.1, hml, C.2.2.1, C.2.2.2.1⟩ (metC_Shelf_says_R_2 l hfl G (fun i => ad (18 + i)) pl H.size _ _ _ _ _ _ _ _ _ _ _ _ _ (sa (p1).toNatClampNeg) (ra (p1).toNatClampNeg) (rb (p1).toNatClampNeg) (rn (p1).toNatClampNeg) (rc (p1).toNatClampNeg) p2 (shAt_1 hshg1 c8).1 hrwy24 r25 hr25) (vx_cwVW (C := RX4) 2 C.2.2.2.1 (lw_VW q597 q598 q599 q84 q600) rfl rfl rfl (by decide +kernel) ⟨Nat.le_of_ble_eq_true rfl, Nat.le_of_ble_eq_true rfl⟩) (rr_preV C D hP hS [18, 19, 20, 21, 22, 23, 24, 25] sub_xW_rW_18 (by decide) rfl (n_recvH C hS (shAt_1 hshg1 c8).1 (show vwCl[13]? = some (RX4, TX4, 1) from rfl))) rfl rfl hl.1 rfl (lv_room (Nat.le_of_ble_eq_true rfl)) dX0_says_25 ⟨Nat.le_of_ble_eq_true rfl, Nat.le_of_ble_eq_true rfl⟩) xW_av rfl rfl mg_xW_rW_18 (fun hφ H locs hP _ hS => ?_) (fun w q H locs hw hq hc hP _ hS => ?_)
          · have hE := it_t hφ hE
            obtain rfl := Option.some.inj hE
            refine W.widen (k := 10) (n := 1220) (Nat.le_of_ble_eq_true rfl) (Nat.le_of_ble_eq_true rfl) ?_
            exact hret _ _ _ _ dX0_says_28 trivial hP hS
          · have hE := it_f (by rw [hw]; exact fun h => nomatch h) hE
            obtain ⟨q26, rfl⟩ : ∃ z, z = q := ⟨_, rfl⟩
            obtain rfl : w = (r25.1.getD 0) := by rw [hw]; rfl
            obtain ⟨ce, g1, g2, g3⟩ := t_cell C0 hc rfl
            refine t_catch (name := "HamsterWeekends$Refused") (E := "HamsterWeekends$Refused") C0 D [] ⟨0, 28, 29, 21⟩ [] htab (fun z hz => nomatch hz) rfl (by decide) q291 (List.mem_of_getElem? (i := 1) rfl) g1 g2 g3 ?_
            refine W.eq (g2 := F0 m 29 ls [.ref q26]) rfl ?_
            refine lv_astore_n (lv' := [(3, .ref q26), (0, .ref (ad 0)), (1, .int p1), (2, .int p2)]) C.1 C.2.1 dX0_says_29 rfl hl (by decide) rfl (fun ls hl => ?_)
            refine lv_aload_n C.1 C.2.1 dX0_says_30 rfl (lv_at hl 1 rfl) ?_
            refine lv_aload_n C.1 C.2.1 dX0_says_31 rfl (lv_at hl 0 rfl) ?_
            obtain ⟨r27, hr27, hE⟩ := it_b hE
            refine n_afterS C.2.2.2.2.2.2.2.1 hS (va_runV (As := [.ref q26]) (rest := []) ⟨C.1, C.2.1, hml, C.2.2.1, C.2.2.2.1⟩ (metC_HW_refused l G ad [(q26, .inr (18, xF (r25.1.getD 0)))] _ _ _ _ _ _ _ _ _ _ _ _ _ _ _ _ _ _ _ _ _ _ _ _ _ _ _ _ _ _ _ _ _ _ _ _ _ _ _ _ _ _ _ _ _ _ _ q26 (r25.1.getD 0) (List.mem_singleton.mpr rfl) r27 hr27) (cwV (C := RX0) 1 C.2.2.2.1 (lw_V q466 q468 qs2 q80 q469) rfl rfl rfl (by decide +kernel) ⟨Nat.le_of_ble_eq_true rfl, Nat.le_of_ble_eq_true rfl⟩) (t_preX C0 hP hc hq.1 (va_recv C.2.2.2.2.1 hP (ci := 16) (q0 := 0) rfl rfl)) rfl rfl hl.1 rfl (lv_room (Nat.le_of_ble_eq_true rfl)) dX0_says_32 ⟨Nat.le_of_ble_eq_true rfl, Nat.le_of_ble_eq_true rfl⟩) (fun H locs hP hS => ?_)
            obtain rfl := Option.some.inj hE
            refine W.widen (k := 10) (n := 1220) (Nat.le_of_ble_eq_true rfl) (Nat.le_of_ble_eq_true rfl) ?_
            exact hret _ _ _ _ dX0_says_35 trivial hP hS
        have hE := it_f c23 hE
        by_cases c28 : rs (p1).toNatClampNeg = 3
        · have hE := it_t c28 hE
          have hrwy29 := (shAt_1 hshg1 c8).2
          rw [c28] at hrwy29
          obtain ⟨r30, hr30, hE⟩ := it_b hE
          refine t_after [18, 19, 20, 21, 22, 23, 24, 25] C0 D hP P_nil hS (vx_runVX (As := [.int p2, .ref (ad 18)]) (rest := []) ⟨C.1, C.2.1, hml, C.2.2.1, C.2.2.2.1⟩ (metC_Shelf_says_R_3 l hfl G (fun i => ad (18 + i)) pl H.size _ _ _ _ _ _ _ _ _ _ _ _ _ (sa (p1).toNatClampNeg) (ra (p1).toNatClampNeg) (rb (p1).toNatClampNeg) (rn (p1).toNatClampNeg) (rc (p1).toNatClampNeg) p2 (shAt_1 hshg1 c8).1 hrwy29 r30 hr30) (vx_cwVW (C := RX4) 2 C.2.2.2.1 (lw_VW q597 q598 q599 q84 q600) rfl rfl rfl (by decide +kernel) ⟨Nat.le_of_ble_eq_true rfl, Nat.le_of_ble_eq_true rfl⟩) (rr_preV C D hP hS [18, 19, 20, 21, 22, 23, 24, 25] sub_xW_rW_18 (by decide) rfl (n_recvH C hS (shAt_1 hshg1 c8).1 (show vwCl[13]? = some (RX4, TX4, 1) from rfl))) rfl rfl hl.1 rfl (lv_room (Nat.le_of_ble_eq_true rfl)) dX0_says_25 ⟨Nat.le_of_ble_eq_true rfl, Nat.le_of_ble_eq_true rfl⟩) xW_av rfl rfl mg_xW_rW_18 (fun hφ H locs hP _ hS => ?_) (fun w q H locs hw hq hc hP _ hS => ?_)
          · have hE := it_t hφ hE
            obtain rfl := Option.some.inj hE
            refine W.widen (k := 10) (n := 1220) (Nat.le_of_ble_eq_true rfl) (Nat.le_of_ble_eq_true rfl) ?_
            exact hret _ _ _ _ dX0_says_28 trivial hP hS
          · have hE := it_f (by rw [hw]; exact fun h => nomatch h) hE
            obtain ⟨q31, rfl⟩ : ∃ z, z = q := ⟨_, rfl⟩
            obtain rfl : w = (r30.1.getD 0) := by rw [hw]; rfl
            obtain ⟨ce, g1, g2, g3⟩ := t_cell C0 hc rfl
            refine t_catch (name := "HamsterWeekends$Refused") (E := "HamsterWeekends$Refused") C0 D [] ⟨0, 28, 29, 21⟩ [] htab (fun z hz => nomatch hz) rfl (by decide) q291 (List.mem_of_getElem? (i := 1) rfl) g1 g2 g3 ?_
            refine W.eq (g2 := F0 m 29 ls [.ref q31]) rfl ?_
            refine lv_astore_n (lv' := [(3, .ref q31), (0, .ref (ad 0)), (1, .int p1), (2, .int p2)]) C.1 C.2.1 dX0_says_29 rfl hl (by decide) rfl (fun ls hl => ?_)
            refine lv_aload_n C.1 C.2.1 dX0_says_30 rfl (lv_at hl 1 rfl) ?_
            refine lv_aload_n C.1 C.2.1 dX0_says_31 rfl (lv_at hl 0 rfl) ?_
            obtain ⟨r32, hr32, hE⟩ := it_b hE
            refine n_afterS C.2.2.2.2.2.2.2.1 hS (va_runV (As := [.ref q31]) (rest := []) ⟨C.1, C.2.1, hml, C.2.2.1, C.2.2.2.1⟩ (metC_HW_refused l G ad [(q31, .inr (18, xF (r30.1.getD 0)))] _ _ _ _ _ _ _ _ _ _ _ _ _ _ _ _ _ _ _ _ _ _ _ _ _ _ _ _ _ _ _ _ _ _ _ _ _ _ _ _ _ _ _ _ _ _ _ q31 (r30.1.getD 0) (List.mem_singleton.mpr rfl) r32 hr32) (cwV (C := RX0) 1 C.2.2.2.1 (lw_V q466 q468 qs2 q80 q469) rfl rfl rfl (by decide +kernel) ⟨Nat.le_of_ble_eq_true rfl, Nat.le_of_ble_eq_true rfl⟩) (t_preX C0 hP hc hq.1 (va_recv C.2.2.2.2.1 hP (ci := 16) (q0 := 0) rfl rfl)) rfl rfl hl.1 rfl (lv_room (Nat.le_of_ble_eq_true rfl)) dX0_says_32 ⟨Nat.le_of_ble_eq_true rfl, Nat.le_of_ble_eq_true rfl⟩) (fun H locs hP hS => ?_)
            obtain rfl := Option.some.inj hE
            refine W.widen (k := 10) (n := 1220) (Nat.le_of_ble_eq_true rfl) (Nat.le_of_ble_eq_true rfl) ?_
            exact hret _ _ _ _ dX0_says_35 trivial hP hS
        have hE := it_f c28 hE
        exact it_n hE
      have hE := it_f c8 hE
      by_cases c9 : hd (p1).toNatClampNeg = 2
      · have hE := it_t c9 hE
        by_cases c33 : sk (p1).toNatClampNeg = 0
        · have hE := it_t c33 hE
          have hhoy34 := (shAt_2 hshg1 c9).2.2
          rw [c33] at hhoy34
          obtain ⟨r35, hr35, hE⟩ := it_b hE
          refine t_after [18, 19, 20, 21, 22, 23, 24, 25] C0 D hP P_nil hS (vx_runVX (As := [.int p2, .ref (ad 18)]) (rest := []) ⟨C.1, C.2.1, hml, C.2.2.1, C.2.2.2.1⟩ (metC_Shelf_says_H_0 l hfl G (fun i => ad (18 + i)) pl H.size _ _ _ _ _ _ _ _ _ _ _ _ _ (sa (p1).toNatClampNeg) (ra (p1).toNatClampNeg) (si (p1).toNatClampNeg) (sb (p1).toNatClampNeg) p2 (shAt_2 hshg1 c9).1 hhoy34 r35 hr35) (vx_cwVW (C := RX4) 2 C.2.2.2.1 (lw_VW q597 q598 q599 q84 q600) rfl rfl rfl (by decide +kernel) ⟨Nat.le_of_ble_eq_true rfl, Nat.le_of_ble_eq_true rfl⟩) (rr_preV C D hP hS [18, 19, 20, 21, 22, 23, 24, 25] sub_xW_rW_18 (by decide) rfl (n_recvH C hS (shAt_2 hshg1 c9).1 (show vwCl[13]? = some (RX4, TX4, 1) from rfl))) rfl rfl hl.1 rfl (lv_room (Nat.le_of_ble_eq_true rfl)) dX0_says_25 ⟨Nat.le_of_ble_eq_true rfl, Nat.le_of_ble_eq_true rfl⟩) xW_av rfl rfl mg_xW_rW_18 (fun hφ H locs hP _ hS => ?_) (fun w q H locs hw hq hc hP _ hS => ?_)
          · have hE := it_t hφ hE
            obtain rfl := Option.some.inj hE
            exact hret _ _ _ _ dX0_says_28 trivial hP hS
          · have hE := it_f (by rw [hw]; exact fun h => nomatch h) hE
            obtain ⟨q36, rfl⟩ : ∃ z, z = q := ⟨_, rfl⟩
            obtain rfl : w = (r35.1.getD 0) := by rw [hw]; rfl
            obtain ⟨ce, g1, g2, g3⟩ := t_cell C0 hc rfl
            refine t_catch (name := "HamsterWeekends$Refused") (E := "HamsterWeekends$Refused") C0 D [] ⟨0, 28, 29, 21⟩ [] htab (fun z hz => nomatch hz) rfl (by decide) q291 (List.mem_of_getElem? (i := 1) rfl) g1 g2 g3 ?_
            refine W.eq (g2 := F0 m 29 ls [.ref q36]) rfl ?_
            refine lv_astore_n (lv' := [(3, .ref q36), (0, .ref (ad 0)), (1, .int p1), (2, .int p2)]) C.1 C.2.1 dX0_says_29 rfl hl (by decide) rfl (fun ls hl => ?_)
            refine lv_aload_n C.1 C.2.1 dX0_says_30 rfl (lv_at hl 1 rfl) ?_
            refine lv_aload_n C.1 C.2.1 dX0_says_31 rfl (lv_at hl 0 rfl) ?_
            obtain ⟨r37, hr37, hE⟩ := it_b hE
            refine n_afterS C.2.2.2.2.2.2.2.1 hS (va_runV (As := [.ref q36]) (rest := []) ⟨C.1, C.2.1, hml, C.2.2.1, C.2.2.2.1⟩ (metC_HW_refused l G ad [(q36, .inr (18, xF (r35.1.getD 0)))] _ _ _ _ _ _ _ _ _ _ _ _ _ _ _ _ _ _ _ _ _ _ _ _ _ _ _ _ _ _ _ _ _ _ _ _ _ _ _ _ _ _ _ _ _ _ _ q36 (r35.1.getD 0) (List.mem_singleton.mpr rfl) r37 hr37) (cwV (C := RX0) 1 C.2.2.2.1 (lw_V q466 q468 qs2 q80 q469) rfl rfl rfl (by decide +kernel) ⟨Nat.le_of_ble_eq_true rfl, Nat.le_of_ble_eq_true rfl⟩) (t_preX C0 hP hc hq.1 (va_recv C.2.2.2.2.1 hP (ci := 16) (q0 := 0) rfl rfl)) rfl rfl hl.1 rfl (lv_room (Nat.le_of_ble_eq_true rfl)) dX0_says_32 ⟨Nat.le_of_ble_eq_true rfl, Nat.le_of_ble_eq_true rfl⟩) (fun H locs hP hS => ?_)
            obtain rfl := Option.some.inj hE
            exact hret _ _ _ _ dX0_says_35 trivial hP hS
        have hE := it_f c33 hE
        by_cases c38 : sk (p1).toNatClampNeg = 1
        · have hE := it_t c38 hE
          have hhoy39 := (shAt_2 hshg1 c9).2.2
          rw [c38] at hhoy39
          obtain ⟨r40, hr40, hE⟩ := it_b hE
          refine t_after [18, 19, 20, 21, 22, 23, 24, 25] C0 D hP P_nil hS (vx_runVX (As := [.int p2, .ref (ad 18)]) (rest := []) ⟨C.1, C.2.1, hml, C.2.2.1, C.2.2.2.1⟩ (metC_Shelf_says_H_1 l hfl G (fun i => ad (18 + i)) pl H.size _ _ _ _ _ _ _ _ _ _ _ _ _ (sa (p1).toNatClampNeg) (ra (p1).toNatClampNeg) (si (p1).toNatClampNeg) (sb (p1).toNatClampNeg) p2 (shAt_2 hshg1 c9).1 hhoy39 r40 hr40) (vx_cwVW (C := RX4) 2 C.2.2.2.1 (lw_VW q597 q598 q599 q84 q600) rfl rfl rfl (by decide +kernel) ⟨Nat.le_of_ble_eq_true rfl, Nat.le_of_ble_eq_true rfl⟩) (rr_preV C D hP hS [18, 19, 20, 21, 22, 23, 24, 25] sub_xW_rW_18 (by decide) rfl (n_recvH C hS (shAt_2 hshg1 c9).1 (show vwCl[13]? = some (RX4, TX4, 1) from rfl))) rfl rfl hl.1 rfl (lv_room (Nat.le_of_ble_eq_true rfl)) dX0_says_25 ⟨Nat.le_of_ble_eq_true rfl, Nat.le_of_ble_eq_true rfl⟩) xW_av rfl rfl mg_xW_rW_18 (fun hφ H locs hP _ hS => ?_) (fun w q H locs hw hq hc hP _ hS => ?_)
          · have hE := it_t hφ hE
            obtain rfl := Option.some.inj hE
            exact hret _ _ _ _ dX0_says_28 trivial hP hS
          · have hE := it_f (by rw [hw]; exact fun h => nomatch h) hE
            obtain ⟨q41, rfl⟩ : ∃ z, z = q := ⟨_, rfl⟩
            obtain rfl : w = (r40.1.getD 0) := by rw [hw]; rfl
            obtain ⟨ce, g1, g2, g3⟩ := t_cell C0 hc rfl
            refine t_catch (name := "HamsterWeekends$Refused") (E := "HamsterWeekends$Refused") C0 D [] ⟨0, 28, 29, 21⟩ [] htab (fun z hz => nomatch hz) rfl (by decide) q291 (List.mem_of_getElem? (i := 1) rfl) g1 g2 g3 ?_
            refine W.eq (g2 := F0 m 29 ls [.ref q41]) rfl ?_
            refine lv_astore_n (lv' := [(3, .ref q41), (0, .ref (ad 0)), (1, .int p1), (2, .int p2)]) C.1 C.2.1 dX0_says_29 rfl hl (by decide) rfl (fun ls hl => ?_)
            refine lv_aload_n C.1 C.2.1 dX0_says_30 rfl (lv_at hl 1 rfl) ?_
            refine lv_aload_n C.1 C.2.1 dX0_says_31 rfl (lv_at hl 0 rfl) ?_
            obtain ⟨r42, hr42, hE⟩ := it_b hE
            refine n_afterS C.2.2.2.2.2.2.2.1 hS (va_runV (As := [.ref q41]) (rest := []) ⟨C.1, C.2.1, hml, C.2.2.1, C.2.2.2.1⟩ (metC_HW_refused l G ad [(q41, .inr (18, xF (r40.1.getD 0)))] _ _ _ _ _ _ _ _ _ _ _ _ _ _ _ _ _ _ _ _ _ _ _ _ _ _ _ _ _ _ _ _ _ _ _ _ _ _ _ _ _ _ _ _ _ _ _ q41 (r40.1.getD 0) (List.mem_singleton.mpr rfl) r42 hr42) (cwV (C := RX0) 1 C.2.2.2.1 (lw_V q466 q468 qs2 q80 q469) rfl rfl rfl (by decide +kernel) ⟨Nat.le_of_ble_eq_true rfl, Nat.le_of_ble_eq_true rfl⟩) (t_preX C0 hP hc hq.1 (va_recv C.2.2.2.2.1 hP (ci := 16) (q0 := 0) rfl rfl)) rfl rfl hl.1 rfl (lv_room (Nat.le_of_ble_eq_true rfl)) dX0_says_32 ⟨Nat.le_of_ble_eq_true rfl, Nat.le_of_ble_eq_true rfl⟩) (fun H locs hP hS => ?_)
            obtain rfl := Option.some.inj hE
            exact hret _ _ _ _ dX0_says_35 trivial hP hS
        have hE := it_f c38 hE
        by_cases c43 : sk (p1).toNatClampNeg = 2
        · have hE := it_t c43 hE
          have hhoy44 := (shAt_2 hshg1 c9).2.2
          rw [c43] at hhoy44
          obtain ⟨r45, hr45, hE⟩ := it_b hE
          refine t_after [18, 19, 20, 21, 22, 23, 24, 25] C0 D hP P_nil hS (vx_runVX (As := [.int p2, .ref (ad 18)]) (rest := []) ⟨C.1, C.2.1, hml, C.2.2.1, C.2.2.2.1⟩ (metC_Shelf_says_H_2 l hfl G (fun i => ad (18 + i)) pl H.size _ _ _ _ _ _ _ _ _ _ _ _ _ (sa (p1).toNatClampNeg) (ra (p1).toNatClampNeg) (si (p1).toNatClampNeg) (sb (p1).toNatClampNeg) p2 (shAt_2 hshg1 c9).1 hhoy44 r45 hr45) (vx_cwVW (C := RX4) 2 C.2.2.2.1 (lw_VW q597 q598 q599 q84 q600) rfl rfl rfl (by decide +kernel) ⟨Nat.le_of_ble_eq_true rfl, Nat.le_of_ble_eq_true rfl⟩) (rr_preV C D hP hS [18, 19, 20, 21, 22, 23, 24, 25] sub_xW_rW_18 (by decide) rfl (n_recvH C hS (shAt_2 hshg1 c9).1 (show vwCl[13]? = some (RX4, TX4, 1) from rfl))) rfl rfl hl.1 rfl (lv_room (Nat.le_of_ble_eq_true rfl)) dX0_says_25 ⟨Nat.le_of_ble_eq_true rfl, Nat.le_of_ble_eq_true rfl⟩) xW_av rfl rfl mg_xW_rW_18 (fun hφ H locs hP _ hS => ?_) (fun w q H locs hw hq hc hP _ hS => ?_)
          · have hE := it_t hφ hE
            obtain rfl := Option.some.inj hE
            exact hret _ _ _ _ dX0_says_28 trivial hP hS
          · have hE := it_f (by rw [hw]; exact fun h => nomatch h) hE
            obtain ⟨q46, rfl⟩ : ∃ z, z = q := ⟨_, rfl⟩
            obtain rfl : w = (r45.1.getD 0) := by rw [hw]; rfl
            obtain ⟨ce, g1, g2, g3⟩ := t_cell C0 hc rfl
            refine t_catch (name := "HamsterWeekends$Refused") (E := "HamsterWeekends$Refused") C0 D [] ⟨0, 28, 29, 21⟩ [] htab (fun z hz => nomatch hz) rfl (by decide) q291 (List.mem_of_getElem? (i := 1) rfl) g1 g2 g3 ?_
            refine W.eq (g2 := F0 m 29 ls [.ref q46]) rfl ?_
            refine lv_astore_n (lv' := [(3, .ref q46), (0, .ref (ad 0)), (1, .int p1), (2, .int p2)]) C.1 C.2.1 dX0_says_29 rfl hl (by decide) rfl (fun ls hl => ?_)
            refine lv_aload_n C.1 C.2.1 dX0_says_30 rfl (lv_at hl 1 rfl) ?_
            refine lv_aload_n C.1 C.2.1 dX0_says_31 rfl (lv_at hl 0 rfl) ?_
            obtain ⟨r47, hr47, hE⟩ := it_b hE
            refine n_afterS C.2.2.2.2.2.2.2.1 hS (va_runV (As := [.ref q46]) (rest := []) ⟨C.1, C.2.1, hml, C.2.2.1, C.2.2.2.1⟩ (metC_HW_refused l G ad [(q46, .inr (18, xF (r45.1.getD 0)))] _ _ _ _ _ _ _ _ _ _ _ _ _ _ _ _ _ _ _ _ _ _ _ _ _ _ _ _ _ _ _ _ _ _ _ _ _ _ _ _ _ _ _ _ _ _ _ q46 (r45.1.getD 0) (List.mem_singleton.mpr rfl) r47 hr47) (cwV (C := RX0) 1 C.2.2.2.1 (lw_V q466 q468 qs2 q80 q469) rfl rfl rfl (by decide +kernel) ⟨Nat.le_of_ble_eq_true rfl, Nat.le_of_ble_eq_true rfl⟩) (t_preX C0 hP hc hq.1 (va_recv C.2.2.2.2.1 hP (ci := 16) (q0 := 0) rfl rfl)) rfl rfl hl.1 rfl (lv_room (Nat.le_of_ble_eq_true rfl)) dX0_says_32 ⟨Nat.le_of_ble_eq_true rfl, Nat.le_of_ble_eq_true rfl⟩) (fun H locs hP hS => ?_)
            obtain rfl := Option.some.inj hE
            exact hret _ _ _ _ dX0_says_35 trivial hP hS
        have hE := it_f c43 hE
        by_cases c48 : sk (p1).toNatClampNeg = 3
        · have hE := it_t c48 hE
          have hhoy49 := (shAt_2 hshg1 c9).2.2
          rw [c48] at hhoy49
          obtain ⟨r50, hr50, hE⟩ := it_b hE
          refine t_after [18, 19, 20, 21, 22, 23, 24, 25] C0 D hP P_nil hS (vx_runVX (As := [.int p2, .ref (ad 18)]) (rest := []) ⟨C.1, C.2.1, hml, C.2.2.1, C.2.2.2.1⟩ (metC_Shelf_says_H_3 l hfl G (fun i => ad (18 + i)) pl H.size _ _ _ _ _ _ _ _ _ _ _ _ _ (sa (p1).toNatClampNeg) (ra (p1).toNatClampNeg) (si (p1).toNatClampNeg) (sb (p1).toNatClampNeg) p2 (shAt_2 hshg1 c9).1 hhoy49 r50 hr50) (vx_cwVW (C := RX4) 2 C.2.2.2.1 (lw_VW q597 q598 q599 q84 q600) rfl rfl rfl (by decide +kernel) ⟨Nat.le_of_ble_eq_true rfl, Nat.le_of_ble_eq_true rfl⟩) (rr_preV C D hP hS [18, 19, 20, 21, 22, 23, 24, 25] sub_xW_rW_18 (by decide) rfl (n_recvH C hS (shAt_2 hshg1 c9).1 (show vwCl[13]? = some (RX4, TX4, 1) from rfl))) rfl rfl hl.1 rfl (lv_room (Nat.le_of_ble_eq_true rfl)) dX0_says_25 ⟨Nat.le_of_ble_eq_true rfl, Nat.le_of_ble_eq_true rfl⟩) xW_av rfl rfl mg_xW_rW_18 (fun hφ H locs hP _ hS => ?_) (fun w q H locs hw hq hc hP _ hS => ?_)
          · have hE := it_t hφ hE
            obtain rfl := Option.some.inj hE
            exact hret _ _ _ _ dX0_says_28 trivial hP hS
          · have hE := it_f (by rw [hw]; exact fun h => nomatch h) hE
            obtain ⟨q51, rfl⟩ : ∃ z, z = q := ⟨_, rfl⟩
            obtain rfl : w = (r50.1.getD 0) := by rw [hw]; rfl
            obtain ⟨ce, g1, g2, g3⟩ := t_cell C0 hc rfl
            refine t_catch (name := "HamsterWeekends$Refused") (E := "HamsterWeekends$Refused") C0 D [] ⟨0, 28, 29, 21⟩ [] htab (fun z hz => nomatch hz) rfl (by decide) q291 (List.mem_of_getElem? (i := 1) rfl) g1 g2 g3 ?_
            refine W.eq (g2 := F0 m 29 ls [.ref q51]) rfl ?_
            refine lv_astore_n (lv' := [(3, .ref q51), (0, .ref (ad 0)), (1, .int p1), (2, .int p2)]) C.1 C.2.1 dX0_says_29 rfl hl (by decide) rfl (fun ls hl => ?_)
            refine lv_aload_n C.1 C.2.1 dX0_says_30 rfl (lv_at hl 1 rfl) ?_
            refine lv_aload_n C.1 C.2.1 dX0_says_31 rfl (lv_at hl 0 rfl) ?_
            obtain ⟨r52, hr52, hE⟩ := it_b hE
            refine n_afterS C.2.2.2.2.2.2.2.1 hS (va_runV (As := [.ref q51]) (rest := []) ⟨C.1, C.2.1, hml, C.2.2.1, C.2.2.2.1⟩ (metC_HW_refused l G ad [(q51, .inr (18, xF (r50.1.getD 0)))] _ _ _ _ _ _ _ _ _ _ _ _ _ _ _ _ _ _ _ _ _ _ _ _ _ _ _ _ _ _ _ _ _ _ _ _ _ _ _ _ _ _ _ _ _ _ _ q51 (r50.1.getD 0) (List.mem_singleton.mpr rfl) r52 hr52) (cwV (C := RX0) 1 C.2.2.2.1 (lw_V q466 q468 qs2 q80 q469) rfl rfl rfl (by decide +kernel) ⟨Nat.le_of_ble_eq_true rfl, Nat.le_of_ble_eq_true rfl⟩) (t_preX C0 hP hc hq.1 (va_recv C.2.2.2.2.1 hP (ci := 16) (q0 := 0) rfl rfl)) rfl rfl hl.1 rfl (lv_room (Nat.le_of_ble_eq_true rfl)) dX0_says_32 ⟨Nat.le_of_ble_eq_true rfl, Nat.le_of_ble_eq_true rfl⟩) (fun H locs hP hS => ?_)
            obtain rfl := Option.some.inj hE
            exact hret _ _ _ _ dX0_says_35 trivial hP hS
        have hE := it_f c48 hE
        by_cases c53 : sk (p1).toNatClampNeg = 4
        · have hE := it_t c53 hE
          have hhoy54 := (shAt_2 hshg1 c9).2.2
          rw [c53] at hhoy54
          obtain ⟨r55, hr55, hE⟩ := it_b hE
          refine t_after [18, 19, 20, 21, 22, 23, 24, 25] C0 D hP P_nil hS (vx_runVX (As := [.int p2, .ref (ad 18)]) (rest := []) ⟨C.1, C.2.1, hml, C.2.2.1, C.2.2.2.1⟩ (metC_Shelf_says_H_4 l hfl G (fun i => ad (18 + i)) pl H.size _ _ _ _ _ _ _ _ _ _ _ _ _ (sa (p1).toNatClampNeg) (ra (p1).toNatClampNeg) (si (p1).toNatClampNeg) (sb (p1).toNatClampNeg) p2 (shAt_2 hshg1 c9).1 hhoy54 r55 hr55) (vx_cwVW (C := RX4) 2 C.2.2.2.1 (lw_VW q597 q598 q599 q84 q600) rfl rfl rfl (by decide +kernel) ⟨Nat.le_of_ble_eq_true rfl, Nat.le_of_ble_eq_true rfl⟩) (rr_preV C D hP hS [18, 19, 20, 21, 22, 23, 24, 25] sub_xW_rW_18 (by decide) rfl (n_recvH C hS (shAt_2 hshg1 c9).1 (show vwCl[13]? = some (RX4, TX4, 1) from rfl))) rfl rfl hl.1 rfl (lv_room (Nat.le_of_ble_eq_true rfl)) dX0_says_25 ⟨Nat.le_of_ble_eq_true rfl, Nat.le_of_ble_eq_true rfl⟩) xW_av rfl rfl mg_xW_rW_18 (fun hφ H locs hP _ hS => ?_) (fun w q H locs hw hq hc hP _ hS => ?_)
          · have hE := it_t hφ hE
            obtain rfl := Option.some.inj hE
            exact hret _ _ _ _ dX0_says_28 trivial hP hS
          · have hE := it_f (by rw [hw]; exact fun h => nomatch h) hE
            obtain ⟨q56, rfl⟩ : ∃ z, z = q := ⟨_, rfl⟩
            obtain rfl : w = (r55.1.getD 0) := by rw [hw]; rfl
            obtain ⟨ce, g1, g2, g3⟩ := t_cell C0 hc rfl
            refine t_catch (name := "HamsterWeekends$Refused") (E := "HamsterWeekends$Refused") C0 D [] ⟨0, 28, 29, 21⟩ [] htab (fun z hz => nomatch hz) rfl (by decide) q291 (List.mem_of_getElem? (i := 1) rfl) g1 g2 g3 ?_
            refine W.eq (g2 := F0 m 29 ls [.ref q56]) rfl ?_
            refine lv_astore_n (lv' := [(3, .ref q56), (0, .ref (ad 0)), (1, .int p1), (2, .int p2)]) C.1 C.2.1 dX0_says_29 rfl hl (by decide) rfl (fun ls hl => ?_)
            refine lv_aload_n C.1 C.2.1 dX0_says_30 rfl (lv_at hl 1 rfl) ?_
            refine lv_aload_n C.1 C.2.1 dX0_says_31 rfl (lv_at hl 0 rfl) ?_
            obtain ⟨r57, hr57, hE⟩ := it_b hE
            refine n_afterS C.2.2.2.2.2.2.2.1 hS (va_runV (As := [.ref q56]) (rest := []) ⟨C.1, C.2.1, hml, C.2.2.1, C.2.2.2.1⟩ (metC_HW_refused l G ad [(q56, .inr (18, xF (r55.1.getD 0)))] _ _ _ _ _ _ _ _ _ _ _ _ _ _ _ _ _ _ _ _ _ _ _ _ _ _ _ _ _ _ _ _ _ _ _ _ _ _ _ _ _ _ _ _ _ _ _ q56 (r55.1.getD 0) (List.mem_singleton.mpr rfl) r57 hr57) (cwV (C := RX0) 1 C.2.2.2.1 (lw_V q466 q468 qs2 q80 q469) rfl rfl rfl (by decide +kernel) ⟨Nat.le_of_ble_eq_true rfl, Nat.le_of_ble_eq_true rfl⟩) (t_preX C0 hP hc hq.1 (va_recv C.2.2.2.2.1 hP (ci := 16) (q0 := 0) rfl rfl)) rfl rfl hl.1 rfl (lv_room (Nat.le_of_ble_eq_true rfl)) dX0_says_32 ⟨Nat.le_of_ble_eq_true rfl, Nat.le_of_ble_eq_true rfl⟩) (fun H locs hP hS => ?_)
            obtain rfl := Option.some.inj hE
            exact hret _ _ _ _ dX0_says_35 trivial hP hS
        have hE := it_f c53 hE
        by_cases c58 : sk (p1).toNatClampNeg = 5
        · have hE := it_t c58 hE
          have hhoy59 := (shAt_2 hshg1 c9).2.2
          rw [c58] at hhoy59
          obtain ⟨r60, hr60, hE⟩ := it_b hE
          refine t_after [18, 19, 20, 21, 22, 23, 24, 25] C0 D hP P_nil hS (vx_runVX (As := [.int p2, .ref (ad 18)]) (rest := []) ⟨C.1, C.2.1, hml, C.2.2.1, C.2.2.2.1⟩ (metC_Shelf_says_H_5 l hfl G (fun i => ad (18 + i)) pl H.size _ _ _ _ _ _ _ _ _ _ _ _ _ (sa (p1).toNatClampNeg) (ra (p1).toNatClampNeg) (si (p1).toNatClampNeg) (sb (p1).toNatClampNeg) p2 (shAt_2 hshg1 c9).1 hhoy59 r60 hr60) (vx_cwVW (C := RX4) 2 C.2.2.2.1 (lw_VW q597 q598 q599 q84 q600) rfl rfl rfl (by decide +kernel) ⟨Nat.le_of_ble_eq_true rfl, Nat.le_of_ble_eq_true rfl⟩) (rr_preV C D hP hS [18, 19, 20, 21, 22, 23, 24, 25] sub_xW_rW_18 (by decide) rfl (n_recvH C hS (shAt_2 hshg1 c9).1 (show vwCl[13]? = some (RX4, TX4, 1) from rfl))) rfl rfl hl.1 rfl (lv_room (Nat.le_of_ble_eq_true rfl)) dX0_says_25 ⟨Nat.le_of_ble_eq_true rfl, Nat.le_of_ble_eq_true rfl⟩) xW_av rfl rfl mg_xW_rW_18 (fun hφ H locs hP _ hS => ?_) (fun w q H locs hw hq hc hP _ hS => ?_)
          · have hE := it_t hφ hE
            obtain rfl := Option.some.inj hE
            exact hret _ _ _ _ dX0_says_28 trivial hP hS
          · have hE := it_f (by rw [hw]; exact fun h => nomatch h) hE
            obtain ⟨q61, rfl⟩ : ∃ z, z = q := ⟨_, rfl⟩
            obtain rfl : w = (r60.1.getD 0) := by rw [hw]; rfl
            obtain ⟨ce, g1, g2, g3⟩ := t_cell C0 hc rfl
            refine t_catch (name := "HamsterWeekends$Refused") (E := "HamsterWeekends$Refused") C0 D [] ⟨0, 28, 29, 21⟩ [] htab (fun z hz => nomatch hz) rfl (by decide) q291 (List.mem_of_getElem? (i := 1) rfl) g1 g2 g3 ?_
            refine W.eq (g2 := F0 m 29 ls [.ref q61]) rfl ?_
            refine lv_astore_n (lv' := [(3, .ref q61), (0, .ref (ad 0)), (1, .int p1), (2, .int p2)]) C.1 C.2.1 dX0_says_29 rfl hl (by decide) rfl (fun ls hl => ?_)
            refine lv_aload_n C.1 C.2.1 dX0_says_30 rfl (lv_at hl 1 rfl) ?_
            refine lv_aload_n C.1 C.2.1 dX0_says_31 rfl (lv_at hl 0 rfl) ?_
            obtain ⟨r62, hr62, hE⟩ := it_b hE
            refine n_afterS C.2.2.2.2.2.2.2.1 hS (va_runV (As := [.ref q61]) (rest := []) ⟨C.1, C.2.1, hml, C.2.2.1, C.2.2.2.1⟩ (metC_HW_refused l G ad [(q61, .inr (18, xF (r60.1.getD 0)))] _ _ _ _ _ _ _ _ _ _ _ _ _ _ _ _ _ _ _ _ _ _ _ _ _ _ _ _ _ _ _ _ _ _ _ _ _ _ _ _ _ _ _ _ _ _ _ q61 (r60.1.getD 0) (List.mem_singleton.mpr rfl) r62 hr62) (cwV (C := RX0) 1 C.2.2.2.1 (lw_V q466 q468 qs2 q80 q469) rfl rfl rfl (by decide +kernel) ⟨Nat.le_of_ble_eq_true rfl, Nat.le_of_ble_eq_true rfl⟩) (t_preX C0 hP hc hq.1 (va_recv C.2.2.2.2.1 hP (ci := 16) (q0 := 0) rfl rfl)) rfl rfl hl.1 rfl (lv_room (Nat.le_of_ble_eq_true rfl)) dX0_says_32 ⟨Nat.le_of_ble_eq_true rfl, Nat.le_of_ble_eq_true rfl⟩) (fun H locs hP hS => ?_)
            obtain rfl := Option.some.inj hE
            exact hret _ _ _ _ dX0_says_35 trivial hP hS
        have hE := it_f c58 hE
        by_cases c63 : sk (p1).toNatClampNeg = 6
        · have hE := it_t c63 hE
          have hhoy64 := (shAt_2 hshg1 c9).2.2
          rw [c63] at hhoy64
          obtain ⟨r65, hr65, hE⟩ := it_b hE
          refine t_after [18, 19, 20, 21, 22, 23, 24, 25] C0 D hP P_nil hS (vx_runVX (As := [.int p2, .ref (ad 18)]) (rest := []) ⟨C.1, C.2.1, hml, C.2.2.1, C.2.2.2.1⟩ (metC_Shelf_says_H_6 l hfl G (fun i => ad (18 + i)) pl H.size _ _ _ _ _ _ _ _ _ _ _ _ _ (sa (p1).toNatClampNeg) (ra (p1).toNatClampNeg) (si (p1).toNatClampNeg) (sb (p1).toNatClampNeg) p2 (shAt_2 hshg1 c9).1 hhoy64 r65 hr65) (vx_cwVW (C := RX4) 2 C.2.2.2.1 (lw_VW q597 q598 q599 q84 q600) rfl rfl rfl (by decide +kernel) ⟨Nat.le_of_ble_eq_true rfl, Nat.le_of_ble_eq_true rfl⟩) (rr_preV C D hP hS [18, 19, 20, 21, 22, 23, 24, 25] sub_xW_rW_18 (by decide) rfl (n_recvH C hS (shAt_2 hshg1 c9).1 (show vwCl[13]? = some (RX4, TX4, 1) from rfl))) rfl rfl hl.1 rfl (lv_room (Nat.le_of_ble_eq_true rfl)) dX0_says_25 ⟨Nat.le_of_ble_eq_true rfl, Nat.le_of_ble_eq_true rfl⟩) xW_av rfl rfl mg_xW_rW_18 (fun hφ H locs hP _ hS => ?_) (fun w q H locs hw hq hc hP _ hS => ?_)
          · have hE := it_t hφ hE
            obtain rfl := Option.some.inj hE
            exact hret _ _ _ _ dX0_says_28 trivial hP hS
          · have hE := it_f (by rw [hw]; exact fun h => nomatch h) hE
            obtain ⟨q66, rfl⟩ : ∃ z, z = q := ⟨_, rfl⟩
            obtain rfl : w = (r65.1.getD 0) := by rw [hw]; rfl
            obtain ⟨ce, g1, g2, g3⟩ := t_cell C0 hc rfl
            refine t_catch (name := "HamsterWeekends$Refused") (E := "HamsterWeekends$Refused") C0 D [] ⟨0, 28, 29, 21⟩ [] htab (fun z hz => nomatch hz) rfl (by decide) q291 (List.mem_of_getElem? (i := 1) rfl) g1 g2 g3 ?_
            refine W.eq (g2 := F0 m 29 ls [.ref q66]) rfl ?_
            refine lv_astore_n (lv' := [(3, .ref q66), (0, .ref (ad 0)), (1, .int p1), (2, .int p2)]) C.1 C.2.1 dX0_says_29 rfl hl (by decide) rfl (fun ls hl => ?_)
            refine lv_aload_n C.1 C.2.1 dX0_says_30 rfl (lv_at hl 1 rfl) ?_
            refine lv_aload_n C.1 C.2.1 dX0_says_31 rfl (lv_at hl 0 rfl) ?_
            obtain ⟨r67, hr67, hE⟩ := it_b hE
            refine n_afterS C.2.2.2.2.2.2.2.1 hS (va_runV (As := [.ref q66]) (rest := []) ⟨C.1, C.2.1, hml, C.2.2.1, C.2.2.2.1⟩ (metC_HW_refused l G ad [(q66, .inr (18, xF (r65.1.getD 0)))] _ _ _ _ _ _ _ _ _ _ _ _ _ _ _ _ _ _ _ _ _ _ _ _ _ _ _ _ _ _ _ _ _ _ _ _ _ _ _ _ _ _ _ _ _ _ _ q66 (r65.1.getD 0) (List.mem_singleton.mpr rfl) r67 hr67) (cwV (C := RX0) 1 C.2.2.2.1 (lw_V q466 q468 qs2 q80 q469) rfl rfl rfl (by decide +kernel) ⟨Nat.le_of_ble_eq_true rfl, Nat.le_of_ble_eq_true rfl⟩) (t_preX C0 hP hc hq.1 (va_recv C.2.2.2.2.1 hP (ci := 16) (q0 := 0) rfl rfl)) rfl rfl hl.1 rfl (lv_room (Nat.le_of_ble_eq_true rfl)) dX0_says_32 ⟨Nat.le_of_ble_eq_true rfl, Nat.le_of_ble_eq_true rfl⟩) (fun H locs hP hS => ?_)
            obtain rfl := Option.some.inj hE
            exact hret _ _ _ _ dX0_says_35 trivial hP hS
        have hE := it_f c63 hE
        exact it_n hE
      have hE := it_f c9 hE
      exact it_n hE
    · obtain ⟨c5, rfl⟩ := nd_x hw
      obtain ⟨q6, rfl⟩ : ∃ z, z = q := ⟨_, rfl⟩
      have hE := it_t c5 hE
      obtain ⟨ce, g1, g2, g3⟩ := t_cell C0 hc rfl
      refine t_catch (name := "HamsterWeekends$Refused") (E := "HamsterWeekends$Refused") C0 D [] ⟨0, 28, 29, 21⟩ [] htab (fun z hz => nomatch hz) rfl (by decide) q291 (List.mem_of_getElem? (i := 1) rfl) g1 g2 g3 ?_
      refine W.eq (g2 := F0 m 29 ls [.ref q6]) rfl ?_
      refine lv_astore_n (lv' := [(3, .ref q6), (0, .ref (ad 0)), (1, .int p1), (2, .int p2)]) C.1 C.2.1 dX0_says_29 rfl hl (by decide) rfl (fun ls hl => ?_)
      refine lv_aload_n C.1 C.2.1 dX0_says_30 rfl (lv_at hl 1 rfl) ?_
      refine lv_aload_n C.1 C.2.1 dX0_says_31 rfl (lv_at hl 0 rfl) ?_
      obtain ⟨r68, hr68, hE⟩ := it_b hE
      refine n_afterS C.2.2.2.2.2.2.2.1 hS (va_runV (As := [.ref q6]) (rest := []) ⟨C.1, C.2.1, hml, C.2.2.1, C.2.2.2.1⟩ (metC_HW_refused l G ad [(q6, .inr (18, xF (-1)))] _ _ _ _ _ _ _ _ _ _ _ _ _ _ _ _ _ _ _ _ _ _ _ _ _ _ _ _ _ _ _ _ _ _ _ _ _ _ _ _ _ _ _ _ _ _ _ q6 (-1) (List.mem_singleton.mpr rfl) r68 hr68) (cwV (C := RX0) 1 C.2.2.2.1 (lw_V q466 q468 qs2 q80 q469) rfl rfl rfl (by decide +kernel) ⟨Nat.le_of_ble_eq_true rfl, Nat.le_of_ble_eq_true rfl⟩) (t_preX C0 hP hc hq.1 (va_recv C.2.2.2.2.1 hP (ci := 16) (q0 := 0) rfl rfl)) rfl rfl hl.1 rfl (lv_room (Nat.le_of_ble_eq_true rfl)) dX0_says_32 ⟨Nat.le_of_ble_eq_true rfl, Nat.le_of_ble_eq_true rfl⟩) (fun H locs hP hS => ?_)
      obtain rfl := Option.some.inj hE
      refine W.widen (k := 10) (n := 1220) (Nat.le_of_ble_eq_true rfl) (Nat.le_of_ble_eq_true rfl) ?_
      exact hret _ _ _ _ dX0_says_35 trivial hP hS
  · obtain ⟨c2, rfl⟩ := shO_x hw
    have hE := it_f c2 hE
    obtain ⟨q3, rfl⟩ : ∃ z, z = q := ⟨_, rfl⟩
    obtain ⟨ce, g1, g2, g3⟩ := t_cell C0 hc rfl
    refine t_catch (name := "HamsterWeekends$Refused") (E := "HamsterWeekends$Refused") C0 D [] ⟨0, 28, 29, 21⟩ [] htab (fun z hz => nomatch hz) rfl (by decide) q291 (List.mem_of_getElem? (i := 1) rfl) g1 g2 g3 ?_
    refine W.eq (g2 := F0 m 29 ls [.ref q3]) rfl ?_
    refine lv_astore_n (lv' := [(3, .ref q3), (0, .ref (ad 0)), (1, .int p1), (2, .int p2)]) C.1 C.2.1 dX0_says_29 rfl hl (by decide) rfl (fun ls hl => ?_)
    refine lv_aload_n C.1 C.2.1 dX0_says_30 rfl (lv_at hl 1 rfl) ?_
    refine lv_aload_n C.1 C.2.1 dX0_says_31 rfl (lv_at hl 0 rfl) ?_
    obtain ⟨r69, hr69, hE⟩ := it_b hE
    refine n_afterS C.2.2.2.2.2.2.2.1 hS (va_runV (As := [.ref q3]) (rest := []) ⟨C.1, C.2.1, hml, C.2.2.1, C.2.2.2.1⟩ (metC_HW_refused l G ad [(q3, .inr (18, xF (-1)))] _ _ _ _ _ _ _ _ _ _ _ _ _ _ _ _ _ _ _ _ _ _ _ _ _ _ _ _ _ _ _ _ _ _ _ _ _ _ _ _ _ _ _ _ _ _ _ q3 (-1) (List.mem_singleton.mpr rfl) r69 hr69) (cwV (C := RX0) 1 C.2.2.2.1 (lw_V q466 q468 qs2 q80 q469) rfl rfl rfl (by decide +kernel) ⟨Nat.le_of_ble_eq_true rfl, Nat.le_of_ble_eq_true rfl⟩) (t_preX C0 hP hc hq.1 (va_recv C.2.2.2.2.1 hP (ci := 16) (q0 := 0) rfl rfl)) rfl rfl hl.1 rfl (lv_room (Nat.le_of_ble_eq_true rfl)) dX0_says_32 ⟨Nat.le_of_ble_eq_true rfl, Nat.le_of_ble_eq_true rfl⟩) (fun H locs hP hS => ?_)
    obtain rfl := Option.some.inj hE
    refine W.widen (k := 10) (n := 1220) (Nat.le_of_ble_eq_true rfl) (Nat.le_of_ble_eq_true rfl) ?_
    exact hret _ _ _ _ dX0_says_35 trivial hP hS
