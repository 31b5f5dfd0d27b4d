set_option maxRecDepth 100000
/-- what a shelf holds: 0 nothing, 1 a row, 2 a home -/
def shAt (G : kG) (a hd q b k n : Nat) (rc : Nat → Int64) (sk : Nat) (si sb : Int32) (pl : va_W) : Prop := (hd = 0 ∧ (a, .inr (13, [.null])) ∈ pl) ∨ (hd = 1 ∧ (a, .inr (13, [.ref q])) ∈ pl ∧ rowIn G q k b n rc pl) ∨ (hd = 2 ∧ (a, .inr (13, [.ref q])) ∈ pl ∧ sk < 7 ∧ (q, .inr (sk, [.int si, .int sb])) ∈ pl)
def shOK (G : kG) (sh : Nat → Option Nat) (sa hd ra rb rs rn : Nat → Nat) (rc : Nat → Nat → Int64) (sk : Nat → Nat) (si sb : Nat → Int32) (pl : va_W) : Prop := ∀ i, i < 8 → sh i = some (sa i) ∧ shAt G (sa i) (hd i) (ra i) (rb i) (rs i) (rn i) (rc i) (sk i) (si i) (sb i) pl
theorem gi_lt {i : Int32} {n : Nat} (h : gi i n) : i.toNatClampNeg < n := by
  have h1 := gi_in h
  exact Nat.not_le.mp fun q => h1 (Or.inr q)
def shO (i : Int32) : Option Int32 := if gi i 8 then none else some (-1)
theorem shO_x {i u : Int32} (h : shO i = some u) : ¬ gi i 8 ∧ u = -1 := by
  by_cases h1 : gi i 8
  · rw [shO, if_pos h1] at h
    cases h
  · rw [shO, if_neg h1] at h
    cases h
    exact ⟨h1, rfl⟩
def shRw (hd : Nat) : Int32 := if hd = 2 then -2 else -3
def shR (hd : Nat) : Option Int32 := if hd = 1 then none else some (shRw hd)
theorem shR_x {hd : Nat} {u : Int32} (h : shR hd = some u) : ¬ hd = 1 ∧ u = shRw hd := by
  by_cases h1 : hd = 1
  · rw [shR, if_pos h1] at h
    cases h
  · rw [shR, if_neg h1] at h
    cases h
    exact ⟨h1, rfl⟩
theorem shAt_0 {G : kG} {a hd q b k n : Nat} {rc : Nat → Int64} {sk : Nat} {si sb : Int32} {pl : va_W} (h : shAt G a hd q b k n rc sk si sb pl) (e : hd = 0) : (a, .inr (13, [.null])) ∈ pl := by
  rcases h with h | h | h
  · exact h.2
  · exact absurd (h.1.symm.trans e) (by decide)
  · exact absurd (h.1.symm.trans e) (by decide)
theorem shAt_1 {G : kG} {a hd q b k n : Nat} {rc : Nat → Int64} {sk : Nat} {si sb : Int32} {pl : va_W} (h : shAt G a hd q b k n rc sk si sb pl) (e : hd = 1) : (a, .inr (13, [.ref q])) ∈ pl ∧ rowIn G q k b n rc pl := by
  rcases h with h | h | h
  · exact absurd (h.1.symm.trans e) (by decide)
  · exact h.2
  · exact absurd (h.1.symm.trans e) (by decide)
theorem shAt_2 {G : kG} {a hd q b k n : Nat} {rc : Nat → Int64} {sk : Nat} {si sb : Int32} {pl : va_W} (h : shAt G a hd q b k n rc sk si sb pl) (e : hd = 2) : (a, .inr (13, [.ref q])) ∈ pl ∧ sk < 7 ∧ (q, .inr (sk, [.int si, .int sb])) ∈ pl := by
  rcases h with h | h | h
  · exact absurd (h.1.symm.trans e) (by decide)
  · exact absurd (h.1.symm.trans e) (by decide)
  · exact h.2
theorem shAt_obj {G : kG} {a hd q b k n : Nat} {rc : Nat → Int64} {sk : Nat} {si sb : Int32} {pl : va_W} (h : shAt G a hd q b k n rc sk si sb pl) : ∃ v, (a, .inr (13, [v])) ∈ pl := by
  rcases h with h | h | h
  · exact ⟨_, h.2⟩
  · exact ⟨_, h.2.1⟩
  · exact ⟨_, h.2.1⟩
section SHR
variable {p : Program} {l : Launch} {e : Env} {R : Room} {s : State} {m : MethodId} {args : Array Value} {below : List Frame} {meth : Method} {c : Code} {H : Heap} {locs : List Loc} {cells slots : Nat} {Q : State → Prop} {pc : Nat} {ls : Array Slot} {rest : List Value} {cc : ByteArray} {own : String} {G : kG} {av : List Nat} {pl : va_W} {A : Nat → Prop}
theorem sh_recv {a hd q b k n : Nat} {rc : Nat → Int64} {sk : Nat} {si sb : Int32} (C : nC p s m args c cc own G av pl A) (hS : va_S A s.heap H locs) (h : shAt G a hd q b k n rc sk si sb pl) : ∃ cell : Cell, H[a]? = some cell ∧ cell.vm.isStatics = false ∧ s.vm.findClass RX4 = some cell.cls := by
  obtain ⟨v, hv⟩ := shAt_obj h
  exact n_recvH C hS hv (show vwCl[13]? = some (RX4, TX4, 1) from rfl)
theorem t_outP {X pl' : va_W} {k q sz : Nat} {w : Int32} {ow : Option Int32} {r : vw_C} {Qc : Array Value → State → Outcome → State → Prop} (C : nC p s m args c cc own G av [] A) (hk : vwCl[k]? = some r) (hpass : ∀ z ∈ c.exceptionTable.toList, covers z pc = false ∨ (z.catchType ≠ 0 ∧ ∃ nm : String, (Cond.classLink own z.catchType nm).before args s = true ∧ va_Nc r.1 nm s)) (hlocks : meth.locks = false) (how : ow = some w) (hq : sz ≤ q) (hc : va_P G.1 vwCl [(q, .inr (k, xF w))] H) (hP : va_P G.1 vwCl X H) (hp : va_P G.1 vwCl pl' H) (hS : va_S A s.heap H locs) :
    vx_W p l e R s m args below meth c H locs cells slots (vx_MQ below Qc (tXC G X pl' A k r.1 ow sz) args s cells slots A) (F0 m pc ls rest) q := by
  obtain ⟨ce, g1, g2, g3⟩ := t_cell C hc hk
  exact vx_outP C.2.2.1 hlocks hpass g1 g2 g3 (fun t ht hW => ⟨rfl, hq, ⟨w, how, by rw [ht]; exact hc⟩, by rw [ht]; exact hP, by rw [ht]; exact hp, hS.F ht⟩) hS.2.2 (Nat.le_refl _) (Nat.le_refl _)
theorem rw_cast {q k b n idx : Nat} {rc : Nat → Int64} (C : nC p s m args c cc own G av pl A) (hE : kE s) (hS : va_S A s.heap H locs) (h : rowIn G q k b n rc pl) (hl : Cond.classLink own idx "HamsterWeekends$Row" ∈ lw_all) (hdg : decode cc pc = .ok (.checkcast idx, 3)) (kk : W p l e R s m args below meth c H locs cells slots Q (F0 m (pc + 3) ls (.ref q :: rest))) : W p l e R s m args below meth c H locs cells slots Q (F0 m pc ls (.ref q :: rest)) := by
  match k, h with
  | 0, h => exact va_castY C.1 C.2.1 C.2.2.1 (C.2.2.2.1 _ hl) (hE.1 _ (List.mem_of_getElem? (i := 6) rfl)) (n_recvH C hS h.2.2.2.1 (show vwCl[7]? = some (RX8, TX8, 1) from rfl)) hdg kk
  | 1, h => exact va_castY C.1 C.2.1 C.2.2.1 (C.2.2.2.1 _ hl) (hE.1 _ (List.mem_of_getElem? (i := 9) rfl)) (n_recvH C hS h.2.2.2.1 (show vwCl[8]? = some (RX9, TX9, 1) from rfl)) hdg kk
  | 2, h => exact va_castY C.1 C.2.1 C.2.2.1 (C.2.2.2.1 _ hl) (hE.1 _ (List.mem_of_getElem? (i := 7) rfl)) (n_recvH C hS h.2.2.2.1 (show vwCl[9]? = some (RX10, TX10, 1) from rfl)) hdg kk
  | 3, h => exact va_castY C.1 C.2.1 C.2.2.1 (C.2.2.2.1 _ hl) (hE.1 _ (List.mem_of_getElem? (i := 8) rfl)) (n_recvH C hS h.2.2.2.1 (show vwCl[10]? = some (RX11, TX11, 1) from rfl)) hdg kk
  | k + 4, h => exact absurd h.1 (by omega)
theorem rw_instH {q k b n idx : Nat} {rc : Nat → Int64} (C : nC p s m args c cc own G av pl A) (hE : kE s) (hS : va_S A s.heap H locs) (h : rowIn G q k b n rc pl) (hl : Cond.classLink own idx "HamsterWeekends$Home" ∈ lw_all) (hdg : decode cc pc = .ok (.instanceof idx, 3)) (kk : W p l e R s m args below meth c H locs cells slots Q (F0 m (pc + 3) ls (.int 0 :: rest))) : W p l e R s m args below meth c H locs cells slots Q (F0 m pc ls (.ref q :: rest)) := by
  match k, h with
  | 0, h => exact va_instNo C.1 C.2.1 C.2.2.1 (C.2.2.2.1 _ hl) (hE.2.2.1 _ (List.mem_of_getElem? (i := 0) rfl)) (n_recvH C hS h.2.2.2.1 (show vwCl[7]? = some (RX8, TX8, 1) from rfl)) hdg kk
  | 1, h => exact va_instNo C.1 C.2.1 C.2.2.1 (C.2.2.2.1 _ hl) (hE.2.2.1 _ (List.mem_of_getElem? (i := 7) rfl)) (n_recvH C hS h.2.2.2.1 (show vwCl[8]? = some (RX9, TX9, 1) from rfl)) hdg kk
  | 2, h => exact va_instNo C.1 C.2.1 C.2.2.1 (C.2.2.2.1 _ hl) (hE.2.2.1 _ (List.mem_of_getElem? (i := 14) rfl)) (n_recvH C hS h.2.2.2.1 (show vwCl[9]? = some (RX10, TX10, 1) from rfl)) hdg kk
  | 3, h => exact va_instNo C.1 C.2.1 C.2.2.1 (C.2.2.2.1 _ hl) (hE.2.2.1 _ (List.mem_of_getElem? (i := 21) rfl)) (n_recvH C hS h.2.2.2.1 (show vwCl[10]? = some (RX11, TX11, 1) from rfl)) hdg kk
  | k + 4, h => exact absurd h.1 (by omega)
theorem h_castH {q k idx : Nat} {ix hby : Int32} (C : nC p s m args c cc own G av pl A) (hE : kE s) (hS : va_S A s.heap H locs) (h7 : k < 7) (hq : (q, .inr (k, [.int ix, .int hby])) ∈ pl) (hl : Cond.classLink own idx "HamsterWeekends$Home" ∈ lw_all) (hdg : decode cc pc = .ok (.checkcast idx, 3)) (kk : W p l e R s m args below meth c H locs cells slots Q (F0 m (pc + 3) ls (.ref q :: rest))) : W p l e R s m args below meth c H locs cells slots Q (F0 m pc ls (.ref q :: rest)) := by
  match k, h7, hq with
  | 0, _, hq => exact va_castS C.1 C.2.1 C.2.2.1 (C.2.2.2.1 _ hl) (C.2.2.2.2.1.1 0 _ (show vwCl[0]? = some (RX12, TX12, 2) from rfl)).2 (n_recvH C hS hq (show vwCl[0]? = some (RX12, TX12, 2) from rfl)) hdg kk
  | 1, _, hq => exact va_castY C.1 C.2.1 C.2.2.1 (C.2.2.2.1 _ hl) (hE.1 _ (List.mem_of_getElem? (i := 14) rfl)) (n_recvH C hS hq (show vwCl[1]? = some (RX13, TX13, 2) from rfl)) hdg kk
  | 2, _, hq => exact va_castY C.1 C.2.1 C.2.2.1 (C.2.2.2.1 _ hl) (hE.1 _ (List.mem_of_getElem? (i := 11) rfl)) (n_recvH C hS hq (show vwCl[2]? = some (RX14, TX14, 2) from rfl)) hdg kk
  | 3, _, hq => exact va_castY C.1 C.2.1 C.2.2.1 (C.2.2.2.1 _ hl) (hE.1 _ (List.mem_of_getElem? (i := 15) rfl)) (n_recvH C hS hq (show vwCl[3]? = some (RX15, TX15, 2) from rfl)) hdg kk
  | 4, _, hq => exact va_castY C.1 C.2.1 C.2.2.1 (C.2.2.2.1 _ hl) (hE.1 _ (List.mem_of_getElem? (i := 13) rfl)) (n_recvH C hS hq (show vwCl[4]? = some (RX16, TX16, 2) from rfl)) hdg kk
  | 5, _, hq => exact va_castY C.1 C.2.1 C.2.2.1 (C.2.2.2.1 _ hl) (hE.1 _ (List.mem_of_getElem? (i := 12) rfl)) (n_recvH C hS hq (show vwCl[5]? = some (RX17, TX17, 2) from rfl)) hdg kk
  | 6, _, hq => exact va_castY C.1 C.2.1 C.2.2.1 (C.2.2.2.1 _ hl) (hE.1 _ (List.mem_of_getElem? (i := 10) rfl)) (n_recvH C hS hq (show vwCl[6]? = some (RX18, TX18, 2) from rfl)) hdg kk
  | k + 7, h7, _ => exact absurd h7 (by omega)
theorem h_instH {q k idx : Nat} {ix hby : Int32} (C : nC p s m args c cc own G av pl A) (hE : kE s) (hS : va_S A s.heap H locs) (h7 : k < 7) (hq : (q, .inr (k, [.int ix, .int hby])) ∈ pl) (hl : Cond.classLink own idx "HamsterWeekends$Home" ∈ lw_all) (hdg : decode cc pc = .ok (.instanceof idx, 3)) (kk : W p l e R s m args below meth c H locs cells slots Q (F0 m (pc + 3) ls (.int 1 :: rest))) : W p l e R s m args below meth c H locs cells slots Q (F0 m pc ls (.ref q :: rest)) := by
  match k, h7, hq with
  | 0, _, hq => exact va_instS C.1 C.2.1 C.2.2.1 (C.2.2.2.1 _ hl) (C.2.2.2.2.1.1 0 _ (show vwCl[0]? = some (RX12, TX12, 2) from rfl)).2 (n_recvH C hS hq (show vwCl[0]? = some (RX12, TX12, 2) from rfl)) hdg kk
  | 1, _, hq => exact va_instY C.1 C.2.1 C.2.2.1 (C.2.2.2.1 _ hl) (hE.1 _ (List.mem_of_getElem? (i := 14) rfl)) (n_recvH C hS hq (show vwCl[1]? = some (RX13, TX13, 2) from rfl)) hdg kk
  | 2, _, hq => exact va_instY C.1 C.2.1 C.2.2.1 (C.2.2.2.1 _ hl) (hE.1 _ (List.mem_of_getElem? (i := 11) rfl)) (n_recvH C hS hq (show vwCl[2]? = some (RX14, TX14, 2) from rfl)) hdg kk
  | 3, _, hq => exact va_instY C.1 C.2.1 C.2.2.1 (C.2.2.2.1 _ hl) (hE.1 _ (List.mem_of_getElem? (i := 15) rfl)) (n_recvH C hS hq (show vwCl[3]? = some (RX15, TX15, 2) from rfl)) hdg kk
  | 4, _, hq => exact va_instY C.1 C.2.1 C.2.2.1 (C.2.2.2.1 _ hl) (hE.1 _ (List.mem_of_getElem? (i := 13) rfl)) (n_recvH C hS hq (show vwCl[4]? = some (RX16, TX16, 2) from rfl)) hdg kk
  | 5, _, hq => exact va_instY C.1 C.2.1 C.2.2.1 (C.2.2.2.1 _ hl) (hE.1 _ (List.mem_of_getElem? (i := 12) rfl)) (n_recvH C hS hq (show vwCl[5]? = some (RX17, TX17, 2) from rfl)) hdg kk
  | 6, _, hq => exact va_instY C.1 C.2.1 C.2.2.1 (C.2.2.2.1 _ hl) (hE.1 _ (List.mem_of_getElem? (i := 10) rfl)) (n_recvH C hS hq (show vwCl[6]? = some (RX18, TX18, 2) from rfl)) hdg kk
  | k + 7, h7, _ => exact absurd h7 (by omega)
theorem h_castR {Y : va_W} {q k idx : Nat} {ix hby : Int32} (hfl : l.stackTraces = false) (C : nC p s m args c cc own G av pl A) (C0 : nC p s m args c cc own G av [] A) (D : tD s av [] A) (hP : va_P G.1 vwCl Y H) (hS : va_S A s.heap H locs) (hls : ls.size = c.maxLocals) (hlocks : meth.locks = false) (h7 : k < 7) (hq : (q, .inr (k, [.int ix, .int hby])) ∈ pl) (hl : Cond.classLink own idx "HamsterWeekends$Row" ∈ lw_all) (hdg : decode cc pc = .ok (.checkcast idx, 3))
    (hR : 6 < R.frames ∧ ((.ref q :: rest : List Value).map fun v => v.category).sum + 10240 ≤ R.locals ∧ cells + 3 ≤ R.cells ∧ slots + 970 ≤ R.slots)
    (kk : ∀ (H1 : Heap) (z : Addr) (ce : Cell), H.size ≤ H1.size → va_P G.1 vwCl Y H1 → va_P G.1 vwCl [] H1 → va_S A s.heap H1 locs → H1[z]? = some ce → ce.vm = .none → s.vm.findClass "java/lang/ClassCastException" = some ce.cls → vx_W p l e R s m args below meth c H1 locs (cells + 3) (slots + 970) Q (F0 m pc ls (.ref q :: rest)) z) :
    W p l e R s m args below meth c H locs cells slots Q (F0 m pc ls (.ref q :: rest)) := by
  have ha := P_mem (pl_at C.2.2.2.2.2.2.2.2 C.2.2.2.2.2.2.1 hS) hq
  match k, h7, ha with
  | 0, _, ha => exact t_castX (r := (RX12, TX12, 2)) hfl C0 D hP P_nil hS hls hlocks ha rfl ⟨pk_home, by decide⟩ ⟨pk_row, by decide⟩ (List.mem_of_getElem? (i := 28) rfl) hl hdg hR kk
  | 1, _, ha => exact t_castX (r := (RX13, TX13, 2)) hfl C0 D hP P_nil hS hls hlocks ha rfl ⟨pk_good, by decide⟩ ⟨pk_row, by decide⟩ (List.mem_of_getElem? (i := 29) rfl) hl hdg hR kk
  | 2, _, ha => exact t_castX (r := (RX14, TX14, 2)) hfl C0 D hP P_nil hS hls hlocks ha rfl ⟨pk_cat, by decide⟩ ⟨pk_row, by decide⟩ (List.mem_of_getElem? (i := 30) rfl) hl hdg hR kk
  | 3, _, ha => exact t_castX (r := (RX15, TX15, 2)) hfl C0 D hP P_nil hS hls hlocks ha rfl ⟨pk_overfed, by decide⟩ ⟨pk_row, by decide⟩ (List.mem_of_getElem? (i := 31) rfl) hl hdg hR kk
  | 4, _, ha => exact t_castX (r := (RX16, TX16, 2)) hfl C0 D hP P_nil hS hls hlocks ha rfl ⟨pk_far, by decide⟩ ⟨pk_row, by decide⟩ (List.mem_of_getElem? (i := 32) rfl) hl hdg hR kk
  | 5, _, ha => exact t_castX (r := (RX17, TX17, 2)) hfl C0 D hP P_nil hS hls hlocks ha rfl ⟨pk_dog, by decide⟩ ⟨pk_row, by decide⟩ (List.mem_of_getElem? (i := 33) rfl) hl hdg hR kk
  | 6, _, ha => exact t_castX (r := (RX18, TX18, 2)) hfl C0 D hP P_nil hS hls hlocks ha rfl ⟨pk_bus, by decide⟩ ⟨pk_row, by decide⟩ (List.mem_of_getElem? (i := 34) rfl) hl hdg hR kk
  | k + 7, h7, _ => exact absurd h7 (by omega)
end SHR
set_option maxHeartbeats 4000000 in
theorem metC_HW_shelf (l : Launch) (hfl : l.stackTraces = false) (G : kG) (ad : Nat → Nat) (pl : va_W) (sz : Nat) (v_latestFault : Int32) (v_died : Int32) (v_leastWeight : Int32) (v_noticedBy : Int32) (v_noticed : Int32) (v_orderDied : Int32) (v_orderLeast : Int32) (v_imaged : Option Nat) (v_shelves : Nat → Option Nat) (v_refusals : Nat → Int32) (v_ran : Int32) (v_bodies : Nat → Int32) (v_tweight : Int32) (v_tfright : Int32) (v_tage : Int32) (v_tasked : Nat → Int32) (v_told : Nat → Int32) (v_bestRow : Nat → Int32) (v_weight_a1 : Int32) (v_fright_a1 : Int32) (v_age_a1 : Int32) (v_asked_a1 : Nat → Int32) (v_weight_a2 : Int32) (v_fright_a2 : Int32) (v_age_a2 : Int32) (v_asked_a2 : Nat → Int32) (v_weight_a3 : Int32) (v_fright_a3 : Int32) (v_age_a3 : Int32) (v_asked_a3 : Nat → Int32) (v_weight_a4 : Int32) (v_fright_a4 : Int32) (v_age_a4 : Int32) (v_asked_a4 : Nat → Int32) (v_many : Int32) (v_pets : Int32) (v_last : Int32) (v_seed : Int32) (v_weight : Int32) (v_fright : Int32) (v_age : Int32) (v_asked : Nat → Int32) (v_homes : Nat → Option Nat) (v_marks : Nat → Int32) (v_had : Nat → Int32) (v_allergic : Nat → Int32) (v_deaths : Nat → Int32) (p1 : Int32) : vx_Met l yX0_shelf (wsW_ yX0_shelf cX0_shelf 3 (some (.object "HamsterWeekends$Shelf")) [((0 : Nat), (6 : Nat), (7 : Nat), (106 : Nat))]) ({ frames := 8, cells := 4, slots := 229, locals := 10250 } : Room) (rPc G (xW G.2 ad v_latestFault v_died v_leastWeight v_noticedBy v_noticed v_orderDied v_orderLeast v_imaged v_shelves v_refusals v_ran v_bodies v_tweight v_tfright v_tage v_tasked v_told v_bestRow v_weight_a1 v_fright_a1 v_age_a1 v_asked_a1 v_weight_a2 v_fright_a2 v_age_a2 v_asked_a2 v_weight_a3 v_fright_a3 v_age_a3 v_asked_a3 v_weight_a4 v_fright_a4 v_age_a4 v_asked_a4 v_many v_pets v_last v_seed v_weight v_fright v_age v_asked v_homes v_marks v_had v_allergic v_deaths) pl (xWV ad) sz [.ref (ad 0), .int p1]) (tQc G (xW G.2 ad v_latestFault v_died v_leastWeight v_noticedBy v_noticed v_orderDied v_orderLeast v_imaged v_shelves v_refusals v_ran v_bodies v_tweight v_tfright v_tage v_tasked v_told v_bestRow v_weight_a1 v_fright_a1 v_age_a1 v_asked_a1 v_weight_a2 v_fright_a2 v_age_a2 v_asked_a2 v_weight_a3 v_fright_a3 v_age_a3 v_asked_a3 v_weight_a4 v_fright_a4 v_age_a4 v_asked_a4 v_many v_pets v_last v_seed v_weight v_fright v_age v_asked v_homes v_marks v_had v_allergic v_deaths) [] (tA sz (xWV ad) []) (gi p1 8) (some (va_rf (v_shelves p1.toNatClampNeg)))) (tXC G (xW G.2 ad v_latestFault v_died v_leastWeight v_noticedBy v_noticed v_orderDied v_orderLeast v_imaged v_shelves v_refusals v_ran v_bodies v_tweight v_tfright v_tage v_tasked v_told v_bestRow v_weight_a1 v_fright_a1 v_age_a1 v_asked_a1 v_weight_a2 v_fright_a2 v_age_a2 v_asked_a2 v_weight_a3 v_fright_a3 v_age_a3 v_asked_a3 v_weight_a4 v_fright_a4 v_age_a4 v_asked_a4 v_many v_pets v_last v_seed v_weight v_fright v_age v_asked v_homes v_marks v_had v_allergic v_deaths) [] (tA sz (xWV ad) []) 18 RX6 (shO p1) sz) 4 229 (tA sz (xWV ad) []) := by
  refine r_ofWH (own := RX0) (by decide) rfl (Nat.le_of_ble_eq_true rfl) ?_
  intro p e s m args below meth c ls C C0 D hml htab hP hS hl hr hlocks hsz
  have hl : lv_has ls 3 [(0, .ref (ad 0)), (1, .int p1)] := hl
  refine lv_aload_n C.1 C.2.1 dX0_shelf_0 rfl (lv_at hl 0 rfl) ?_
  refine xWg_0_0 q238 C hP dX0_shelf_1 ?_
  refine lv_iload_n C.1 C.2.1 dX0_shelf_4 rfl (lv_at hl 1 rfl) ?_
  by_cases h8 : gi p1 8
  · refine xWl_1 (v := v_shelves p1.toNatClampNeg) C hP (gi_in h8) rfl dX0_shelf_5 ?_
    refine W.widen (k := 4) (n := 229) (Nat.le_of_ble_eq_true rfl) (Nat.le_of_ble_eq_true rfl) ?_
    exact t_aret C0 hr (Or.inl ⟨_, rfl⟩) (va_rf_or _) hlocks dX0_shelf_6 h8 hP P_nil hS
  · refine vx_aaldZ C.1 C.2.1 C.2.2.2.2.1 hP 1 5 rfl rfl (fun h => h8 (vp_in_iff.mp h)) dX0_shelf_5 (fun tx htx => ?_)
    refine t_noteA (i := p1) (n := 8) hfl C0 D hP P_nil hS (by rw [hml]; exact hl.1) hlocks (by decide) htx ⟨Nat.le_of_ble_eq_true rfl, Nat.le_of_ble_eq_true rfl, Nat.le_of_ble_eq_true rfl, Nat.le_of_ble_eq_true rfl⟩ (fun H q ce hz hP _ hS g1 g2 g3 => ?_)
    refine t_catch (name := "java/lang/ArrayIndexOutOfBoundsException") (E := "java/lang/ArrayIndexOutOfBoundsException") C0 D [] ⟨0, 6, 7, 106⟩ [] htab (fun z hz => nomatch hz) rfl (by decide) q296 (List.mem_of_getElem? (i := 0) rfl) g1 g2 g3 ?_
    refine W.eq (g2 := F0 m 7 ls [.ref q]) rfl ?_
    refine lv_astore_n (lv' := [(2, .ref q), (0, .ref (ad 0)), (1, .int p1)]) C.1 C.2.1 dX0_shelf_7 rfl hl (by decide) rfl (fun ls hl => ?_)
    refine t_refuse18 (w := -1) (kp := 1) C0 D hml hl.1 hP xW_av P_nil hS q291 q382 dX0_shelf_8 dX0_shelf_11 (fun kk => lv_iconst (v := -1) C.1 C.2.1 dX0_shelf_12 (by decide) kk) dX0_shelf_13 dX0_shelf_16 ⟨Nat.le_of_ble_eq_true rfl, Nat.le_of_ble_eq_true rfl, Nat.le_of_ble_eq_true rfl, Nat.le_of_ble_eq_true rfl⟩ (fun H locs hq hc hP _ hS => ?_)
    exact t_out (r := (RX6, TX6, 7)) C0 rfl (by rw [htab]; decide) hlocks (by rw [shO, if_neg h8]) (by have := hq.2.2; omega) hc hP P_nil hS
set_option maxHeartbeats 4000000 in
theorem metC_Shelf_row (l : Launch) (hfl : l.stackTraces = false) (G : kG) (pl : va_W) (sz : Nat) (a hd q b k n : Nat) (rc : Nat → Int64) (sk : Nat) (si sb : Int32) (hsh : shAt G a hd q b k n rc sk si sb pl) : vx_Met l yX4_row (wsW_ yX4_row cX4_row 2 (some (.object "HamsterWeekends$Row")) [((0 : Nat), (23 : Nat), (24 : Nat), (21 : Nat))]) ({ frames := 8, cells := 5, slots := 984, locals := 10260 } : Room) (rPc G [] pl [] sz [.ref a]) (tQc G [] [] (tA sz [] []) (hd = 1) (some (.ref q))) (tXC G [] [] (tA sz [] []) 18 RX6 (shR hd) sz) 5 984 (tA sz [] []) := by
  refine r_ofWH (own := RX4) (by decide) rfl (Nat.le_of_ble_eq_true rfl) ?_
  intro p e s m args below meth c ls C C0 D hml htab hP hS hl hr hlocks hsz
  have hl : lv_has ls 2 [(0, .ref a)] := hl
  have hout : ∀ x ∈ c.exceptionTable.toList, covers x 34 = false := by rw [htab]; decide
  refine lv_aload_n C.1 C.2.1 dX4_row_0 rfl (lv_at hl 0 rfl) ?_
  have hcase : hd = 0 ∨ hd = 1 ∨ hd = 2 := by
    rcases hsh with h | h | h
    · exact Or.inl h.1
    · exact Or.inr (Or.inl h.1)
    · exact Or.inr (Or.inr h.1)
  have hhan : ∀ (rest : List Value) (H : Heap) (z : Addr) (ce : Cell) (locs : List Loc), va_P G.1 vwCl [] H → va_S (tA sz [] []) s.heap H locs → H[z]? = some ce → ce.vm = .none → s.vm.findClass "java/lang/ClassCastException" = some ce.cls → hd = 2 → vx_W p l e ({ frames := 8, cells := 5, slots := 984, locals := 10260 } : Room) s m args below meth c H locs 3 970 (vx_MQ below (tQc G [] [] (tA sz [] []) (hd = 1) (some (.ref q))) (tXC G [] [] (tA sz [] []) 18 RX6 (shR hd) sz) args s 5 984 (tA sz [] [])) (F0 m 4 ls rest) z := by
    intro rest H z ce locs hP hS g1 g2 g3 h2
    refine t_catch (name := "java/lang/ClassCastException") (E := "java/lang/ClassCastException") C0 D [] ⟨0, 23, 24, 21⟩ [] htab (fun z hz => nomatch hz) rfl (by decide) q478 (List.mem_of_getElem? (i := 3) rfl) g1 g2 g3 ?_
    refine W.eq (g2 := F0 m 24 ls [.ref z]) rfl ?_
    refine lv_astore_n (lv' := [(1, .ref z), (0, .ref a)]) C.1 C.2.1 dX4_row_24 rfl hl (by decide) rfl (fun ls hl => ?_)
    refine t_refuse18 (w := -2) (kp := 2) C0 D hml hl.1 hP rfl P_nil hS q494 q495 dX4_row_25 dX4_row_28 (fun kk => lv_bipush (v := -2) C.1 C.2.1 dX4_row_29 (by decide) kk) dX4_row_31 dX4_row_34 ⟨Nat.le_of_ble_eq_true rfl, Nat.le_of_ble_eq_true rfl, Nat.le_of_ble_eq_true rfl, Nat.le_of_ble_eq_true rfl⟩ (fun H locs hq hc hP _ hS => ?_)
    refine vx_widen (k := 5) (n := 984) (Nat.le_of_ble_eq_true rfl) (Nat.le_of_ble_eq_true rfl) ?_
    exact t_out (r := (RX6, TX6, 7)) C0 rfl hout hlocks (by rw [h2]; decide) (by have := hq.2.2; omega) hc hP P_nil hS
  rcases hcase with h0 | h1 | h2
  · refine p_get (j := 0) C hS (shAt_0 hsh h0) (show vwCl[13]? = some (RX4, TX4, 1) from rfl) in_X4 (by decide) q233 rfl dX4_row_1 ?_
    refine lv_castN C.1 C.2.1 dX4_row_4 ?_
    refine lv_astore_nN (lv' := [(1, .null), (0, .ref a)]) C.1 C.2.1 dX4_row_7 rfl hl (by decide) rfl (fun ls hl => ?_)
    refine lv_aload_nN C.1 C.2.1 dX4_row_8 rfl (lv_at hl 0 rfl) ?_
    refine lv_ifnullN (tgt := 16) C.1 C.2.1 dX4_row_9 (by decide) ?_
    refine lv_iconst (v := 0) C.1 C.2.1 dX4_row_16 (by decide) ?_
    refine lv_bipush (v := -3) C.1 C.2.1 dX4_row_17 (by decide) ?_
    refine t_after [] C0 D hP P_nil hS (vx_runS (As := [.int 0, .int (-3)]) (rest := []) ⟨C.1, C.2.1, hml, C.2.2.1, C.2.2.2.1⟩ (metC_HW_need l hfl G (fun _ => 0) pl s.heap.size 0 (-3) _ (need_eq _ _)) (va_cwS 2 C.2.2.2.1 (lw_S q493 q398 q80 q399) rfl rfl rfl (by decide +kernel) ⟨Nat.le_of_ble_eq_true rfl, Nat.le_of_ble_eq_true rfl⟩) (rr_preS C D hP hS [] rfl (by decide) rfl) rfl rfl hl.1 rfl (lv_room (Nat.le_of_ble_eq_true rfl)) dX4_row_19 ⟨Nat.le_of_ble_eq_true rfl, Nat.le_of_ble_eq_true rfl⟩) rfl rfl rfl rfl (fun hφ H locs hP _ hS => ?_) (fun w z H locs hw hq hc hP _ hS => ?_)
    · exact absurd rfl (nd_n hφ)
    · obtain ⟨-, rfl⟩ := nd_x hw
      refine vx_widen (k := 5) (n := 984) (Nat.le_of_ble_eq_true rfl) (Nat.le_of_ble_eq_true rfl) ?_
      exact t_outP (r := (RX6, TX6, 7)) C0 rfl (by
        rw [htab]
        intro z hz
        have hz := List.mem_singleton.mp hz
        subst hz
        exact Or.inr ⟨by decide, _, C.2.2.2.1 _ q478, D.2.2.2.2.2.2.1 _ (List.mem_of_getElem? (i := 73) rfl)⟩) hlocks (by rw [h0]; decide) (by have := hq.2.2; omega) hc hP P_nil hS
  · have hrw := shAt_1 hsh h1
    refine p_get (j := 0) C hS hrw.1 (show vwCl[13]? = some (RX4, TX4, 1) from rfl) in_X4 (by decide) q233 rfl dX4_row_1 ?_
    refine rw_cast C D.2.2.2.2 hS hrw.2 q492 dX4_row_4 ?_
    refine lv_astore_n (lv' := [(1, .ref q), (0, .ref a)]) C.1 C.2.1 dX4_row_7 rfl hl (by decide) rfl (fun ls hl => ?_)
    refine lv_aload_n C.1 C.2.1 dX4_row_8 rfl (lv_at hl 0 rfl) ?_
    refine lv_ifnull C.1 C.2.1 dX4_row_9 ?_
    refine lv_iconst (v := 1) C.1 C.2.1 dX4_row_12 (by decide) ?_
    refine lv_goto (tgt := 17) C.1 C.2.1 dX4_row_13 (by decide) ?_
    refine lv_bipush (v := -3) C.1 C.2.1 dX4_row_17 (by decide) ?_
    refine t_after [] C0 D hP P_nil hS (vx_runS (As := [.int 1, .int (-3)]) (rest := []) ⟨C.1, C.2.1, hml, C.2.2.1, C.2.2.2.1⟩ (metC_HW_need l hfl G (fun _ => 0) pl s.heap.size 1 (-3) _ (need_eq _ _)) (va_cwS 2 C.2.2.2.1 (lw_S q493 q398 q80 q399) rfl rfl rfl (by decide +kernel) ⟨Nat.le_of_ble_eq_true rfl, Nat.le_of_ble_eq_true rfl⟩) (rr_preS C D hP hS [] rfl (by decide) rfl) rfl rfl hl.1 rfl (lv_room (Nat.le_of_ble_eq_true rfl)) dX4_row_19 ⟨Nat.le_of_ble_eq_true rfl, Nat.le_of_ble_eq_true rfl⟩) rfl rfl rfl rfl (fun hφ H locs hP _ hS => ?_) (fun w z H locs hw hq hc hP _ hS => ?_)
    · refine lv_aload_n C.1 C.2.1 dX4_row_22 rfl (lv_at hl 0 rfl) ?_
      refine W.widen (k := 5) (n := 984) (Nat.le_of_ble_eq_true rfl) (Nat.le_of_ble_eq_true rfl) ?_
      exact t_aret C0 hr (Or.inl ⟨_, rfl⟩) (Or.inr ⟨_, rfl⟩) hlocks dX4_row_23 h1 hP P_nil hS
    · exact absurd (nd_x hw).1 (by decide)
  · have hho := shAt_2 hsh h2
    refine p_get (j := 0) C hS hho.1 (show vwCl[13]? = some (RX4, TX4, 1) from rfl) in_X4 (by decide) q233 rfl dX4_row_1 ?_
    exact h_castR hfl C C0 D hP hS (by rw [hml]; exact hl.1) hlocks hho.2.1 hho.2.2 q492 dX4_row_4 ⟨Nat.le_of_ble_eq_true rfl, Nat.le_of_ble_eq_true rfl, Nat.le_of_ble_eq_true rfl, Nat.le_of_ble_eq_true rfl⟩ (fun H z ce hz hP _ hS g1 g2 g3 => hhan _ H z ce _ hP hS g1 g2 g3 h2)
