set_option maxRecDepth 100000
theorem of_none {homes : Nat → Option Nat} {h : Int32} {r : Option Nat} (hr : sC_Room_of homes h = some r) (c : h = -1) : r = none := by
  unfold sC_Room_of at hr
  rw [if_pos c] at hr
  exact (Option.some.inj hr).symm
theorem of_some {homes : Nat → Option Nat} {h : Int32} {r : Option Nat} {q : Nat} (hr : sC_Room_of homes h = some r) (c : ¬ h = -1) (hq : homes h.toNatClampNeg = some q) : r = some q := by
  unfold sC_Room_of at hr
  rw [if_neg c] at hr
  obtain ⟨-, hr⟩ := it_g hr
  rw [← Option.some.inj hr, hq]
section H7
variable {p : Program} {l : Launch} {e : Env} {R : Room} {s : State} {m : MethodId} {args : Array Value} {below : List Frame} {meth : Method} {c : Code} {H : Heap} {locs : List Loc} {cells slots : Nat} {Q : State → Prop} {pc : Nat} {ls : Array Slot} {rest : List Value} {cc : ByteArray} {own : String} {G : kG} {av : List Nat} {pl : va_W} {A : Nat → Prop}
theorem h_by7 {k q idx : Nat} {ix hby : Int32} (C : nC p s m args c cc own G av pl A) (hS : va_S A s.heap H locs) (h7 : k < 7) (hq : (q, .inr (k, [.int ix, .int hby])) ∈ pl) (hl : Cond.fieldLink own idx "HamsterWeekends$Home" "by" "I" ∈ lw_all) (hdg : decode cc pc = .ok (.getfield idx, 3)) (kk : W p l e R s m args below meth c H locs cells slots Q (F0 m (pc + 3) ls (.int hby :: rest))) : W p l e R s m args below meth c H locs cells slots Q (F0 m pc ls (.ref q :: rest)) := by
  match k, h7, hq with
  | 0, _, hq => exact h_get (j := 1) C hS hq (show vwCl[0]? = some (RX12, TX12, 2) from rfl) in_X12 (by decide) rfl rfl rfl hl (Or.inl rfl) rfl hdg kk
  | 1, _, hq => exact h_get (j := 1) C hS hq (show vwCl[1]? = some (RX13, TX13, 2) from rfl) in_X13 (by decide) rfl rfl rfl hl (Or.inl rfl) rfl hdg kk
  | 2, _, hq => exact h_get (j := 1) C hS hq (show vwCl[2]? = some (RX14, TX14, 2) from rfl) in_X14 (by decide) rfl rfl rfl hl (Or.inl rfl) rfl hdg kk
  | 3, _, hq => exact h_get (j := 1) C hS hq (show vwCl[3]? = some (RX15, TX15, 2) from rfl) in_X15 (by decide) rfl rfl rfl hl (Or.inl rfl) rfl hdg kk
  | 4, _, hq => exact h_get (j := 1) C hS hq (show vwCl[4]? = some (RX16, TX16, 2) from rfl) in_X16 (by decide) rfl rfl rfl hl (Or.inl rfl) rfl hdg kk
  | 5, _, hq => exact h_get (j := 1) C hS hq (show vwCl[5]? = some (RX17, TX17, 2) from rfl) in_X17 (by decide) rfl rfl rfl hl (Or.inl rfl) rfl hdg kk
  | 6, _, hq => exact h_get (j := 1) C hS hq (show vwCl[6]? = some (RX18, TX18, 2) from rfl) in_X18 (by decide) rfl rfl rfl hl (Or.inl rfl) rfl hdg kk
  | k + 7, h7, _ => exact absurd h7 (by omega)
theorem h_ix7 {k q idx : Nat} {ix hby : Int32} (C : nC p s m args c cc own G av pl A) (hS : va_S A s.heap H locs) (h7 : k < 7) (hq : (q, .inr (k, [.int ix, .int hby])) ∈ pl) (hl : Cond.fieldLink own idx "HamsterWeekends$Home" "index" "I" ∈ lw_all) (hdg : decode cc pc = .ok (.getfield idx, 3)) (kk : W p l e R s m args below meth c H locs cells slots Q (F0 m (pc + 3) ls (.int ix :: rest))) : W p l e R s m args below meth c H locs cells slots Q (F0 m pc ls (.ref q :: rest)) := by
  match k, h7, hq with
  | 0, _, hq => exact h_get (j := 0) C hS hq (show vwCl[0]? = some (RX12, TX12, 2) from rfl) in_X12 (by decide) rfl rfl rfl hl (Or.inl rfl) rfl hdg kk
  | 1, _, hq => exact h_get (j := 0) C hS hq (show vwCl[1]? = some (RX13, TX13, 2) from rfl) in_X13 (by decide) rfl rfl rfl hl (Or.inl rfl) rfl hdg kk
  | 2, _, hq => exact h_get (j := 0) C hS hq (show vwCl[2]? = some (RX14, TX14, 2) from rfl) in_X14 (by decide) rfl rfl rfl hl (Or.inl rfl) rfl hdg kk
  | 3, _, hq => exact h_get (j := 0) C hS hq (show vwCl[3]? = some (RX15, TX15, 2) from rfl) in_X15 (by decide) rfl rfl rfl hl (Or.inl rfl) rfl hdg kk
  | 4, _, hq => exact h_get (j := 0) C hS hq (show vwCl[4]? = some (RX16, TX16, 2) from rfl) in_X16 (by decide) rfl rfl rfl hl (Or.inl rfl) rfl hdg kk
  | 5, _, hq => exact h_get (j := 0) C hS hq (show vwCl[5]? = some (RX17, TX17, 2) from rfl) in_X17 (by decide) rfl rfl rfl hl (Or.inl rfl) rfl hdg kk
  | 6, _, hq => exact h_get (j := 0) C hS hq (show vwCl[6]? = some (RX18, TX18, 2) from rfl) in_X18 (by decide) rfl rfl rfl hl (Or.inl rfl) rfl hdg kk
  | k + 7, h7, _ => exact absurd h7 (by omega)
end H7
