set_option maxRecDepth 100000
/-- the cells that a method may write: its own, the pool's, the new ones -/
def tA (sz : Nat) (av : List Nat) (pl : va_W) : Nat → Prop := fun q => q ∈ av ∨ q ∈ pl.map (·.1) ∨ sz ≤ q
def xF (w : Int32) : List Value := [.null, .null, .null, .null, .null, .int 0, .int w]
def tPc (G : kG) (X pl : va_W) (av : List Nat) (sz : Nat) (As : List Value) : Array Value → State → Prop := fun v U => v = As.toArray ∧ va_P G.1 vwCl X U.heap ∧ va_P G.1 vwCl pl U.heap ∧ mK G U ∧ (av ++ pl.map (·.1)).Nodup ∧ U.heap.size = sz ∧ ZZ (tA sz av pl) U U.heap ∧ kE U
def tQc (G : kG) (X pl : va_W) (A : Nat → Prop) (φ : Prop) (o : Option Value) : Array Value → State → Outcome → State → Prop := fun _ st oc t => oc = .returned o ∧ φ ∧ va_P G.1 vwCl X t.heap ∧ va_P G.1 vwCl pl t.heap ∧ va_F A st t
def tXC (G : kG) (X pl : va_W) (A : Nat → Prop) (k : Nat) (E : String) (ow : Option Int32) (sz : Nat) : String → Addr → State → State → Prop := fun E' q st t => E' = E ∧ sz ≤ q ∧ (∃ w, ow = some w ∧ va_P G.1 vwCl [(q, .inr (k, xF w))] t.heap) ∧ va_P G.1 vwCl X t.heap ∧ va_P G.1 vwCl pl t.heap ∧ va_F A st t
theorem tPc_blind {G : kG} {X pl : va_W} {av : List Nat} {sz : Nat} {As : List Value} : FrameBlind (tPc G X pl av sz As) := fun a U g mk q =>
  ⟨q.1, q.2.1, q.2.2.1, va_K.moved (u := U) (U := U.calling g mk a) (Vm.Alike.refl U.vm) q.2.2.2.1, q.2.2.2.2.1, q.2.2.2.2.2.1, ZZ.moved (u := U) (U := U.calling g mk a) (Vm.Alike.refl U.vm) q.2.2.2.2.2.2.1, kE.moved (s := U) (U := U.calling g mk a) (State.WarmedH.refl U) q.2.2.2.2.2.2.2⟩
/-- a walk that may make cells or throw: what stays -/
def tD (s : State) (av : List Nat) (pl : va_W) (A : Nat → Prop) : Prop := (av ++ pl.map (·.1)).Nodup ∧ (∀ q, q ∈ pl.map (·.1) → A q) ∧ (∀ q, s.heap.size ≤ q → A q) ∧ ZZ A s s.heap ∧ kE s
theorem P_left {D : va_G} {cl : List vw_C} {a b : va_W} {H : Heap} (h : va_P D cl (a ++ b) H) : va_P D cl a H := fun k q hk => h k q (by rw [List.getElem?_append_left (List.getElem?_eq_some_iff.mp hk).1]; exact hk)
theorem P_right {D : va_G} {cl : List vw_C} {a b : va_W} {H : Heap} (h : va_P D cl (a ++ b) H) : va_P D cl b H := fun k q hk => h (a.length + k) q (by rw [List.getElem?_append_right (by omega), Nat.add_sub_cancel_left]; exact hk)
theorem P_one {D : va_G} {cl : List vw_C} {x : Nat × va_E} {H : Heap} (h : va_at D cl x H) : va_P D cl [x] H := fun k q hk => by
  have hz : k < 1 := (List.getElem?_eq_some_iff.mp hk).1
  rw [show k = 0 by omega] at hk
  cases hk
  exact h
theorem P_mem {D : va_G} {cl : List vw_C} {ws : va_W} {x : Nat × va_E} {H : Heap} (h : va_P D cl ws H) (hx : x ∈ ws) : va_at D cl x H := by
  obtain ⟨i, hi⟩ := List.getElem?_of_mem hx
  exact h i x hi
theorem P_lt {D : va_G} {cl : List vw_C} {ws : va_W} {H : Heap} (h : va_P D cl ws H) {a : Nat} (ha : a ∈ ws.map (·.1)) : a < H.size := by
  obtain ⟨x, hx, rfl⟩ := List.mem_map.mp ha
  exact (P_mem h hx).lt
theorem P_kept {D : va_G} {cl : List vw_C} {ws : va_W} {H H1 : Heap} (h : va_P D cl ws H) (hk : ∀ a, a ∈ ws.map (·.1) → a < H.size → H1[a]? = H[a]?) : va_P D cl ws H1 :=
  h.kept fun k q hq => hk _ (List.mem_map.mpr ⟨q, List.mem_of_getElem? hq, rfl⟩) (h k q hq).lt
theorem nd_disj {a b : List Nat} (h : (a ++ b).Nodup) {x : Nat} (hx : x ∈ a) (hy : x ∈ b) : False := (List.nodup_append.mp h).2.2 _ hx _ hy rfl
/-- a callee's cells back among the caller's -/
theorem t_mrg {G : kG} {av avc : List Nat} {pl Y Y' Xc' : va_W} {H t : Heap} (isC : List Nat) (hnd : (av ++ pl.map (·.1)).Nodup) (hP : va_P G.1 vwCl Y H) (hP1 : va_P G.1 vwCl Xc' t) (hk : ∀ q : Nat, q < H.size → ¬ (q ∈ avc ∨ q ∈ pl.map (·.1) ∨ H.size ≤ q) → t[q]? = H[q]?)
    (hY : Y.map (·.1) = av) (hV : isC.map (fun i => av[i]?) = avc.map some) (hl : Xc'.length = avc.length) (hM : mergeAt Y isC Xc' = Y') : va_P G.1 vwCl Y' t := by
  subst hM
  intro k q hq
  rcases merge_at isC Xc' Y k q hq with ⟨j, h1, -⟩ | ⟨h1, h2⟩
  · exact hP1 j q h1
  · refine (hP k q h1).kept ?_
    have hak : av[k]? = some q.1 := by rw [← hY, List.getElem?_map, h1]; rfl
    have hqav : q.1 ∈ av := List.mem_of_getElem? hak
    refine hk _ (hP k q h1).lt (fun hq2 => ?_)
    rcases hq2 with hq2 | hq2 | hq2
    · obtain ⟨j, hj⟩ := List.getElem?_of_mem hq2
      have h3 : (isC.map (fun i => av[i]?))[j]? = some (some q.1) := by rw [hV, List.getElem?_map, hj]; rfl
      rw [List.getElem?_map] at h3
      obtain ⟨i, hi, hi2⟩ := Option.map_eq_some_iff.mp h3
      have hav : av.Nodup := nd_left hnd
      have hkl : k < av.length := (List.getElem?_eq_some_iff.mp hak).1
      have hik : k = i := (List.getElem?_inj hkl hav).mp (by rw [hak, hi2])
      rcases h2 with h2 | ⟨j2, h4, h5⟩
      · exact h2 (by rw [hik]; exact List.mem_of_getElem? hi)
      · have hjl : j2 < avc.length := by
          have h6 : j2 < isC.length := (List.getElem?_eq_some_iff.mp h4).1
          have h7 : isC.length = avc.length := by have := congrArg List.length hV; simpa using this
          omega
        omega
    · exact nd_disj hnd hqav hq2
    · have := (hP k q h1).lt
      omega
theorem sub_of {av avc : List Nat} {isC : List Nat} (hV : isC.map (fun i => av[i]?) = avc.map some) {q : Nat} (hq : q ∈ avc) : q ∈ av := by
  have h1 : some q ∈ avc.map some := List.mem_map.mpr ⟨q, hq, rfl⟩
  rw [← hV] at h1
  obtain ⟨i, -, hi⟩ := List.mem_map.mp h1
  exact List.mem_of_getElem? hi
theorem t_S {A B : Nat → Prop} {H0 H t : Heap} {locs L1 : List Loc} (hS : va_S A H0 H locs) (hB : ∀ q, B q → A q) (hz : H.size ≤ t.size) (hk : ∀ q : Nat, q < H.size → ¬ B q → t[q]? = H[q]?) (hL : ∀ z ∈ L1, B z.base) : va_S A H0 t (locs ++ L1) :=
  ⟨Nat.le_trans hS.1 hz, fun q h1 h2 => by rw [hk q (Nat.lt_of_lt_of_le h1 hS.1) (fun h => h2 (hB q h))]; exact hS.2.1 q h1 h2, fun q hq => by
      rcases List.mem_append.mp hq with h | h
      · exact hS.2.2 q h
      · exact hB _ (hL q h)⟩
section TB
variable {p : Program} {l : Launch} {e : Env} {R : Room} {s : State} {m : MethodId} {args : Array Value} {below : List Frame} {meth : Method} {c : Code} {H : Heap} {locs : List Loc} {cells slots : Nat} {Q : State → Prop} {pc : Nat} {ls : Array Slot} {rest : List Value} {cc : ByteArray} {own : String} {G : kG} {av : List Nat} {pl : va_W} {A : Nat → Prop}
/-- a call of a method that makes nothing, from a walk with a pool: its start -/
theorem t_preV {Xc Y : va_W} {avc : List Nat} {b : Nat} {As : List Value} {Cn : String} (C : nC p s m args c cc own G av [] A) (D : tD s av pl A) (hP : va_P G.1 vwCl Y H) (hp : va_P G.1 vwCl pl H) (isC : List Nat) (hX : isC.filterMap (fun i => Y[i]?) = Xc) (hn : va_nd isC = true) (hV : isC.map (fun i => av[i]?) = avc.map some) (hr : ∃ cell : Cell, H[b]? = some cell ∧ cell.vm.isStatics = false ∧ s.vm.findClass Cn = some cell.cls) : PreV s H Cn b (nPc G Xc pl avc (.ref b :: As)) As :=
  ⟨nPc_blind, hr, fun U hU hW => ⟨rfl, by rw [hU]; exact hP.sub isC hX, by rw [hU]; exact hp, va_K.moved hW.alike C.2.2.2.2.1, nd_part isC D.1 hn hV⟩⟩
theorem t_preS {Xc Y : va_W} {avc : List Nat} {As : List Value} (C : nC p s m args c cc own G av [] A) (D : tD s av pl A) (hP : va_P G.1 vwCl Y H) (hp : va_P G.1 vwCl pl H) (isC : List Nat) (hX : isC.filterMap (fun i => Y[i]?) = Xc) (hn : va_nd isC = true) (hV : isC.map (fun i => av[i]?) = avc.map some) : PreS s H (nPc G Xc pl avc As) As :=
  ⟨nPc_blind, fun U hU hW => ⟨rfl, by rw [hU]; exact hP.sub isC hX, by rw [hU]; exact hp, va_K.moved hW.alike C.2.2.2.2.1, nd_part isC D.1 hn hV⟩⟩
theorem t_preV0 {Y : va_W} {b : Nat} {As : List Value} {Cn : String} (C : nC p s m args c cc own G av [] A) (D : tD s av pl A) (hP : va_P G.1 vwCl Y H) (hp : va_P G.1 vwCl pl H) (hr : ∃ cell : Cell, H[b]? = some cell ∧ cell.vm.isStatics = false ∧ s.vm.findClass Cn = some cell.cls) : PreV s H Cn b (nPc G Y pl av (.ref b :: As)) As :=
  ⟨nPc_blind, hr, fun U hU hW => ⟨rfl, by rw [hU]; exact hP, by rw [hU]; exact hp, va_K.moved hW.alike C.2.2.2.2.1, D.1⟩⟩
/-- .. with another pool: a thrown cell -/
theorem t_preX {Y : va_W} {b q k : Nat} {fs : List Value} {As : List Value} {Cn : String} (C : nC p s m args c cc own G av [] A) (hP : va_P G.1 vwCl Y H) (hc : va_P G.1 vwCl [(q, .inr (k, fs))] H) (hq : q ∉ av) (hr : ∃ cell : Cell, H[b]? = some cell ∧ cell.vm.isStatics = false ∧ s.vm.findClass Cn = some cell.cls) : PreV s H Cn b (nPc G Y [(q, .inr (k, fs))] av (.ref b :: As)) As :=
  ⟨nPc_blind, hr, fun U hU hW => ⟨rfl, by rw [hU]; exact hP, by rw [hU]; exact hc, va_K.moved hW.alike C.2.2.2.2.1, by
    have h1 := nd_left C.2.2.2.2.2.1
    refine List.nodup_append.mpr ⟨h1, by simp, fun a ha b hb => ?_⟩
    simp only [List.map_cons, List.map_nil, List.mem_singleton] at hb
    intro e
    exact hq (by rw [← hb, ← e]; exact ha)⟩⟩
theorem tA_sub {avc : List Nat} {isC : List Nat} (C : nC p s m args c cc own G av [] A) (D : tD s av pl A) (hS : va_S A s.heap H locs) (hV : isC.map (fun i => av[i]?) = avc.map some) : ∀ q, tA H.size avc pl q → A q := by
  intro q hq
  rcases hq with h | h | h
  · exact C.2.2.2.2.2.2.2.1 q (sub_of hV h)
  · exact D.2.1 q h
  · exact D.2.2.1 q (Nat.le_trans hS.1 h)
/-- a call of a method that may make cells or throw: its start -/
theorem tt_pc {Xc Y : va_W} {avc : List Nat} {As : List Value} (C : nC p s m args c cc own G av [] A) (D : tD s av pl A) (hP : va_P G.1 vwCl Y H) (hp : va_P G.1 vwCl pl H) (hS : va_S A s.heap H locs) (isC : List Nat) (hX : isC.filterMap (fun i => Y[i]?) = Xc) (hn : va_nd isC = true) (hV : isC.map (fun i => av[i]?) = avc.map some) (U : State) (hU : U.heap = H) (hW : s.WarmedH U.vm) : tPc G Xc pl avc H.size As As.toArray U :=
  ⟨rfl, by rw [hU]; exact hP.sub isC hX, by rw [hU]; exact hp, va_K.moved hW.alike C.2.2.2.2.1, nd_part isC D.1 hn hV, by rw [hU], by
    rw [hU]
    exact ((D.2.2.2.1.moved hW.alike).kept (fun a h1 h2 => hS.2.1 a h1 h2)).narrow (tA_sub C D hS hV), kE.moved hW D.2.2.2.2⟩
theorem tt_preV {Xc Y : va_W} {avc : List Nat} {b : Nat} {As : List Value} {Cn : String} (C : nC p s m args c cc own G av [] A) (D : tD s av pl A) (hP : va_P G.1 vwCl Y H) (hp : va_P G.1 vwCl pl H) (hS : va_S A s.heap H locs) (isC : List Nat) (hX : isC.filterMap (fun i => Y[i]?) = Xc) (hn : va_nd isC = true) (hV : isC.map (fun i => av[i]?) = avc.map some) (hr : ∃ cell : Cell, H[b]? = some cell ∧ cell.vm.isStatics = false ∧ s.vm.findClass Cn = some cell.cls) : PreV s H Cn b (tPc G Xc pl avc H.size (.ref b :: As)) As :=
  ⟨tPc_blind, hr, fun U hU hW => tt_pc (As := .ref b :: As) C D hP hp hS isC hX hn hV U hU hW⟩
theorem tt_preS {Xc Y : va_W} {avc : List Nat} {As : List Value} (C : nC p s m args c cc own G av [] A) (D : tD s av pl A) (hP : va_P G.1 vwCl Y H) (hp : va_P G.1 vwCl pl H) (hS : va_S A s.heap H locs) (isC : List Nat) (hX : isC.filterMap (fun i => Y[i]?) = Xc) (hn : va_nd isC = true) (hV : isC.map (fun i => av[i]?) = avc.map some) : PreS s H (tPc G Xc pl avc H.size As) As :=
  ⟨tPc_blind, fun U hU hW => tt_pc C D hP hp hS isC hX hn hV U hU hW⟩
theorem tt_pc0 {Y : va_W} {As : List Value} (C : nC p s m args c cc own G av [] A) (D : tD s av pl A) (hP : va_P G.1 vwCl Y H) (hp : va_P G.1 vwCl pl H) (hS : va_S A s.heap H locs) (U : State) (hU : U.heap = H) (hW : s.WarmedH U.vm) : tPc G Y pl av H.size As As.toArray U :=
  ⟨rfl, by rw [hU]; exact hP, by rw [hU]; exact hp, va_K.moved hW.alike C.2.2.2.2.1, D.1, by rw [hU], by
    rw [hU]
    refine ((D.2.2.2.1.moved hW.alike).kept (fun a h1 h2 => hS.2.1 a h1 h2)).narrow (fun q hq => ?_)
    rcases hq with h | h | h
    · exact C.2.2.2.2.2.2.2.1 q h
    · exact D.2.1 q h
    · exact D.2.2.1 q (Nat.le_trans hS.1 h), kE.moved hW D.2.2.2.2⟩
theorem tt_preV0 {Y : va_W} {b : Nat} {As : List Value} {Cn : String} (C : nC p s m args c cc own G av [] A) (D : tD s av pl A) (hP : va_P G.1 vwCl Y H) (hp : va_P G.1 vwCl pl H) (hS : va_S A s.heap H locs) (hr : ∃ cell : Cell, H[b]? = some cell ∧ cell.vm.isStatics = false ∧ s.vm.findClass Cn = some cell.cls) : PreV s H Cn b (tPc G Y pl av H.size (.ref b :: As)) As :=
  ⟨tPc_blind, hr, fun U hU hW => tt_pc0 (As := .ref b :: As) C D hP hp hS U hU hW⟩
/-- behind a call of a method that makes nothing -/
theorem tn_after {mc ms : Nat} {Xc' Y Y' plc : va_W} {avc : List Nat} {st : List Value} {o : Option Value} {a : Array Value} (isC : List Nat) (C : nC p s m args c cc own G av [] A) (D : tD s av pl A) (hP : va_P G.1 vwCl Y H) (hp : va_P G.1 vwCl pl H) (hS : va_S A s.heap H locs) (hr : va_Run p l e R s m args below meth c H locs cells slots mc ms (F0 m pc ls st) rest (nQc G Xc' avc o a) (nA avc))
    (hY : Y.map (·.1) = av) (hV : isC.map (fun i => av[i]?) = avc.map some) (hl : Xc'.length = avc.length) (hM : mergeAt Y isC Xc' = Y')
    (kk : ∀ (H1 : Heap) (locs1 : List Loc), va_P G.1 vwCl Y' H1 → va_P G.1 vwCl pl H1 → va_S A s.heap H1 locs1 → W p l e R s m args below meth c H1 locs1 (cells + mc) (slots + ms) Q (F0 m (pc + 3) ls (o.toList ++ rest))) : W p l e R s m args below meth c H locs cells slots Q (F0 m pc ls st) := by
  intro T hT X
  obtain ⟨v, st₀, t, T', L1, e0, X', hL, e1, e2, ⟨hv, hP1, hz, hk⟩, stp⟩ := hr T hT X
  cases hv
  rw [e0] at hz hk
  have hsub : ∀ q, q ∈ avc → q ∈ av := fun q hq => sub_of hV hq
  have h1 := t_mrg (t := t.heap) isC D.1 hP hP1 (fun q h1 h2 => hk q h1 (fun h => h2 (Or.inl h))) hY hV hl hM
  have h2 : va_P G.1 vwCl pl t.heap := P_kept hp (fun a ha hlt => hk a hlt (fun h => nd_disj D.1 (hsub a h) ha))
  obtain ⟨t2, a1, b1⟩ := kk T'.heap (locs ++ L1) (by rw [e1]; exact h1) (by rw [e1]; exact h2) (by rw [e1]; exact t_S hS (fun q hq => C.2.2.2.2.2.2.2.1 q (hsub q hq)) hz hk hL) T' rfl X'
  exact ⟨t2, stp t2 a1, b1⟩
theorem tn_afterS {mc ms : Nat} {Y' : va_W} {st : List Value} {o : Option Value} {a : Array Value} (C : nC p s m args c cc own G av [] A) (D : tD s av pl A) (hp : va_P G.1 vwCl pl H) (hS : va_S A s.heap H locs) (hr : va_Run p l e R s m args below meth c H locs cells slots mc ms (F0 m pc ls st) rest (nQc G Y' av o a) (nA av))
    (kk : ∀ (H1 : Heap) (locs1 : List Loc), va_P G.1 vwCl Y' H1 → va_P G.1 vwCl pl H1 → va_S A s.heap H1 locs1 → W p l e R s m args below meth c H1 locs1 (cells + mc) (slots + ms) Q (F0 m (pc + 3) ls (o.toList ++ rest))) : W p l e R s m args below meth c H locs cells slots Q (F0 m pc ls st) := by
  intro T hT X
  obtain ⟨v, st₀, t, T', L1, e0, X', hL, e1, e2, ⟨hv, hP1, hz, hk⟩, stp⟩ := hr T hT X
  cases hv
  rw [e0] at hz hk
  have h2 : va_P G.1 vwCl pl t.heap := P_kept hp (fun a ha hlt => hk a hlt (fun h => nd_disj D.1 h ha))
  obtain ⟨t2, a1, b1⟩ := kk T'.heap (locs ++ L1) (by rw [e1]; exact hP1) (by rw [e1]; exact h2) (by rw [e1]; exact t_S hS C.2.2.2.2.2.2.2.1 hz hk hL) T' rfl X'
  exact ⟨t2, stp t2 a1, b1⟩
/-- where a thrown cell lies -/
def xQ (s : State) (av : List Nat) (pl : va_W) (q : Nat) : Prop := q ∉ av ∧ q ∉ pl.map (·.1) ∧ s.heap.size ≤ q
theorem xQ_of {Y : va_W} (hP : va_P G.1 vwCl Y H) (hY : Y.map (·.1) = av) (hp : va_P G.1 vwCl pl H) (hS : va_S A s.heap H locs) {q : Nat} (hq : H.size ≤ q) : xQ s av pl q :=
  ⟨fun h => by have := P_lt hP (by rw [hY]; exact h); omega, fun h => by have := P_lt hp h; omega, Nat.le_trans hS.1 hq⟩
/-- behind a call of a method that may make cells or throw -/
theorem t_after {mc ms k : Nat} {Xc' pl' Y Y' : va_W} {avc : List Nat} {st : List Value} {o : Option Value} {a : Array Value} {φ : Prop} {E : String} {ow : Option Int32} (isC : List Nat) (C : nC p s m args c cc own G av [] A) (D : tD s av pl A) (hP : va_P G.1 vwCl Y H) (hp : va_P G.1 vwCl pl H) (hS : va_S A s.heap H locs)
    (hr : vx_Run p l e R s m args below meth c H locs cells slots mc ms (F0 m pc ls st) rest (tQc G Xc' pl' (tA H.size avc pl) φ o a) (tXC G Xc' pl' (tA H.size avc pl) k E ow H.size) (tA H.size avc pl))
    (hY : Y.map (·.1) = av) (hV : isC.map (fun i => av[i]?) = avc.map some) (hl : Xc'.length = avc.length) (hM : mergeAt Y isC Xc' = Y')
    (kn : φ → ∀ (H1 : Heap) (locs1 : List Loc), va_P G.1 vwCl Y' H1 → va_P G.1 vwCl pl' H1 → va_S A s.heap H1 locs1 → W p l e R s m args below meth c H1 locs1 (cells + mc) (slots + ms) Q (F0 m (pc + 3) ls (o.toList ++ rest)))
    (kx : ∀ (w : Int32) (q : Nat) (H1 : Heap) (locs1 : List Loc), ow = some w → xQ s av pl q → va_P G.1 vwCl [(q, .inr (k, xF w))] H1 → va_P G.1 vwCl Y' H1 → va_P G.1 vwCl pl' H1 → va_S A s.heap H1 locs1 → vx_W p l e R s m args below meth c H1 locs1 (cells + mc) (slots + ms) Q (F0 m pc ls rest) q) : W p l e R s m args below meth c H locs cells slots Q (F0 m pc ls st) := by
  intro T hT X
  rcases hr T hT X with ⟨v, st₀, t, T', L1, e0, X', hL, e1, e2, ⟨hv, hφ, hP1, hp1, hz, hk⟩, stp⟩ | ⟨q, st₀, t, T', L1, E', ce, e0, X', hL, e1, e2, ⟨hE, hq, ⟨w, hw, hc⟩, hP1, hp1, hz, hk⟩, hce, hcv, hcl, stp⟩
  · cases hv
    rw [e0] at hz hk
    have h1 := t_mrg (t := t.heap) isC D.1 hP hP1 hk hY hV hl hM
    obtain ⟨t2, a1, b1⟩ := kn hφ T'.heap (locs ++ L1) (by rw [e1]; exact h1) (by rw [e1]; exact hp1) (by rw [e1]; exact t_S hS (tA_sub C D hS hV) hz hk hL) T' rfl X'
    exact ⟨t2, stp t2 a1, b1⟩
  · rw [e0] at hz hk
    have h1 := t_mrg (t := t.heap) isC D.1 hP hP1 hk hY hV hl hM
    obtain ⟨t2, a1, b1⟩ := kx w q T'.heap (locs ++ L1) hw (xQ_of hP hY hp hS hq) (by rw [e1]; exact hc) (by rw [e1]; exact h1) (by rw [e1]; exact hp1) (by rw [e1]; exact t_S hS (tA_sub C D hS hV) hz hk hL) T' rfl X'
    exact ⟨t2, stp.trans a1, b1⟩
theorem t_afterS {mc ms k : Nat} {pl' Y Y' : va_W} {st : List Value} {o : Option Value} {a : Array Value} {φ : Prop} {E : String} {ow : Option Int32} (C : nC p s m args c cc own G av [] A) (D : tD s av pl A) (hP : va_P G.1 vwCl Y H) (hp : va_P G.1 vwCl pl H) (hS : va_S A s.heap H locs)
    (hr : vx_Run p l e R s m args below meth c H locs cells slots mc ms (F0 m pc ls st) rest (tQc G Y' pl' (tA H.size av pl) φ o a) (tXC G Y' pl' (tA H.size av pl) k E ow H.size) (tA H.size av pl))
    (hY : Y.map (·.1) = av)
    (kn : φ → ∀ (H1 : Heap) (locs1 : List Loc), va_P G.1 vwCl Y' H1 → va_P G.1 vwCl pl' H1 → va_S A s.heap H1 locs1 → W p l e R s m args below meth c H1 locs1 (cells + mc) (slots + ms) Q (F0 m (pc + 3) ls (o.toList ++ rest)))
    (kx : ∀ (w : Int32) (q : Nat) (H1 : Heap) (locs1 : List Loc), ow = some w → xQ s av pl q → va_P G.1 vwCl [(q, .inr (k, xF w))] H1 → va_P G.1 vwCl Y' H1 → va_P G.1 vwCl pl' H1 → va_S A s.heap H1 locs1 → vx_W p l e R s m args below meth c H1 locs1 (cells + mc) (slots + ms) Q (F0 m pc ls rest) q) : W p l e R s m args below meth c H locs cells slots Q (F0 m pc ls st) := by
  have hsub : ∀ q, tA H.size av pl q → A q := by
    intro q hq
    rcases hq with h | h | h
    · exact C.2.2.2.2.2.2.2.1 q h
    · exact D.2.1 q h
    · exact D.2.2.1 q (Nat.le_trans hS.1 h)
  intro T hT X
  rcases hr T hT X with ⟨v, st₀, t, T', L1, e0, X', hL, e1, e2, ⟨hv, hφ, hP1, hp1, hz, hk⟩, stp⟩ | ⟨q, st₀, t, T', L1, E', ce, e0, X', hL, e1, e2, ⟨hE, hq, ⟨w, hw, hc⟩, hP1, hp1, hz, hk⟩, hce, hcv, hcl, stp⟩
  · cases hv
    rw [e0] at hz hk
    obtain ⟨t2, a1, b1⟩ := kn hφ T'.heap (locs ++ L1) (by rw [e1]; exact hP1) (by rw [e1]; exact hp1) (by rw [e1]; exact t_S hS hsub hz hk hL) T' rfl X'
    exact ⟨t2, stp t2 a1, b1⟩
  · rw [e0] at hz hk
    obtain ⟨t2, a1, b1⟩ := kx w q T'.heap (locs ++ L1) hw (xQ_of hP hY hp hS hq) (by rw [e1]; exact hc) (by rw [e1]; exact hP1) (by rw [e1]; exact hp1) (by rw [e1]; exact t_S hS hsub hz hk hL) T' rfl X'
    exact ⟨t2, stp.trans a1, b1⟩
/-- a thrown cell as the machine has it -/
theorem t_cell {q k : Nat} {fs : List Value} {r : vw_C} (C : nC p s m args c cc own G av [] A) (hc : va_P G.1 vwCl [(q, .inr (k, fs))] H) (hk : vwCl[k]? = some r) : ∃ ce : Cell, H[q]? = some ce ∧ ce.vm = .none ∧ s.vm.findClass r.1 = some ce.cls := by
  obtain ⟨q', h1, cell, g1, g2, g3, -⟩ := hc 0 _ rfl
  exact ⟨cell, g1, by rw [g3], by rw [g2]; exact (C.2.2.2.2.1.1 k r hk).2.1⟩
/-- a new object: the next cell -/
theorem t_new {Cn : String} {T : u_T} {N ci index : Nat} {fs : List Value} (C : nC p s m args c cc own G av [] A) (hin : ∀ w ∈ u_ws Cn T N, w ∈ lw_all) (ty : Nat → FieldType) (hty : ∀ k, k < N → parseFieldDescriptor (T k).2.2.1 = some (ty k)) (hcl : Cond.classLink own index Cn ∈ lw_all) (hinst : Cond.instantiable Cn N ∈ lw_all) (hini : Cond.initialized Cn ∈ lw_all)
    (hc : vwCl[ci]? = some (Cn, T, N)) (hfs : ∀ j, j < N → defaultValue (ty j) = vp_V fs j) (hcells : cells + 1 ≤ R.cells) (hslots : slots + N ≤ R.slots) (hdg : decode cc pc = .ok (.new index, 3))
    (kk : ∀ H1 : Heap, va_P G.1 vwCl [(H.size, .inr (ci, fs))] H1 → H1.size = H.size + 1 → (∀ q, q < H.size → H1[q]? = H[q]?) → W p l e R s m args below meth c H1 locs (cells + 1) (slots + N) Q (F0 m (pc + 3) ls (.ref H.size :: rest))) : W p l e R s m args below meth c H locs cells slots Q (F0 m pc ls rest) := by
  have hKn := C.2.2.2.2.1.1 ci _ hc
  refine W.newcK C.1 C.2.1 C.2.2.1 (C.2.2.2.1 _ hcl) (C.2.2.2.1 _ hinst) (C.2.2.2.1 _ hini) rfl hdg hcells hslots hKn.2.1 rfl fun H1 kC hkC e1 z1 o1 => ?_
  exact kk H1 (P_one ⟨_, hc, (u_born ty C.2.2.2.1 hin hKn hkC e1 hty).to hfs⟩) z1 o1
theorem t_S0 {H0 H1 : Heap} (hS : va_S A H0 H locs) (hz : H.size ≤ H1.size) (hk : ∀ q, q < H.size → H1[q]? = H[q]?) : va_S A H0 H1 locs :=
  ⟨Nat.le_trans hS.1 hz, fun q h1 h2 => (hk q (Nat.lt_of_lt_of_le h1 hS.1)).trans (hS.2.1 q h1 h2), hS.2.2⟩
/-- caught here -/
theorem t_catch {name E : String} {ce : Cell} {q : Addr} (C : nC p s m args c cc own G av [] A) (D : tD s av pl A) (pre : List ExceptionTableEntry) (x : ExceptionTableEntry) (suf : List ExceptionTableEntry) (hsplit : c.exceptionTable.toList = pre ++ x :: suf)
    (hpass : ∀ z ∈ pre, covers z pc = false ∨ (z.catchType ≠ 0 ∧ ∃ nm : String, (Cond.classLink own z.catchType nm).before args s = true ∧ va_Nc E nm s)) (hx : covers x pc = true) (h0 : x.catchType ≠ 0)
    (hlink : Cond.classLink own x.catchType name ∈ lw_all) (hcast : (E, name) ∈ kCa) (hcell : H[q]? = some ce) (hv : ce.vm = .none) (hcl : s.vm.findClass E = some ce.cls)
    (kk : W p l e R s m args below meth c H locs cells slots Q (F0 m x.handlerPc ls [.ref q])) : vx_W p l e R s m args below meth c H locs cells slots Q (F0 m pc ls rest) q :=
  vx_catch C.2.2.1 pre x suf hsplit hpass hx h0 (C.2.2.2.1 _ hlink) (va_Nw.use rfl (D.2.2.2.2.1 _ hcast)) hcell hv hcl kk
end TB
