set_option maxRecDepth 100000
section XR
variable {p : Program} {l : Launch} {e : Env} {R : Room} {s : State} {m : MethodId} {args : Array Value} {below : List Frame} {meth : Method} {c : Code} {H : Heap} {locs : List Loc} {cells slots : Nat} {Q : State → Prop} {pc : Nat} {ls : Array Slot} {rest : List Value} {cc : ByteArray}
/-- an index out of an array of references -/
theorem vx_aaldZ {D : va_G} {cl : List vw_C} {ws : va_W} {tys : List (ClassId × FieldType)} {a : Nat} (hexec : p.tables.exec = Jvm.exec) (hb : c.code = cc) (hK : va_K D cl tys s) (hP : va_P D cl ws H) (q0 t0 : Nat) {cA : ClassId} {C : String} {n : Nat} {f : Nat → Option Nat} (ha : ws[q0]? = some (a, .inl (cA, n, .inr (.inr (.inr (.inr f)))))) (ht : tys[t0]? = some (cA, .object C)) {i : Int32} (hout : ¬ vp_in i n) (hdg : decode cc pc = .ok (.aaload, 1))
    (k : ∀ tx : String, tx = (toString "Index " ++ toString i ++ toString " out of bounds for length " ++ toString n : String) → vx_Note p l e R s m args below meth c H locs cells slots Q (F0 m pc ls rest) "java/lang/ArrayIndexOutOfBoundsException" tx) : W p l e R s m args below meth c H locs cells slots Q (F0 m pc ls (.int i :: .ref a :: rest)) := by
  intro T hT X
  obtain ⟨t, st, q⟩ := k _ rfl T hT X
  refine ⟨t, ?_, q⟩
  have h1 := X.aaloadOut hexec (by rw [hT]; exact hP q0 _ ha) ((hK.2 t0 _ ht).1 n (fun j => va_rf (f j))) (j := i) (by show (i < 0 ∨ (arrV _ _ _).slots.size ≤ _); rw [arrV_size]; exact Classical.byContradiction hout) (g := F0 m pc ls (.int i :: .ref a :: rest)) rfl (rest := rest) rfl (by rw [hb]; exact hdg) t
  simp only [arrV_size] at h1
  exact h1 st
/-- a cast that fails -/
theorem n_castX {T : State} (X : Stand p l e R s m args below meth c T locs cells slots) (hexec : p.tables.exec = Jvm.exec)
    {own name : String} {index : Nat} (hown : s.vm.findClass own = some m.cls) (hlink : (Cond.classLink own index name).before args s = true)
    {a : Addr} {cell : Cell} {cT : ClassId} {ks kt0 : Class} (hcell : T.heap[a]? = some cell) (hobj : cell.vm.isStatics = false) (hks : s.vm.classes[cell.cls]? = some ks) (hcT : s.vm.findClass name = some cT) (hkt0 : s.vm.classes[cT]? = some kt0) (hasg : s.vm.assignable cell.cls cT = false)
    {g : JFrame} (hg : g.method = m) {rest : List Value} (hstack : g.stack = .ref a :: rest) (hdg : decode c.code g.pc = .ok (.checkcast index, 3)) :
    ∃ (vm' : Vm) (ks' kt' : Class), vm'.classes[cell.cls]? = some ks' ∧ vm'.classes[cT]? = some kt' ∧ s.WarmedH vm' ∧ Stand p l e R s m args below meth c (T.setVm vm') locs cells slots ∧
      ∀ target, Steps p.tables e below (((T.setVm vm').setTop g).pushFrame (.throwNew "java/lang/ClassCastException" (some (Op.checkcast.message vm' ks' kt')) none)) target → Steps p.tables e below (T.setTop g) target := by
  have hpl : e.platform.magicAccessors = ({} : Platform).magicAccessors := by rw [X.admits.platform]
  obtain ⟨c', hc', hcl⟩ := Cond.classLink_spec hown hlink e.platform hpl
  cases hcT.symm.trans hc'
  obtain ⟨dk, _, _, kt, hd, _, _, _, _, hkt, _, hopen⟩ := hcl.here
  have hcl₀ := X.warmed.classLinks hcl
  have hW' : s.WarmedH (T.vm.noted m.cls index (.cls cT)) := X.warmed.noted hd hopen (State.rightAt_cls hcl)
  obtain ⟨ks', hks', -⟩ := hW'.alike.2.2 _ _ hks
  obtain ⟨kt', hkt', -⟩ := hW'.alike.2.2 _ _ hkt
  refine ⟨_, ks', kt', hks', hkt', hW', X.noted hW', fun target hrest => ?_⟩
  subst hg
  jvm_step X.here [hexec, hdg, checkcast.wp_cold (e := e) (s := T) (f := g) X.here.top hstack (resolveClass_links e.toSetting hcl₀) hcl₀.ready,
    checkcast.wp_ready (e := e) (s := T.setVm (T.vm.noted g.method.cls index (.cls cT))) (f := g) X.here.top hcl₀.ready hstack]
  refine ⟨cell, hcell, VmData.noStatics_of hobj, ks', hks', kt', hkt', ?_⟩
  rw [if_neg (by rw [hW'.alike.assignable, hasg]; decide)]
  exact hrest
end XR
