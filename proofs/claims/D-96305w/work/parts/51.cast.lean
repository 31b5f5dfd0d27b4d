set_option maxRecDepth 100000
theorem findClass_all {vm : Vm} {name : String} {c : ClassId} {k : Class} (h : vm.findClass name = some c) (hk : vm.classes[c]? = some k) : k.name = name ∧ k.hidden = none ∧ k.loader = none := by
  obtain ⟨hlt, hp, _⟩ := Array.findIdx?_eq_some_iff_getElem.mp h
  have e : vm.classes[c] = k := by
    rw [Array.getElem?_eq_getElem hlt] at hk
    exact Option.some.inj hk
  rw [e] at hp
  simp only [Bool.and_eq_true, beq_iff_eq, Option.isNone_iff_eq_none] at hp
  exact ⟨hp.1.1.1, hp.1.1.2, hp.2⟩
theorem shown_len {k : Class} (h : k.hidden = none) : k.shown.toList.length = k.name.toList.length := by
  unfold Class.shown
  rw [h]
  show (dotted k.name).toList.length = _
  unfold dotted turned
  rw [String.toList_ofList, List.length_map]
theorem pkg0 {n : String} (h1 : ¬ ("[".toList <+: n.toList)) (h2 : beforeLast '/' (withoutBrackets n) = "") : packageOf n = "" := by
  have h : n.startsWith "[" = false := by
    rw [Bool.eq_false_iff]
    intro h
    exact h1 (String.startsWith_string_iff.mp h)
  unfold packageOf
  simp only [h, Bool.false_and, Bool.false_eq_true, if_false]
  exact h2
theorem home_len {vm : Vm} {k : Class} (hm : (vm.modules.all fun m => m.loader.isSome || m.name == "java.base" || !(castPackages_1.any fun p => m.packages.contains p)) = true) (hl : k.loader = none) (hp : packageOf k.name = "") : (vm.home k).toList.length ≤ 40 := by
  have hmod : ∀ m, vm.moduleOf k = some m → m.name = "java.base" := by
    intro m h
    unfold Vm.moduleOf at h
    split at h
    · have := List.find?_some h
      exact beq_iff_eq.mp this
    · have h1 := List.find?_some h
      have h2 := List.mem_of_find?_eq_some h
      have h3 := List.all_eq_true.mp hm m h2
      simp only [Bool.and_eq_true, beq_iff_eq] at h1
      rw [hl] at h1
      rw [hp] at h1
      have h4 : (castPackages_1.any fun p => m.packages.contains p) = true := by
        rw [List.any_eq_true]
        exact ⟨"", by decide, h1.2⟩
      rw [h1.1, h4] at h3
      simpa using h3
  unfold Vm.home
  rw [hl]
  show ((match vm.moduleOf k with | some m => "module " ++ m.name | none => "unnamed module") ++ " of loader " ++ "'bootstrap'").toList.length ≤ 40
  cases h : vm.moduleOf k with
  | none => decide
  | some m =>
    show ("module " ++ m.name ++ " of loader " ++ "'bootstrap'").toList.length ≤ 40
    rw [hmod m h]
    decide
theorem msg_len {vm : Vm} {a b : Class} (hm : (vm.modules.all fun m => m.loader.isSome || m.name == "java.base" || !(castPackages_1.any fun p => m.packages.contains p)) = true) (ha : a.hidden = none ∧ a.loader = none ∧ packageOf a.name = "" ∧ a.name.toList.length ≤ 24) (hb : b.hidden = none ∧ b.loader = none ∧ packageOf b.name = "" ∧ b.name.toList.length ≤ 24) : (Op.checkcast.message vm a b).toList.length ≤ 240 := by
  have a1 := shown_len ha.1
  have b1 := shown_len hb.1
  have a2 := home_len hm ha.2.1 ha.2.2.1
  have b2 := home_len hm hb.2.1 hb.2.2.1
  have hh : (vm.homes a b).toList.length ≤ 146 := by
    unfold Vm.homes
    split
    · show (toString a.shown ++ toString " and " ++ toString b.shown ++ toString " are in " ++ toString (vm.home a)).toList.length ≤ 146
      simp only [String.toList_append, List.length_append]
      have c1 : (toString " and ").toList.length = 5 := by decide
      have c2 : (toString " are in ").toList.length = 8 := by decide
      have e1 : (toString a.shown) = a.shown := rfl
      have e2 : (toString b.shown) = b.shown := rfl
      have e3 : (toString (vm.home a)) = vm.home a := rfl
      rw [e1, e2, e3]
      omega
    · show (toString a.shown ++ toString " is in " ++ toString (vm.home a) ++ toString "; " ++ toString b.shown ++ toString " is in " ++ toString (vm.home b)).toList.length ≤ 146
      simp only [String.toList_append, List.length_append]
      have c1 : (toString " is in ").toList.length = 7 := by decide
      have c2 : (toString "; ").toList.length = 2 := by decide
      have e1 : (toString a.shown) = a.shown := rfl
      have e2 : (toString b.shown) = b.shown := rfl
      have e3 : (toString (vm.home a)) = vm.home a := rfl
      have e4 : (toString (vm.home b)) = vm.home b := rfl
      rw [e1, e2, e3, e4]
      omega
  unfold Op.checkcast.message
  show (toString "class " ++ toString a.shown ++ toString " cannot be cast to class " ++ toString b.shown ++ toString " (" ++ toString (vm.homes a b) ++ toString ")").toList.length ≤ 240
  simp only [String.toList_append, List.length_append]
  have c1 : (toString "class ").toList.length = 6 := by decide
  have c2 : (toString " cannot be cast to class ").toList.length = 25 := by decide
  have c3 : (toString " (").toList.length = 2 := by decide
  have c4 : (toString ")").toList.length = 1 := by decide
  have e1 : (toString a.shown) = a.shown := rfl
  have e2 : (toString b.shown) = b.shown := rfl
  have e3 : (toString (vm.homes a b)) = vm.homes a b := rfl
  rw [e1, e2, e3]
  omega
theorem msg_modelled {vm : Vm} {a b : Class} : (Op.checkcast.message vm a b == notModelled) = false := by
  rw [beq_eq_false_iff_ne]
  intro h
  have h2 := congrArg String.toList h
  have h3 : (Op.checkcast.message vm a b).toList = 'c' :: ("lass ".toList ++ (toString a.shown).toList ++ " cannot be cast to class ".toList ++ (toString b.shown).toList ++ " (".toList ++ (toString (vm.homes a b)).toList ++ ")".toList) := by
    unfold Op.checkcast.message
    show (toString "class " ++ toString a.shown ++ toString " cannot be cast to class " ++ toString b.shown ++ toString " (" ++ toString (vm.homes a b) ++ toString ")").toList = _
    simp only [String.toList_append]
    rfl
  rw [h3] at h2
  have h4 : notModelled.toList = '\u0000' :: " a message that is not modelled".toList := by decide
  rw [h4] at h2
  simp at h2
section CX
variable {p : Program} {l : Launch} {e : Env} {R : Room} {s : State} {m : MethodId} {args : Array Value} {below : List Frame} {meth : Method} {c : Code} {H : Heap} {locs : List Loc} {cells slots : Nat} {Q : State → Prop} {pc : Nat} {ls : Array Slot} {rest : List Value} {cc : ByteArray} {own : String} {G : kG} {av : List Nat} {pl : va_W} {A : Nat → Prop}
/-- a cast that fails -/
theorem t_castX {Y : va_W} {a k idx : Nat} {fs : List Value} {r : vw_C} {nm : String} (hfl : l.stackTraces = false) (C : nC p s m args c cc own G av [] A) (D : tD s av pl A) (hP : va_P G.1 vwCl Y H) (hp : va_P G.1 vwCl pl H) (hS : va_S A s.heap H locs) (hls : ls.size = c.maxLocals) (hlocks : meth.locks = false)
    (ha : va_at G.1 vwCl (a, .inr (k, fs)) H) (hk : vwCl[k]? = some r) (hn1 : packageOf r.1 = "" ∧ r.1.toList.length ≤ 24) (hn2 : packageOf nm = "" ∧ nm.toList.length ≤ 24) (hnc : (r.1, nm) ∈ kNc) (hl : Cond.classLink own idx nm ∈ lw_all) (hdg : decode cc pc = .ok (.checkcast idx, 3))
    (hR : 6 < R.frames ∧ ((.ref a :: rest : List Value).map fun v => v.category).sum + 10240 ≤ R.locals ∧ cells + 3 ≤ R.cells ∧ slots + 970 ≤ R.slots)
    (kk : ∀ (H1 : Heap) (q : Addr) (ce : Cell), H.size ≤ H1.size → va_P G.1 vwCl Y H1 → va_P G.1 vwCl pl H1 → va_S A s.heap H1 locs → H1[q]? = some ce → ce.vm = .none → s.vm.findClass "java/lang/ClassCastException" = some ce.cls → vx_W p l e R s m args below meth c H1 locs (cells + 3) (slots + 970) Q (F0 m pc ls (.ref a :: rest)) q) :
    W p l e R s m args below meth c H locs cells slots Q (F0 m pc ls (.ref a :: rest)) := by
  obtain ⟨r', h1, cell, g1, g2, g3, -⟩ := ha
  have hcell : H[a]? = some cell := g1
  have hcl : s.vm.findClass r.1 = some cell.cls := by
    have h2 : cell.cls = G.1.1 k := g2
    rw [h2]
    exact (C.2.2.2.2.1.1 k r hk).2.1
  have hst : cell.vm.isStatics = false := by rw [g3]; rfl
  obtain ⟨c1, c2, hf1, hf2, hasg⟩ := D.2.2.2.2.2.2.1 _ hnc
  have e1 : c1 = cell.cls := Option.some.inj (hf1.symm.trans hcl)
  rw [e1] at hasg
  obtain ⟨ks, hks, -⟩ := Vm.findClass_spec hcl
  obtain ⟨kt, hkt, -⟩ := Vm.findClass_spec hf2
  intro T hT X
  obtain ⟨vm', ks', kt', q1, q2, hW, X', step⟩ := n_castX X C.1 C.2.2.1 (C.2.2.2.1 _ hl) (by rw [hT]; exact hcell) hst hks hf2 hkt hasg (g := F0 m pc ls (.ref a :: rest)) rfl (rest := rest) rfl (by rw [C.2.1]; exact hdg)
  have n1 := findClass_all (vm := vm') (by rw [hW.alike.findClass]; exact hcl) q1
  have n2 := findClass_all (vm := vm') (by rw [hW.alike.findClass]; exact hf2) q2
  have hmod : (vm'.modules.all fun m => m.loader.isSome || m.name == "java.base" || !(castPackages_1.any fun p => m.packages.contains p)) = true := by
    have e : vm'.modules = s.vm.modules := by rw [hW.alike.1]
    rw [e]
    exact D.2.2.2.2.2.2.2.1
  have hlen := msg_len (vm := vm') (a := ks') (b := kt') hmod ⟨n1.2.1, n1.2.2, by rw [n1.1]; exact hn1.1, by rw [n1.1]; exact hn1.2⟩ ⟨n2.2.1, n2.2.2, by rw [n2.1]; exact hn2.1, by rw [n2.1]; exact hn2.2⟩
  have hnote : vx_Note p l e R s m args below meth c H locs cells slots Q (F0 m pc ls (.ref a :: rest)) "java/lang/ClassCastException" (Op.checkcast.message vm' ks' kt') :=
    t_note (names := ["java/lang/RuntimeException", "java/lang/Exception"]) (nb := 960) hfl C D hP hp hS hls hlocks (by decide +kernel) (by decide +kernel) (by decide +kernel) (by decide +kernel) (t_hatC C D) t_hatC_o msg_modelled
      (by
        have b1 := stringBytes_size_le (stringToUtf16 (Op.checkcast.message vm' ks' kt'))
        have b2 := utf16_size_le (Op.checkcast.message vm' ks' kt')
        omega) (by decide) (by decide) hR kk
  obtain ⟨t, st, q⟩ := hnote (T.setVm vm') hT X'
  exact ⟨t, step t st, q⟩
end CX
theorem pk_home : packageOf "HamsterWeekends$Home" = "" := pkg0 (by decide) (by decide +kernel)
theorem pk_good : packageOf "HamsterWeekends$Good" = "" := pkg0 (by decide) (by decide +kernel)
theorem pk_cat : packageOf "HamsterWeekends$Cat" = "" := pkg0 (by decide) (by decide +kernel)
theorem pk_overfed : packageOf "HamsterWeekends$Overfed" = "" := pkg0 (by decide) (by decide +kernel)
theorem pk_far : packageOf "HamsterWeekends$Far" = "" := pkg0 (by decide) (by decide +kernel)
theorem pk_dog : packageOf "HamsterWeekends$Dog" = "" := pkg0 (by decide) (by decide +kernel)
theorem pk_bus : packageOf "HamsterWeekends$Bus" = "" := pkg0 (by decide) (by decide +kernel)
theorem pk_row : packageOf "HamsterWeekends$Row" = "" := pkg0 (by decide) (by decide +kernel)
theorem pk_bytes : packageOf "HamsterWeekends$Bytes" = "" := pkg0 (by decide) (by decide +kernel)
theorem pk_shorts : packageOf "HamsterWeekends$Shorts" = "" := pkg0 (by decide) (by decide +kernel)
theorem pk_ints : packageOf "HamsterWeekends$Ints" = "" := pkg0 (by decide) (by decide +kernel)
theorem pk_longs : packageOf "HamsterWeekends$Longs" = "" := pkg0 (by decide) (by decide +kernel)
