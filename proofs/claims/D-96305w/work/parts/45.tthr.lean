set_option maxRecDepth 100000
section TT
variable {p : Program} {l : Launch} {e : Env} {R : Room} {s : State} {m : MethodId} {args : Array Value} {below : List Frame} {meth : Method} {c : Code} {H : Heap} {locs : List Loc} {cells slots : Nat} {Q : State → Prop} {pc : Nat} {ls : Array Slot} {rest : List Value} {cc : ByteArray} {own : String} {G : kG} {av : List Nat} {pl : va_W} {A : Nat → Prop}
theorem t_refuse18 {nL : Nat} {Y : va_W} {w : Int32} {inew iinit kp : Nat} (C : nC p s m args c cc own G av [] A) (D : tD s av pl A) (hml : c.maxLocals = nL) (hls : ls.size = nL) (hP : va_P G.1 vwCl Y H) (hY : Y.map (·.1) = av) (hp : va_P G.1 vwCl pl H) (hS : va_S A s.heap H locs)
    (hlk : Cond.classLink own inew RX6 ∈ lw_all) (hli : Cond.methodLink own iinit yX6_init ∈ lw_all) (d0 : decode cc pc = .ok (.new inew, 3)) (d1 : decode cc (pc + 3) = .ok (.dup, 1))
    (hpush : ∀ {H1 : Heap} {st : List Value}, W p l e R s m args below meth c H1 locs (cells + 1) (slots + 7) Q (F0 m (pc + 4 + kp) ls (.int w :: st)) → W p l e R s m args below meth c H1 locs (cells + 1) (slots + 7) Q (F0 m (pc + 4) ls st))
    (d2 : decode cc (pc + 4 + kp) = .ok (.invokespecial iinit, 3)) (d3 : decode cc (pc + 4 + kp + 3) = .ok (.athrow, 1)) (hR : 4 ≤ R.frames ∧ 101 ≤ R.locals ∧ cells + 1 ≤ R.cells ∧ slots + 7 ≤ R.slots)
    (kk : ∀ (H1 : Heap) (locs1 : List Loc), xQ s av pl H.size → va_P G.1 vwCl [(H.size, .inr (18, xF w))] H1 → va_P G.1 vwCl Y H1 → va_P G.1 vwCl pl H1 → va_S A s.heap H1 locs1 → vx_W p l e R s m args below meth c H1 locs1 (cells + 1) (slots + 7) Q (F0 m (pc + 4 + kp + 3) ls []) H.size) : W p l e R s m args below meth c H locs cells slots Q (F0 m pc ls []) := by
  refine t_new (ci := 18) (fs := [.null, .null, .null, .null, .null, .int 0, .int 0]) C in_X6 tyX6 tyX6_ok hlk q374 q92 rfl (fun j hj => by
    have h9 : j = 0 ∨ j = 1 ∨ j = 2 ∨ j = 3 ∨ j = 4 ∨ j = 5 ∨ j = 6 := by omega
    rcases h9 with rfl | rfl | rfl | rfl | rfl | rfl | rfl <;> rfl) hR.2.2.1 hR.2.2.2 d0 (fun H1 hN hz hk => ?_)
  refine lv_dup C.1 C.2.1 d1 rfl ?_
  refine hpush ?_
  have hx := xQ_of hP hY hp hS (Nat.le_refl H.size)
  have hAq : A H.size := D.2.2.1 _ hS.1
  have hS1 : va_S A s.heap H1 locs := t_S0 hS (by omega) hk
  intro T hT X
  have hrun := va_runI (e := e) (below := below) (meth := meth) (locs := locs) (As := [.int w]) (rest := [.ref H.size]) ⟨C.1, C.2.1, hml, C.2.2.1, C.2.2.2.1⟩ (metE_own_18 l G H.size .null .null .null .null .null 0 0 w) (cwI (R := R) 1 C.2.2.2.1 (lw_meth q384) rfl rfl rfl (C.2.2.2.1 _ q92) (C.2.2.2.1 _ hli) (C.2.2.2.1 _ q383) rfl (by decide +kernel) ⟨hR.1, hR.2.1⟩)
    ⟨ePc_blind, fun U hU hW => ⟨rfl, by rw [hU]; exact hN, va_K.moved hW.alike C.2.2.2.2.1, by
      rw [hU]
      exact ((D.2.2.2.1.moved hW.alike).kept (fun a h1 h2 => hS1.2.1 a h1 h2)).narrow (fun q hq => by rw [List.mem_singleton.mp hq]; exact hAq)⟩⟩ (g := F0 m (pc + 4 + kp) ls [.int w, .ref H.size, .ref H.size]) rfl rfl hls rfl (lv_room (Nat.le_of_ble_eq_true rfl)) d2 ⟨hR.2.2.1, hR.2.2.2⟩
  obtain ⟨v, st₀, t, T', L1, e0, X', hL, e1, e2, ⟨hv, hP1, hz1, hk1⟩, stp⟩ := hrun T hT X
  cases hv
  rw [e0] at hz1 hk1
  have hk2 : ∀ q, q < H.size → t.heap[q]? = H[q]? := fun q hq => (hk1 q (by omega) (fun h => by have := List.mem_singleton.mp h; omega)).trans (hk q hq)
  obtain ⟨t2, a1, b1⟩ := vx_athrow (rest := []) C.1 C.2.1 d3 (kk T'.heap (locs ++ L1) hx (by rw [e1]; exact hP1) (by rw [e1]; exact P_kept hP (fun a _ hlt => hk2 a hlt)) (by rw [e1]; exact P_kept hp (fun a _ hlt => hk2 a hlt))
    (by rw [e1]; exact ⟨Nat.le_trans hS1.1 hz1, fun q h1 h2 => (hk2 q (Nat.lt_of_lt_of_le h1 hS.1)).trans (hS.2.1 q h1 h2), fun z hz => by
      rcases List.mem_append.mp hz with h | h
      · exact hS.2.2 z h
      · rw [List.mem_singleton.mp (hL z h)]; exact hAq⟩)) T' rfl X'
  exact ⟨t2, stp t2 a1, b1⟩
theorem t_refuse19 {nL : Nat} {Y : va_W} {w : Int32} {inew iinit kp : Nat} (C : nC p s m args c cc own G av [] A) (D : tD s av pl A) (hml : c.maxLocals = nL) (hls : ls.size = nL) (hP : va_P G.1 vwCl Y H) (hY : Y.map (·.1) = av) (hp : va_P G.1 vwCl pl H) (hS : va_S A s.heap H locs)
    (hlk : Cond.classLink own inew RX20 ∈ lw_all) (hli : Cond.methodLink own iinit yX20_init ∈ lw_all) (d0 : decode cc pc = .ok (.new inew, 3)) (d1 : decode cc (pc + 3) = .ok (.dup, 1))
    (hpush : ∀ {H1 : Heap} {st : List Value}, W p l e R s m args below meth c H1 locs (cells + 1) (slots + 7) Q (F0 m (pc + 4 + kp) ls (.int w :: st)) → W p l e R s m args below meth c H1 locs (cells + 1) (slots + 7) Q (F0 m (pc + 4) ls st))
    (d2 : decode cc (pc + 4 + kp) = .ok (.invokespecial iinit, 3)) (d3 : decode cc (pc + 4 + kp + 3) = .ok (.athrow, 1)) (hR : 4 ≤ R.frames ∧ 101 ≤ R.locals ∧ cells + 1 ≤ R.cells ∧ slots + 7 ≤ R.slots)
    (kk : ∀ (H1 : Heap) (locs1 : List Loc), xQ s av pl H.size → va_P G.1 vwCl [(H.size, .inr (19, xF w))] H1 → va_P G.1 vwCl Y H1 → va_P G.1 vwCl pl H1 → va_S A s.heap H1 locs1 → vx_W p l e R s m args below meth c H1 locs1 (cells + 1) (slots + 7) Q (F0 m (pc + 4 + kp + 3) ls []) H.size) : W p l e R s m args below meth c H locs cells slots Q (F0 m pc ls []) := by
  refine t_new (ci := 19) (fs := [.null, .null, .null, .null, .null, .int 0, .int 0]) C in_X20 tyX20 tyX20_ok hlk q922 q113 rfl (fun j hj => by
    have h9 : j = 0 ∨ j = 1 ∨ j = 2 ∨ j = 3 ∨ j = 4 ∨ j = 5 ∨ j = 6 := by omega
    rcases h9 with rfl | rfl | rfl | rfl | rfl | rfl | rfl <;> rfl) hR.2.2.1 hR.2.2.2 d0 (fun H1 hN hz hk => ?_)
  refine lv_dup C.1 C.2.1 d1 rfl ?_
  refine hpush ?_
  have hx := xQ_of hP hY hp hS (Nat.le_refl H.size)
  have hAq : A H.size := D.2.2.1 _ hS.1
  have hS1 : va_S A s.heap H1 locs := t_S0 hS (by omega) hk
  intro T hT X
  have hrun := va_runI (e := e) (below := below) (meth := meth) (locs := locs) (As := [.int w]) (rest := [.ref H.size]) ⟨C.1, C.2.1, hml, C.2.2.1, C.2.2.2.1⟩ (metE_own_19 l G H.size .null .null .null .null .null 0 0 w) (cwI (R := R) 1 C.2.2.2.1 (lw_meth q932) rfl rfl rfl (C.2.2.2.1 _ q113) (C.2.2.2.1 _ hli) (C.2.2.2.1 _ q931) rfl (by decide +kernel) ⟨hR.1, hR.2.1⟩)
    ⟨ePc_blind, fun U hU hW => ⟨rfl, by rw [hU]; exact hN, va_K.moved hW.alike C.2.2.2.2.1, by
      rw [hU]
      exact ((D.2.2.2.1.moved hW.alike).kept (fun a h1 h2 => hS1.2.1 a h1 h2)).narrow (fun q hq => by rw [List.mem_singleton.mp hq]; exact hAq)⟩⟩ (g := F0 m (pc + 4 + kp) ls [.int w, .ref H.size, .ref H.size]) rfl rfl hls rfl (lv_room (Nat.le_of_ble_eq_true rfl)) d2 ⟨hR.2.2.1, hR.2.2.2⟩
  obtain ⟨v, st₀, t, T', L1, e0, X', hL, e1, e2, ⟨hv, hP1, hz1, hk1⟩, stp⟩ := hrun T hT X
  cases hv
  rw [e0] at hz1 hk1
  have hk2 : ∀ q, q < H.size → t.heap[q]? = H[q]? := fun q hq => (hk1 q (by omega) (fun h => by have := List.mem_singleton.mp h; omega)).trans (hk q hq)
  obtain ⟨t2, a1, b1⟩ := vx_athrow (rest := []) C.1 C.2.1 d3 (kk T'.heap (locs ++ L1) hx (by rw [e1]; exact hP1) (by rw [e1]; exact P_kept hP (fun a _ hlt => hk2 a hlt)) (by rw [e1]; exact P_kept hp (fun a _ hlt => hk2 a hlt))
    (by rw [e1]; exact ⟨Nat.le_trans hS1.1 hz1, fun q h1 h2 => (hk2 q (Nat.lt_of_lt_of_le h1 hS.1)).trans (hS.2.1 q h1 h2), fun z hz => by
      rcases List.mem_append.mp hz with h | h
      · exact hS.2.2 z h
      · rw [List.mem_singleton.mp (hL z h)]; exact hAq⟩)) T' rfl X'
  exact ⟨t2, stp t2 a1, b1⟩
theorem t_hatA_g : (vx_atM "java/lang/ArrayIndexOutOfBoundsException" ["java/lang/IndexOutOfBoundsException", "java/lang/RuntimeException", "java/lang/Exception"]).filter goodWord = ([86, 365, 318, 325, 328, 330, 366, 367, 121, 122, 312, 317, 326, 333, 359, 334, 360, 335, 361, 313, 315, 362, 310, 311, 332, 362, 298, 299, 300, 301, 301, 302, 303, 304, 304, 305, 306, 307, 307, 308, 309, 310, 91, 368, 369, 370, 372, 371, 373, 90, 297, 358, 322, 340, 342, 346, 338, 364, 363, 336] : List Nat).filterMap (fun i => lw_tbl[i]?) := by decide +kernel
theorem t_hatA_b : ∀ w ∈ (vx_atM "java/lang/ArrayIndexOutOfBoundsException" ["java/lang/IndexOutOfBoundsException", "java/lang/RuntimeException", "java/lang/Exception"]).filter (fun w => !goodWord w), w ∈ ([(.declares ⟨"java/lang/IndexOutOfBoundsException", "<init>", "(Ljava/lang/String;)V"⟩), (.declares ⟨"java/lang/RuntimeException", "<init>", "(Ljava/lang/String;)V"⟩), (.declares ⟨"java/lang/Exception", "<init>", "(Ljava/lang/String;)V"⟩), (.declares ⟨"java/lang/Throwable", "<init>", "(Ljava/lang/String;)V"⟩), (.castable "java/lang/ArrayIndexOutOfBoundsException" "java/lang/ArrayIndexOutOfBoundsException")] : List Cond) := by decide +kernel
theorem t_hatA_o : ∀ w ∈ vx_atM "java/lang/ArrayIndexOutOfBoundsException" ["java/lang/IndexOutOfBoundsException", "java/lang/RuntimeException", "java/lang/Exception"], vx_ot w = true := by decide +kernel
theorem t_hatA (C : nC p s m args c cc own G av [] A) (D : tD s av pl A) : ∀ w ∈ vx_atM "java/lang/ArrayIndexOutOfBoundsException" ["java/lang/IndexOutOfBoundsException", "java/lang/RuntimeException", "java/lang/Exception"], w.before args s = true := by
  refine vx_hat (B := [(.declares ⟨"java/lang/IndexOutOfBoundsException", "<init>", "(Ljava/lang/String;)V"⟩), (.declares ⟨"java/lang/RuntimeException", "<init>", "(Ljava/lang/String;)V"⟩), (.declares ⟨"java/lang/Exception", "<init>", "(Ljava/lang/String;)V"⟩), (.declares ⟨"java/lang/Throwable", "<init>", "(Ljava/lang/String;)V"⟩), (.castable "java/lang/ArrayIndexOutOfBoundsException" "java/lang/ArrayIndexOutOfBoundsException")]) (fun w hw => C.2.2.2.1 w ?_) t_hatA_b (vx_c (va_Nw.use rfl (D.2.2.2.2.2.1 _ (List.mem_of_getElem? (i := 1) rfl))) (vx_c (va_Nw.use rfl (D.2.2.2.2.2.1 _ (List.mem_of_getElem? (i := 3) rfl))) (vx_c (va_Nw.use rfl (D.2.2.2.2.2.1 _ (List.mem_of_getElem? (i := 5) rfl))) (vx_c (va_Nw.use rfl (D.2.2.2.2.2.1 _ (List.mem_of_getElem? (i := 7) rfl))) (vx_c (va_Nw.use rfl (D.2.2.2.2.1 _ (List.mem_of_getElem? (i := 0) rfl))) vx_n)))))
  have hg := (List.mem_filter.mp hw).2
  rw [t_hatA_g] at hw
  obtain ⟨i, -, hi⟩ := List.mem_filterMap.mp hw
  exact lw_g (List.mem_of_getElem? hi) hg
theorem t_hatC_g : (vx_atM "java/lang/ClassCastException" ["java/lang/RuntimeException", "java/lang/Exception"]).filter goodWord = ([86, 365, 318, 325, 328, 330, 366, 367, 121, 122, 312, 317, 326, 333, 359, 334, 360, 335, 361, 313, 315, 362, 310, 311, 332, 362, 480, 481, 482, 304, 304, 305, 306, 307, 307, 308, 309, 310, 91, 368, 369, 370, 372, 371, 373, 99, 479, 491, 323, 485, 486, 488, 484, 364, 363, 483] : List Nat).filterMap (fun i => lw_tbl[i]?) := by decide +kernel
theorem t_hatC_b : ∀ w ∈ (vx_atM "java/lang/ClassCastException" ["java/lang/RuntimeException", "java/lang/Exception"]).filter (fun w => !goodWord w), w ∈ ([(.declares ⟨"java/lang/RuntimeException", "<init>", "(Ljava/lang/String;)V"⟩), (.declares ⟨"java/lang/Exception", "<init>", "(Ljava/lang/String;)V"⟩), (.declares ⟨"java/lang/Throwable", "<init>", "(Ljava/lang/String;)V"⟩), (.castable "java/lang/ClassCastException" "java/lang/ClassCastException")] : List Cond) := by decide +kernel
theorem t_hatC_o : ∀ w ∈ vx_atM "java/lang/ClassCastException" ["java/lang/RuntimeException", "java/lang/Exception"], vx_ot w = true := by decide +kernel
theorem t_hatC (C : nC p s m args c cc own G av [] A) (D : tD s av pl A) : ∀ w ∈ vx_atM "java/lang/ClassCastException" ["java/lang/RuntimeException", "java/lang/Exception"], w.before args s = true := by
  refine vx_hat (B := [(.declares ⟨"java/lang/RuntimeException", "<init>", "(Ljava/lang/String;)V"⟩), (.declares ⟨"java/lang/Exception", "<init>", "(Ljava/lang/String;)V"⟩), (.declares ⟨"java/lang/Throwable", "<init>", "(Ljava/lang/String;)V"⟩), (.castable "java/lang/ClassCastException" "java/lang/ClassCastException")]) (fun w hw => C.2.2.2.1 w ?_) t_hatC_b (vx_c (va_Nw.use rfl (D.2.2.2.2.2.1 _ (List.mem_of_getElem? (i := 3) rfl))) (vx_c (va_Nw.use rfl (D.2.2.2.2.2.1 _ (List.mem_of_getElem? (i := 5) rfl))) (vx_c (va_Nw.use rfl (D.2.2.2.2.2.1 _ (List.mem_of_getElem? (i := 7) rfl))) (vx_c (va_Nw.use rfl (D.2.2.2.2.1 _ (List.mem_of_getElem? (i := 3) rfl))) vx_n))))
  have hg := (List.mem_filter.mp hw).2
  rw [t_hatC_g] at hw
  obtain ⟨i, -, hi⟩ := List.mem_filterMap.mp hw
  exact lw_g (List.mem_of_getElem? hi) hg
/-- the machine throws E with this text -/
theorem t_note {Y : va_W} {cls tx : String} {names : List String} {nb : Nat} (hfl : l.stackTraces = false) (C : nC p s m args c cc own G av [] A) (D : tD s av pl A) (hP : va_P G.1 vwCl Y H) (hp : va_P G.1 vwCl pl H) (hS : va_S A s.heap H locs) (hls : ls.size = c.maxLocals) (hlocks : meth.locks = false)
    (hcls : Bundle.fit cls = true) (hnames : ∀ n ∈ names, Bundle.fit n = true) (hsoe : (cls == "java/lang/StackOverflowError") = false) (hoom : (cls == "java/lang/OutOfMemoryError") = false) (hat : ∀ w ∈ vx_atM cls names, w.before args s = true) (hgood : ∀ w ∈ vx_atM cls names, vx_ot w = true)
    (htext : (tx == notModelled) = false) (hnb : (stringBytes (stringToUtf16 tx)).size ≤ nb) (hnb1 : nb ≤ 1000) (hsh : 13 * names.length + 55 ≤ 10240) (hR : names.length + 4 < R.frames ∧ (rest.map fun v => v.category).sum + 10240 ≤ R.locals ∧ cells + 3 ≤ R.cells ∧ slots + (nb + 10) ≤ R.slots)
    (k : ∀ (H1 : Heap) (q : Addr) (ce : Cell), H.size ≤ H1.size → va_P G.1 vwCl Y H1 → va_P G.1 vwCl pl H1 → va_S A s.heap H1 locs → H1[q]? = some ce → ce.vm = .none → s.vm.findClass cls = some ce.cls → vx_W p l e R s m args below meth c H1 locs (cells + 3) (slots + (nb + 10)) Q (F0 m pc ls rest) q) :
    vx_Note p l e R s m args below meth c H locs cells slots Q (F0 m pc ls rest) cls tx :=
  vx_vm C.1 hfl (cls := cls) (names := names) (nb := nb) (A := A) hcls hnames hsoe hoom hat hgood D.2.2.2.1.1 D.2.2.2.1.2 hS hls htext hnb hnb1 hR.1 hR.2.1 hsh hR.2.2.1 hR.2.2.2 hlocks
    (fun H1 q9 ce hz hk hS1 hc hv hcl => k H1 q9 ce hz (P_kept hP (fun a _ hlt => hk a hlt)) (P_kept hp (fun a _ hlt => hk a hlt)) hS1 hc hv hcl)
/-- an index out of bounds -/
theorem t_noteA {Y : va_W} {i : Int32} {n : Nat} {tx : String} (hfl : l.stackTraces = false) (C : nC p s m args c cc own G av [] A) (D : tD s av pl A) (hP : va_P G.1 vwCl Y H) (hp : va_P G.1 vwCl pl H) (hS : va_S A s.heap H locs) (hls : ls.size = c.maxLocals) (hlocks : meth.locks = false)
    (hn : n < 2 ^ 31) (htx : tx = (toString "Index " ++ toString i ++ toString " out of bounds for length " ++ toString n : String)) (hR : 7 < R.frames ∧ (rest.map fun v => v.category).sum + 10240 ≤ R.locals ∧ cells + 3 ≤ R.cells ∧ slots + 222 ≤ R.slots)
    (k : ∀ (H1 : Heap) (q : Addr) (ce : Cell), H.size ≤ H1.size → va_P G.1 vwCl Y H1 → va_P G.1 vwCl pl H1 → va_S A s.heap H1 locs → H1[q]? = some ce → ce.vm = .none → s.vm.findClass "java/lang/ArrayIndexOutOfBoundsException" = some ce.cls → vx_W p l e R s m args below meth c H1 locs (cells + 3) (slots + 222) Q (F0 m pc ls rest) q) :
    vx_Note p l e R s m args below meth c H locs cells slots Q (F0 m pc ls rest) "java/lang/ArrayIndexOutOfBoundsException" tx :=
  t_note (names := ["java/lang/IndexOutOfBoundsException", "java/lang/RuntimeException", "java/lang/Exception"]) (nb := 212) hfl C D hP hp hS hls hlocks (by decide +kernel) (by decide +kernel) (by decide +kernel) (by decide +kernel) (t_hatA C D) t_hatA_o (by rw [htx]; exact index_text_modelled i n) (by rw [htx]; exact index_text_bytes i hn) (by decide) (by decide) hR k
/-- bodies -/
theorem t_ofW {y : MethodName} {maxL sz mc ms : Nat} {rm : Room} {As : List Value} {X : va_W} {ret : Option FieldType} {Qc : Array Value → State → Outcome → State → Prop} {XC : String → Addr → State → State → Prop} (hy : plainName y.cls = true) (hyc : y.cls = own) (hlen : (lg_sl As).length ≤ maxL)
    (body : ∀ (p : Program) (e : Env) (s : State) (m : MethodId) (args : Array Value) (below : List Frame) (meth : Method) (c : Code) (ls : Array Slot), (∀ q, q ∈ av → tA sz av pl q) → nC p s m args c cc own G av [] (tA sz av pl) → tD s av pl (tA sz av pl) → c.maxLocals = maxL → (∀ x ∈ c.exceptionTable.toList, False) → va_P G.1 vwCl X s.heap → va_P G.1 vwCl pl s.heap → va_S (tA sz av pl) s.heap s.heap [] → lv_has ls maxL (lv_args 0 As) → meth.sig.returnType = ret → meth.locks = false → s.heap.size = sz →
      W p l e rm s m args below meth c s.heap [] 0 0 (vx_MQ below Qc XC args s mc ms (tA sz av pl)) (F0 m 0 ls [])) : vx_Met l y (ws_ y cc maxL ret) rm (tPc G X pl av sz As) Qc XC mc ms (tA sz av pl) := by
  refine vx_ofW (cc := cc) (maxL := maxL) (ret := ret) hy rfl ?_
  intro p e s m args below meth c s₁ B hml ht hv
  obtain ⟨rfl, hP, hp, hK, hnd, hsz, hZ, hE⟩ := hv
  have hts := atoms_spec (ws := ws_ y cc maxL ret) B.pre
  have hts : ∀ w ∈ lw_all, w.before _ s = true := fun w h => hts w (List.mem_cons_of_mem _ h)
  have hown : s.vm.findClass own = some m.cls := by rw [← hyc]; exact findClass_of_methodNamed B.named
  have hl := lv_entry As (n := maxL) hlen
  rw [lg_entry_eq]
  have hA : ∀ q, q ∈ av → tA sz av pl q := fun q h => Or.inl h
  exact body p e s m _ below meth c _ hA ⟨B.exec, B.bytes, hown, hts, hK, by simpa using nd_left hnd, (fun k q hk => by cases hk), hA, fun q h => by cases h⟩ ⟨hnd, fun q h => Or.inr (Or.inl h), fun q h => Or.inr (Or.inr (by omega)), hZ, hE⟩ hml ht hP hp va_S.rf hl B.returns B.notSynchronized hsz
theorem t_ofWH {y : MethodName} {maxL sz mc ms : Nat} {rm : Room} {As : List Value} {X : va_W} {ret : Option FieldType} {hh : List (Nat × Nat × Nat × Nat)} {Qc : Array Value → State → Outcome → State → Prop} {XC : String → Addr → State → State → Prop} (hy : plainName y.cls = true) (hyc : y.cls = own) (hlen : (lg_sl As).length ≤ maxL)
    (body : ∀ (p : Program) (e : Env) (s : State) (m : MethodId) (args : Array Value) (below : List Frame) (meth : Method) (c : Code) (ls : Array Slot), (∀ q, q ∈ av → tA sz av pl q) → nC p s m args c cc own G av [] (tA sz av pl) → tD s av pl (tA sz av pl) → c.maxLocals = maxL → c.exceptionTable.toList = tableOf hh → va_P G.1 vwCl X s.heap → va_P G.1 vwCl pl s.heap → va_S (tA sz av pl) s.heap s.heap [] → lv_has ls maxL (lv_args 0 As) → meth.sig.returnType = ret → meth.locks = false → s.heap.size = sz →
      W p l e rm s m args below meth c s.heap [] 0 0 (vx_MQ below Qc XC args s mc ms (tA sz av pl)) (F0 m 0 ls [])) : vx_Met l y (wsW_ y cc maxL ret hh) rm (tPc G X pl av sz As) Qc XC mc ms (tA sz av pl) := by
  refine vx_ofWH (cc := cc) (maxL := maxL) (ret := ret) (hh := hh) hy rfl ?_
  intro p e s m args below meth c s₁ B hml hv
  obtain ⟨rfl, hP, hp, hK, hnd, hsz, hZ, hE⟩ := hv
  have hts0 := atoms_spec (ws := wsW_ y cc maxL ret hh) B.pre
  have hts : ∀ w ∈ lw_all, w.before _ s = true := fun w h => hts0 w (List.mem_cons_of_mem _ h)
  have htab := vx_table (x := y) B (hts0 _ List.mem_cons_self)
  have hown : s.vm.findClass own = some m.cls := by rw [← hyc]; exact findClass_of_methodNamed B.named
  have hl := lv_entry As (n := maxL) hlen
  rw [lg_entry_eq]
  have hA : ∀ q, q ∈ av → tA sz av pl q := fun q h => Or.inl h
  exact body p e s m _ below meth c _ hA ⟨B.exec, B.bytes, hown, hts, hK, by simpa using nd_left hnd, (fun k q hk => by cases hk), hA, fun q h => by cases h⟩ ⟨hnd, fun q h => Or.inr (Or.inl h), fun q h => Or.inr (Or.inr (by omega)), hZ, hE⟩ hml htab hP hp va_S.rf hl B.returns B.notSynchronized hsz
/-- ends -/
theorem t_iret {v : Int32} {X pl' : va_W} {φ : Prop} {XC : String → Addr → State → State → Prop} (C : nC p s m args c cc own G av [] A) (hr : meth.sig.returnType = some .int) (hlocks : meth.locks = false) (hdg : decode cc pc = .ok (.ireturn, 1)) (hφ : φ) (hP : va_P G.1 vwCl X H) (hp : va_P G.1 vwCl pl' H) (hS : va_S A s.heap H locs) : W p l e R s m args below meth c H locs cells slots (vx_MQ below (tQc G X pl' A φ (some (.int v))) XC args s cells slots A) (F0 m pc ls [.int v]) :=
  vx_ret (W.iret C.1 C.2.1 hr (fun t ht hW => ⟨rfl, hφ, by rw [ht]; exact hP, by rw [ht]; exact hp, hS.F ht⟩) hS.2.2 hdg hlocks)
theorem t_zret {v : Int32} {X pl' : va_W} {φ : Prop} {XC : String → Addr → State → State → Prop} (C : nC p s m args c cc own G av [] A) (hr : meth.sig.returnType = some .boolean) (hlocks : meth.locks = false) (hn : narrow .boolean (.int v) = .int v) (hdg : decode cc pc = .ok (.ireturn, 1)) (hφ : φ) (hP : va_P G.1 vwCl X H) (hp : va_P G.1 vwCl pl' H) (hS : va_S A s.heap H locs) : W p l e R s m args below meth c H locs cells slots (vx_MQ below (tQc G X pl' A φ (some (.int v))) XC args s cells slots A) (F0 m pc ls [.int v]) :=
  vx_ret (W.zret C.1 C.2.1 hr hn (fun t ht hW => ⟨rfl, hφ, by rw [ht]; exact hP, by rw [ht]; exact hp, hS.F ht⟩) hS.2.2 hdg hlocks)
theorem t_lret {v : Int64} {X pl' : va_W} {φ : Prop} {XC : String → Addr → State → State → Prop} (C : nC p s m args c cc own G av [] A) (hr : meth.sig.returnType = some .long) (hlocks : meth.locks = false) (hdg : decode cc pc = .ok (.lreturn, 1)) (hφ : φ) (hP : va_P G.1 vwCl X H) (hp : va_P G.1 vwCl pl' H) (hS : va_S A s.heap H locs) : W p l e R s m args below meth c H locs cells slots (vx_MQ below (tQc G X pl' A φ (some (.long v))) XC args s cells slots A) (F0 m pc ls [.long v]) :=
  vx_ret (W.lret C.1 C.2.1 hr (fun t ht hW => ⟨rfl, hφ, by rw [ht]; exact hP, by rw [ht]; exact hp, hS.F ht⟩) hS.2.2 hdg hlocks)
theorem t_vret {X pl' : va_W} {φ : Prop} {XC : String → Addr → State → State → Prop} (C : nC p s m args c cc own G av [] A) (hr : meth.sig.returnType = none) (hlocks : meth.locks = false) (hdg : decode cc pc = .ok (.return_, 1)) (hφ : φ) (hP : va_P G.1 vwCl X H) (hp : va_P G.1 vwCl pl' H) (hS : va_S A s.heap H locs) : W p l e R s m args below meth c H locs cells slots (vx_MQ below (tQc G X pl' A φ none) XC args s cells slots A) (F0 m pc ls []) :=
  vx_ret (W.vret C.1 C.2.1 hr (fun t ht hW => ⟨rfl, hφ, by rw [ht]; exact hP, by rw [ht]; exact hp, hS.F ht⟩) hS.2.2 hdg hlocks)
theorem t_aret {v : Value} {X pl' : va_W} {φ : Prop} {rt : FieldType} {XC : String → Addr → State → State → Prop} (C : nC p s m args c cc own G av [] A) (hr : meth.sig.returnType = some rt) (hrt : (∃ n, rt = .object n) ∨ ∃ t, rt = .array t) (hv : v = .null ∨ ∃ a, v = .ref a) (hlocks : meth.locks = false) (hdg : decode cc pc = .ok (.areturn, 1)) (hφ : φ) (hP : va_P G.1 vwCl X H) (hp : va_P G.1 vwCl pl' H) (hS : va_S A s.heap H locs) : W p l e R s m args below meth c H locs cells slots (vx_MQ below (tQc G X pl' A φ (some v)) XC args s cells slots A) (F0 m pc ls [v]) :=
  vx_ret (W.aret C.1 C.2.1 hr hrt hv (fun t ht hW => ⟨rfl, hφ, by rw [ht]; exact hP, by rw [ht]; exact hp, hS.F ht⟩) hS.2.2 hdg hlocks)
/-- thrown on to the caller -/
theorem t_out {X pl' : va_W} {k q sz : Nat} {w : Int32} {ow : Option Int32} {r : vw_C} {Qc : Array Value → State → Outcome → State → Prop} (C : nC p s m args c cc own G av [] A) (hk : vwCl[k]? = some r) (hout : ∀ x ∈ c.exceptionTable.toList, covers x pc = false) (hlocks : meth.locks = false) (how : ow = some w) (hq : sz ≤ q) (hc : va_P G.1 vwCl [(q, .inr (k, xF w))] H) (hP : va_P G.1 vwCl X H) (hp : va_P G.1 vwCl pl' H) (hS : va_S A s.heap H locs) :
    vx_W p l e R s m args below meth c H locs cells slots (vx_MQ below Qc (tXC G X pl' A k r.1 ow sz) args s cells slots A) (F0 m pc ls rest) q := by
  obtain ⟨ce, g1, g2, g3⟩ := t_cell C hc hk
  exact vx_out hout hlocks g1 g2 g3 (fun t ht hW => ⟨rfl, hq, ⟨w, how, by rw [ht]; exact hc⟩, by rw [ht]; exact hP, by rw [ht]; exact hp, hS.F ht⟩) hS.2.2 (Nat.le_refl _) (Nat.le_refl _)
end TT
