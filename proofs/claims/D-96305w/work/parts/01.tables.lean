-- ===== PART A: goes FIRST, ahead of the names: the tables' words, and 'selects' of the private methods out of them =====
/-- a private method of a class that the tables say can be made, by its rows of tables_1 -/
def lw_okq (q : MethodName × Nat) : Prop := (q.1.cls ≠ "java/lang/invoke/MethodHandle" ∧ q.1.cls ≠ "java/lang/invoke/VarHandle") ∧ Cond.instantiable q.1.cls q.2 ∈ tables_1 ∧ Cond.privateMethod q.1 ∈ tables_1 ∧ Cond.instanceMethod q.1 ∈ tables_1
set_option maxRecDepth 100000
theorem lw_t1 {w : Cond} (h : w ∈ tables_1_1) : w ∈ tables_1 := List.mem_append_left _ h
theorem lw_t2 {w : Cond} (h : w ∈ tables_1_2) : w ∈ tables_1 := List.mem_append_right _ (List.mem_append_left _ h)
theorem lw_t3 {w : Cond} (h : w ∈ tables_1_3) : w ∈ tables_1 := List.mem_append_right _ (List.mem_append_right _ (List.mem_append_left _ h))
theorem lw_t4 {w : Cond} (h : w ∈ tables_1_4) : w ∈ tables_1 := List.mem_append_right _ (List.mem_append_right _ (List.mem_append_right _ (List.mem_append_left _ h)))
theorem lw_t5 {w : Cond} (h : w ∈ tables_1_5) : w ∈ tables_1 := List.mem_append_right _ (List.mem_append_right _ (List.mem_append_right _ (List.mem_append_right _ (List.mem_append_left _ h))))
theorem lw_t6 {w : Cond} (h : w ∈ tables_1_6) : w ∈ tables_1 := List.mem_append_right _ (List.mem_append_right _ (List.mem_append_right _ (List.mem_append_right _ (List.mem_append_right _ (List.mem_append_left _ h)))))
theorem lw_t7 {w : Cond} (h : w ∈ tables_1_7) : w ∈ tables_1 := List.mem_append_right _ (List.mem_append_right _ (List.mem_append_right _ (List.mem_append_right _ (List.mem_append_right _ (List.mem_append_right _ (List.mem_append_left _ h))))))
theorem lw_t8 {w : Cond} (h : w ∈ tables_1_8) : w ∈ tables_1 := List.mem_append_right _ (List.mem_append_right _ (List.mem_append_right _ (List.mem_append_right _ (List.mem_append_right _ (List.mem_append_right _ (List.mem_append_right _ h))))))
theorem lw_p0 : lw_okq (⟨"HamsterWeekends", "shelf", "(I)LHamsterWeekends$Shelf;"⟩, 16) := ⟨⟨by decide +kernel, by decide +kernel⟩, lw_t1 (List.mem_of_getElem? (i := 37) rfl), lw_t1 (List.mem_of_getElem? (i := 214) rfl), lw_t1 (List.mem_of_getElem? (i := 215) rfl)⟩
theorem lw_p1 : lw_okq (⟨"java/lang/Throwable", "fillInStackTrace", "(I)Ljava/lang/Throwable;"⟩, 6) := ⟨⟨by decide +kernel, by decide +kernel⟩, lw_t2 (List.mem_of_getElem? (i := 10) rfl), lw_t2 (List.mem_of_getElem? (i := 8) rfl), lw_t2 (List.mem_of_getElem? (i := 9) rfl)⟩
theorem lw_p2 : lw_okq (⟨"HamsterWeekends", "refused", "(LHamsterWeekends$Refused;)I"⟩, 16) := ⟨⟨by decide +kernel, by decide +kernel⟩, lw_t1 (List.mem_of_getElem? (i := 37) rfl), lw_t2 (List.mem_of_getElem? (i := 148) rfl), lw_t2 (List.mem_of_getElem? (i := 149) rfl)⟩
theorem lw_p3 : lw_okq (⟨"HamsterWeekends", "mustHome", "(I)V"⟩, 16) := ⟨⟨by decide +kernel, by decide +kernel⟩, lw_t1 (List.mem_of_getElem? (i := 37) rfl), lw_t3 (List.mem_of_getElem? (i := 19) rfl), lw_t3 (List.mem_of_getElem? (i := 20) rfl)⟩
theorem lw_p4 : lw_okq (⟨"HamsterWeekends", "beyond", "()I"⟩, 16) := ⟨⟨by decide +kernel, by decide +kernel⟩, lw_t1 (List.mem_of_getElem? (i := 37) rfl), lw_t3 (List.mem_of_getElem? (i := 178) rfl), lw_t3 (List.mem_of_getElem? (i := 179) rfl)⟩
theorem lw_p5 : lw_okq (⟨"HamsterWeekends", "asked", "(I)I"⟩, 16) := ⟨⟨by decide +kernel, by decide +kernel⟩, lw_t1 (List.mem_of_getElem? (i := 37) rfl), lw_t3 (List.mem_of_getElem? (i := 224) rfl), lw_t3 (List.mem_of_getElem? (i := 225) rfl)⟩
theorem lw_p6 : lw_okq (⟨"HamsterWeekends$Reader", "item", "()V"⟩, 4) := ⟨⟨by decide +kernel, by decide +kernel⟩, lw_t4 (List.mem_of_getElem? (i := 3) rfl), lw_t4 (List.mem_of_getElem? (i := 26) rfl), lw_t4 (List.mem_of_getElem? (i := 27) rfl)⟩
theorem lw_p7 : lw_okq (⟨"HamsterWeekends$Reader", "sees", "(I)Z"⟩, 4) := ⟨⟨by decide +kernel, by decide +kernel⟩, lw_t4 (List.mem_of_getElem? (i := 3) rfl), lw_t4 (List.mem_of_getElem? (i := 30) rfl), lw_t4 (List.mem_of_getElem? (i := 31) rfl)⟩
theorem lw_p8 : lw_okq (⟨"HamsterWeekends$Reader", "ends", "()Z"⟩, 4) := ⟨⟨by decide +kernel, by decide +kernel⟩, lw_t4 (List.mem_of_getElem? (i := 3) rfl), lw_t4 (List.mem_of_getElem? (i := 34) rfl), lw_t4 (List.mem_of_getElem? (i := 35) rfl)⟩
theorem lw_p9 : lw_okq (⟨"HamsterWeekends$Reader", "newHome", "(I)V"⟩, 4) := ⟨⟨by decide +kernel, by decide +kernel⟩, lw_t4 (List.mem_of_getElem? (i := 3) rfl), lw_t4 (List.mem_of_getElem? (i := 62) rfl), lw_t4 (List.mem_of_getElem? (i := 63) rfl)⟩
theorem lw_p10 : lw_okq (⟨"HamsterWeekends$Reader", "word", "(Ljava/lang/String;)V"⟩, 4) := ⟨⟨by decide +kernel, by decide +kernel⟩, lw_t4 (List.mem_of_getElem? (i := 3) rfl), lw_t4 (List.mem_of_getElem? (i := 67) rfl), lw_t4 (List.mem_of_getElem? (i := 68) rfl)⟩
theorem lw_p11 : lw_okq (⟨"HamsterWeekends$Reader", "must", "(I)V"⟩, 4) := ⟨⟨by decide +kernel, by decide +kernel⟩, lw_t4 (List.mem_of_getElem? (i := 3) rfl), lw_t4 (List.mem_of_getElem? (i := 119) rfl), lw_t4 (List.mem_of_getElem? (i := 120) rfl)⟩
theorem lw_p12 : lw_okq (⟨"HamsterWeekends$Reader", "hasRoom", "(ZI)V"⟩, 4) := ⟨⟨by decide +kernel, by decide +kernel⟩, lw_t4 (List.mem_of_getElem? (i := 3) rfl), lw_t4 (List.mem_of_getElem? (i := 142) rfl), lw_t4 (List.mem_of_getElem? (i := 143) rfl)⟩
theorem lw_p13 : lw_okq (⟨"HamsterWeekends$Reader", "number", "(II)I"⟩, 4) := ⟨⟨by decide +kernel, by decide +kernel⟩, lw_t4 (List.mem_of_getElem? (i := 3) rfl), lw_t4 (List.mem_of_getElem? (i := 146) rfl), lw_t4 (List.mem_of_getElem? (i := 147) rfl)⟩
theorem lw_p14 : lw_okq (⟨"HamsterWeekends$Reader", "digit", "()Z"⟩, 4) := ⟨⟨by decide +kernel, by decide +kernel⟩, lw_t4 (List.mem_of_getElem? (i := 3) rfl), lw_t4 (List.mem_of_getElem? (i := 150) rfl), lw_t4 (List.mem_of_getElem? (i := 151) rfl)⟩
theorem lw_p15 : lw_okq (⟨"HamsterWeekends$Reader", "allergicOrAge", "()V"⟩, 4) := ⟨⟨by decide +kernel, by decide +kernel⟩, lw_t4 (List.mem_of_getElem? (i := 3) rfl), lw_t4 (List.mem_of_getElem? (i := 156) rfl), lw_t4 (List.mem_of_getElem? (i := 157) rfl)⟩
def lw_privs_1 : List (MethodName × Nat) := [(⟨"HamsterWeekends", "shelf", "(I)LHamsterWeekends$Shelf;"⟩, 16), (⟨"java/lang/Throwable", "fillInStackTrace", "(I)Ljava/lang/Throwable;"⟩, 6), (⟨"HamsterWeekends", "refused", "(LHamsterWeekends$Refused;)I"⟩, 16), (⟨"HamsterWeekends", "mustHome", "(I)V"⟩, 16), (⟨"HamsterWeekends", "beyond", "()I"⟩, 16), (⟨"HamsterWeekends", "asked", "(I)I"⟩, 16), (⟨"HamsterWeekends$Reader", "item", "()V"⟩, 4), (⟨"HamsterWeekends$Reader", "sees", "(I)Z"⟩, 4), (⟨"HamsterWeekends$Reader", "ends", "()Z"⟩, 4), (⟨"HamsterWeekends$Reader", "newHome", "(I)V"⟩, 4), (⟨"HamsterWeekends$Reader", "word", "(Ljava/lang/String;)V"⟩, 4), (⟨"HamsterWeekends$Reader", "must", "(I)V"⟩, 4), (⟨"HamsterWeekends$Reader", "hasRoom", "(ZI)V"⟩, 4), (⟨"HamsterWeekends$Reader", "number", "(II)I"⟩, 4), (⟨"HamsterWeekends$Reader", "digit", "()Z"⟩, 4), (⟨"HamsterWeekends$Reader", "allergicOrAge", "()V"⟩, 4)]
theorem lw_r1 : ∀ q ∈ lw_privs_1, lw_okq q := List.forall_mem_cons.mpr ⟨lw_p0, List.forall_mem_cons.mpr ⟨lw_p1, List.forall_mem_cons.mpr ⟨lw_p2, List.forall_mem_cons.mpr ⟨lw_p3, List.forall_mem_cons.mpr ⟨lw_p4, List.forall_mem_cons.mpr ⟨lw_p5, List.forall_mem_cons.mpr ⟨lw_p6, List.forall_mem_cons.mpr ⟨lw_p7, List.forall_mem_cons.mpr ⟨lw_p8, List.forall_mem_cons.mpr ⟨lw_p9, List.forall_mem_cons.mpr ⟨lw_p10, List.forall_mem_cons.mpr ⟨lw_p11, List.forall_mem_cons.mpr ⟨lw_p12, List.forall_mem_cons.mpr ⟨lw_p13, List.forall_mem_cons.mpr ⟨lw_p14, List.forall_mem_cons.mpr ⟨lw_p15, fun _ h => absurd h List.not_mem_nil⟩⟩⟩⟩⟩⟩⟩⟩⟩⟩⟩⟩⟩⟩⟩⟩
theorem lw_p16 : lw_okq (⟨"HamsterWeekends$Reader", "home", "()I"⟩, 4) := ⟨⟨by decide +kernel, by decide +kernel⟩, lw_t4 (List.mem_of_getElem? (i := 3) rfl), lw_t4 (List.mem_of_getElem? (i := 161) rfl), lw_t4 (List.mem_of_getElem? (i := 162) rfl)⟩
theorem lw_p17 : lw_okq (⟨"HamsterWeekends$Reader", "weightOrWeek", "()V"⟩, 4) := ⟨⟨by decide +kernel, by decide +kernel⟩, lw_t4 (List.mem_of_getElem? (i := 3) rfl), lw_t4 (List.mem_of_getElem? (i := 166) rfl), lw_t4 (List.mem_of_getElem? (i := 167) rfl)⟩
theorem lw_p18 : lw_okq (⟨"HamsterWeekends$Reader", "frightOrFeed", "()V"⟩, 4) := ⟨⟨by decide +kernel, by decide +kernel⟩, lw_t4 (List.mem_of_getElem? (i := 3) rfl), lw_t4 (List.mem_of_getElem? (i := 233) rfl), lw_t4 (List.mem_of_getElem? (i := 234) rfl)⟩
theorem lw_p19 : lw_okq (⟨"HamsterWeekends$Reader", "lifeOrLow", "()V"⟩, 4) := ⟨⟨by decide +kernel, by decide +kernel⟩, lw_t4 (List.mem_of_getElem? (i := 3) rfl), lw_t4 (List.mem_of_getElem? (i := 239) rfl), lw_t5 (List.mem_of_getElem? (i := 0) rfl)⟩
theorem lw_p20 : lw_okq (⟨"HamsterWeekends", "toldAt", "(II)LHamsterWeekends$Row;"⟩, 16) := ⟨⟨by decide +kernel, by decide +kernel⟩, lw_t1 (List.mem_of_getElem? (i := 37) rfl), lw_t5 (List.mem_of_getElem? (i := 19) rfl), lw_t5 (List.mem_of_getElem? (i := 20) rfl)⟩
theorem lw_p21 : lw_okq (⟨"HamsterWeekends", "wrongIn", "(LHamsterWeekends$Row;I)I"⟩, 16) := ⟨⟨by decide +kernel, by decide +kernel⟩, lw_t1 (List.mem_of_getElem? (i := 37) rfl), lw_t5 (List.mem_of_getElem? (i := 24) rfl), lw_t5 (List.mem_of_getElem? (i := 25) rfl)⟩
theorem lw_p22 : lw_okq (⟨"HamsterWeekends", "mustBeRight", "(LHamsterWeekends$Row;I)V"⟩, 16) := ⟨⟨by decide +kernel, by decide +kernel⟩, lw_t1 (List.mem_of_getElem? (i := 37) rfl), lw_t5 (List.mem_of_getElem? (i := 34) rfl), lw_t5 (List.mem_of_getElem? (i := 35) rfl)⟩
theorem lw_p23 : lw_okq (⟨"HamsterWeekends", "goesRow", "(I)V"⟩, 16) := ⟨⟨by decide +kernel, by decide +kernel⟩, lw_t1 (List.mem_of_getElem? (i := 37) rfl), lw_t5 (List.mem_of_getElem? (i := 39) rfl), lw_t5 (List.mem_of_getElem? (i := 40) rfl)⟩
theorem lw_p24 : lw_okq (⟨"HamsterWeekends", "changes", "(II)V"⟩, 16) := ⟨⟨by decide +kernel, by decide +kernel⟩, lw_t1 (List.mem_of_getElem? (i := 37) rfl), lw_t5 (List.mem_of_getElem? (i := 63) rfl), lw_t5 (List.mem_of_getElem? (i := 64) rfl)⟩
theorem lw_p25 : lw_okq (⟨"HamsterWeekends", "someMay", "()V"⟩, 16) := ⟨⟨by decide +kernel, by decide +kernel⟩, lw_t1 (List.mem_of_getElem? (i := 37) rfl), lw_t5 (List.mem_of_getElem? (i := 71) rfl), lw_t5 (List.mem_of_getElem? (i := 72) rfl)⟩
theorem lw_p26 : lw_okq (⟨"HamsterWeekends", "findOrder", "()I"⟩, 16) := ⟨⟨by decide +kernel, by decide +kernel⟩, lw_t1 (List.mem_of_getElem? (i := 37) rfl), lw_t5 (List.mem_of_getElem? (i := 89) rfl), lw_t5 (List.mem_of_getElem? (i := 90) rfl)⟩
theorem lw_p27 : lw_okq (⟨"HamsterWeekends", "seekOrder", "(III)V"⟩, 16) := ⟨⟨by decide +kernel, by decide +kernel⟩, lw_t1 (List.mem_of_getElem? (i := 37) rfl), lw_t5 (List.mem_of_getElem? (i := 93) rfl), lw_t5 (List.mem_of_getElem? (i := 94) rfl)⟩
theorem lw_p28 : lw_okq (⟨"HamsterWeekends", "deathsIn", "(LHamsterWeekends$Pet;II)I"⟩, 16) := ⟨⟨by decide +kernel, by decide +kernel⟩, lw_t1 (List.mem_of_getElem? (i := 37) rfl), lw_t5 (List.mem_of_getElem? (i := 116) rfl), lw_t5 (List.mem_of_getElem? (i := 117) rfl)⟩
theorem lw_p29 : lw_okq (⟨"HamsterWeekends", "weightBehind", "(II)I"⟩, 16) := ⟨⟨by decide +kernel, by decide +kernel⟩, lw_t1 (List.mem_of_getElem? (i := 37) rfl), lw_t5 (List.mem_of_getElem? (i := 129) rfl), lw_t5 (List.mem_of_getElem? (i := 130) rfl)⟩
theorem lw_p30 : lw_okq (⟨"HamsterWeekends", "shelvesFollow", "()V"⟩, 16) := ⟨⟨by decide +kernel, by decide +kernel⟩, lw_t1 (List.mem_of_getElem? (i := 37) rfl), lw_t6 (List.mem_of_getElem? (i := 31) rfl), lw_t6 (List.mem_of_getElem? (i := 32) rfl)⟩
theorem lw_p31 : lw_okq (⟨"HamsterWeekendsModel", "isShelf", "(I)Z"⟩, 49) := ⟨⟨by decide +kernel, by decide +kernel⟩, lw_t6 (List.mem_of_getElem? (i := 43) rfl), lw_t6 (List.mem_of_getElem? (i := 201) rfl), lw_t6 (List.mem_of_getElem? (i := 202) rfl)⟩
def lw_privs_2 : List (MethodName × Nat) := [(⟨"HamsterWeekends$Reader", "home", "()I"⟩, 4), (⟨"HamsterWeekends$Reader", "weightOrWeek", "()V"⟩, 4), (⟨"HamsterWeekends$Reader", "frightOrFeed", "()V"⟩, 4), (⟨"HamsterWeekends$Reader", "lifeOrLow", "()V"⟩, 4), (⟨"HamsterWeekends", "toldAt", "(II)LHamsterWeekends$Row;"⟩, 16), (⟨"HamsterWeekends", "wrongIn", "(LHamsterWeekends$Row;I)I"⟩, 16), (⟨"HamsterWeekends", "mustBeRight", "(LHamsterWeekends$Row;I)V"⟩, 16), (⟨"HamsterWeekends", "goesRow", "(I)V"⟩, 16), (⟨"HamsterWeekends", "changes", "(II)V"⟩, 16), (⟨"HamsterWeekends", "someMay", "()V"⟩, 16), (⟨"HamsterWeekends", "findOrder", "()I"⟩, 16), (⟨"HamsterWeekends", "seekOrder", "(III)V"⟩, 16), (⟨"HamsterWeekends", "deathsIn", "(LHamsterWeekends$Pet;II)I"⟩, 16), (⟨"HamsterWeekends", "weightBehind", "(II)I"⟩, 16), (⟨"HamsterWeekends", "shelvesFollow", "()V"⟩, 16), (⟨"HamsterWeekendsModel", "isShelf", "(I)Z"⟩, 49)]
theorem lw_r2 : ∀ q ∈ lw_privs_2, lw_okq q := List.forall_mem_cons.mpr ⟨lw_p16, List.forall_mem_cons.mpr ⟨lw_p17, List.forall_mem_cons.mpr ⟨lw_p18, List.forall_mem_cons.mpr ⟨lw_p19, List.forall_mem_cons.mpr ⟨lw_p20, List.forall_mem_cons.mpr ⟨lw_p21, List.forall_mem_cons.mpr ⟨lw_p22, List.forall_mem_cons.mpr ⟨lw_p23, List.forall_mem_cons.mpr ⟨lw_p24, List.forall_mem_cons.mpr ⟨lw_p25, List.forall_mem_cons.mpr ⟨lw_p26, List.forall_mem_cons.mpr ⟨lw_p27, List.forall_mem_cons.mpr ⟨lw_p28, List.forall_mem_cons.mpr ⟨lw_p29, List.forall_mem_cons.mpr ⟨lw_p30, List.forall_mem_cons.mpr ⟨lw_p31, fun _ h => absurd h List.not_mem_nil⟩⟩⟩⟩⟩⟩⟩⟩⟩⟩⟩⟩⟩⟩⟩⟩
theorem lw_p32 : lw_okq (⟨"HamsterWeekendsModel", "no", "(I)I"⟩, 49) := ⟨⟨by decide +kernel, by decide +kernel⟩, lw_t6 (List.mem_of_getElem? (i := 43) rfl), lw_t6 (List.mem_of_getElem? (i := 205) rfl), lw_t6 (List.mem_of_getElem? (i := 206) rfl)⟩
theorem lw_p33 : lw_okq (⟨"HamsterWeekendsModel", "isHome", "(I)Z"⟩, 49) := ⟨⟨by decide +kernel, by decide +kernel⟩, lw_t6 (List.mem_of_getElem? (i := 43) rfl), lw_t6 (List.mem_of_getElem? (i := 225) rfl), lw_t6 (List.mem_of_getElem? (i := 226) rfl)⟩
theorem lw_p34 : lw_okq (⟨"HamsterWeekendsModel", "adds", "(II)I"⟩, 49) := ⟨⟨by decide +kernel, by decide +kernel⟩, lw_t6 (List.mem_of_getElem? (i := 43) rfl), lw_t7 (List.mem_of_getElem? (i := 1) rfl), lw_t7 (List.mem_of_getElem? (i := 2) rfl)⟩
theorem lw_p35 : lw_okq (⟨"HamsterWeekendsModel", "isAsked", "(II)Z"⟩, 49) := ⟨⟨by decide +kernel, by decide +kernel⟩, lw_t6 (List.mem_of_getElem? (i := 43) rfl), lw_t7 (List.mem_of_getElem? (i := 21) rfl), lw_t7 (List.mem_of_getElem? (i := 22) rfl)⟩
theorem lw_p36 : lw_okq (⟨"HamsterWeekendsModel", "told", "(I)I"⟩, 49) := ⟨⟨by decide +kernel, by decide +kernel⟩, lw_t6 (List.mem_of_getElem? (i := 43) rfl), lw_t7 (List.mem_of_getElem? (i := 25) rfl), lw_t7 (List.mem_of_getElem? (i := 26) rfl)⟩
theorem lw_p37 : lw_okq (⟨"HamsterWeekendsModel", "tells", "(II)V"⟩, 49) := ⟨⟨by decide +kernel, by decide +kernel⟩, lw_t6 (List.mem_of_getElem? (i := 43) rfl), lw_t7 (List.mem_of_getElem? (i := 29) rfl), lw_t7 (List.mem_of_getElem? (i := 30) rfl)⟩
theorem lw_p38 : lw_okq (⟨"HamsterWeekendsModel", "wanted", "(I)I"⟩, 49) := ⟨⟨by decide +kernel, by decide +kernel⟩, lw_t6 (List.mem_of_getElem? (i := 43) rfl), lw_t7 (List.mem_of_getElem? (i := 37) rfl), lw_t7 (List.mem_of_getElem? (i := 38) rfl)⟩
theorem lw_p39 : lw_okq (⟨"HamsterWeekendsModel", "all", "([IZ)V"⟩, 49) := ⟨⟨by decide +kernel, by decide +kernel⟩, lw_t6 (List.mem_of_getElem? (i := 43) rfl), lw_t7 (List.mem_of_getElem? (i := 41) rfl), lw_t7 (List.mem_of_getElem? (i := 42) rfl)⟩
theorem lw_p40 : lw_okq (⟨"HamsterWeekendsModel", "carries", "([II[IIZ)I"⟩, 49) := ⟨⟨by decide +kernel, by decide +kernel⟩, lw_t6 (List.mem_of_getElem? (i := 43) rfl), lw_t7 (List.mem_of_getElem? (i := 45) rfl), lw_t7 (List.mem_of_getElem? (i := 46) rfl)⟩
theorem lw_p41 : lw_okq (⟨"HamsterWeekendsModel", "item", "()Z"⟩, 49) := ⟨⟨by decide +kernel, by decide +kernel⟩, lw_t6 (List.mem_of_getElem? (i := 43) rfl), lw_t7 (List.mem_of_getElem? (i := 49) rfl), lw_t7 (List.mem_of_getElem? (i := 50) rfl)⟩
theorem lw_p42 : lw_okq (⟨"HamsterWeekendsModel", "isWordAt", "(I)Z"⟩, 49) := ⟨⟨by decide +kernel, by decide +kernel⟩, lw_t6 (List.mem_of_getElem? (i := 43) rfl), lw_t7 (List.mem_of_getElem? (i := 53) rfl), lw_t7 (List.mem_of_getElem? (i := 54) rfl)⟩
theorem lw_p43 : lw_okq (⟨"HamsterWeekendsModel", "wrong", "(I)Z"⟩, 49) := ⟨⟨by decide +kernel, by decide +kernel⟩, lw_t6 (List.mem_of_getElem? (i := 43) rfl), lw_t7 (List.mem_of_getElem? (i := 57) rfl), lw_t7 (List.mem_of_getElem? (i := 58) rfl)⟩
theorem lw_p44 : lw_okq (⟨"HamsterWeekendsModel", "word", "()I"⟩, 49) := ⟨⟨by decide +kernel, by decide +kernel⟩, lw_t6 (List.mem_of_getElem? (i := 43) rfl), lw_t7 (List.mem_of_getElem? (i := 61) rfl), lw_t7 (List.mem_of_getElem? (i := 62) rfl)⟩
theorem lw_p45 : lw_okq (⟨"HamsterWeekendsModel", "reads", "()Z"⟩, 49) := ⟨⟨by decide +kernel, by decide +kernel⟩, lw_t6 (List.mem_of_getElem? (i := 43) rfl), lw_t7 (List.mem_of_getElem? (i := 65) rfl), lw_t7 (List.mem_of_getElem? (i := 66) rfl)⟩
theorem lw_p46 : lw_okq (⟨"HamsterWeekendsModel", "isDigit", "()Z"⟩, 49) := ⟨⟨by decide +kernel, by decide +kernel⟩, lw_t6 (List.mem_of_getElem? (i := 43) rfl), lw_t7 (List.mem_of_getElem? (i := 69) rfl), lw_t7 (List.mem_of_getElem? (i := 70) rfl)⟩
theorem lw_p47 : lw_okq (⟨"HamsterWeekendsModel", "isSo", "(II)Z"⟩, 49) := ⟨⟨by decide +kernel, by decide +kernel⟩, lw_t6 (List.mem_of_getElem? (i := 43) rfl), lw_t7 (List.mem_of_getElem? (i := 73) rfl), lw_t7 (List.mem_of_getElem? (i := 74) rfl)⟩
def lw_privs_3 : List (MethodName × Nat) := [(⟨"HamsterWeekendsModel", "no", "(I)I"⟩, 49), (⟨"HamsterWeekendsModel", "isHome", "(I)Z"⟩, 49), (⟨"HamsterWeekendsModel", "adds", "(II)I"⟩, 49), (⟨"HamsterWeekendsModel", "isAsked", "(II)Z"⟩, 49), (⟨"HamsterWeekendsModel", "told", "(I)I"⟩, 49), (⟨"HamsterWeekendsModel", "tells", "(II)V"⟩, 49), (⟨"HamsterWeekendsModel", "wanted", "(I)I"⟩, 49), (⟨"HamsterWeekendsModel", "all", "([IZ)V"⟩, 49), (⟨"HamsterWeekendsModel", "carries", "([II[IIZ)I"⟩, 49), (⟨"HamsterWeekendsModel", "item", "()Z"⟩, 49), (⟨"HamsterWeekendsModel", "isWordAt", "(I)Z"⟩, 49), (⟨"HamsterWeekendsModel", "wrong", "(I)Z"⟩, 49), (⟨"HamsterWeekendsModel", "word", "()I"⟩, 49), (⟨"HamsterWeekendsModel", "reads", "()Z"⟩, 49), (⟨"HamsterWeekendsModel", "isDigit", "()Z"⟩, 49), (⟨"HamsterWeekendsModel", "isSo", "(II)Z"⟩, 49)]
theorem lw_r3 : ∀ q ∈ lw_privs_3, lw_okq q := List.forall_mem_cons.mpr ⟨lw_p32, List.forall_mem_cons.mpr ⟨lw_p33, List.forall_mem_cons.mpr ⟨lw_p34, List.forall_mem_cons.mpr ⟨lw_p35, List.forall_mem_cons.mpr ⟨lw_p36, List.forall_mem_cons.mpr ⟨lw_p37, List.forall_mem_cons.mpr ⟨lw_p38, List.forall_mem_cons.mpr ⟨lw_p39, List.forall_mem_cons.mpr ⟨lw_p40, List.forall_mem_cons.mpr ⟨lw_p41, List.forall_mem_cons.mpr ⟨lw_p42, List.forall_mem_cons.mpr ⟨lw_p43, List.forall_mem_cons.mpr ⟨lw_p44, List.forall_mem_cons.mpr ⟨lw_p45, List.forall_mem_cons.mpr ⟨lw_p46, List.forall_mem_cons.mpr ⟨lw_p47, fun _ h => absurd h List.not_mem_nil⟩⟩⟩⟩⟩⟩⟩⟩⟩⟩⟩⟩⟩⟩⟩⟩
theorem lw_p48 : lw_okq (⟨"HamsterWeekendsModel", "may", "(I)Z"⟩, 49) := ⟨⟨by decide +kernel, by decide +kernel⟩, lw_t6 (List.mem_of_getElem? (i := 43) rfl), lw_t7 (List.mem_of_getElem? (i := 77) rfl), lw_t7 (List.mem_of_getElem? (i := 78) rfl)⟩
theorem lw_p49 : lw_okq (⟨"HamsterWeekendsModel", "weekInTruth", "(I)Z"⟩, 49) := ⟨⟨by decide +kernel, by decide +kernel⟩, lw_t6 (List.mem_of_getElem? (i := 43) rfl), lw_t7 (List.mem_of_getElem? (i := 81) rfl), lw_t7 (List.mem_of_getElem? (i := 82) rfl)⟩
theorem lw_p50 : lw_okq (⟨"HamsterWeekendsModel", "begins", "()V"⟩, 49) := ⟨⟨by decide +kernel, by decide +kernel⟩, lw_t6 (List.mem_of_getElem? (i := 43) rfl), lw_t7 (List.mem_of_getElem? (i := 85) rfl), lw_t7 (List.mem_of_getElem? (i := 86) rfl)⟩
theorem lw_p51 : lw_okq (⟨"HamsterWeekendsModel", "goes", "(I)Z"⟩, 49) := ⟨⟨by decide +kernel, by decide +kernel⟩, lw_t6 (List.mem_of_getElem? (i := 43) rfl), lw_t7 (List.mem_of_getElem? (i := 89) rfl), lw_t7 (List.mem_of_getElem? (i := 90) rfl)⟩
theorem lw_p52 : lw_okq (⟨"HamsterWeekendsModel", "school", "()V"⟩, 49) := ⟨⟨by decide +kernel, by decide +kernel⟩, lw_t6 (List.mem_of_getElem? (i := 43) rfl), lw_t7 (List.mem_of_getElem? (i := 93) rfl), lw_t7 (List.mem_of_getElem? (i := 94) rfl)⟩
theorem lw_p53 : lw_okq (⟨"HamsterWeekendsModel", "normOf", "(I)I"⟩, 49) := ⟨⟨by decide +kernel, by decide +kernel⟩, lw_t6 (List.mem_of_getElem? (i := 43) rfl), lw_t7 (List.mem_of_getElem? (i := 97) rfl), lw_t7 (List.mem_of_getElem? (i := 98) rfl)⟩
theorem lw_p54 : lw_okq (⟨"HamsterWeekendsModel", "weekend", "(II)V"⟩, 49) := ⟨⟨by decide +kernel, by decide +kernel⟩, lw_t6 (List.mem_of_getElem? (i := 43) rfl), lw_t7 (List.mem_of_getElem? (i := 101) rfl), lw_t7 (List.mem_of_getElem? (i := 102) rfl)⟩
theorem lw_p55 : lw_okq (⟨"HamsterWeekendsModel", "bound", "(II)I"⟩, 49) := ⟨⟨by decide +kernel, by decide +kernel⟩, lw_t6 (List.mem_of_getElem? (i := 43) rfl), lw_t7 (List.mem_of_getElem? (i := 105) rfl), lw_t7 (List.mem_of_getElem? (i := 106) rfl)⟩
theorem lw_p56 : lw_okq (⟨"HamsterWeekendsModel", "barsOf", "(II)I"⟩, 49) := ⟨⟨by decide +kernel, by decide +kernel⟩, lw_t6 (List.mem_of_getElem? (i := 43) rfl), lw_t7 (List.mem_of_getElem? (i := 121) rfl), lw_t7 (List.mem_of_getElem? (i := 122) rfl)⟩
theorem lw_p57 : lw_okq (⟨"HamsterWeekendsModel", "bars", "(II)I"⟩, 49) := ⟨⟨by decide +kernel, by decide +kernel⟩, lw_t6 (List.mem_of_getElem? (i := 43) rfl), lw_t7 (List.mem_of_getElem? (i := 125) rfl), lw_t7 (List.mem_of_getElem? (i := 126) rfl)⟩
theorem lw_p58 : lw_okq (⟨"HamsterWeekendsModel", "noTen", "(I)I"⟩, 49) := ⟨⟨by decide +kernel, by decide +kernel⟩, lw_t6 (List.mem_of_getElem? (i := 43) rfl), lw_t7 (List.mem_of_getElem? (i := 129) rfl), lw_t7 (List.mem_of_getElem? (i := 130) rfl)⟩
theorem lw_p59 : lw_okq (⟨"HamsterWeekendsModel", "wrongIn", "(II)I"⟩, 49) := ⟨⟨by decide +kernel, by decide +kernel⟩, lw_t6 (List.mem_of_getElem? (i := 43) rfl), lw_t7 (List.mem_of_getElem? (i := 133) rfl), lw_t7 (List.mem_of_getElem? (i := 134) rfl)⟩
theorem lw_p60 : lw_okq (⟨"HamsterWeekendsModel", "intAt", "(II)I"⟩, 49) := ⟨⟨by decide +kernel, by decide +kernel⟩, lw_t6 (List.mem_of_getElem? (i := 43) rfl), lw_t7 (List.mem_of_getElem? (i := 137) rfl), lw_t7 (List.mem_of_getElem? (i := 138) rfl)⟩
theorem lw_p61 : lw_okq (⟨"HamsterWeekendsModel", "barsRight", "(II)I"⟩, 49) := ⟨⟨by decide +kernel, by decide +kernel⟩, lw_t6 (List.mem_of_getElem? (i := 43) rfl), lw_t7 (List.mem_of_getElem? (i := 145) rfl), lw_t7 (List.mem_of_getElem? (i := 146) rfl)⟩
theorem lw_p62 : lw_okq (⟨"HamsterWeekendsModel", "mays", "()I"⟩, 49) := ⟨⟨by decide +kernel, by decide +kernel⟩, lw_t6 (List.mem_of_getElem? (i := 43) rfl), lw_t7 (List.mem_of_getElem? (i := 153) rfl), lw_t7 (List.mem_of_getElem? (i := 154) rfl)⟩
theorem lw_p63 : lw_okq (⟨"HamsterWeekendsModel", "turn", "(I)I"⟩, 49) := ⟨⟨by decide +kernel, by decide +kernel⟩, lw_t6 (List.mem_of_getElem? (i := 43) rfl), lw_t7 (List.mem_of_getElem? (i := 157) rfl), lw_t7 (List.mem_of_getElem? (i := 158) rfl)⟩
def lw_privs_4 : List (MethodName × Nat) := [(⟨"HamsterWeekendsModel", "may", "(I)Z"⟩, 49), (⟨"HamsterWeekendsModel", "weekInTruth", "(I)Z"⟩, 49), (⟨"HamsterWeekendsModel", "begins", "()V"⟩, 49), (⟨"HamsterWeekendsModel", "goes", "(I)Z"⟩, 49), (⟨"HamsterWeekendsModel", "school", "()V"⟩, 49), (⟨"HamsterWeekendsModel", "normOf", "(I)I"⟩, 49), (⟨"HamsterWeekendsModel", "weekend", "(II)V"⟩, 49), (⟨"HamsterWeekendsModel", "bound", "(II)I"⟩, 49), (⟨"HamsterWeekendsModel", "barsOf", "(II)I"⟩, 49), (⟨"HamsterWeekendsModel", "bars", "(II)I"⟩, 49), (⟨"HamsterWeekendsModel", "noTen", "(I)I"⟩, 49), (⟨"HamsterWeekendsModel", "wrongIn", "(II)I"⟩, 49), (⟨"HamsterWeekendsModel", "intAt", "(II)I"⟩, 49), (⟨"HamsterWeekendsModel", "barsRight", "(II)I"⟩, 49), (⟨"HamsterWeekendsModel", "mays", "()I"⟩, 49), (⟨"HamsterWeekendsModel", "turn", "(I)I"⟩, 49)]
theorem lw_r4 : ∀ q ∈ lw_privs_4, lw_okq q := List.forall_mem_cons.mpr ⟨lw_p48, List.forall_mem_cons.mpr ⟨lw_p49, List.forall_mem_cons.mpr ⟨lw_p50, List.forall_mem_cons.mpr ⟨lw_p51, List.forall_mem_cons.mpr ⟨lw_p52, List.forall_mem_cons.mpr ⟨lw_p53, List.forall_mem_cons.mpr ⟨lw_p54, List.forall_mem_cons.mpr ⟨lw_p55, List.forall_mem_cons.mpr ⟨lw_p56, List.forall_mem_cons.mpr ⟨lw_p57, List.forall_mem_cons.mpr ⟨lw_p58, List.forall_mem_cons.mpr ⟨lw_p59, List.forall_mem_cons.mpr ⟨lw_p60, List.forall_mem_cons.mpr ⟨lw_p61, List.forall_mem_cons.mpr ⟨lw_p62, List.forall_mem_cons.mpr ⟨lw_p63, fun _ h => absurd h List.not_mem_nil⟩⟩⟩⟩⟩⟩⟩⟩⟩⟩⟩⟩⟩⟩⟩⟩
theorem lw_p64 : lw_okq (⟨"HamsterWeekendsModel", "ordered", "()I"⟩, 49) := ⟨⟨by decide +kernel, by decide +kernel⟩, lw_t6 (List.mem_of_getElem? (i := 43) rfl), lw_t7 (List.mem_of_getElem? (i := 165) rfl), lw_t7 (List.mem_of_getElem? (i := 166) rfl)⟩
theorem lw_p65 : lw_okq (⟨"HamsterWeekendsModel", "orders", "(III)V"⟩, 49) := ⟨⟨by decide +kernel, by decide +kernel⟩, lw_t6 (List.mem_of_getElem? (i := 43) rfl), lw_t7 (List.mem_of_getElem? (i := 169) rfl), lw_t7 (List.mem_of_getElem? (i := 170) rfl)⟩
theorem lw_p66 : lw_okq (⟨"HamsterWeekendsModel", "tries", "(I)V"⟩, 49) := ⟨⟨by decide +kernel, by decide +kernel⟩, lw_t6 (List.mem_of_getElem? (i := 43) rfl), lw_t7 (List.mem_of_getElem? (i := 173) rfl), lw_t7 (List.mem_of_getElem? (i := 174) rfl)⟩
theorem lw_p67 : lw_okq (⟨"HamsterWeekendsModel", "mayAt", "(I)I"⟩, 49) := ⟨⟨by decide +kernel, by decide +kernel⟩, lw_t6 (List.mem_of_getElem? (i := 43) rfl), lw_t7 (List.mem_of_getElem? (i := 177) rfl), lw_t7 (List.mem_of_getElem? (i := 178) rfl)⟩
theorem lw_p68 : lw_okq (⟨"HamsterWeekendsModel", "isWeight", "(I)Z"⟩, 49) := ⟨⟨by decide +kernel, by decide +kernel⟩, lw_t6 (List.mem_of_getElem? (i := 43) rfl), lw_t7 (List.mem_of_getElem? (i := 189) rfl), lw_t7 (List.mem_of_getElem? (i := 190) rfl)⟩
theorem lw_p69 : lw_okq (⟨"HamsterWeekendsModel", "isFew", "(I)Z"⟩, 49) := ⟨⟨by decide +kernel, by decide +kernel⟩, lw_t6 (List.mem_of_getElem? (i := 43) rfl), lw_t7 (List.mem_of_getElem? (i := 201) rfl), lw_t7 (List.mem_of_getElem? (i := 202) rfl)⟩
theorem lw_p70 : lw_okq (⟨"HamsterWeekendsModel", "dying", "(I)I"⟩, 49) := ⟨⟨by decide +kernel, by decide +kernel⟩, lw_t6 (List.mem_of_getElem? (i := 43) rfl), lw_t7 (List.mem_of_getElem? (i := 205) rfl), lw_t7 (List.mem_of_getElem? (i := 206) rfl)⟩
theorem lw_p71 : lw_okq (⟨"HamsterWeekendsModel", "noFar", "(I)I"⟩, 49) := ⟨⟨by decide +kernel, by decide +kernel⟩, lw_t6 (List.mem_of_getElem? (i := 43) rfl), lw_t7 (List.mem_of_getElem? (i := 217) rfl), lw_t7 (List.mem_of_getElem? (i := 218) rfl)⟩
theorem lw_p72 : lw_okq (⟨"HamsterWeekendsModel", "isFed", "(III)Z"⟩, 49) := ⟨⟨by decide +kernel, by decide +kernel⟩, lw_t6 (List.mem_of_getElem? (i := 43) rfl), lw_t7 (List.mem_of_getElem? (i := 225) rfl), lw_t7 (List.mem_of_getElem? (i := 226) rfl)⟩
theorem lw_p73 : lw_okq (⟨"HamsterWeekendsModel", "swapped", "(IIII)V"⟩, 49) := ⟨⟨by decide +kernel, by decide +kernel⟩, lw_t6 (List.mem_of_getElem? (i := 43) rfl), lw_t8 (List.mem_of_getElem? (i := 1) rfl), lw_t8 (List.mem_of_getElem? (i := 2) rfl)⟩
theorem lw_p74 : lw_okq (⟨"HamsterWeekendsModel", "draw", "(I)I"⟩, 49) := ⟨⟨by decide +kernel, by decide +kernel⟩, lw_t6 (List.mem_of_getElem? (i := 43) rfl), lw_t8 (List.mem_of_getElem? (i := 17) rfl), lw_t8 (List.mem_of_getElem? (i := 18) rfl)⟩
theorem lw_p75 : lw_okq (⟨"HamsterWeekendsModel", "feeding", "(II)I"⟩, 49) := ⟨⟨by decide +kernel, by decide +kernel⟩, lw_t6 (List.mem_of_getElem? (i := 43) rfl), lw_t8 (List.mem_of_getElem? (i := 34) rfl), lw_t8 (List.mem_of_getElem? (i := 35) rfl)⟩
theorem lw_p76 : lw_okq (⟨"HamsterWeekendsModel", "body", "(I)V"⟩, 49) := ⟨⟨by decide +kernel, by decide +kernel⟩, lw_t6 (List.mem_of_getElem? (i := 43) rfl), lw_t8 (List.mem_of_getElem? (i := 38) rfl), lw_t8 (List.mem_of_getElem? (i := 39) rfl)⟩
theorem lw_p77 : lw_okq (⟨"HamsterWeekendsModel", "weighing", "(II)I"⟩, 49) := ⟨⟨by decide +kernel, by decide +kernel⟩, lw_t6 (List.mem_of_getElem? (i := 43) rfl), lw_t8 (List.mem_of_getElem? (i := 42) rfl), lw_t8 (List.mem_of_getElem? (i := 43) rfl)⟩
theorem lw_p78 : lw_okq (⟨"HamsterWeekendsModel", "writing", "(II)I"⟩, 49) := ⟨⟨by decide +kernel, by decide +kernel⟩, lw_t6 (List.mem_of_getElem? (i := 43) rfl), lw_t8 (List.mem_of_getElem? (i := 46) rfl), lw_t8 (List.mem_of_getElem? (i := 47) rfl)⟩
def lw_privs_5 : List (MethodName × Nat) := [(⟨"HamsterWeekendsModel", "ordered", "()I"⟩, 49), (⟨"HamsterWeekendsModel", "orders", "(III)V"⟩, 49), (⟨"HamsterWeekendsModel", "tries", "(I)V"⟩, 49), (⟨"HamsterWeekendsModel", "mayAt", "(I)I"⟩, 49), (⟨"HamsterWeekendsModel", "isWeight", "(I)Z"⟩, 49), (⟨"HamsterWeekendsModel", "isFew", "(I)Z"⟩, 49), (⟨"HamsterWeekendsModel", "dying", "(I)I"⟩, 49), (⟨"HamsterWeekendsModel", "noFar", "(I)I"⟩, 49), (⟨"HamsterWeekendsModel", "isFed", "(III)Z"⟩, 49), (⟨"HamsterWeekendsModel", "swapped", "(IIII)V"⟩, 49), (⟨"HamsterWeekendsModel", "draw", "(I)I"⟩, 49), (⟨"HamsterWeekendsModel", "feeding", "(II)I"⟩, 49), (⟨"HamsterWeekendsModel", "body", "(I)V"⟩, 49), (⟨"HamsterWeekendsModel", "weighing", "(II)I"⟩, 49), (⟨"HamsterWeekendsModel", "writing", "(II)I"⟩, 49)]
theorem lw_r5 : ∀ q ∈ lw_privs_5, lw_okq q := List.forall_mem_cons.mpr ⟨lw_p64, List.forall_mem_cons.mpr ⟨lw_p65, List.forall_mem_cons.mpr ⟨lw_p66, List.forall_mem_cons.mpr ⟨lw_p67, List.forall_mem_cons.mpr ⟨lw_p68, List.forall_mem_cons.mpr ⟨lw_p69, List.forall_mem_cons.mpr ⟨lw_p70, List.forall_mem_cons.mpr ⟨lw_p71, List.forall_mem_cons.mpr ⟨lw_p72, List.forall_mem_cons.mpr ⟨lw_p73, List.forall_mem_cons.mpr ⟨lw_p74, List.forall_mem_cons.mpr ⟨lw_p75, List.forall_mem_cons.mpr ⟨lw_p76, List.forall_mem_cons.mpr ⟨lw_p77, List.forall_mem_cons.mpr ⟨lw_p78, fun _ h => absurd h List.not_mem_nil⟩⟩⟩⟩⟩⟩⟩⟩⟩⟩⟩⟩⟩⟩⟩
def lw_privs : List (MethodName × Nat) := lw_privs_1 ++ (lw_privs_2 ++ (lw_privs_3 ++ (lw_privs_4 ++ (lw_privs_5))))
def lw_tbl : List Cond := k2_sels lw_privs ++ tables_1
theorem lw_privs_ok : ∀ q ∈ lw_privs, lw_okq q := by
  show ∀ q ∈ lw_privs_1 ++ (lw_privs_2 ++ (lw_privs_3 ++ (lw_privs_4 ++ (lw_privs_5)))), lw_okq q
  exact List.forall_mem_append.mpr ⟨lw_r1, List.forall_mem_append.mpr ⟨lw_r2, List.forall_mem_append.mpr ⟨lw_r3, List.forall_mem_append.mpr ⟨lw_r4, lw_r5⟩⟩⟩⟩
-- ===== ONE list of words for every method: the tables' words that hold all through a run =====
def lw_all : List Cond := lw_tbl.filter goodWord
/-- a word of the tables by its place: claim/WORDS.tsv -/
theorem lw_w {w : Cond} (i : Nat) (h : lw_tbl[i]? = some w) (g : goodWord w = true) : w ∈ lw_all := List.mem_filter.mpr ⟨List.mem_of_getElem? h, g⟩
theorem lw_all_tbl {w : Cond} (h : w ∈ lw_all) : w ∈ lw_tbl := (List.mem_filter.mp h).1
theorem lw_self : GoodIn lw_all lw_all := fun w h => ⟨h, good_of_word (List.mem_filter.mp h).2⟩
/-- a class's field words, by their places -/
theorem lw_in (ws : List Cond) (ps : List Nat) (hp : ws = ps.filterMap (fun i => lw_tbl[i]?)) (hg : ws.all goodWord = true) : ∀ w ∈ ws, w ∈ lw_all := by
  intro w h
  have h1 := List.all_eq_true.mp hg w h
  rw [hp] at h
  obtain ⟨i, -, hi⟩ := List.mem_filterMap.mp h
  exact lw_w i hi h1
/-- the words of a contract for the method y with code b, L locals, answer r -/
abbrev ws_ (y : MethodName) (b : ByteArray) (L : Nat) (r : Option FieldType) : List Cond := Cond.code y b L r :: lw_all
theorem lw_meth {y : MethodName} {b : ByteArray} {L : Nat} {r : Option FieldType} (h : Cond.code y b L r ∈ lw_all) : GoodIn lw_all (ws_ y b L r) := by
  intro w hw
  rcases List.mem_cons.mp hw with e | e
  · rw [e]
    exact lw_self _ h
  · exact lw_self _ e
theorem lw_app {a c : List Cond} (ha : ∀ w ∈ a, w ∈ lw_all) (hc : GoodIn lw_all c) : GoodIn lw_all (a ++ c) := by
  intro w hw
  rcases List.mem_append.mp hw with e | e
  · exact lw_self w (ha w e)
  · exact hc w e
/-- what a call through an object asks: cwV n hts (lw_V ..) -/
theorem lw_V {own : String} {idx : Nat} {C : String} {y : MethodName} {b : ByteArray} {L : Nat} {r : Option FieldType} (h1 : Cond.methodLink own idx y ∈ lw_all) (h2 : Cond.instanceMethod y ∈ lw_all) (h3 : Cond.selects C y y ∈ lw_all) (h4 : Cond.initialized C ∈ lw_all) (h5 : Cond.code y b L r ∈ lw_all) : GoodIn lw_all (wsV own idx C y (ws_ y b L r)) := by
  refine lw_app ?_ (lw_meth h5)
  intro w hw
  simp only [List.mem_cons, List.not_mem_nil, or_false] at hw
  rcases hw with e | e | e | e
  · rw [e]; exact h1
  · rw [e]; exact h2
  · rw [e]; exact h3
  · rw [e]; exact h4
/-- what a static call asks: va_cwS n hts (lw_S ..) -/
theorem lw_S {own : String} {idx : Nat} {y : MethodName} {b : ByteArray} {L : Nat} {r : Option FieldType} (h1 : Cond.methodLink own idx y ∈ lw_all) (h2 : Cond.static y ∈ lw_all) (h3 : Cond.initialized y.cls ∈ lw_all) (h4 : Cond.code y b L r ∈ lw_all) : GoodIn lw_all (va_wsS own idx y (ws_ y b L r)) := by
  refine lw_app ?_ (lw_meth h4)
  intro w hw
  simp only [List.mem_cons, List.not_mem_nil, or_false] at hw
  rcases hw with e | e | e
  · rw [e]; exact h1
  · rw [e]; exact h2
  · rw [e]; exact h3
/-- the words of a contract for a method WITH HANDLERS (hh: its table) -/
abbrev wsW_ (y : MethodName) (b : ByteArray) (L : Nat) (r : Option FieldType) (hh : List (Nat × Nat × Nat × Nat)) : List Cond := Cond.codeWith y b L r hh :: lw_all
theorem lw_methW {y : MethodName} {b : ByteArray} {L : Nat} {r : Option FieldType} {hh : List (Nat × Nat × Nat × Nat)} (h : Cond.codeWith y b L r hh ∈ lw_all) : GoodIn lw_all (wsW_ y b L r hh) := by
  intro w hw
  rcases List.mem_cons.mp hw with e | e
  · rw [e]
    exact lw_self _ h
  · exact lw_self _ e
/-- any list of words by their places (lw_in), good -/
theorem lw_good {ws : List Cond} (h : ∀ w ∈ ws, w ∈ lw_all) : GoodIn lw_all ws := fun w hw => lw_self w (h w hw)
/-- what a call of a method with handlers asks: vx_cwVW n hts (lw_VW ..), vx_cwSW n hts (lw_SW ..) -/
theorem lw_VW {own : String} {idx : Nat} {C : String} {y : MethodName} {b : ByteArray} {L : Nat} {r : Option FieldType} {hh : List (Nat × Nat × Nat × Nat)} (h1 : Cond.methodLink own idx y ∈ lw_all) (h2 : Cond.instanceMethod y ∈ lw_all) (h3 : Cond.selects C y y ∈ lw_all) (h4 : Cond.initialized C ∈ lw_all) (h5 : Cond.codeWith y b L r hh ∈ lw_all) : GoodIn lw_all (wsV own idx C y (wsW_ y b L r hh)) := by
  refine lw_app ?_ (lw_methW h5)
  intro w hw
  simp only [List.mem_cons, List.not_mem_nil, or_false] at hw
  rcases hw with e | e | e | e
  · rw [e]; exact h1
  · rw [e]; exact h2
  · rw [e]; exact h3
  · rw [e]; exact h4
theorem lw_SW {own : String} {idx : Nat} {y : MethodName} {b : ByteArray} {L : Nat} {r : Option FieldType} {hh : List (Nat × Nat × Nat × Nat)} (h1 : Cond.methodLink own idx y ∈ lw_all) (h2 : Cond.static y ∈ lw_all) (h3 : Cond.initialized y.cls ∈ lw_all) (h4 : Cond.codeWith y b L r hh ∈ lw_all) : GoodIn lw_all (va_wsS own idx y (wsW_ y b L r hh)) := by
  refine lw_app ?_ (lw_methW h4)
  intro w hw
  simp only [List.mem_cons, List.not_mem_nil, or_false] at hw
  rcases hw with e | e | e
  · rw [e]; exact h1
  · rw [e]; exact h2
  · rw [e]; exact h3
/-- a word by its place in its run of the tables -/
theorem lw_at {r : List Cond} (hr : ∀ w ∈ r, w ∈ lw_tbl) {w : Cond} (i : Nat) (h : r[i]? = some w) : w ∈ lw_tbl := hr w (List.mem_of_getElem? h)
theorem lw_g {w : Cond} (h : w ∈ lw_tbl) (g : goodWord w = true) : w ∈ lw_all := List.mem_filter.mpr ⟨h, g⟩
theorem lw_ms : ∀ w ∈ k2_sels lw_privs, w ∈ lw_tbl := fun w h => show w ∈ k2_sels lw_privs ++ tables_1 from List.mem_append_left _ h
theorem lw_m1 : ∀ w ∈ tables_1_1, w ∈ lw_tbl := fun w h => show w ∈ k2_sels lw_privs ++ tables_1 from List.mem_append_right (k2_sels lw_privs) (show w ∈ tables_1 from List.mem_append_left _ h)
theorem lw_m2 : ∀ w ∈ tables_1_2, w ∈ lw_tbl := fun w h => show w ∈ k2_sels lw_privs ++ tables_1 from List.mem_append_right (k2_sels lw_privs) (show w ∈ tables_1 from List.mem_append_right _ (List.mem_append_left _ h))
theorem lw_m3 : ∀ w ∈ tables_1_3, w ∈ lw_tbl := fun w h => show w ∈ k2_sels lw_privs ++ tables_1 from List.mem_append_right (k2_sels lw_privs) (show w ∈ tables_1 from List.mem_append_right _ (List.mem_append_right _ (List.mem_append_left _ h)))
theorem lw_m4 : ∀ w ∈ tables_1_4, w ∈ lw_tbl := fun w h => show w ∈ k2_sels lw_privs ++ tables_1 from List.mem_append_right (k2_sels lw_privs) (show w ∈ tables_1 from List.mem_append_right _ (List.mem_append_right _ (List.mem_append_right _ (List.mem_append_left _ h))))
theorem lw_m5 : ∀ w ∈ tables_1_5, w ∈ lw_tbl := fun w h => show w ∈ k2_sels lw_privs ++ tables_1 from List.mem_append_right (k2_sels lw_privs) (show w ∈ tables_1 from List.mem_append_right _ (List.mem_append_right _ (List.mem_append_right _ (List.mem_append_right _ (List.mem_append_left _ h)))))
theorem lw_m6 : ∀ w ∈ tables_1_6, w ∈ lw_tbl := fun w h => show w ∈ k2_sels lw_privs ++ tables_1 from List.mem_append_right (k2_sels lw_privs) (show w ∈ tables_1 from List.mem_append_right _ (List.mem_append_right _ (List.mem_append_right _ (List.mem_append_right _ (List.mem_append_right _ (List.mem_append_left _ h))))))
theorem lw_m7 : ∀ w ∈ tables_1_7, w ∈ lw_tbl := fun w h => show w ∈ k2_sels lw_privs ++ tables_1 from List.mem_append_right (k2_sels lw_privs) (show w ∈ tables_1 from List.mem_append_right _ (List.mem_append_right _ (List.mem_append_right _ (List.mem_append_right _ (List.mem_append_right _ (List.mem_append_right _ (List.mem_append_left _ h)))))))
theorem lw_m8 : ∀ w ∈ tables_1_8, w ∈ lw_tbl := fun w h => show w ∈ k2_sels lw_privs ++ tables_1 from List.mem_append_right (k2_sels lw_privs) (show w ∈ tables_1 from List.mem_append_right _ (List.mem_append_right _ (List.mem_append_right _ (List.mem_append_right _ (List.mem_append_right _ (List.mem_append_right _ (List.mem_append_right _ h)))))))
theorem qs0 : (Cond.selects "HamsterWeekends" ⟨"HamsterWeekends", "shelf", "(I)LHamsterWeekends$Shelf;"⟩ ⟨"HamsterWeekends", "shelf", "(I)LHamsterWeekends$Shelf;"⟩) ∈ lw_all := lw_g (lw_at lw_ms 0 rfl) rfl
theorem qs1 : (Cond.selects "java/lang/Throwable" ⟨"java/lang/Throwable", "fillInStackTrace", "(I)Ljava/lang/Throwable;"⟩ ⟨"java/lang/Throwable", "fillInStackTrace", "(I)Ljava/lang/Throwable;"⟩) ∈ lw_all := lw_g (lw_at lw_ms 1 rfl) rfl
theorem qs2 : (Cond.selects "HamsterWeekends" ⟨"HamsterWeekends", "refused", "(LHamsterWeekends$Refused;)I"⟩ ⟨"HamsterWeekends", "refused", "(LHamsterWeekends$Refused;)I"⟩) ∈ lw_all := lw_g (lw_at lw_ms 2 rfl) rfl
theorem qs3 : (Cond.selects "HamsterWeekends" ⟨"HamsterWeekends", "mustHome", "(I)V"⟩ ⟨"HamsterWeekends", "mustHome", "(I)V"⟩) ∈ lw_all := lw_g (lw_at lw_ms 3 rfl) rfl
theorem qs4 : (Cond.selects "HamsterWeekends" ⟨"HamsterWeekends", "beyond", "()I"⟩ ⟨"HamsterWeekends", "beyond", "()I"⟩) ∈ lw_all := lw_g (lw_at lw_ms 4 rfl) rfl
theorem qs5 : (Cond.selects "HamsterWeekends" ⟨"HamsterWeekends", "asked", "(I)I"⟩ ⟨"HamsterWeekends", "asked", "(I)I"⟩) ∈ lw_all := lw_g (lw_at lw_ms 5 rfl) rfl
theorem qs6 : (Cond.selects "HamsterWeekends$Reader" ⟨"HamsterWeekends$Reader", "item", "()V"⟩ ⟨"HamsterWeekends$Reader", "item", "()V"⟩) ∈ lw_all := lw_g (lw_at lw_ms 6 rfl) rfl
theorem qs7 : (Cond.selects "HamsterWeekends$Reader" ⟨"HamsterWeekends$Reader", "sees", "(I)Z"⟩ ⟨"HamsterWeekends$Reader", "sees", "(I)Z"⟩) ∈ lw_all := lw_g (lw_at lw_ms 7 rfl) rfl
theorem qs8 : (Cond.selects "HamsterWeekends$Reader" ⟨"HamsterWeekends$Reader", "ends", "()Z"⟩ ⟨"HamsterWeekends$Reader", "ends", "()Z"⟩) ∈ lw_all := lw_g (lw_at lw_ms 8 rfl) rfl
theorem qs9 : (Cond.selects "HamsterWeekends$Reader" ⟨"HamsterWeekends$Reader", "newHome", "(I)V"⟩ ⟨"HamsterWeekends$Reader", "newHome", "(I)V"⟩) ∈ lw_all := lw_g (lw_at lw_ms 9 rfl) rfl
theorem qs10 : (Cond.selects "HamsterWeekends$Reader" ⟨"HamsterWeekends$Reader", "word", "(Ljava/lang/String;)V"⟩ ⟨"HamsterWeekends$Reader", "word", "(Ljava/lang/String;)V"⟩) ∈ lw_all := lw_g (lw_at lw_ms 10 rfl) rfl
theorem qs11 : (Cond.selects "HamsterWeekends$Reader" ⟨"HamsterWeekends$Reader", "must", "(I)V"⟩ ⟨"HamsterWeekends$Reader", "must", "(I)V"⟩) ∈ lw_all := lw_g (lw_at lw_ms 11 rfl) rfl
theorem qs12 : (Cond.selects "HamsterWeekends$Reader" ⟨"HamsterWeekends$Reader", "hasRoom", "(ZI)V"⟩ ⟨"HamsterWeekends$Reader", "hasRoom", "(ZI)V"⟩) ∈ lw_all := lw_g (lw_at lw_ms 12 rfl) rfl
theorem qs13 : (Cond.selects "HamsterWeekends$Reader" ⟨"HamsterWeekends$Reader", "number", "(II)I"⟩ ⟨"HamsterWeekends$Reader", "number", "(II)I"⟩) ∈ lw_all := lw_g (lw_at lw_ms 13 rfl) rfl
theorem qs14 : (Cond.selects "HamsterWeekends$Reader" ⟨"HamsterWeekends$Reader", "digit", "()Z"⟩ ⟨"HamsterWeekends$Reader", "digit", "()Z"⟩) ∈ lw_all := lw_g (lw_at lw_ms 14 rfl) rfl
theorem qs15 : (Cond.selects "HamsterWeekends$Reader" ⟨"HamsterWeekends$Reader", "allergicOrAge", "()V"⟩ ⟨"HamsterWeekends$Reader", "allergicOrAge", "()V"⟩) ∈ lw_all := lw_g (lw_at lw_ms 15 rfl) rfl
theorem qs16 : (Cond.selects "HamsterWeekends$Reader" ⟨"HamsterWeekends$Reader", "home", "()I"⟩ ⟨"HamsterWeekends$Reader", "home", "()I"⟩) ∈ lw_all := lw_g (lw_at lw_ms 16 rfl) rfl
theorem qs17 : (Cond.selects "HamsterWeekends$Reader" ⟨"HamsterWeekends$Reader", "weightOrWeek", "()V"⟩ ⟨"HamsterWeekends$Reader", "weightOrWeek", "()V"⟩) ∈ lw_all := lw_g (lw_at lw_ms 17 rfl) rfl
theorem qs18 : (Cond.selects "HamsterWeekends$Reader" ⟨"HamsterWeekends$Reader", "frightOrFeed", "()V"⟩ ⟨"HamsterWeekends$Reader", "frightOrFeed", "()V"⟩) ∈ lw_all := lw_g (lw_at lw_ms 18 rfl) rfl
theorem qs19 : (Cond.selects "HamsterWeekends$Reader" ⟨"HamsterWeekends$Reader", "lifeOrLow", "()V"⟩ ⟨"HamsterWeekends$Reader", "lifeOrLow", "()V"⟩) ∈ lw_all := lw_g (lw_at lw_ms 19 rfl) rfl
theorem qs20 : (Cond.selects "HamsterWeekends" ⟨"HamsterWeekends", "toldAt", "(II)LHamsterWeekends$Row;"⟩ ⟨"HamsterWeekends", "toldAt", "(II)LHamsterWeekends$Row;"⟩) ∈ lw_all := lw_g (lw_at lw_ms 20 rfl) rfl
theorem qs21 : (Cond.selects "HamsterWeekends" ⟨"HamsterWeekends", "wrongIn", "(LHamsterWeekends$Row;I)I"⟩ ⟨"HamsterWeekends", "wrongIn", "(LHamsterWeekends$Row;I)I"⟩) ∈ lw_all := lw_g (lw_at lw_ms 21 rfl) rfl
theorem qs22 : (Cond.selects "HamsterWeekends" ⟨"HamsterWeekends", "mustBeRight", "(LHamsterWeekends$Row;I)V"⟩ ⟨"HamsterWeekends", "mustBeRight", "(LHamsterWeekends$Row;I)V"⟩) ∈ lw_all := lw_g (lw_at lw_ms 22 rfl) rfl
theorem qs23 : (Cond.selects "HamsterWeekends" ⟨"HamsterWeekends", "goesRow", "(I)V"⟩ ⟨"HamsterWeekends", "goesRow", "(I)V"⟩) ∈ lw_all := lw_g (lw_at lw_ms 23 rfl) rfl
theorem qs24 : (Cond.selects "HamsterWeekends" ⟨"HamsterWeekends", "changes", "(II)V"⟩ ⟨"HamsterWeekends", "changes", "(II)V"⟩) ∈ lw_all := lw_g (lw_at lw_ms 24 rfl) rfl
theorem qs25 : (Cond.selects "HamsterWeekends" ⟨"HamsterWeekends", "someMay", "()V"⟩ ⟨"HamsterWeekends", "someMay", "()V"⟩) ∈ lw_all := lw_g (lw_at lw_ms 25 rfl) rfl
theorem qs26 : (Cond.selects "HamsterWeekends" ⟨"HamsterWeekends", "findOrder", "()I"⟩ ⟨"HamsterWeekends", "findOrder", "()I"⟩) ∈ lw_all := lw_g (lw_at lw_ms 26 rfl) rfl
theorem qs27 : (Cond.selects "HamsterWeekends" ⟨"HamsterWeekends", "seekOrder", "(III)V"⟩ ⟨"HamsterWeekends", "seekOrder", "(III)V"⟩) ∈ lw_all := lw_g (lw_at lw_ms 27 rfl) rfl
theorem qs28 : (Cond.selects "HamsterWeekends" ⟨"HamsterWeekends", "deathsIn", "(LHamsterWeekends$Pet;II)I"⟩ ⟨"HamsterWeekends", "deathsIn", "(LHamsterWeekends$Pet;II)I"⟩) ∈ lw_all := lw_g (lw_at lw_ms 28 rfl) rfl
theorem qs29 : (Cond.selects "HamsterWeekends" ⟨"HamsterWeekends", "weightBehind", "(II)I"⟩ ⟨"HamsterWeekends", "weightBehind", "(II)I"⟩) ∈ lw_all := lw_g (lw_at lw_ms 29 rfl) rfl
theorem qs30 : (Cond.selects "HamsterWeekends" ⟨"HamsterWeekends", "shelvesFollow", "()V"⟩ ⟨"HamsterWeekends", "shelvesFollow", "()V"⟩) ∈ lw_all := lw_g (lw_at lw_ms 30 rfl) rfl
theorem qs31 : (Cond.selects "HamsterWeekendsModel" ⟨"HamsterWeekendsModel", "isShelf", "(I)Z"⟩ ⟨"HamsterWeekendsModel", "isShelf", "(I)Z"⟩) ∈ lw_all := lw_g (lw_at lw_ms 31 rfl) rfl
theorem qs32 : (Cond.selects "HamsterWeekendsModel" ⟨"HamsterWeekendsModel", "no", "(I)I"⟩ ⟨"HamsterWeekendsModel", "no", "(I)I"⟩) ∈ lw_all := lw_g (lw_at lw_ms 32 rfl) rfl
theorem qs33 : (Cond.selects "HamsterWeekendsModel" ⟨"HamsterWeekendsModel", "isHome", "(I)Z"⟩ ⟨"HamsterWeekendsModel", "isHome", "(I)Z"⟩) ∈ lw_all := lw_g (lw_at lw_ms 33 rfl) rfl
theorem qs34 : (Cond.selects "HamsterWeekendsModel" ⟨"HamsterWeekendsModel", "adds", "(II)I"⟩ ⟨"HamsterWeekendsModel", "adds", "(II)I"⟩) ∈ lw_all := lw_g (lw_at lw_ms 34 rfl) rfl
theorem qs35 : (Cond.selects "HamsterWeekendsModel" ⟨"HamsterWeekendsModel", "isAsked", "(II)Z"⟩ ⟨"HamsterWeekendsModel", "isAsked", "(II)Z"⟩) ∈ lw_all := lw_g (lw_at lw_ms 35 rfl) rfl
theorem qs36 : (Cond.selects "HamsterWeekendsModel" ⟨"HamsterWeekendsModel", "told", "(I)I"⟩ ⟨"HamsterWeekendsModel", "told", "(I)I"⟩) ∈ lw_all := lw_g (lw_at lw_ms 36 rfl) rfl
theorem qs37 : (Cond.selects "HamsterWeekendsModel" ⟨"HamsterWeekendsModel", "tells", "(II)V"⟩ ⟨"HamsterWeekendsModel", "tells", "(II)V"⟩) ∈ lw_all := lw_g (lw_at lw_ms 37 rfl) rfl
theorem qs38 : (Cond.selects "HamsterWeekendsModel" ⟨"HamsterWeekendsModel", "wanted", "(I)I"⟩ ⟨"HamsterWeekendsModel", "wanted", "(I)I"⟩) ∈ lw_all := lw_g (lw_at lw_ms 38 rfl) rfl
theorem qs39 : (Cond.selects "HamsterWeekendsModel" ⟨"HamsterWeekendsModel", "all", "([IZ)V"⟩ ⟨"HamsterWeekendsModel", "all", "([IZ)V"⟩) ∈ lw_all := lw_g (lw_at lw_ms 39 rfl) rfl
theorem qs40 : (Cond.selects "HamsterWeekendsModel" ⟨"HamsterWeekendsModel", "carries", "([II[IIZ)I"⟩ ⟨"HamsterWeekendsModel", "carries", "([II[IIZ)I"⟩) ∈ lw_all := lw_g (lw_at lw_ms 40 rfl) rfl
theorem qs41 : (Cond.selects "HamsterWeekendsModel" ⟨"HamsterWeekendsModel", "item", "()Z"⟩ ⟨"HamsterWeekendsModel", "item", "()Z"⟩) ∈ lw_all := lw_g (lw_at lw_ms 41 rfl) rfl
theorem qs42 : (Cond.selects "HamsterWeekendsModel" ⟨"HamsterWeekendsModel", "isWordAt", "(I)Z"⟩ ⟨"HamsterWeekendsModel", "isWordAt", "(I)Z"⟩) ∈ lw_all := lw_g (lw_at lw_ms 42 rfl) rfl
theorem qs43 : (Cond.selects "HamsterWeekendsModel" ⟨"HamsterWeekendsModel", "wrong", "(I)Z"⟩ ⟨"HamsterWeekendsModel", "wrong", "(I)Z"⟩) ∈ lw_all := lw_g (lw_at lw_ms 43 rfl) rfl
theorem qs44 : (Cond.selects "HamsterWeekendsModel" ⟨"HamsterWeekendsModel", "word", "()I"⟩ ⟨"HamsterWeekendsModel", "word", "()I"⟩) ∈ lw_all := lw_g (lw_at lw_ms 44 rfl) rfl
theorem qs45 : (Cond.selects "HamsterWeekendsModel" ⟨"HamsterWeekendsModel", "reads", "()Z"⟩ ⟨"HamsterWeekendsModel", "reads", "()Z"⟩) ∈ lw_all := lw_g (lw_at lw_ms 45 rfl) rfl
theorem qs46 : (Cond.selects "HamsterWeekendsModel" ⟨"HamsterWeekendsModel", "isDigit", "()Z"⟩ ⟨"HamsterWeekendsModel", "isDigit", "()Z"⟩) ∈ lw_all := lw_g (lw_at lw_ms 46 rfl) rfl
theorem qs47 : (Cond.selects "HamsterWeekendsModel" ⟨"HamsterWeekendsModel", "isSo", "(II)Z"⟩ ⟨"HamsterWeekendsModel", "isSo", "(II)Z"⟩) ∈ lw_all := lw_g (lw_at lw_ms 47 rfl) rfl
theorem qs48 : (Cond.selects "HamsterWeekendsModel" ⟨"HamsterWeekendsModel", "may", "(I)Z"⟩ ⟨"HamsterWeekendsModel", "may", "(I)Z"⟩) ∈ lw_all := lw_g (lw_at lw_ms 48 rfl) rfl
theorem qs49 : (Cond.selects "HamsterWeekendsModel" ⟨"HamsterWeekendsModel", "weekInTruth", "(I)Z"⟩ ⟨"HamsterWeekendsModel", "weekInTruth", "(I)Z"⟩) ∈ lw_all := lw_g (lw_at lw_ms 49 rfl) rfl
theorem qs50 : (Cond.selects "HamsterWeekendsModel" ⟨"HamsterWeekendsModel", "begins", "()V"⟩ ⟨"HamsterWeekendsModel", "begins", "()V"⟩) ∈ lw_all := lw_g (lw_at lw_ms 50 rfl) rfl
theorem qs51 : (Cond.selects "HamsterWeekendsModel" ⟨"HamsterWeekendsModel", "goes", "(I)Z"⟩ ⟨"HamsterWeekendsModel", "goes", "(I)Z"⟩) ∈ lw_all := lw_g (lw_at lw_ms 51 rfl) rfl
theorem qs52 : (Cond.selects "HamsterWeekendsModel" ⟨"HamsterWeekendsModel", "school", "()V"⟩ ⟨"HamsterWeekendsModel", "school", "()V"⟩) ∈ lw_all := lw_g (lw_at lw_ms 52 rfl) rfl
theorem qs53 : (Cond.selects "HamsterWeekendsModel" ⟨"HamsterWeekendsModel", "normOf", "(I)I"⟩ ⟨"HamsterWeekendsModel", "normOf", "(I)I"⟩) ∈ lw_all := lw_g (lw_at lw_ms 53 rfl) rfl
theorem qs54 : (Cond.selects "HamsterWeekendsModel" ⟨"HamsterWeekendsModel", "weekend", "(II)V"⟩ ⟨"HamsterWeekendsModel", "weekend", "(II)V"⟩) ∈ lw_all := lw_g (lw_at lw_ms 54 rfl) rfl
theorem qs55 : (Cond.selects "HamsterWeekendsModel" ⟨"HamsterWeekendsModel", "bound", "(II)I"⟩ ⟨"HamsterWeekendsModel", "bound", "(II)I"⟩) ∈ lw_all := lw_g (lw_at lw_ms 55 rfl) rfl
theorem qs56 : (Cond.selects "HamsterWeekendsModel" ⟨"HamsterWeekendsModel", "barsOf", "(II)I"⟩ ⟨"HamsterWeekendsModel", "barsOf", "(II)I"⟩) ∈ lw_all := lw_g (lw_at lw_ms 56 rfl) rfl
theorem qs57 : (Cond.selects "HamsterWeekendsModel" ⟨"HamsterWeekendsModel", "bars", "(II)I"⟩ ⟨"HamsterWeekendsModel", "bars", "(II)I"⟩) ∈ lw_all := lw_g (lw_at lw_ms 57 rfl) rfl
theorem qs58 : (Cond.selects "HamsterWeekendsModel" ⟨"HamsterWeekendsModel", "noTen", "(I)I"⟩ ⟨"HamsterWeekendsModel", "noTen", "(I)I"⟩) ∈ lw_all := lw_g (lw_at lw_ms 58 rfl) rfl
theorem qs59 : (Cond.selects "HamsterWeekendsModel" ⟨"HamsterWeekendsModel", "wrongIn", "(II)I"⟩ ⟨"HamsterWeekendsModel", "wrongIn", "(II)I"⟩) ∈ lw_all := lw_g (lw_at lw_ms 59 rfl) rfl
theorem qs60 : (Cond.selects "HamsterWeekendsModel" ⟨"HamsterWeekendsModel", "intAt", "(II)I"⟩ ⟨"HamsterWeekendsModel", "intAt", "(II)I"⟩) ∈ lw_all := lw_g (lw_at lw_ms 60 rfl) rfl
theorem qs61 : (Cond.selects "HamsterWeekendsModel" ⟨"HamsterWeekendsModel", "barsRight", "(II)I"⟩ ⟨"HamsterWeekendsModel", "barsRight", "(II)I"⟩) ∈ lw_all := lw_g (lw_at lw_ms 61 rfl) rfl
theorem qs62 : (Cond.selects "HamsterWeekendsModel" ⟨"HamsterWeekendsModel", "mays", "()I"⟩ ⟨"HamsterWeekendsModel", "mays", "()I"⟩) ∈ lw_all := lw_g (lw_at lw_ms 62 rfl) rfl
theorem qs63 : (Cond.selects "HamsterWeekendsModel" ⟨"HamsterWeekendsModel", "turn", "(I)I"⟩ ⟨"HamsterWeekendsModel", "turn", "(I)I"⟩) ∈ lw_all := lw_g (lw_at lw_ms 63 rfl) rfl
theorem qs64 : (Cond.selects "HamsterWeekendsModel" ⟨"HamsterWeekendsModel", "ordered", "()I"⟩ ⟨"HamsterWeekendsModel", "ordered", "()I"⟩) ∈ lw_all := lw_g (lw_at lw_ms 64 rfl) rfl
theorem qs65 : (Cond.selects "HamsterWeekendsModel" ⟨"HamsterWeekendsModel", "orders", "(III)V"⟩ ⟨"HamsterWeekendsModel", "orders", "(III)V"⟩) ∈ lw_all := lw_g (lw_at lw_ms 65 rfl) rfl
theorem qs66 : (Cond.selects "HamsterWeekendsModel" ⟨"HamsterWeekendsModel", "tries", "(I)V"⟩ ⟨"HamsterWeekendsModel", "tries", "(I)V"⟩) ∈ lw_all := lw_g (lw_at lw_ms 66 rfl) rfl
theorem qs67 : (Cond.selects "HamsterWeekendsModel" ⟨"HamsterWeekendsModel", "mayAt", "(I)I"⟩ ⟨"HamsterWeekendsModel", "mayAt", "(I)I"⟩) ∈ lw_all := lw_g (lw_at lw_ms 67 rfl) rfl
theorem qs68 : (Cond.selects "HamsterWeekendsModel" ⟨"HamsterWeekendsModel", "isWeight", "(I)Z"⟩ ⟨"HamsterWeekendsModel", "isWeight", "(I)Z"⟩) ∈ lw_all := lw_g (lw_at lw_ms 68 rfl) rfl
theorem qs69 : (Cond.selects "HamsterWeekendsModel" ⟨"HamsterWeekendsModel", "isFew", "(I)Z"⟩ ⟨"HamsterWeekendsModel", "isFew", "(I)Z"⟩) ∈ lw_all := lw_g (lw_at lw_ms 69 rfl) rfl
theorem qs70 : (Cond.selects "HamsterWeekendsModel" ⟨"HamsterWeekendsModel", "dying", "(I)I"⟩ ⟨"HamsterWeekendsModel", "dying", "(I)I"⟩) ∈ lw_all := lw_g (lw_at lw_ms 70 rfl) rfl
theorem qs71 : (Cond.selects "HamsterWeekendsModel" ⟨"HamsterWeekendsModel", "noFar", "(I)I"⟩ ⟨"HamsterWeekendsModel", "noFar", "(I)I"⟩) ∈ lw_all := lw_g (lw_at lw_ms 71 rfl) rfl
theorem qs72 : (Cond.selects "HamsterWeekendsModel" ⟨"HamsterWeekendsModel", "isFed", "(III)Z"⟩ ⟨"HamsterWeekendsModel", "isFed", "(III)Z"⟩) ∈ lw_all := lw_g (lw_at lw_ms 72 rfl) rfl
theorem qs73 : (Cond.selects "HamsterWeekendsModel" ⟨"HamsterWeekendsModel", "swapped", "(IIII)V"⟩ ⟨"HamsterWeekendsModel", "swapped", "(IIII)V"⟩) ∈ lw_all := lw_g (lw_at lw_ms 73 rfl) rfl
theorem qs74 : (Cond.selects "HamsterWeekendsModel" ⟨"HamsterWeekendsModel", "draw", "(I)I"⟩ ⟨"HamsterWeekendsModel", "draw", "(I)I"⟩) ∈ lw_all := lw_g (lw_at lw_ms 74 rfl) rfl
theorem qs75 : (Cond.selects "HamsterWeekendsModel" ⟨"HamsterWeekendsModel", "feeding", "(II)I"⟩ ⟨"HamsterWeekendsModel", "feeding", "(II)I"⟩) ∈ lw_all := lw_g (lw_at lw_ms 75 rfl) rfl
theorem qs76 : (Cond.selects "HamsterWeekendsModel" ⟨"HamsterWeekendsModel", "body", "(I)V"⟩ ⟨"HamsterWeekendsModel", "body", "(I)V"⟩) ∈ lw_all := lw_g (lw_at lw_ms 76 rfl) rfl
theorem qs77 : (Cond.selects "HamsterWeekendsModel" ⟨"HamsterWeekendsModel", "weighing", "(II)I"⟩ ⟨"HamsterWeekendsModel", "weighing", "(II)I"⟩) ∈ lw_all := lw_g (lw_at lw_ms 77 rfl) rfl
theorem qs78 : (Cond.selects "HamsterWeekendsModel" ⟨"HamsterWeekendsModel", "writing", "(II)I"⟩ ⟨"HamsterWeekendsModel", "writing", "(II)I"⟩) ∈ lw_all := lw_g (lw_at lw_ms 78 rfl) rfl
