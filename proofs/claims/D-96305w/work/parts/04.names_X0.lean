/-! HamsterWeekends -/
set_option maxRecDepth 100000
def RX0 : String := "HamsterWeekends"
def TX0 : u_T := fun k => match k with
  | 0 => ("HamsterWeekends", "shelves", "[LHamsterWeekends$Shelf;", true)
  | 1 => ("HamsterWeekends", "refusals", "[I", true)
  | 2 => ("HamsterWeekends", "ran", "LHamsterWeekends$Trace;", true)
  | 3 => ("HamsterWeekends", "tried", "LHamsterWeekends$Pet;", true)
  | 4 => ("HamsterWeekends", "told", "[I", true)
  | 5 => ("HamsterWeekends", "bestRow", "[I", true)
  | 6 => ("HamsterWeekends", "w", "LHamsterWeekends$Room;", false)
  | 7 => ("HamsterWeekends", "imaged", "LHamsterWeekends$Room;", false)
  | 8 => ("HamsterWeekends", "latestFault", "I", false)
  | 9 => ("HamsterWeekends", "died", "I", false)
  | 10 => ("HamsterWeekends", "leastWeight", "I", false)
  | 11 => ("HamsterWeekends", "noticedBy", "I", false)
  | 12 => ("HamsterWeekends", "noticed", "I", false)
  | 13 => ("HamsterWeekends", "orderDied", "I", false)
  | 14 => ("HamsterWeekends", "orderLeast", "I", false)
  | _ => ("HamsterWeekends", "ahead", "[LHamsterWeekends$Pet;", true)
def tyX0 : Nat → FieldType := fun k => match k with
  | 0 => .array (.object "HamsterWeekends$Shelf")
  | 1 => .array .int
  | 2 => .object "HamsterWeekends$Trace"
  | 3 => .object "HamsterWeekends$Pet"
  | 4 => .array .int
  | 5 => .array .int
  | 6 => .object "HamsterWeekends$Room"
  | 7 => .object "HamsterWeekends$Room"
  | 8 => .int
  | 9 => .int
  | 10 => .int
  | 11 => .int
  | 12 => .int
  | 13 => .int
  | 14 => .int
  | _ => .array (.object "HamsterWeekends$Pet")
abbrev wsX00 : List Cond := u_ws RX0 TX0 16
set_option maxRecDepth 100000 in
theorem nmX0 : ∀ a, a < 16 → ∀ b, b < 16 → a ≠ b → (TX0 a).2.1 ≠ (TX0 b).2.1 := by decide +kernel
set_option maxRecDepth 100000 in
theorem tyX0_ok : ∀ k, k < 16 → parseFieldDescriptor (TX0 k).2.2.1 = some (tyX0 k) := by decide +kernel
abbrev cX0_init : ByteArray := prog_1_method_5_code
def yX0_init : MethodName := ⟨RX0, "<init>", "()V"⟩
def dkwX0_init_6 : List UInt8 := [187, 0, 57, 89, 183, 0, 102, 83, 132, 1, 1, 167, 255, 234, 177]
abbrev dktX0_init_6 : List UInt8 := dkwX0_init_6 ++ []
def dkwX0_init_5 : List UInt8 := [187, 0, 74, 89, 183, 0, 76, 83, 181, 0, 98, 3, 60, 27, 16, 8, 162, 0, 22, 42, 180, 0, 59, 27]
abbrev dktX0_init_5 : List UInt8 := dkwX0_init_5 ++ dktX0_init_6
def dkwX0_init_4 : List UInt8 := [89, 5, 187, 0, 74, 89, 183, 0, 76, 83, 89, 6, 187, 0, 74, 89, 183, 0, 76, 83, 89, 7]
abbrev dktX0_init_4 : List UInt8 := dkwX0_init_4 ++ dktX0_init_5
def dkwX0_init_3 : List UInt8 := [42, 2, 181, 0, 94, 42, 8, 189, 0, 74, 89, 3, 1, 83, 89, 4, 187, 0, 74, 89, 183, 0, 76, 83]
abbrev dktX0_init_3 : List UInt8 := dkwX0_init_3 ++ dktX0_init_4
def dkwX0_init_2 : List UInt8 := [188, 10, 181, 0, 81, 42, 16, 6, 188, 10, 181, 0, 84, 42, 187, 0, 87, 89, 183, 0, 89, 181, 0, 90]
abbrev dktX0_init_2 : List UInt8 := dkwX0_init_2 ++ dktX0_init_3
def dkwX0_init_1 : List UInt8 := [187, 0, 67, 89, 183, 0, 69, 181, 0, 70, 42, 187, 0, 74, 89, 183, 0, 76, 181, 0, 77, 42, 16, 40]
abbrev dktX0_init_1 : List UInt8 := dkwX0_init_1 ++ dktX0_init_2
def dkwX0_init_0 : List UInt8 := [42, 183, 0, 50, 42, 16, 8, 189, 0, 57, 181, 0, 59, 42, 16, 8, 188, 10, 181, 0, 63, 42]
abbrev dktX0_init_0 : List UInt8 := dkwX0_init_0 ++ dktX0_init_1
theorem dksX0_init_0 : cX0_init.data.toList.drop 0 = dktX0_init_0 := by decide +kernel
theorem dksX0_init_1 : cX0_init.data.toList.drop 22 = dktX0_init_1 := dk_seg dksX0_init_0 22 rfl rfl
theorem dksX0_init_2 : cX0_init.data.toList.drop 46 = dktX0_init_2 := dk_seg dksX0_init_1 24 rfl rfl
theorem dksX0_init_3 : cX0_init.data.toList.drop 70 = dktX0_init_3 := dk_seg dksX0_init_2 24 rfl rfl
theorem dksX0_init_4 : cX0_init.data.toList.drop 94 = dktX0_init_4 := dk_seg dksX0_init_3 24 rfl rfl
theorem dksX0_init_5 : cX0_init.data.toList.drop 116 = dktX0_init_5 := dk_seg dksX0_init_4 22 rfl rfl
theorem dksX0_init_6 : cX0_init.data.toList.drop 140 = dktX0_init_6 := dk_seg dksX0_init_5 24 rfl rfl
theorem dX0_init_0 : decode cX0_init 0 = .ok (.aload_n 0, 1) := dk_42 (dk_at dksX0_init_0 0 rfl rfl)
theorem dX0_init_1 : decode cX0_init 1 = .ok (.invokespecial 50, 3) := dk_183 0 50 (dk_at dksX0_init_0 1 rfl rfl)
theorem dX0_init_4 : decode cX0_init 4 = .ok (.aload_n 0, 1) := dk_42 (dk_at dksX0_init_0 4 rfl rfl)
theorem dX0_init_5 : decode cX0_init 5 = .ok (.bipush 8, 2) := dk_16 8 (dk_at dksX0_init_0 5 rfl rfl)
theorem dX0_init_7 : decode cX0_init 7 = .ok (.anewarray 57, 3) := dk_189 0 57 (dk_at dksX0_init_0 7 rfl rfl)
theorem dX0_init_10 : decode cX0_init 10 = .ok (.putfield 59, 3) := dk_181 0 59 (dk_at dksX0_init_0 10 rfl rfl)
theorem dX0_init_13 : decode cX0_init 13 = .ok (.aload_n 0, 1) := dk_42 (dk_at dksX0_init_0 13 rfl rfl)
theorem dX0_init_14 : decode cX0_init 14 = .ok (.bipush 8, 2) := dk_16 8 (dk_at dksX0_init_0 14 rfl rfl)
theorem dX0_init_16 : decode cX0_init 16 = .ok (.newarray .int, 2) := dk_188_10 (dk_at dksX0_init_0 16 rfl rfl)
theorem dX0_init_18 : decode cX0_init 18 = .ok (.putfield 63, 3) := dk_181 0 63 (dk_at dksX0_init_0 18 rfl rfl)
theorem dX0_init_21 : decode cX0_init 21 = .ok (.aload_n 0, 1) := dk_42 (dk_at dksX0_init_0 21 rfl rfl)
theorem dX0_init_22 : decode cX0_init 22 = .ok (.new 67, 3) := dk_187 0 67 (dk_at dksX0_init_1 0 rfl rfl)
theorem dX0_init_25 : decode cX0_init 25 = .ok (.dup, 1) := dk_89 (dk_at dksX0_init_1 3 rfl rfl)
theorem dX0_init_26 : decode cX0_init 26 = .ok (.invokespecial 69, 3) := dk_183 0 69 (dk_at dksX0_init_1 4 rfl rfl)
theorem dX0_init_29 : decode cX0_init 29 = .ok (.putfield 70, 3) := dk_181 0 70 (dk_at dksX0_init_1 7 rfl rfl)
theorem dX0_init_32 : decode cX0_init 32 = .ok (.aload_n 0, 1) := dk_42 (dk_at dksX0_init_1 10 rfl rfl)
theorem dX0_init_33 : decode cX0_init 33 = .ok (.new 74, 3) := dk_187 0 74 (dk_at dksX0_init_1 11 rfl rfl)
theorem dX0_init_36 : decode cX0_init 36 = .ok (.dup, 1) := dk_89 (dk_at dksX0_init_1 14 rfl rfl)
theorem dX0_init_37 : decode cX0_init 37 = .ok (.invokespecial 76, 3) := dk_183 0 76 (dk_at dksX0_init_1 15 rfl rfl)
theorem dX0_init_40 : decode cX0_init 40 = .ok (.putfield 77, 3) := dk_181 0 77 (dk_at dksX0_init_1 18 rfl rfl)
theorem dX0_init_43 : decode cX0_init 43 = .ok (.aload_n 0, 1) := dk_42 (dk_at dksX0_init_1 21 rfl rfl)
theorem dX0_init_44 : decode cX0_init 44 = .ok (.bipush 40, 2) := dk_16 40 (dk_at dksX0_init_1 22 rfl rfl)
theorem dX0_init_46 : decode cX0_init 46 = .ok (.newarray .int, 2) := dk_188_10 (dk_at dksX0_init_2 0 rfl rfl)
theorem dX0_init_48 : decode cX0_init 48 = .ok (.putfield 81, 3) := dk_181 0 81 (dk_at dksX0_init_2 2 rfl rfl)
theorem dX0_init_51 : decode cX0_init 51 = .ok (.aload_n 0, 1) := dk_42 (dk_at dksX0_init_2 5 rfl rfl)
theorem dX0_init_52 : decode cX0_init 52 = .ok (.bipush 6, 2) := dk_16 6 (dk_at dksX0_init_2 6 rfl rfl)
theorem dX0_init_54 : decode cX0_init 54 = .ok (.newarray .int, 2) := dk_188_10 (dk_at dksX0_init_2 8 rfl rfl)
theorem dX0_init_56 : decode cX0_init 56 = .ok (.putfield 84, 3) := dk_181 0 84 (dk_at dksX0_init_2 10 rfl rfl)
theorem dX0_init_59 : decode cX0_init 59 = .ok (.aload_n 0, 1) := dk_42 (dk_at dksX0_init_2 13 rfl rfl)
theorem dX0_init_60 : decode cX0_init 60 = .ok (.new 87, 3) := dk_187 0 87 (dk_at dksX0_init_2 14 rfl rfl)
theorem dX0_init_63 : decode cX0_init 63 = .ok (.dup, 1) := dk_89 (dk_at dksX0_init_2 17 rfl rfl)
theorem dX0_init_64 : decode cX0_init 64 = .ok (.invokespecial 89, 3) := dk_183 0 89 (dk_at dksX0_init_2 18 rfl rfl)
theorem dX0_init_67 : decode cX0_init 67 = .ok (.putfield 90, 3) := dk_181 0 90 (dk_at dksX0_init_2 21 rfl rfl)
theorem dX0_init_70 : decode cX0_init 70 = .ok (.aload_n 0, 1) := dk_42 (dk_at dksX0_init_3 0 rfl rfl)
theorem dX0_init_71 : decode cX0_init 71 = .ok (.iconst (-1), 1) := dk_2 (dk_at dksX0_init_3 1 rfl rfl)
theorem dX0_init_72 : decode cX0_init 72 = .ok (.putfield 94, 3) := dk_181 0 94 (dk_at dksX0_init_3 2 rfl rfl)
theorem dX0_init_75 : decode cX0_init 75 = .ok (.aload_n 0, 1) := dk_42 (dk_at dksX0_init_3 5 rfl rfl)
theorem dX0_init_76 : decode cX0_init 76 = .ok (.iconst 5, 1) := dk_8 (dk_at dksX0_init_3 6 rfl rfl)
theorem dX0_init_77 : decode cX0_init 77 = .ok (.anewarray 74, 3) := dk_189 0 74 (dk_at dksX0_init_3 7 rfl rfl)
theorem dX0_init_80 : decode cX0_init 80 = .ok (.dup, 1) := dk_89 (dk_at dksX0_init_3 10 rfl rfl)
theorem dX0_init_81 : decode cX0_init 81 = .ok (.iconst 0, 1) := dk_3 (dk_at dksX0_init_3 11 rfl rfl)
theorem dX0_init_82 : decode cX0_init 82 = .ok (.aconst_null, 1) := dk_1 (dk_at dksX0_init_3 12 rfl rfl)
theorem dX0_init_83 : decode cX0_init 83 = .ok (.aastore, 1) := dk_83 (dk_at dksX0_init_3 13 rfl rfl)
theorem dX0_init_84 : decode cX0_init 84 = .ok (.dup, 1) := dk_89 (dk_at dksX0_init_3 14 rfl rfl)
theorem dX0_init_85 : decode cX0_init 85 = .ok (.iconst 1, 1) := dk_4 (dk_at dksX0_init_3 15 rfl rfl)
theorem dX0_init_86 : decode cX0_init 86 = .ok (.new 74, 3) := dk_187 0 74 (dk_at dksX0_init_3 16 rfl rfl)
theorem dX0_init_89 : decode cX0_init 89 = .ok (.dup, 1) := dk_89 (dk_at dksX0_init_3 19 rfl rfl)
theorem dX0_init_90 : decode cX0_init 90 = .ok (.invokespecial 76, 3) := dk_183 0 76 (dk_at dksX0_init_3 20 rfl rfl)
theorem dX0_init_93 : decode cX0_init 93 = .ok (.aastore, 1) := dk_83 (dk_at dksX0_init_3 23 rfl rfl)
theorem dX0_init_94 : decode cX0_init 94 = .ok (.dup, 1) := dk_89 (dk_at dksX0_init_4 0 rfl rfl)
theorem dX0_init_95 : decode cX0_init 95 = .ok (.iconst 2, 1) := dk_5 (dk_at dksX0_init_4 1 rfl rfl)
theorem dX0_init_96 : decode cX0_init 96 = .ok (.new 74, 3) := dk_187 0 74 (dk_at dksX0_init_4 2 rfl rfl)
theorem dX0_init_99 : decode cX0_init 99 = .ok (.dup, 1) := dk_89 (dk_at dksX0_init_4 5 rfl rfl)
theorem dX0_init_100 : decode cX0_init 100 = .ok (.invokespecial 76, 3) := dk_183 0 76 (dk_at dksX0_init_4 6 rfl rfl)
theorem dX0_init_103 : decode cX0_init 103 = .ok (.aastore, 1) := dk_83 (dk_at dksX0_init_4 9 rfl rfl)
theorem dX0_init_104 : decode cX0_init 104 = .ok (.dup, 1) := dk_89 (dk_at dksX0_init_4 10 rfl rfl)
theorem dX0_init_105 : decode cX0_init 105 = .ok (.iconst 3, 1) := dk_6 (dk_at dksX0_init_4 11 rfl rfl)
theorem dX0_init_106 : decode cX0_init 106 = .ok (.new 74, 3) := dk_187 0 74 (dk_at dksX0_init_4 12 rfl rfl)
theorem dX0_init_109 : decode cX0_init 109 = .ok (.dup, 1) := dk_89 (dk_at dksX0_init_4 15 rfl rfl)
theorem dX0_init_110 : decode cX0_init 110 = .ok (.invokespecial 76, 3) := dk_183 0 76 (dk_at dksX0_init_4 16 rfl rfl)
theorem dX0_init_113 : decode cX0_init 113 = .ok (.aastore, 1) := dk_83 (dk_at dksX0_init_4 19 rfl rfl)
theorem dX0_init_114 : decode cX0_init 114 = .ok (.dup, 1) := dk_89 (dk_at dksX0_init_4 20 rfl rfl)
theorem dX0_init_115 : decode cX0_init 115 = .ok (.iconst 4, 1) := dk_7 (dk_at dksX0_init_4 21 rfl rfl)
theorem dX0_init_116 : decode cX0_init 116 = .ok (.new 74, 3) := dk_187 0 74 (dk_at dksX0_init_5 0 rfl rfl)
theorem dX0_init_119 : decode cX0_init 119 = .ok (.dup, 1) := dk_89 (dk_at dksX0_init_5 3 rfl rfl)
theorem dX0_init_120 : decode cX0_init 120 = .ok (.invokespecial 76, 3) := dk_183 0 76 (dk_at dksX0_init_5 4 rfl rfl)
theorem dX0_init_123 : decode cX0_init 123 = .ok (.aastore, 1) := dk_83 (dk_at dksX0_init_5 7 rfl rfl)
theorem dX0_init_124 : decode cX0_init 124 = .ok (.putfield 98, 3) := dk_181 0 98 (dk_at dksX0_init_5 8 rfl rfl)
theorem dX0_init_127 : decode cX0_init 127 = .ok (.iconst 0, 1) := dk_3 (dk_at dksX0_init_5 11 rfl rfl)
theorem dX0_init_128 : decode cX0_init 128 = .ok (.istore_n 1, 1) := dk_60 (dk_at dksX0_init_5 12 rfl rfl)
theorem dX0_init_129 : decode cX0_init 129 = .ok (.iload_n 1, 1) := dk_27 (dk_at dksX0_init_5 13 rfl rfl)
theorem dX0_init_130 : decode cX0_init 130 = .ok (.bipush 8, 2) := dk_16 8 (dk_at dksX0_init_5 14 rfl rfl)
theorem dX0_init_132 : decode cX0_init 132 = .ok (.if_icmp .ge 22, 3) := dk_162 0 22 (dk_at dksX0_init_5 16 rfl rfl)
theorem dX0_init_135 : decode cX0_init 135 = .ok (.aload_n 0, 1) := dk_42 (dk_at dksX0_init_5 19 rfl rfl)
theorem dX0_init_136 : decode cX0_init 136 = .ok (.getfield 59, 3) := dk_180 0 59 (dk_at dksX0_init_5 20 rfl rfl)
theorem dX0_init_139 : decode cX0_init 139 = .ok (.iload_n 1, 1) := dk_27 (dk_at dksX0_init_5 23 rfl rfl)
theorem dX0_init_140 : decode cX0_init 140 = .ok (.new 57, 3) := dk_187 0 57 (dk_at dksX0_init_6 0 rfl rfl)
theorem dX0_init_143 : decode cX0_init 143 = .ok (.dup, 1) := dk_89 (dk_at dksX0_init_6 3 rfl rfl)
theorem dX0_init_144 : decode cX0_init 144 = .ok (.invokespecial 102, 3) := dk_183 0 102 (dk_at dksX0_init_6 4 rfl rfl)
theorem dX0_init_147 : decode cX0_init 147 = .ok (.aastore, 1) := dk_83 (dk_at dksX0_init_6 7 rfl rfl)
theorem dX0_init_148 : decode cX0_init 148 = .ok (.iinc 1 1, 3) := dk_132 1 1 (dk_at dksX0_init_6 8 rfl rfl)
theorem dX0_init_151 : decode cX0_init 151 = .ok (.goto (-22), 3) := dk_167 255 234 (dk_at dksX0_init_6 11 rfl rfl)
theorem dX0_init_154 : decode cX0_init 154 = .ok (.return_, 1) := dk_177 (dk_at dksX0_init_6 14 rfl rfl)
abbrev cX0_row : ByteArray := prog_1_method_13_code
def yX0_row : MethodName := ⟨RX0, "row", "(III)I"⟩
def dkwX0_row_3 : List UInt8 := [182, 0, 161, 172]
abbrev dktX0_row_3 : List UInt8 := dkwX0_row_3 ++ []
def dkwX0_row_2 : List UInt8 := [16, 249, 184, 0, 112, 25, 4, 28, 29, 184, 0, 157, 181, 0, 123, 4, 172, 58, 4, 42, 25, 4]
abbrev dktX0_row_2 : List UInt8 := dkwX0_row_2 ++ dktX0_row_3
def dkwX0_row_1 : List UInt8 := [20, 0, 151, 184, 0, 153, 16, 250, 184, 0, 112, 29, 17, 0, 160, 163, 0, 7, 4, 167, 0, 4, 3]
abbrev dktX0_row_1 : List UInt8 := dkwX0_row_1 ++ dktX0_row_2
def dkwX0_row_0 : List UInt8 := [42, 27, 182, 0, 147, 58, 4, 29, 155, 0, 7, 4, 167, 0, 4, 3, 16, 252, 184, 0, 112, 28, 133, 9]
abbrev dktX0_row_0 : List UInt8 := dkwX0_row_0 ++ dktX0_row_1
theorem dksX0_row_0 : cX0_row.data.toList.drop 0 = dktX0_row_0 := by decide +kernel
theorem dksX0_row_1 : cX0_row.data.toList.drop 24 = dktX0_row_1 := dk_seg dksX0_row_0 24 rfl rfl
theorem dksX0_row_2 : cX0_row.data.toList.drop 47 = dktX0_row_2 := dk_seg dksX0_row_1 23 rfl rfl
theorem dksX0_row_3 : cX0_row.data.toList.drop 69 = dktX0_row_3 := dk_seg dksX0_row_2 22 rfl rfl
theorem dX0_row_0 : decode cX0_row 0 = .ok (.aload_n 0, 1) := dk_42 (dk_at dksX0_row_0 0 rfl rfl)
theorem dX0_row_1 : decode cX0_row 1 = .ok (.iload_n 1, 1) := dk_27 (dk_at dksX0_row_0 1 rfl rfl)
theorem dX0_row_2 : decode cX0_row 2 = .ok (.invokevirtual 147, 3) := dk_182 0 147 (dk_at dksX0_row_0 2 rfl rfl)
theorem dX0_row_5 : decode cX0_row 5 = .ok (.astore 4, 2) := dk_58 4 (dk_at dksX0_row_0 5 rfl rfl)
theorem dX0_row_7 : decode cX0_row 7 = .ok (.iload_n 3, 1) := dk_29 (dk_at dksX0_row_0 7 rfl rfl)
theorem dX0_row_8 : decode cX0_row 8 = .ok (.ifCond .lt 7, 3) := dk_155 0 7 (dk_at dksX0_row_0 8 rfl rfl)
theorem dX0_row_11 : decode cX0_row 11 = .ok (.iconst 1, 1) := dk_4 (dk_at dksX0_row_0 11 rfl rfl)
theorem dX0_row_12 : decode cX0_row 12 = .ok (.goto 4, 3) := dk_167 0 4 (dk_at dksX0_row_0 12 rfl rfl)
theorem dX0_row_15 : decode cX0_row 15 = .ok (.iconst 0, 1) := dk_3 (dk_at dksX0_row_0 15 rfl rfl)
theorem dX0_row_16 : decode cX0_row 16 = .ok (.bipush (-4), 2) := dk_16 252 (dk_at dksX0_row_0 16 rfl rfl)
theorem dX0_row_18 : decode cX0_row 18 = .ok (.invokestatic 112, 3) := dk_184 0 112 (dk_at dksX0_row_0 18 rfl rfl)
theorem dX0_row_21 : decode cX0_row 21 = .ok (.iload_n 2, 1) := dk_28 (dk_at dksX0_row_0 21 rfl rfl)
theorem dX0_row_22 : decode cX0_row 22 = .ok (.i2l, 1) := dk_133 (dk_at dksX0_row_0 22 rfl rfl)
theorem dX0_row_23 : decode cX0_row 23 = .ok (.lconst 0, 1) := dk_9 (dk_at dksX0_row_0 23 rfl rfl)
theorem dX0_row_24 : decode cX0_row 24 = .ok (.ldc2_w 151, 3) := dk_20 0 151 (dk_at dksX0_row_1 0 rfl rfl)
theorem dX0_row_27 : decode cX0_row 27 = .ok (.invokestatic 153, 3) := dk_184 0 153 (dk_at dksX0_row_1 3 rfl rfl)
theorem dX0_row_30 : decode cX0_row 30 = .ok (.bipush (-6), 2) := dk_16 250 (dk_at dksX0_row_1 6 rfl rfl)
theorem dX0_row_32 : decode cX0_row 32 = .ok (.invokestatic 112, 3) := dk_184 0 112 (dk_at dksX0_row_1 8 rfl rfl)
theorem dX0_row_35 : decode cX0_row 35 = .ok (.iload_n 3, 1) := dk_29 (dk_at dksX0_row_1 11 rfl rfl)
theorem dX0_row_36 : decode cX0_row 36 = .ok (.sipush 160, 3) := dk_17 0 160 (dk_at dksX0_row_1 12 rfl rfl)
theorem dX0_row_39 : decode cX0_row 39 = .ok (.if_icmp .gt 7, 3) := dk_163 0 7 (dk_at dksX0_row_1 15 rfl rfl)
theorem dX0_row_42 : decode cX0_row 42 = .ok (.iconst 1, 1) := dk_4 (dk_at dksX0_row_1 18 rfl rfl)
theorem dX0_row_43 : decode cX0_row 43 = .ok (.goto 4, 3) := dk_167 0 4 (dk_at dksX0_row_1 19 rfl rfl)
theorem dX0_row_46 : decode cX0_row 46 = .ok (.iconst 0, 1) := dk_3 (dk_at dksX0_row_1 22 rfl rfl)
theorem dX0_row_47 : decode cX0_row 47 = .ok (.bipush (-7), 2) := dk_16 249 (dk_at dksX0_row_2 0 rfl rfl)
theorem dX0_row_49 : decode cX0_row 49 = .ok (.invokestatic 112, 3) := dk_184 0 112 (dk_at dksX0_row_2 2 rfl rfl)
theorem dX0_row_52 : decode cX0_row 52 = .ok (.aload 4, 2) := dk_25 4 (dk_at dksX0_row_2 5 rfl rfl)
theorem dX0_row_54 : decode cX0_row 54 = .ok (.iload_n 2, 1) := dk_28 (dk_at dksX0_row_2 7 rfl rfl)
theorem dX0_row_55 : decode cX0_row 55 = .ok (.iload_n 3, 1) := dk_29 (dk_at dksX0_row_2 8 rfl rfl)
theorem dX0_row_56 : decode cX0_row 56 = .ok (.invokestatic 157, 3) := dk_184 0 157 (dk_at dksX0_row_2 9 rfl rfl)
theorem dX0_row_59 : decode cX0_row 59 = .ok (.putfield 123, 3) := dk_181 0 123 (dk_at dksX0_row_2 12 rfl rfl)
theorem dX0_row_62 : decode cX0_row 62 = .ok (.iconst 1, 1) := dk_4 (dk_at dksX0_row_2 15 rfl rfl)
theorem dX0_row_63 : decode cX0_row 63 = .ok (.ireturn, 1) := dk_172 (dk_at dksX0_row_2 16 rfl rfl)
theorem dX0_row_64 : decode cX0_row 64 = .ok (.astore 4, 2) := dk_58 4 (dk_at dksX0_row_2 17 rfl rfl)
theorem dX0_row_66 : decode cX0_row 66 = .ok (.aload_n 0, 1) := dk_42 (dk_at dksX0_row_2 19 rfl rfl)
theorem dX0_row_67 : decode cX0_row 67 = .ok (.aload 4, 2) := dk_25 4 (dk_at dksX0_row_2 20 rfl rfl)
theorem dX0_row_69 : decode cX0_row 69 = .ok (.invokevirtual 161, 3) := dk_182 0 161 (dk_at dksX0_row_3 0 rfl rfl)
theorem dX0_row_72 : decode cX0_row 72 = .ok (.ireturn, 1) := dk_172 (dk_at dksX0_row_3 3 rfl rfl)
abbrev cX0_shelf : ByteArray := prog_1_method_8_code
def yX0_shelf : MethodName := ⟨RX0, "shelf", "(I)LHamsterWeekends$Shelf;"⟩
def dkwX0_shelf_0 : List UInt8 := [42, 180, 0, 59, 27, 50, 176, 77, 187, 0, 21, 89, 2, 183, 0, 23, 191]
abbrev dktX0_shelf_0 : List UInt8 := dkwX0_shelf_0 ++ []
theorem dksX0_shelf_0 : cX0_shelf.data.toList.drop 0 = dktX0_shelf_0 := by decide +kernel
theorem dX0_shelf_0 : decode cX0_shelf 0 = .ok (.aload_n 0, 1) := dk_42 (dk_at dksX0_shelf_0 0 rfl rfl)
theorem dX0_shelf_1 : decode cX0_shelf 1 = .ok (.getfield 59, 3) := dk_180 0 59 (dk_at dksX0_shelf_0 1 rfl rfl)
theorem dX0_shelf_4 : decode cX0_shelf 4 = .ok (.iload_n 1, 1) := dk_27 (dk_at dksX0_shelf_0 4 rfl rfl)
theorem dX0_shelf_5 : decode cX0_shelf 5 = .ok (.aaload, 1) := dk_50 (dk_at dksX0_shelf_0 5 rfl rfl)
theorem dX0_shelf_6 : decode cX0_shelf 6 = .ok (.areturn, 1) := dk_176 (dk_at dksX0_shelf_0 6 rfl rfl)
theorem dX0_shelf_7 : decode cX0_shelf 7 = .ok (.astore_n 2, 1) := dk_77 (dk_at dksX0_shelf_0 7 rfl rfl)
theorem dX0_shelf_8 : decode cX0_shelf 8 = .ok (.new 21, 3) := dk_187 0 21 (dk_at dksX0_shelf_0 8 rfl rfl)
theorem dX0_shelf_11 : decode cX0_shelf 11 = .ok (.dup, 1) := dk_89 (dk_at dksX0_shelf_0 11 rfl rfl)
theorem dX0_shelf_12 : decode cX0_shelf 12 = .ok (.iconst (-1), 1) := dk_2 (dk_at dksX0_shelf_0 12 rfl rfl)
theorem dX0_shelf_13 : decode cX0_shelf 13 = .ok (.invokespecial 23, 3) := dk_183 0 23 (dk_at dksX0_shelf_0 13 rfl rfl)
theorem dX0_shelf_16 : decode cX0_shelf 16 = .ok (.athrow, 1) := dk_191 (dk_at dksX0_shelf_0 16 rfl rfl)
abbrev cX0_need : ByteArray := prog_1_method_2_code
def yX0_need : MethodName := ⟨RX0, "need", "(ZI)V"⟩
def dkwX0_need_0 : List UInt8 := [26, 154, 0, 12, 187, 0, 21, 89, 27, 183, 0, 23, 191, 177]
abbrev dktX0_need_0 : List UInt8 := dkwX0_need_0 ++ []
theorem dksX0_need_0 : cX0_need.data.toList.drop 0 = dktX0_need_0 := by decide +kernel
theorem dX0_need_0 : decode cX0_need 0 = .ok (.iload_n 0, 1) := dk_26 (dk_at dksX0_need_0 0 rfl rfl)
theorem dX0_need_1 : decode cX0_need 1 = .ok (.ifCond .ne 12, 3) := dk_154 0 12 (dk_at dksX0_need_0 1 rfl rfl)
theorem dX0_need_4 : decode cX0_need 4 = .ok (.new 21, 3) := dk_187 0 21 (dk_at dksX0_need_0 4 rfl rfl)
theorem dX0_need_7 : decode cX0_need 7 = .ok (.dup, 1) := dk_89 (dk_at dksX0_need_0 7 rfl rfl)
theorem dX0_need_8 : decode cX0_need 8 = .ok (.iload_n 1, 1) := dk_27 (dk_at dksX0_need_0 8 rfl rfl)
theorem dX0_need_9 : decode cX0_need 9 = .ok (.invokespecial 23, 3) := dk_183 0 23 (dk_at dksX0_need_0 9 rfl rfl)
theorem dX0_need_12 : decode cX0_need 12 = .ok (.athrow, 1) := dk_191 (dk_at dksX0_need_0 12 rfl rfl)
theorem dX0_need_13 : decode cX0_need 13 = .ok (.return_, 1) := dk_177 (dk_at dksX0_need_0 13 rfl rfl)
abbrev cX0_in : ByteArray := prog_1_method_3_code
def yX0_in : MethodName := ⟨RX0, "in", "(JJJ)Z"⟩
def dkwX0_in_0 : List UInt8 := [30, 32, 148, 155, 0, 14, 30, 22, 4, 148, 157, 0, 7, 4, 167, 0, 4, 3, 172]
abbrev dktX0_in_0 : List UInt8 := dkwX0_in_0 ++ []
theorem dksX0_in_0 : cX0_in.data.toList.drop 0 = dktX0_in_0 := by decide +kernel
theorem dX0_in_0 : decode cX0_in 0 = .ok (.lload_n 0, 1) := dk_30 (dk_at dksX0_in_0 0 rfl rfl)
theorem dX0_in_1 : decode cX0_in 1 = .ok (.lload_n 2, 1) := dk_32 (dk_at dksX0_in_0 1 rfl rfl)
theorem dX0_in_2 : decode cX0_in 2 = .ok (.lcmp, 1) := dk_148 (dk_at dksX0_in_0 2 rfl rfl)
theorem dX0_in_3 : decode cX0_in 3 = .ok (.ifCond .lt 14, 3) := dk_155 0 14 (dk_at dksX0_in_0 3 rfl rfl)
theorem dX0_in_6 : decode cX0_in 6 = .ok (.lload_n 0, 1) := dk_30 (dk_at dksX0_in_0 6 rfl rfl)
theorem dX0_in_7 : decode cX0_in 7 = .ok (.lload 4, 2) := dk_22 4 (dk_at dksX0_in_0 7 rfl rfl)
theorem dX0_in_9 : decode cX0_in 9 = .ok (.lcmp, 1) := dk_148 (dk_at dksX0_in_0 9 rfl rfl)
theorem dX0_in_10 : decode cX0_in 10 = .ok (.ifCond .gt 7, 3) := dk_157 0 7 (dk_at dksX0_in_0 10 rfl rfl)
theorem dX0_in_13 : decode cX0_in 13 = .ok (.iconst 1, 1) := dk_4 (dk_at dksX0_in_0 13 rfl rfl)
theorem dX0_in_14 : decode cX0_in 14 = .ok (.goto 4, 3) := dk_167 0 4 (dk_at dksX0_in_0 14 rfl rfl)
theorem dX0_in_17 : decode cX0_in 17 = .ok (.iconst 0, 1) := dk_3 (dk_at dksX0_in_0 17 rfl rfl)
theorem dX0_in_18 : decode cX0_in 18 = .ok (.ireturn, 1) := dk_172 (dk_at dksX0_in_0 18 rfl rfl)
abbrev cX0_newRow : ByteArray := prog_1_method_12_code
def yX0_newRow : MethodName := ⟨RX0, "newRow", "(II)LHamsterWeekends$Row;"⟩
def dkwX0_newRow_4 : List UInt8 := [187, 0, 21, 89, 16, 252, 183, 0, 23, 191]
abbrev dktX0_newRow_4 : List UInt8 := dkwX0_newRow_4 ++ []
def dkwX0_newRow_3 : List UInt8 := [183, 0, 141, 176, 187, 0, 142, 89, 27, 183, 0, 144, 176, 187, 0, 21, 89, 16, 250, 183, 0, 23, 191, 77]
abbrev dktX0_newRow_3 : List UInt8 := dkwX0_newRow_3 ++ dktX0_newRow_4
def dkwX0_newRow_2 : List UInt8 := [187, 0, 133, 89, 27, 183, 0, 135, 176, 187, 0, 136, 89, 27, 183, 0, 138, 176, 187, 0, 139, 89, 27]
abbrev dktX0_newRow_2 : List UInt8 := dkwX0_newRow_2 ++ dktX0_newRow_3
def dkwX0_newRow_1 : List UInt8 := [170, 0, 0, 0, 0, 0, 67, 0, 0, 0, 0, 0, 0, 0, 3, 0, 0, 0, 31, 0, 0, 0, 40, 0, 0, 0, 49, 0, 0, 0, 58]
abbrev dktX0_newRow_1 : List UInt8 := dkwX0_newRow_1 ++ dktX0_newRow_2
def dkwX0_newRow_0 : List UInt8 := [26]
abbrev dktX0_newRow_0 : List UInt8 := dkwX0_newRow_0 ++ dktX0_newRow_1
theorem dksX0_newRow_0 : cX0_newRow.data.toList.drop 0 = dktX0_newRow_0 := by decide +kernel
theorem dksX0_newRow_1 : cX0_newRow.data.toList.drop 1 = dktX0_newRow_1 := dk_seg dksX0_newRow_0 1 rfl rfl
theorem dksX0_newRow_2 : cX0_newRow.data.toList.drop 32 = dktX0_newRow_2 := dk_seg dksX0_newRow_1 31 rfl rfl
theorem dksX0_newRow_3 : cX0_newRow.data.toList.drop 55 = dktX0_newRow_3 := dk_seg dksX0_newRow_2 23 rfl rfl
theorem dksX0_newRow_4 : cX0_newRow.data.toList.drop 79 = dktX0_newRow_4 := dk_seg dksX0_newRow_3 24 rfl rfl
theorem dX0_newRow_0 : decode cX0_newRow 0 = .ok (.iload_n 0, 1) := dk_26 (dk_at dksX0_newRow_0 0 rfl rfl)
theorem dX0_newRow_1 : decode cX0_newRow 1 = .ok (.tableswitch 67 0 3 #[31, 40, 49, 58], 31) := by decide +kernel
theorem dX0_newRow_32 : decode cX0_newRow 32 = .ok (.new 133, 3) := dk_187 0 133 (dk_at dksX0_newRow_2 0 rfl rfl)
theorem dX0_newRow_35 : decode cX0_newRow 35 = .ok (.dup, 1) := dk_89 (dk_at dksX0_newRow_2 3 rfl rfl)
theorem dX0_newRow_36 : decode cX0_newRow 36 = .ok (.iload_n 1, 1) := dk_27 (dk_at dksX0_newRow_2 4 rfl rfl)
theorem dX0_newRow_37 : decode cX0_newRow 37 = .ok (.invokespecial 135, 3) := dk_183 0 135 (dk_at dksX0_newRow_2 5 rfl rfl)
theorem dX0_newRow_40 : decode cX0_newRow 40 = .ok (.areturn, 1) := dk_176 (dk_at dksX0_newRow_2 8 rfl rfl)
theorem dX0_newRow_41 : decode cX0_newRow 41 = .ok (.new 136, 3) := dk_187 0 136 (dk_at dksX0_newRow_2 9 rfl rfl)
theorem dX0_newRow_44 : decode cX0_newRow 44 = .ok (.dup, 1) := dk_89 (dk_at dksX0_newRow_2 12 rfl rfl)
theorem dX0_newRow_45 : decode cX0_newRow 45 = .ok (.iload_n 1, 1) := dk_27 (dk_at dksX0_newRow_2 13 rfl rfl)
theorem dX0_newRow_46 : decode cX0_newRow 46 = .ok (.invokespecial 138, 3) := dk_183 0 138 (dk_at dksX0_newRow_2 14 rfl rfl)
theorem dX0_newRow_49 : decode cX0_newRow 49 = .ok (.areturn, 1) := dk_176 (dk_at dksX0_newRow_2 17 rfl rfl)
theorem dX0_newRow_50 : decode cX0_newRow 50 = .ok (.new 139, 3) := dk_187 0 139 (dk_at dksX0_newRow_2 18 rfl rfl)
theorem dX0_newRow_53 : decode cX0_newRow 53 = .ok (.dup, 1) := dk_89 (dk_at dksX0_newRow_2 21 rfl rfl)
theorem dX0_newRow_54 : decode cX0_newRow 54 = .ok (.iload_n 1, 1) := dk_27 (dk_at dksX0_newRow_2 22 rfl rfl)
theorem dX0_newRow_55 : decode cX0_newRow 55 = .ok (.invokespecial 141, 3) := dk_183 0 141 (dk_at dksX0_newRow_3 0 rfl rfl)
theorem dX0_newRow_58 : decode cX0_newRow 58 = .ok (.areturn, 1) := dk_176 (dk_at dksX0_newRow_3 3 rfl rfl)
theorem dX0_newRow_59 : decode cX0_newRow 59 = .ok (.new 142, 3) := dk_187 0 142 (dk_at dksX0_newRow_3 4 rfl rfl)
theorem dX0_newRow_62 : decode cX0_newRow 62 = .ok (.dup, 1) := dk_89 (dk_at dksX0_newRow_3 7 rfl rfl)
theorem dX0_newRow_63 : decode cX0_newRow 63 = .ok (.iload_n 1, 1) := dk_27 (dk_at dksX0_newRow_3 8 rfl rfl)
theorem dX0_newRow_64 : decode cX0_newRow 64 = .ok (.invokespecial 144, 3) := dk_183 0 144 (dk_at dksX0_newRow_3 9 rfl rfl)
theorem dX0_newRow_67 : decode cX0_newRow 67 = .ok (.areturn, 1) := dk_176 (dk_at dksX0_newRow_3 12 rfl rfl)
theorem dX0_newRow_68 : decode cX0_newRow 68 = .ok (.new 21, 3) := dk_187 0 21 (dk_at dksX0_newRow_3 13 rfl rfl)
theorem dX0_newRow_71 : decode cX0_newRow 71 = .ok (.dup, 1) := dk_89 (dk_at dksX0_newRow_3 16 rfl rfl)
theorem dX0_newRow_72 : decode cX0_newRow 72 = .ok (.bipush (-6), 2) := dk_16 250 (dk_at dksX0_newRow_3 17 rfl rfl)
theorem dX0_newRow_74 : decode cX0_newRow 74 = .ok (.invokespecial 23, 3) := dk_183 0 23 (dk_at dksX0_newRow_3 19 rfl rfl)
theorem dX0_newRow_77 : decode cX0_newRow 77 = .ok (.athrow, 1) := dk_191 (dk_at dksX0_newRow_3 22 rfl rfl)
theorem dX0_newRow_78 : decode cX0_newRow 78 = .ok (.astore_n 2, 1) := dk_77 (dk_at dksX0_newRow_3 23 rfl rfl)
theorem dX0_newRow_79 : decode cX0_newRow 79 = .ok (.new 21, 3) := dk_187 0 21 (dk_at dksX0_newRow_4 0 rfl rfl)
theorem dX0_newRow_82 : decode cX0_newRow 82 = .ok (.dup, 1) := dk_89 (dk_at dksX0_newRow_4 3 rfl rfl)
theorem dX0_newRow_83 : decode cX0_newRow 83 = .ok (.bipush (-4), 2) := dk_16 252 (dk_at dksX0_newRow_4 4 rfl rfl)
theorem dX0_newRow_85 : decode cX0_newRow 85 = .ok (.invokespecial 23, 3) := dk_183 0 23 (dk_at dksX0_newRow_4 6 rfl rfl)
theorem dX0_newRow_88 : decode cX0_newRow 88 = .ok (.athrow, 1) := dk_191 (dk_at dksX0_newRow_4 9 rfl rfl)
abbrev cX0_refused : ByteArray := prog_1_method_6_code
def yX0_refused : MethodName := ⟨RX0, "refused", "(LHamsterWeekends$Refused;)I"⟩
def dkwX0_refused_0 : List UInt8 := [42, 180, 0, 63, 43, 180, 0, 103, 116, 92, 46, 4, 96, 79, 43, 180, 0, 103, 172]
abbrev dktX0_refused_0 : List UInt8 := dkwX0_refused_0 ++ []
theorem dksX0_refused_0 : cX0_refused.data.toList.drop 0 = dktX0_refused_0 := by decide +kernel
theorem dX0_refused_0 : decode cX0_refused 0 = .ok (.aload_n 0, 1) := dk_42 (dk_at dksX0_refused_0 0 rfl rfl)
theorem dX0_refused_1 : decode cX0_refused 1 = .ok (.getfield 63, 3) := dk_180 0 63 (dk_at dksX0_refused_0 1 rfl rfl)
theorem dX0_refused_4 : decode cX0_refused 4 = .ok (.aload_n 1, 1) := dk_43 (dk_at dksX0_refused_0 4 rfl rfl)
theorem dX0_refused_5 : decode cX0_refused 5 = .ok (.getfield 103, 3) := dk_180 0 103 (dk_at dksX0_refused_0 5 rfl rfl)
theorem dX0_refused_8 : decode cX0_refused 8 = .ok (.ineg, 1) := dk_116 (dk_at dksX0_refused_0 8 rfl rfl)
theorem dX0_refused_9 : decode cX0_refused 9 = .ok (.dup2, 1) := dk_92 (dk_at dksX0_refused_0 9 rfl rfl)
theorem dX0_refused_10 : decode cX0_refused 10 = .ok (.iaload, 1) := dk_46 (dk_at dksX0_refused_0 10 rfl rfl)
theorem dX0_refused_11 : decode cX0_refused 11 = .ok (.iconst 1, 1) := dk_4 (dk_at dksX0_refused_0 11 rfl rfl)
theorem dX0_refused_12 : decode cX0_refused 12 = .ok (.iadd, 1) := dk_96 (dk_at dksX0_refused_0 12 rfl rfl)
theorem dX0_refused_13 : decode cX0_refused 13 = .ok (.iastore, 1) := dk_79 (dk_at dksX0_refused_0 13 rfl rfl)
theorem dX0_refused_14 : decode cX0_refused 14 = .ok (.aload_n 1, 1) := dk_43 (dk_at dksX0_refused_0 14 rfl rfl)
theorem dX0_refused_15 : decode cX0_refused 15 = .ok (.getfield 103, 3) := dk_180 0 103 (dk_at dksX0_refused_0 15 rfl rfl)
theorem dX0_refused_18 : decode cX0_refused 18 = .ok (.ireturn, 1) := dk_172 (dk_at dksX0_refused_0 18 rfl rfl)
abbrev cX0_set : ByteArray := prog_1_method_14_code
def yX0_set : MethodName := ⟨RX0, "set", "(IIJ)I"⟩
def dkwX0_set_1 : List UInt8 := [187, 0, 21, 89, 16, 251, 183, 0, 23, 191, 4, 172, 58, 5, 42, 25, 5, 182, 0, 161, 172]
abbrev dktX0_set_1 : List UInt8 := dkwX0_set_1 ++ []
def dkwX0_set_0 : List UInt8 := [42, 27, 182, 0, 147, 182, 0, 165, 58, 5, 25, 5, 28, 33, 182, 0, 168, 167, 0, 15, 58, 6]
abbrev dktX0_set_0 : List UInt8 := dkwX0_set_0 ++ dktX0_set_1
theorem dksX0_set_0 : cX0_set.data.toList.drop 0 = dktX0_set_0 := by decide +kernel
theorem dksX0_set_1 : cX0_set.data.toList.drop 22 = dktX0_set_1 := dk_seg dksX0_set_0 22 rfl rfl
theorem dX0_set_0 : decode cX0_set 0 = .ok (.aload_n 0, 1) := dk_42 (dk_at dksX0_set_0 0 rfl rfl)
theorem dX0_set_1 : decode cX0_set 1 = .ok (.iload_n 1, 1) := dk_27 (dk_at dksX0_set_0 1 rfl rfl)
theorem dX0_set_2 : decode cX0_set 2 = .ok (.invokevirtual 147, 3) := dk_182 0 147 (dk_at dksX0_set_0 2 rfl rfl)
theorem dX0_set_5 : decode cX0_set 5 = .ok (.invokevirtual 165, 3) := dk_182 0 165 (dk_at dksX0_set_0 5 rfl rfl)
theorem dX0_set_8 : decode cX0_set 8 = .ok (.astore 5, 2) := dk_58 5 (dk_at dksX0_set_0 8 rfl rfl)
theorem dX0_set_10 : decode cX0_set 10 = .ok (.aload 5, 2) := dk_25 5 (dk_at dksX0_set_0 10 rfl rfl)
theorem dX0_set_12 : decode cX0_set 12 = .ok (.iload_n 2, 1) := dk_28 (dk_at dksX0_set_0 12 rfl rfl)
theorem dX0_set_13 : decode cX0_set 13 = .ok (.lload_n 3, 1) := dk_33 (dk_at dksX0_set_0 13 rfl rfl)
theorem dX0_set_14 : decode cX0_set 14 = .ok (.invokevirtual 168, 3) := dk_182 0 168 (dk_at dksX0_set_0 14 rfl rfl)
theorem dX0_set_17 : decode cX0_set 17 = .ok (.goto 15, 3) := dk_167 0 15 (dk_at dksX0_set_0 17 rfl rfl)
theorem dX0_set_20 : decode cX0_set 20 = .ok (.astore 6, 2) := dk_58 6 (dk_at dksX0_set_0 20 rfl rfl)
theorem dX0_set_22 : decode cX0_set 22 = .ok (.new 21, 3) := dk_187 0 21 (dk_at dksX0_set_1 0 rfl rfl)
theorem dX0_set_25 : decode cX0_set 25 = .ok (.dup, 1) := dk_89 (dk_at dksX0_set_1 3 rfl rfl)
theorem dX0_set_26 : decode cX0_set 26 = .ok (.bipush (-5), 2) := dk_16 251 (dk_at dksX0_set_1 4 rfl rfl)
theorem dX0_set_28 : decode cX0_set 28 = .ok (.invokespecial 23, 3) := dk_183 0 23 (dk_at dksX0_set_1 6 rfl rfl)
theorem dX0_set_31 : decode cX0_set 31 = .ok (.athrow, 1) := dk_191 (dk_at dksX0_set_1 9 rfl rfl)
theorem dX0_set_32 : decode cX0_set 32 = .ok (.iconst 1, 1) := dk_4 (dk_at dksX0_set_1 10 rfl rfl)
theorem dX0_set_33 : decode cX0_set 33 = .ok (.ireturn, 1) := dk_172 (dk_at dksX0_set_1 11 rfl rfl)
theorem dX0_set_34 : decode cX0_set 34 = .ok (.astore 5, 2) := dk_58 5 (dk_at dksX0_set_1 12 rfl rfl)
theorem dX0_set_36 : decode cX0_set 36 = .ok (.aload_n 0, 1) := dk_42 (dk_at dksX0_set_1 14 rfl rfl)
theorem dX0_set_37 : decode cX0_set 37 = .ok (.aload 5, 2) := dk_25 5 (dk_at dksX0_set_1 15 rfl rfl)
theorem dX0_set_39 : decode cX0_set 39 = .ok (.invokevirtual 161, 3) := dk_182 0 161 (dk_at dksX0_set_1 17 rfl rfl)
theorem dX0_set_42 : decode cX0_set 42 = .ok (.ireturn, 1) := dk_172 (dk_at dksX0_set_1 20 rfl rfl)
abbrev cX0_copy : ByteArray := prog_1_method_15_code
def yX0_copy : MethodName := ⟨RX0, "copy", "(IIIII)I"⟩
def dkwX0_copy_6 : List UInt8 := [89, 16, 251, 183, 0, 23, 191, 4, 172, 58, 6, 42, 25, 6, 182, 0, 161, 172]
abbrev dktX0_copy_6 : List UInt8 := dkwX0_copy_6 ++ []
def dkwX0_copy_5 : List UInt8 := [182, 0, 7, 29, 25, 9, 182, 0, 7, 21, 4, 21, 5, 184, 0, 15, 167, 0, 15, 58, 10, 187, 0, 21]
abbrev dktX0_copy_5 : List UInt8 := dkwX0_copy_5 ++ dktX0_copy_6
def dkwX0_copy_4 : List UInt8 := [182, 0, 165, 58, 9, 21, 5, 155, 0, 7, 4, 167, 0, 4, 3, 16, 252, 184, 0, 112, 25, 8]
abbrev dktX0_copy_4 : List UInt8 := dkwX0_copy_4 ++ dktX0_copy_5
def dkwX0_copy_3 : List UInt8 := [160, 0, 7, 4, 167, 0, 4, 3, 16, 254, 184, 0, 112, 25, 6, 182, 0, 165, 58, 8, 25, 7]
abbrev dktX0_copy_3 : List UInt8 := dkwX0_copy_3 ++ dktX0_copy_4
def dkwX0_copy_2 : List UInt8 := [25, 7, 180, 0, 123, 198, 0, 32, 25, 6, 182, 0, 165, 182, 0, 172, 25, 7, 182, 0, 165, 182, 0, 172]
abbrev dktX0_copy_2 : List UInt8 := dkwX0_copy_2 ++ dktX0_copy_3
def dkwX0_copy_1 : List UInt8 := [182, 0, 119, 154, 0, 7, 4, 167, 0, 4, 3, 16, 254, 184, 0, 112, 25, 6, 180, 0, 123, 198, 0, 40]
abbrev dktX0_copy_1 : List UInt8 := dkwX0_copy_1 ++ dktX0_copy_2
def dkwX0_copy_0 : List UInt8 := [42, 27, 182, 0, 147, 58, 6, 42, 28, 182, 0, 147, 58, 7, 25, 6, 182, 0, 119, 154, 0, 15, 25, 7]
abbrev dktX0_copy_0 : List UInt8 := dkwX0_copy_0 ++ dktX0_copy_1
theorem dksX0_copy_0 : cX0_copy.data.toList.drop 0 = dktX0_copy_0 := by decide +kernel
theorem dksX0_copy_1 : cX0_copy.data.toList.drop 24 = dktX0_copy_1 := dk_seg dksX0_copy_0 24 rfl rfl
theorem dksX0_copy_2 : cX0_copy.data.toList.drop 48 = dktX0_copy_2 := dk_seg dksX0_copy_1 24 rfl rfl
theorem dksX0_copy_3 : cX0_copy.data.toList.drop 72 = dktX0_copy_3 := dk_seg dksX0_copy_2 24 rfl rfl
theorem dksX0_copy_4 : cX0_copy.data.toList.drop 94 = dktX0_copy_4 := dk_seg dksX0_copy_3 22 rfl rfl
theorem dksX0_copy_5 : cX0_copy.data.toList.drop 116 = dktX0_copy_5 := dk_seg dksX0_copy_4 22 rfl rfl
theorem dksX0_copy_6 : cX0_copy.data.toList.drop 140 = dktX0_copy_6 := dk_seg dksX0_copy_5 24 rfl rfl
theorem dX0_copy_0 : decode cX0_copy 0 = .ok (.aload_n 0, 1) := dk_42 (dk_at dksX0_copy_0 0 rfl rfl)
theorem dX0_copy_1 : decode cX0_copy 1 = .ok (.iload_n 1, 1) := dk_27 (dk_at dksX0_copy_0 1 rfl rfl)
theorem dX0_copy_2 : decode cX0_copy 2 = .ok (.invokevirtual 147, 3) := dk_182 0 147 (dk_at dksX0_copy_0 2 rfl rfl)
theorem dX0_copy_5 : decode cX0_copy 5 = .ok (.astore 6, 2) := dk_58 6 (dk_at dksX0_copy_0 5 rfl rfl)
theorem dX0_copy_7 : decode cX0_copy 7 = .ok (.aload_n 0, 1) := dk_42 (dk_at dksX0_copy_0 7 rfl rfl)
theorem dX0_copy_8 : decode cX0_copy 8 = .ok (.iload_n 2, 1) := dk_28 (dk_at dksX0_copy_0 8 rfl rfl)
theorem dX0_copy_9 : decode cX0_copy 9 = .ok (.invokevirtual 147, 3) := dk_182 0 147 (dk_at dksX0_copy_0 9 rfl rfl)
theorem dX0_copy_12 : decode cX0_copy 12 = .ok (.astore 7, 2) := dk_58 7 (dk_at dksX0_copy_0 12 rfl rfl)
theorem dX0_copy_14 : decode cX0_copy 14 = .ok (.aload 6, 2) := dk_25 6 (dk_at dksX0_copy_0 14 rfl rfl)
theorem dX0_copy_16 : decode cX0_copy 16 = .ok (.invokevirtual 119, 3) := dk_182 0 119 (dk_at dksX0_copy_0 16 rfl rfl)
theorem dX0_copy_19 : decode cX0_copy 19 = .ok (.ifCond .ne 15, 3) := dk_154 0 15 (dk_at dksX0_copy_0 19 rfl rfl)
theorem dX0_copy_22 : decode cX0_copy 22 = .ok (.aload 7, 2) := dk_25 7 (dk_at dksX0_copy_0 22 rfl rfl)
theorem dX0_copy_24 : decode cX0_copy 24 = .ok (.invokevirtual 119, 3) := dk_182 0 119 (dk_at dksX0_copy_1 0 rfl rfl)
theorem dX0_copy_27 : decode cX0_copy 27 = .ok (.ifCond .ne 7, 3) := dk_154 0 7 (dk_at dksX0_copy_1 3 rfl rfl)
theorem dX0_copy_30 : decode cX0_copy 30 = .ok (.iconst 1, 1) := dk_4 (dk_at dksX0_copy_1 6 rfl rfl)
theorem dX0_copy_31 : decode cX0_copy 31 = .ok (.goto 4, 3) := dk_167 0 4 (dk_at dksX0_copy_1 7 rfl rfl)
theorem dX0_copy_34 : decode cX0_copy 34 = .ok (.iconst 0, 1) := dk_3 (dk_at dksX0_copy_1 10 rfl rfl)
theorem dX0_copy_35 : decode cX0_copy 35 = .ok (.bipush (-2), 2) := dk_16 254 (dk_at dksX0_copy_1 11 rfl rfl)
theorem dX0_copy_37 : decode cX0_copy 37 = .ok (.invokestatic 112, 3) := dk_184 0 112 (dk_at dksX0_copy_1 13 rfl rfl)
theorem dX0_copy_40 : decode cX0_copy 40 = .ok (.aload 6, 2) := dk_25 6 (dk_at dksX0_copy_1 16 rfl rfl)
theorem dX0_copy_42 : decode cX0_copy 42 = .ok (.getfield 123, 3) := dk_180 0 123 (dk_at dksX0_copy_1 18 rfl rfl)
theorem dX0_copy_45 : decode cX0_copy 45 = .ok (.ifnull 40, 3) := dk_198 0 40 (dk_at dksX0_copy_1 21 rfl rfl)
theorem dX0_copy_48 : decode cX0_copy 48 = .ok (.aload 7, 2) := dk_25 7 (dk_at dksX0_copy_2 0 rfl rfl)
theorem dX0_copy_50 : decode cX0_copy 50 = .ok (.getfield 123, 3) := dk_180 0 123 (dk_at dksX0_copy_2 2 rfl rfl)
theorem dX0_copy_53 : decode cX0_copy 53 = .ok (.ifnull 32, 3) := dk_198 0 32 (dk_at dksX0_copy_2 5 rfl rfl)
theorem dX0_copy_56 : decode cX0_copy 56 = .ok (.aload 6, 2) := dk_25 6 (dk_at dksX0_copy_2 8 rfl rfl)
theorem dX0_copy_58 : decode cX0_copy 58 = .ok (.invokevirtual 165, 3) := dk_182 0 165 (dk_at dksX0_copy_2 10 rfl rfl)
theorem dX0_copy_61 : decode cX0_copy 61 = .ok (.invokevirtual 172, 3) := dk_182 0 172 (dk_at dksX0_copy_2 13 rfl rfl)
theorem dX0_copy_64 : decode cX0_copy 64 = .ok (.aload 7, 2) := dk_25 7 (dk_at dksX0_copy_2 16 rfl rfl)
theorem dX0_copy_66 : decode cX0_copy 66 = .ok (.invokevirtual 165, 3) := dk_182 0 165 (dk_at dksX0_copy_2 18 rfl rfl)
theorem dX0_copy_69 : decode cX0_copy 69 = .ok (.invokevirtual 172, 3) := dk_182 0 172 (dk_at dksX0_copy_2 21 rfl rfl)
theorem dX0_copy_72 : decode cX0_copy 72 = .ok (.if_icmp .ne 7, 3) := dk_160 0 7 (dk_at dksX0_copy_3 0 rfl rfl)
theorem dX0_copy_75 : decode cX0_copy 75 = .ok (.iconst 1, 1) := dk_4 (dk_at dksX0_copy_3 3 rfl rfl)
theorem dX0_copy_76 : decode cX0_copy 76 = .ok (.goto 4, 3) := dk_167 0 4 (dk_at dksX0_copy_3 4 rfl rfl)
theorem dX0_copy_79 : decode cX0_copy 79 = .ok (.iconst 0, 1) := dk_3 (dk_at dksX0_copy_3 7 rfl rfl)
theorem dX0_copy_80 : decode cX0_copy 80 = .ok (.bipush (-2), 2) := dk_16 254 (dk_at dksX0_copy_3 8 rfl rfl)
theorem dX0_copy_82 : decode cX0_copy 82 = .ok (.invokestatic 112, 3) := dk_184 0 112 (dk_at dksX0_copy_3 10 rfl rfl)
theorem dX0_copy_85 : decode cX0_copy 85 = .ok (.aload 6, 2) := dk_25 6 (dk_at dksX0_copy_3 13 rfl rfl)
theorem dX0_copy_87 : decode cX0_copy 87 = .ok (.invokevirtual 165, 3) := dk_182 0 165 (dk_at dksX0_copy_3 15 rfl rfl)
theorem dX0_copy_90 : decode cX0_copy 90 = .ok (.astore 8, 2) := dk_58 8 (dk_at dksX0_copy_3 18 rfl rfl)
theorem dX0_copy_92 : decode cX0_copy 92 = .ok (.aload 7, 2) := dk_25 7 (dk_at dksX0_copy_3 20 rfl rfl)
theorem dX0_copy_94 : decode cX0_copy 94 = .ok (.invokevirtual 165, 3) := dk_182 0 165 (dk_at dksX0_copy_4 0 rfl rfl)
theorem dX0_copy_97 : decode cX0_copy 97 = .ok (.astore 9, 2) := dk_58 9 (dk_at dksX0_copy_4 3 rfl rfl)
theorem dX0_copy_99 : decode cX0_copy 99 = .ok (.iload 5, 2) := dk_21 5 (dk_at dksX0_copy_4 5 rfl rfl)
theorem dX0_copy_101 : decode cX0_copy 101 = .ok (.ifCond .lt 7, 3) := dk_155 0 7 (dk_at dksX0_copy_4 7 rfl rfl)
theorem dX0_copy_104 : decode cX0_copy 104 = .ok (.iconst 1, 1) := dk_4 (dk_at dksX0_copy_4 10 rfl rfl)
theorem dX0_copy_105 : decode cX0_copy 105 = .ok (.goto 4, 3) := dk_167 0 4 (dk_at dksX0_copy_4 11 rfl rfl)
theorem dX0_copy_108 : decode cX0_copy 108 = .ok (.iconst 0, 1) := dk_3 (dk_at dksX0_copy_4 14 rfl rfl)
theorem dX0_copy_109 : decode cX0_copy 109 = .ok (.bipush (-4), 2) := dk_16 252 (dk_at dksX0_copy_4 15 rfl rfl)
theorem dX0_copy_111 : decode cX0_copy 111 = .ok (.invokestatic 112, 3) := dk_184 0 112 (dk_at dksX0_copy_4 17 rfl rfl)
theorem dX0_copy_114 : decode cX0_copy 114 = .ok (.aload 8, 2) := dk_25 8 (dk_at dksX0_copy_4 20 rfl rfl)
theorem dX0_copy_116 : decode cX0_copy 116 = .ok (.invokevirtual 7, 3) := dk_182 0 7 (dk_at dksX0_copy_5 0 rfl rfl)
theorem dX0_copy_119 : decode cX0_copy 119 = .ok (.iload_n 3, 1) := dk_29 (dk_at dksX0_copy_5 3 rfl rfl)
theorem dX0_copy_120 : decode cX0_copy 120 = .ok (.aload 9, 2) := dk_25 9 (dk_at dksX0_copy_5 4 rfl rfl)
theorem dX0_copy_122 : decode cX0_copy 122 = .ok (.invokevirtual 7, 3) := dk_182 0 7 (dk_at dksX0_copy_5 6 rfl rfl)
theorem dX0_copy_125 : decode cX0_copy 125 = .ok (.iload 4, 2) := dk_21 4 (dk_at dksX0_copy_5 9 rfl rfl)
theorem dX0_copy_127 : decode cX0_copy 127 = .ok (.iload 5, 2) := dk_21 5 (dk_at dksX0_copy_5 11 rfl rfl)
theorem dX0_copy_129 : decode cX0_copy 129 = .ok (.invokestatic 15, 3) := dk_184 0 15 (dk_at dksX0_copy_5 13 rfl rfl)
theorem dX0_copy_132 : decode cX0_copy 132 = .ok (.goto 15, 3) := dk_167 0 15 (dk_at dksX0_copy_5 16 rfl rfl)
theorem dX0_copy_135 : decode cX0_copy 135 = .ok (.astore 10, 2) := dk_58 10 (dk_at dksX0_copy_5 19 rfl rfl)
theorem dX0_copy_137 : decode cX0_copy 137 = .ok (.new 21, 3) := dk_187 0 21 (dk_at dksX0_copy_5 21 rfl rfl)
theorem dX0_copy_140 : decode cX0_copy 140 = .ok (.dup, 1) := dk_89 (dk_at dksX0_copy_6 0 rfl rfl)
theorem dX0_copy_141 : decode cX0_copy 141 = .ok (.bipush (-5), 2) := dk_16 251 (dk_at dksX0_copy_6 1 rfl rfl)
theorem dX0_copy_143 : decode cX0_copy 143 = .ok (.invokespecial 23, 3) := dk_183 0 23 (dk_at dksX0_copy_6 3 rfl rfl)
theorem dX0_copy_146 : decode cX0_copy 146 = .ok (.athrow, 1) := dk_191 (dk_at dksX0_copy_6 6 rfl rfl)
theorem dX0_copy_147 : decode cX0_copy 147 = .ok (.iconst 1, 1) := dk_4 (dk_at dksX0_copy_6 7 rfl rfl)
theorem dX0_copy_148 : decode cX0_copy 148 = .ok (.ireturn, 1) := dk_172 (dk_at dksX0_copy_6 8 rfl rfl)
theorem dX0_copy_149 : decode cX0_copy 149 = .ok (.astore 6, 2) := dk_58 6 (dk_at dksX0_copy_6 9 rfl rfl)
theorem dX0_copy_151 : decode cX0_copy 151 = .ok (.aload_n 0, 1) := dk_42 (dk_at dksX0_copy_6 11 rfl rfl)
theorem dX0_copy_152 : decode cX0_copy 152 = .ok (.aload 6, 2) := dk_25 6 (dk_at dksX0_copy_6 12 rfl rfl)
theorem dX0_copy_154 : decode cX0_copy 154 = .ok (.invokevirtual 161, 3) := dk_182 0 161 (dk_at dksX0_copy_6 14 rfl rfl)
theorem dX0_copy_157 : decode cX0_copy 157 = .ok (.ireturn, 1) := dk_172 (dk_at dksX0_copy_6 17 rfl rfl)
abbrev cX0_element : ByteArray := prog_1_method_16_code
def yX0_element : MethodName := ⟨RX0, "element", "(II)J"⟩
def dkwX0_element_0 : List UInt8 := [42, 27, 182, 0, 147, 182, 0, 165, 28, 182, 0, 177, 173, 78, 9, 173, 78, 9, 173]
abbrev dktX0_element_0 : List UInt8 := dkwX0_element_0 ++ []
theorem dksX0_element_0 : cX0_element.data.toList.drop 0 = dktX0_element_0 := by decide +kernel
theorem dX0_element_0 : decode cX0_element 0 = .ok (.aload_n 0, 1) := dk_42 (dk_at dksX0_element_0 0 rfl rfl)
theorem dX0_element_1 : decode cX0_element 1 = .ok (.iload_n 1, 1) := dk_27 (dk_at dksX0_element_0 1 rfl rfl)
theorem dX0_element_2 : decode cX0_element 2 = .ok (.invokevirtual 147, 3) := dk_182 0 147 (dk_at dksX0_element_0 2 rfl rfl)
theorem dX0_element_5 : decode cX0_element 5 = .ok (.invokevirtual 165, 3) := dk_182 0 165 (dk_at dksX0_element_0 5 rfl rfl)
theorem dX0_element_8 : decode cX0_element 8 = .ok (.iload_n 2, 1) := dk_28 (dk_at dksX0_element_0 8 rfl rfl)
theorem dX0_element_9 : decode cX0_element 9 = .ok (.invokevirtual 177, 3) := dk_182 0 177 (dk_at dksX0_element_0 9 rfl rfl)
theorem dX0_element_12 : decode cX0_element 12 = .ok (.lreturn, 1) := dk_173 (dk_at dksX0_element_0 12 rfl rfl)
theorem dX0_element_13 : decode cX0_element 13 = .ok (.astore_n 3, 1) := dk_78 (dk_at dksX0_element_0 13 rfl rfl)
theorem dX0_element_14 : decode cX0_element 14 = .ok (.lconst 0, 1) := dk_9 (dk_at dksX0_element_0 14 rfl rfl)
theorem dX0_element_15 : decode cX0_element 15 = .ok (.lreturn, 1) := dk_173 (dk_at dksX0_element_0 15 rfl rfl)
theorem dX0_element_16 : decode cX0_element 16 = .ok (.astore_n 3, 1) := dk_78 (dk_at dksX0_element_0 16 rfl rfl)
theorem dX0_element_17 : decode cX0_element 17 = .ok (.lconst 0, 1) := dk_9 (dk_at dksX0_element_0 17 rfl rfl)
theorem dX0_element_18 : decode cX0_element 18 = .ok (.lreturn, 1) := dk_173 (dk_at dksX0_element_0 18 rfl rfl)
abbrev cX0_show : ByteArray := prog_1_method_17_code
def yX0_show : MethodName := ⟨RX0, "show", "(II)I"⟩
def dkwX0_show_1 : List UInt8 := [42, 180, 0, 90, 180, 0, 129, 28, 50, 181, 0, 123, 4, 172, 78, 42, 45, 182, 0, 161, 172]
abbrev dktX0_show_1 : List UInt8 := dkwX0_show_1 ++ []
def dkwX0_show_0 : List UInt8 := [42, 27, 182, 0, 147, 78, 28, 2, 160, 0, 10, 45, 1, 181, 0, 123, 3, 172, 42, 28, 182, 0, 181, 45]
abbrev dktX0_show_0 : List UInt8 := dkwX0_show_0 ++ dktX0_show_1
theorem dksX0_show_0 : cX0_show.data.toList.drop 0 = dktX0_show_0 := by decide +kernel
theorem dksX0_show_1 : cX0_show.data.toList.drop 24 = dktX0_show_1 := dk_seg dksX0_show_0 24 rfl rfl
theorem dX0_show_0 : decode cX0_show 0 = .ok (.aload_n 0, 1) := dk_42 (dk_at dksX0_show_0 0 rfl rfl)
theorem dX0_show_1 : decode cX0_show 1 = .ok (.iload_n 1, 1) := dk_27 (dk_at dksX0_show_0 1 rfl rfl)
theorem dX0_show_2 : decode cX0_show 2 = .ok (.invokevirtual 147, 3) := dk_182 0 147 (dk_at dksX0_show_0 2 rfl rfl)
theorem dX0_show_5 : decode cX0_show 5 = .ok (.astore_n 3, 1) := dk_78 (dk_at dksX0_show_0 5 rfl rfl)
theorem dX0_show_6 : decode cX0_show 6 = .ok (.iload_n 2, 1) := dk_28 (dk_at dksX0_show_0 6 rfl rfl)
theorem dX0_show_7 : decode cX0_show 7 = .ok (.iconst (-1), 1) := dk_2 (dk_at dksX0_show_0 7 rfl rfl)
theorem dX0_show_8 : decode cX0_show 8 = .ok (.if_icmp .ne 10, 3) := dk_160 0 10 (dk_at dksX0_show_0 8 rfl rfl)
theorem dX0_show_11 : decode cX0_show 11 = .ok (.aload_n 3, 1) := dk_45 (dk_at dksX0_show_0 11 rfl rfl)
theorem dX0_show_12 : decode cX0_show 12 = .ok (.aconst_null, 1) := dk_1 (dk_at dksX0_show_0 12 rfl rfl)
theorem dX0_show_13 : decode cX0_show 13 = .ok (.putfield 123, 3) := dk_181 0 123 (dk_at dksX0_show_0 13 rfl rfl)
theorem dX0_show_16 : decode cX0_show 16 = .ok (.iconst 0, 1) := dk_3 (dk_at dksX0_show_0 16 rfl rfl)
theorem dX0_show_17 : decode cX0_show 17 = .ok (.ireturn, 1) := dk_172 (dk_at dksX0_show_0 17 rfl rfl)
theorem dX0_show_18 : decode cX0_show 18 = .ok (.aload_n 0, 1) := dk_42 (dk_at dksX0_show_0 18 rfl rfl)
theorem dX0_show_19 : decode cX0_show 19 = .ok (.iload_n 2, 1) := dk_28 (dk_at dksX0_show_0 19 rfl rfl)
theorem dX0_show_20 : decode cX0_show 20 = .ok (.invokevirtual 181, 3) := dk_182 0 181 (dk_at dksX0_show_0 20 rfl rfl)
theorem dX0_show_23 : decode cX0_show 23 = .ok (.aload_n 3, 1) := dk_45 (dk_at dksX0_show_0 23 rfl rfl)
theorem dX0_show_24 : decode cX0_show 24 = .ok (.aload_n 0, 1) := dk_42 (dk_at dksX0_show_1 0 rfl rfl)
theorem dX0_show_25 : decode cX0_show 25 = .ok (.getfield 90, 3) := dk_180 0 90 (dk_at dksX0_show_1 1 rfl rfl)
theorem dX0_show_28 : decode cX0_show 28 = .ok (.getfield 129, 3) := dk_180 0 129 (dk_at dksX0_show_1 4 rfl rfl)
theorem dX0_show_31 : decode cX0_show 31 = .ok (.iload_n 2, 1) := dk_28 (dk_at dksX0_show_1 7 rfl rfl)
theorem dX0_show_32 : decode cX0_show 32 = .ok (.aaload, 1) := dk_50 (dk_at dksX0_show_1 8 rfl rfl)
theorem dX0_show_33 : decode cX0_show 33 = .ok (.putfield 123, 3) := dk_181 0 123 (dk_at dksX0_show_1 9 rfl rfl)
theorem dX0_show_36 : decode cX0_show 36 = .ok (.iconst 1, 1) := dk_4 (dk_at dksX0_show_1 12 rfl rfl)
theorem dX0_show_37 : decode cX0_show 37 = .ok (.ireturn, 1) := dk_172 (dk_at dksX0_show_1 13 rfl rfl)
theorem dX0_show_38 : decode cX0_show 38 = .ok (.astore_n 3, 1) := dk_78 (dk_at dksX0_show_1 14 rfl rfl)
theorem dX0_show_39 : decode cX0_show 39 = .ok (.aload_n 0, 1) := dk_42 (dk_at dksX0_show_1 15 rfl rfl)
theorem dX0_show_40 : decode cX0_show 40 = .ok (.aload_n 3, 1) := dk_45 (dk_at dksX0_show_1 16 rfl rfl)
theorem dX0_show_41 : decode cX0_show 41 = .ok (.invokevirtual 161, 3) := dk_182 0 161 (dk_at dksX0_show_1 17 rfl rfl)
theorem dX0_show_44 : decode cX0_show 44 = .ok (.ireturn, 1) := dk_172 (dk_at dksX0_show_1 20 rfl rfl)
abbrev cX0_mustHome : ByteArray := prog_1_method_9_code
def yX0_mustHome : MethodName := ⟨RX0, "mustHome", "(I)V"⟩
def dkwX0_mustHome_0 : List UInt8 := [42, 180, 0, 90, 27, 182, 0, 108, 2, 184, 0, 112, 177]
abbrev dktX0_mustHome_0 : List UInt8 := dkwX0_mustHome_0 ++ []
theorem dksX0_mustHome_0 : cX0_mustHome.data.toList.drop 0 = dktX0_mustHome_0 := by decide +kernel
theorem dX0_mustHome_0 : decode cX0_mustHome 0 = .ok (.aload_n 0, 1) := dk_42 (dk_at dksX0_mustHome_0 0 rfl rfl)
theorem dX0_mustHome_1 : decode cX0_mustHome 1 = .ok (.getfield 90, 3) := dk_180 0 90 (dk_at dksX0_mustHome_0 1 rfl rfl)
theorem dX0_mustHome_4 : decode cX0_mustHome 4 = .ok (.iload_n 1, 1) := dk_27 (dk_at dksX0_mustHome_0 4 rfl rfl)
theorem dX0_mustHome_5 : decode cX0_mustHome 5 = .ok (.invokevirtual 108, 3) := dk_182 0 108 (dk_at dksX0_mustHome_0 5 rfl rfl)
theorem dX0_mustHome_8 : decode cX0_mustHome 8 = .ok (.iconst (-1), 1) := dk_2 (dk_at dksX0_mustHome_0 8 rfl rfl)
theorem dX0_mustHome_9 : decode cX0_mustHome 9 = .ok (.invokestatic 112, 3) := dk_184 0 112 (dk_at dksX0_mustHome_0 9 rfl rfl)
theorem dX0_mustHome_12 : decode cX0_mustHome 12 = .ok (.return_, 1) := dk_177 (dk_at dksX0_mustHome_0 12 rfl rfl)
abbrev cX0_holds : ByteArray := prog_1_method_18_code
def yX0_holds : MethodName := ⟨RX0, "holds", "(I)I"⟩
def dkwX0_holds_2 : List UInt8 := [167, 0, 13, 16, 100, 44, 192, 0, 2, 182, 0, 172, 96, 172]
abbrev dktX0_holds_2 : List UInt8 := dkwX0_holds_2 ++ []
def dkwX0_holds_1 : List UInt8 := [42, 180, 0, 59, 27, 50, 180, 0, 123, 77, 44, 193, 0, 47, 153, 0, 13, 44, 192, 0, 47, 180, 0, 126]
abbrev dktX0_holds_1 : List UInt8 := dkwX0_holds_1 ++ dktX0_holds_2
def dkwX0_holds_0 : List UInt8 := [27, 155, 0, 21, 27, 16, 8, 162, 0, 15, 42, 180, 0, 59, 27, 50, 180, 0, 123, 199, 0, 5, 2, 172]
abbrev dktX0_holds_0 : List UInt8 := dkwX0_holds_0 ++ dktX0_holds_1
theorem dksX0_holds_0 : cX0_holds.data.toList.drop 0 = dktX0_holds_0 := by decide +kernel
theorem dksX0_holds_1 : cX0_holds.data.toList.drop 24 = dktX0_holds_1 := dk_seg dksX0_holds_0 24 rfl rfl
theorem dksX0_holds_2 : cX0_holds.data.toList.drop 48 = dktX0_holds_2 := dk_seg dksX0_holds_1 24 rfl rfl
theorem dX0_holds_0 : decode cX0_holds 0 = .ok (.iload_n 1, 1) := dk_27 (dk_at dksX0_holds_0 0 rfl rfl)
theorem dX0_holds_1 : decode cX0_holds 1 = .ok (.ifCond .lt 21, 3) := dk_155 0 21 (dk_at dksX0_holds_0 1 rfl rfl)
theorem dX0_holds_4 : decode cX0_holds 4 = .ok (.iload_n 1, 1) := dk_27 (dk_at dksX0_holds_0 4 rfl rfl)
theorem dX0_holds_5 : decode cX0_holds 5 = .ok (.bipush 8, 2) := dk_16 8 (dk_at dksX0_holds_0 5 rfl rfl)
theorem dX0_holds_7 : decode cX0_holds 7 = .ok (.if_icmp .ge 15, 3) := dk_162 0 15 (dk_at dksX0_holds_0 7 rfl rfl)
theorem dX0_holds_10 : decode cX0_holds 10 = .ok (.aload_n 0, 1) := dk_42 (dk_at dksX0_holds_0 10 rfl rfl)
theorem dX0_holds_11 : decode cX0_holds 11 = .ok (.getfield 59, 3) := dk_180 0 59 (dk_at dksX0_holds_0 11 rfl rfl)
theorem dX0_holds_14 : decode cX0_holds 14 = .ok (.iload_n 1, 1) := dk_27 (dk_at dksX0_holds_0 14 rfl rfl)
theorem dX0_holds_15 : decode cX0_holds 15 = .ok (.aaload, 1) := dk_50 (dk_at dksX0_holds_0 15 rfl rfl)
theorem dX0_holds_16 : decode cX0_holds 16 = .ok (.getfield 123, 3) := dk_180 0 123 (dk_at dksX0_holds_0 16 rfl rfl)
theorem dX0_holds_19 : decode cX0_holds 19 = .ok (.ifnonnull 5, 3) := dk_199 0 5 (dk_at dksX0_holds_0 19 rfl rfl)
theorem dX0_holds_22 : decode cX0_holds 22 = .ok (.iconst (-1), 1) := dk_2 (dk_at dksX0_holds_0 22 rfl rfl)
theorem dX0_holds_23 : decode cX0_holds 23 = .ok (.ireturn, 1) := dk_172 (dk_at dksX0_holds_0 23 rfl rfl)
theorem dX0_holds_24 : decode cX0_holds 24 = .ok (.aload_n 0, 1) := dk_42 (dk_at dksX0_holds_1 0 rfl rfl)
theorem dX0_holds_25 : decode cX0_holds 25 = .ok (.getfield 59, 3) := dk_180 0 59 (dk_at dksX0_holds_1 1 rfl rfl)
theorem dX0_holds_28 : decode cX0_holds 28 = .ok (.iload_n 1, 1) := dk_27 (dk_at dksX0_holds_1 4 rfl rfl)
theorem dX0_holds_29 : decode cX0_holds 29 = .ok (.aaload, 1) := dk_50 (dk_at dksX0_holds_1 5 rfl rfl)
theorem dX0_holds_30 : decode cX0_holds 30 = .ok (.getfield 123, 3) := dk_180 0 123 (dk_at dksX0_holds_1 6 rfl rfl)
theorem dX0_holds_33 : decode cX0_holds 33 = .ok (.astore_n 2, 1) := dk_77 (dk_at dksX0_holds_1 9 rfl rfl)
theorem dX0_holds_34 : decode cX0_holds 34 = .ok (.aload_n 2, 1) := dk_44 (dk_at dksX0_holds_1 10 rfl rfl)
theorem dX0_holds_35 : decode cX0_holds 35 = .ok (.instanceof 47, 3) := dk_193 0 47 (dk_at dksX0_holds_1 11 rfl rfl)
theorem dX0_holds_38 : decode cX0_holds 38 = .ok (.ifCond .eq 13, 3) := dk_153 0 13 (dk_at dksX0_holds_1 14 rfl rfl)
theorem dX0_holds_41 : decode cX0_holds 41 = .ok (.aload_n 2, 1) := dk_44 (dk_at dksX0_holds_1 17 rfl rfl)
theorem dX0_holds_42 : decode cX0_holds 42 = .ok (.checkcast 47, 3) := dk_192 0 47 (dk_at dksX0_holds_1 18 rfl rfl)
theorem dX0_holds_45 : decode cX0_holds 45 = .ok (.getfield 126, 3) := dk_180 0 126 (dk_at dksX0_holds_1 21 rfl rfl)
theorem dX0_holds_48 : decode cX0_holds 48 = .ok (.goto 13, 3) := dk_167 0 13 (dk_at dksX0_holds_2 0 rfl rfl)
theorem dX0_holds_51 : decode cX0_holds 51 = .ok (.bipush 100, 2) := dk_16 100 (dk_at dksX0_holds_2 3 rfl rfl)
theorem dX0_holds_53 : decode cX0_holds 53 = .ok (.aload_n 2, 1) := dk_44 (dk_at dksX0_holds_2 5 rfl rfl)
theorem dX0_holds_54 : decode cX0_holds 54 = .ok (.checkcast 2, 3) := dk_192 0 2 (dk_at dksX0_holds_2 6 rfl rfl)
theorem dX0_holds_57 : decode cX0_holds 57 = .ok (.invokevirtual 172, 3) := dk_182 0 172 (dk_at dksX0_holds_2 9 rfl rfl)
theorem dX0_holds_60 : decode cX0_holds 60 = .ok (.iadd, 1) := dk_96 (dk_at dksX0_holds_2 12 rfl rfl)
theorem dX0_holds_61 : decode cX0_holds 61 = .ok (.ireturn, 1) := dk_172 (dk_at dksX0_holds_2 13 rfl rfl)
abbrev cX0_says : ByteArray := prog_1_method_19_code
def yX0_says : MethodName := ⟨RX0, "says", "(II)I"⟩
def dkwX0_says_1 : List UInt8 := [180, 0, 90, 182, 0, 186, 172, 78, 42, 45, 182, 0, 161, 172]
abbrev dktX0_says_1 : List UInt8 := dkwX0_says_1 ++ []
def dkwX0_says_0 : List UInt8 := [42, 27, 182, 0, 147, 78, 28, 133, 9, 20, 0, 184, 184, 0, 153, 2, 184, 0, 112, 45, 28, 42]
abbrev dktX0_says_0 : List UInt8 := dkwX0_says_0 ++ dktX0_says_1
theorem dksX0_says_0 : cX0_says.data.toList.drop 0 = dktX0_says_0 := by decide +kernel
theorem dksX0_says_1 : cX0_says.data.toList.drop 22 = dktX0_says_1 := dk_seg dksX0_says_0 22 rfl rfl
theorem dX0_says_0 : decode cX0_says 0 = .ok (.aload_n 0, 1) := dk_42 (dk_at dksX0_says_0 0 rfl rfl)
theorem dX0_says_1 : decode cX0_says 1 = .ok (.iload_n 1, 1) := dk_27 (dk_at dksX0_says_0 1 rfl rfl)
theorem dX0_says_2 : decode cX0_says 2 = .ok (.invokevirtual 147, 3) := dk_182 0 147 (dk_at dksX0_says_0 2 rfl rfl)
theorem dX0_says_5 : decode cX0_says 5 = .ok (.astore_n 3, 1) := dk_78 (dk_at dksX0_says_0 5 rfl rfl)
theorem dX0_says_6 : decode cX0_says 6 = .ok (.iload_n 2, 1) := dk_28 (dk_at dksX0_says_0 6 rfl rfl)
theorem dX0_says_7 : decode cX0_says 7 = .ok (.i2l, 1) := dk_133 (dk_at dksX0_says_0 7 rfl rfl)
theorem dX0_says_8 : decode cX0_says 8 = .ok (.lconst 0, 1) := dk_9 (dk_at dksX0_says_0 8 rfl rfl)
theorem dX0_says_9 : decode cX0_says 9 = .ok (.ldc2_w 184, 3) := dk_20 0 184 (dk_at dksX0_says_0 9 rfl rfl)
theorem dX0_says_12 : decode cX0_says 12 = .ok (.invokestatic 153, 3) := dk_184 0 153 (dk_at dksX0_says_0 12 rfl rfl)
theorem dX0_says_15 : decode cX0_says 15 = .ok (.iconst (-1), 1) := dk_2 (dk_at dksX0_says_0 15 rfl rfl)
theorem dX0_says_16 : decode cX0_says 16 = .ok (.invokestatic 112, 3) := dk_184 0 112 (dk_at dksX0_says_0 16 rfl rfl)
theorem dX0_says_19 : decode cX0_says 19 = .ok (.aload_n 3, 1) := dk_45 (dk_at dksX0_says_0 19 rfl rfl)
theorem dX0_says_20 : decode cX0_says 20 = .ok (.iload_n 2, 1) := dk_28 (dk_at dksX0_says_0 20 rfl rfl)
theorem dX0_says_21 : decode cX0_says 21 = .ok (.aload_n 0, 1) := dk_42 (dk_at dksX0_says_0 21 rfl rfl)
theorem dX0_says_22 : decode cX0_says 22 = .ok (.getfield 90, 3) := dk_180 0 90 (dk_at dksX0_says_1 0 rfl rfl)
theorem dX0_says_25 : decode cX0_says 25 = .ok (.invokevirtual 186, 3) := dk_182 0 186 (dk_at dksX0_says_1 3 rfl rfl)
theorem dX0_says_28 : decode cX0_says 28 = .ok (.ireturn, 1) := dk_172 (dk_at dksX0_says_1 6 rfl rfl)
theorem dX0_says_29 : decode cX0_says 29 = .ok (.astore_n 3, 1) := dk_78 (dk_at dksX0_says_1 7 rfl rfl)
theorem dX0_says_30 : decode cX0_says 30 = .ok (.aload_n 0, 1) := dk_42 (dk_at dksX0_says_1 8 rfl rfl)
theorem dX0_says_31 : decode cX0_says 31 = .ok (.aload_n 3, 1) := dk_45 (dk_at dksX0_says_1 9 rfl rfl)
theorem dX0_says_32 : decode cX0_says 32 = .ok (.invokevirtual 161, 3) := dk_182 0 161 (dk_at dksX0_says_1 10 rfl rfl)
theorem dX0_says_35 : decode cX0_says 35 = .ok (.ireturn, 1) := dk_172 (dk_at dksX0_says_1 13 rfl rfl)
abbrev cX0_home : ByteArray := prog_1_method_20_code
def yX0_home : MethodName := ⟨RX0, "home", "(II)I"⟩
def dkwX0_home_3 : List UInt8 := [45, 182, 0, 161, 172]
abbrev dktX0_home_3 : List UInt8 := dkwX0_home_3 ++ []
def dkwX0_home_2 : List UInt8 := [184, 0, 112, 42, 180, 0, 90, 27, 28, 182, 0, 195, 42, 180, 0, 90, 180, 0, 192, 4, 100, 172, 78, 42]
abbrev dktX0_home_2 : List UInt8 := dkwX0_home_2 ++ dktX0_home_3
def dkwX0_home_1 : List UInt8 := [184, 0, 112, 42, 180, 0, 90, 180, 0, 192, 16, 8, 162, 0, 7, 4, 167, 0, 4, 3, 16, 249]
abbrev dktX0_home_1 : List UInt8 := dkwX0_home_1 ++ dktX0_home_2
def dkwX0_home_0 : List UInt8 := [27, 133, 9, 20, 0, 184, 184, 0, 153, 2, 184, 0, 112, 28, 133, 9, 20, 0, 190, 184, 0, 153, 16, 250]
abbrev dktX0_home_0 : List UInt8 := dkwX0_home_0 ++ dktX0_home_1
theorem dksX0_home_0 : cX0_home.data.toList.drop 0 = dktX0_home_0 := by decide +kernel
theorem dksX0_home_1 : cX0_home.data.toList.drop 24 = dktX0_home_1 := dk_seg dksX0_home_0 24 rfl rfl
theorem dksX0_home_2 : cX0_home.data.toList.drop 46 = dktX0_home_2 := dk_seg dksX0_home_1 22 rfl rfl
theorem dksX0_home_3 : cX0_home.data.toList.drop 70 = dktX0_home_3 := dk_seg dksX0_home_2 24 rfl rfl
theorem dX0_home_0 : decode cX0_home 0 = .ok (.iload_n 1, 1) := dk_27 (dk_at dksX0_home_0 0 rfl rfl)
theorem dX0_home_1 : decode cX0_home 1 = .ok (.i2l, 1) := dk_133 (dk_at dksX0_home_0 1 rfl rfl)
theorem dX0_home_2 : decode cX0_home 2 = .ok (.lconst 0, 1) := dk_9 (dk_at dksX0_home_0 2 rfl rfl)
theorem dX0_home_3 : decode cX0_home 3 = .ok (.ldc2_w 184, 3) := dk_20 0 184 (dk_at dksX0_home_0 3 rfl rfl)
theorem dX0_home_6 : decode cX0_home 6 = .ok (.invokestatic 153, 3) := dk_184 0 153 (dk_at dksX0_home_0 6 rfl rfl)
theorem dX0_home_9 : decode cX0_home 9 = .ok (.iconst (-1), 1) := dk_2 (dk_at dksX0_home_0 9 rfl rfl)
theorem dX0_home_10 : decode cX0_home 10 = .ok (.invokestatic 112, 3) := dk_184 0 112 (dk_at dksX0_home_0 10 rfl rfl)
theorem dX0_home_13 : decode cX0_home 13 = .ok (.iload_n 2, 1) := dk_28 (dk_at dksX0_home_0 13 rfl rfl)
theorem dX0_home_14 : decode cX0_home 14 = .ok (.i2l, 1) := dk_133 (dk_at dksX0_home_0 14 rfl rfl)
theorem dX0_home_15 : decode cX0_home 15 = .ok (.lconst 0, 1) := dk_9 (dk_at dksX0_home_0 15 rfl rfl)
theorem dX0_home_16 : decode cX0_home 16 = .ok (.ldc2_w 190, 3) := dk_20 0 190 (dk_at dksX0_home_0 16 rfl rfl)
theorem dX0_home_19 : decode cX0_home 19 = .ok (.invokestatic 153, 3) := dk_184 0 153 (dk_at dksX0_home_0 19 rfl rfl)
theorem dX0_home_22 : decode cX0_home 22 = .ok (.bipush (-6), 2) := dk_16 250 (dk_at dksX0_home_0 22 rfl rfl)
theorem dX0_home_24 : decode cX0_home 24 = .ok (.invokestatic 112, 3) := dk_184 0 112 (dk_at dksX0_home_1 0 rfl rfl)
theorem dX0_home_27 : decode cX0_home 27 = .ok (.aload_n 0, 1) := dk_42 (dk_at dksX0_home_1 3 rfl rfl)
theorem dX0_home_28 : decode cX0_home 28 = .ok (.getfield 90, 3) := dk_180 0 90 (dk_at dksX0_home_1 4 rfl rfl)
theorem dX0_home_31 : decode cX0_home 31 = .ok (.getfield 192, 3) := dk_180 0 192 (dk_at dksX0_home_1 7 rfl rfl)
theorem dX0_home_34 : decode cX0_home 34 = .ok (.bipush 8, 2) := dk_16 8 (dk_at dksX0_home_1 10 rfl rfl)
theorem dX0_home_36 : decode cX0_home 36 = .ok (.if_icmp .ge 7, 3) := dk_162 0 7 (dk_at dksX0_home_1 12 rfl rfl)
theorem dX0_home_39 : decode cX0_home 39 = .ok (.iconst 1, 1) := dk_4 (dk_at dksX0_home_1 15 rfl rfl)
theorem dX0_home_40 : decode cX0_home 40 = .ok (.goto 4, 3) := dk_167 0 4 (dk_at dksX0_home_1 16 rfl rfl)
theorem dX0_home_43 : decode cX0_home 43 = .ok (.iconst 0, 1) := dk_3 (dk_at dksX0_home_1 19 rfl rfl)
theorem dX0_home_44 : decode cX0_home 44 = .ok (.bipush (-7), 2) := dk_16 249 (dk_at dksX0_home_1 20 rfl rfl)
theorem dX0_home_46 : decode cX0_home 46 = .ok (.invokestatic 112, 3) := dk_184 0 112 (dk_at dksX0_home_2 0 rfl rfl)
theorem dX0_home_49 : decode cX0_home 49 = .ok (.aload_n 0, 1) := dk_42 (dk_at dksX0_home_2 3 rfl rfl)
theorem dX0_home_50 : decode cX0_home 50 = .ok (.getfield 90, 3) := dk_180 0 90 (dk_at dksX0_home_2 4 rfl rfl)
theorem dX0_home_53 : decode cX0_home 53 = .ok (.iload_n 1, 1) := dk_27 (dk_at dksX0_home_2 7 rfl rfl)
theorem dX0_home_54 : decode cX0_home 54 = .ok (.iload_n 2, 1) := dk_28 (dk_at dksX0_home_2 8 rfl rfl)
theorem dX0_home_55 : decode cX0_home 55 = .ok (.invokevirtual 195, 3) := dk_182 0 195 (dk_at dksX0_home_2 9 rfl rfl)
theorem dX0_home_58 : decode cX0_home 58 = .ok (.aload_n 0, 1) := dk_42 (dk_at dksX0_home_2 12 rfl rfl)
theorem dX0_home_59 : decode cX0_home 59 = .ok (.getfield 90, 3) := dk_180 0 90 (dk_at dksX0_home_2 13 rfl rfl)
theorem dX0_home_62 : decode cX0_home 62 = .ok (.getfield 192, 3) := dk_180 0 192 (dk_at dksX0_home_2 16 rfl rfl)
theorem dX0_home_65 : decode cX0_home 65 = .ok (.iconst 1, 1) := dk_4 (dk_at dksX0_home_2 19 rfl rfl)
theorem dX0_home_66 : decode cX0_home 66 = .ok (.isub, 1) := dk_100 (dk_at dksX0_home_2 20 rfl rfl)
theorem dX0_home_67 : decode cX0_home 67 = .ok (.ireturn, 1) := dk_172 (dk_at dksX0_home_2 21 rfl rfl)
theorem dX0_home_68 : decode cX0_home 68 = .ok (.astore_n 3, 1) := dk_78 (dk_at dksX0_home_2 22 rfl rfl)
theorem dX0_home_69 : decode cX0_home 69 = .ok (.aload_n 0, 1) := dk_42 (dk_at dksX0_home_2 23 rfl rfl)
theorem dX0_home_70 : decode cX0_home 70 = .ok (.aload_n 3, 1) := dk_45 (dk_at dksX0_home_3 0 rfl rfl)
theorem dX0_home_71 : decode cX0_home 71 = .ok (.invokevirtual 161, 3) := dk_182 0 161 (dk_at dksX0_home_3 1 rfl rfl)
theorem dX0_home_74 : decode cX0_home 74 = .ok (.ireturn, 1) := dk_172 (dk_at dksX0_home_3 4 rfl rfl)
abbrev cX0_homeOfKind : ByteArray := prog_1_method_4_code
def yX0_homeOfKind : MethodName := ⟨RX0, "homeOfKind", "(III)LHamsterWeekends$Home;"⟩
def dkwX0_homeOfKind_4 : List UInt8 := [183, 0, 43, 176, 187, 0, 44, 89, 27, 28, 183, 0, 46, 176, 187, 0, 47, 89, 27, 28, 183, 0, 49, 176]
abbrev dktX0_homeOfKind_4 : List UInt8 := dkwX0_homeOfKind_4 ++ []
def dkwX0_homeOfKind_3 : List UInt8 := [27, 28, 183, 0, 37, 176, 187, 0, 38, 89, 27, 28, 183, 0, 40, 176, 187, 0, 41, 89, 27, 28]
abbrev dktX0_homeOfKind_3 : List UInt8 := dkwX0_homeOfKind_3 ++ dktX0_homeOfKind_4
def dkwX0_homeOfKind_2 : List UInt8 := [187, 0, 27, 89, 27, 28, 183, 0, 29, 176, 187, 0, 32, 89, 27, 28, 183, 0, 34, 176, 187, 0, 35, 89]
abbrev dktX0_homeOfKind_2 : List UInt8 := dkwX0_homeOfKind_2 ++ dktX0_homeOfKind_3
def dkwX0_homeOfKind_1 : List UInt8 := [170, 0, 0, 0, 0, 0, 99, 0, 0, 0, 1, 0, 0, 0, 6, 0, 0, 0, 39, 0, 0, 0, 49, 0, 0, 0, 59, 0, 0, 0, 69, 0, 0, 0, 79, 0, 0, 0, 89]
abbrev dktX0_homeOfKind_1 : List UInt8 := dkwX0_homeOfKind_1 ++ dktX0_homeOfKind_2
def dkwX0_homeOfKind_0 : List UInt8 := [26]
abbrev dktX0_homeOfKind_0 : List UInt8 := dkwX0_homeOfKind_0 ++ dktX0_homeOfKind_1
theorem dksX0_homeOfKind_0 : cX0_homeOfKind.data.toList.drop 0 = dktX0_homeOfKind_0 := by decide +kernel
theorem dksX0_homeOfKind_1 : cX0_homeOfKind.data.toList.drop 1 = dktX0_homeOfKind_1 := dk_seg dksX0_homeOfKind_0 1 rfl rfl
theorem dksX0_homeOfKind_2 : cX0_homeOfKind.data.toList.drop 40 = dktX0_homeOfKind_2 := dk_seg dksX0_homeOfKind_1 39 rfl rfl
theorem dksX0_homeOfKind_3 : cX0_homeOfKind.data.toList.drop 64 = dktX0_homeOfKind_3 := dk_seg dksX0_homeOfKind_2 24 rfl rfl
theorem dksX0_homeOfKind_4 : cX0_homeOfKind.data.toList.drop 86 = dktX0_homeOfKind_4 := dk_seg dksX0_homeOfKind_3 22 rfl rfl
theorem dX0_homeOfKind_0 : decode cX0_homeOfKind 0 = .ok (.iload_n 0, 1) := dk_26 (dk_at dksX0_homeOfKind_0 0 rfl rfl)
theorem dX0_homeOfKind_1 : decode cX0_homeOfKind 1 = .ok (.tableswitch 99 1 6 #[39, 49, 59, 69, 79, 89], 39) := by decide +kernel
theorem dX0_homeOfKind_40 : decode cX0_homeOfKind 40 = .ok (.new 27, 3) := dk_187 0 27 (dk_at dksX0_homeOfKind_2 0 rfl rfl)
theorem dX0_homeOfKind_43 : decode cX0_homeOfKind 43 = .ok (.dup, 1) := dk_89 (dk_at dksX0_homeOfKind_2 3 rfl rfl)
theorem dX0_homeOfKind_44 : decode cX0_homeOfKind 44 = .ok (.iload_n 1, 1) := dk_27 (dk_at dksX0_homeOfKind_2 4 rfl rfl)
theorem dX0_homeOfKind_45 : decode cX0_homeOfKind 45 = .ok (.iload_n 2, 1) := dk_28 (dk_at dksX0_homeOfKind_2 5 rfl rfl)
theorem dX0_homeOfKind_46 : decode cX0_homeOfKind 46 = .ok (.invokespecial 29, 3) := dk_183 0 29 (dk_at dksX0_homeOfKind_2 6 rfl rfl)
theorem dX0_homeOfKind_49 : decode cX0_homeOfKind 49 = .ok (.areturn, 1) := dk_176 (dk_at dksX0_homeOfKind_2 9 rfl rfl)
theorem dX0_homeOfKind_50 : decode cX0_homeOfKind 50 = .ok (.new 32, 3) := dk_187 0 32 (dk_at dksX0_homeOfKind_2 10 rfl rfl)
theorem dX0_homeOfKind_53 : decode cX0_homeOfKind 53 = .ok (.dup, 1) := dk_89 (dk_at dksX0_homeOfKind_2 13 rfl rfl)
theorem dX0_homeOfKind_54 : decode cX0_homeOfKind 54 = .ok (.iload_n 1, 1) := dk_27 (dk_at dksX0_homeOfKind_2 14 rfl rfl)
theorem dX0_homeOfKind_55 : decode cX0_homeOfKind 55 = .ok (.iload_n 2, 1) := dk_28 (dk_at dksX0_homeOfKind_2 15 rfl rfl)
theorem dX0_homeOfKind_56 : decode cX0_homeOfKind 56 = .ok (.invokespecial 34, 3) := dk_183 0 34 (dk_at dksX0_homeOfKind_2 16 rfl rfl)
theorem dX0_homeOfKind_59 : decode cX0_homeOfKind 59 = .ok (.areturn, 1) := dk_176 (dk_at dksX0_homeOfKind_2 19 rfl rfl)
theorem dX0_homeOfKind_60 : decode cX0_homeOfKind 60 = .ok (.new 35, 3) := dk_187 0 35 (dk_at dksX0_homeOfKind_2 20 rfl rfl)
theorem dX0_homeOfKind_63 : decode cX0_homeOfKind 63 = .ok (.dup, 1) := dk_89 (dk_at dksX0_homeOfKind_2 23 rfl rfl)
theorem dX0_homeOfKind_64 : decode cX0_homeOfKind 64 = .ok (.iload_n 1, 1) := dk_27 (dk_at dksX0_homeOfKind_3 0 rfl rfl)
theorem dX0_homeOfKind_65 : decode cX0_homeOfKind 65 = .ok (.iload_n 2, 1) := dk_28 (dk_at dksX0_homeOfKind_3 1 rfl rfl)
theorem dX0_homeOfKind_66 : decode cX0_homeOfKind 66 = .ok (.invokespecial 37, 3) := dk_183 0 37 (dk_at dksX0_homeOfKind_3 2 rfl rfl)
theorem dX0_homeOfKind_69 : decode cX0_homeOfKind 69 = .ok (.areturn, 1) := dk_176 (dk_at dksX0_homeOfKind_3 5 rfl rfl)
theorem dX0_homeOfKind_70 : decode cX0_homeOfKind 70 = .ok (.new 38, 3) := dk_187 0 38 (dk_at dksX0_homeOfKind_3 6 rfl rfl)
theorem dX0_homeOfKind_73 : decode cX0_homeOfKind 73 = .ok (.dup, 1) := dk_89 (dk_at dksX0_homeOfKind_3 9 rfl rfl)
theorem dX0_homeOfKind_74 : decode cX0_homeOfKind 74 = .ok (.iload_n 1, 1) := dk_27 (dk_at dksX0_homeOfKind_3 10 rfl rfl)
theorem dX0_homeOfKind_75 : decode cX0_homeOfKind 75 = .ok (.iload_n 2, 1) := dk_28 (dk_at dksX0_homeOfKind_3 11 rfl rfl)
theorem dX0_homeOfKind_76 : decode cX0_homeOfKind 76 = .ok (.invokespecial 40, 3) := dk_183 0 40 (dk_at dksX0_homeOfKind_3 12 rfl rfl)
theorem dX0_homeOfKind_79 : decode cX0_homeOfKind 79 = .ok (.areturn, 1) := dk_176 (dk_at dksX0_homeOfKind_3 15 rfl rfl)
theorem dX0_homeOfKind_80 : decode cX0_homeOfKind 80 = .ok (.new 41, 3) := dk_187 0 41 (dk_at dksX0_homeOfKind_3 16 rfl rfl)
theorem dX0_homeOfKind_83 : decode cX0_homeOfKind 83 = .ok (.dup, 1) := dk_89 (dk_at dksX0_homeOfKind_3 19 rfl rfl)
theorem dX0_homeOfKind_84 : decode cX0_homeOfKind 84 = .ok (.iload_n 1, 1) := dk_27 (dk_at dksX0_homeOfKind_3 20 rfl rfl)
theorem dX0_homeOfKind_85 : decode cX0_homeOfKind 85 = .ok (.iload_n 2, 1) := dk_28 (dk_at dksX0_homeOfKind_3 21 rfl rfl)
theorem dX0_homeOfKind_86 : decode cX0_homeOfKind 86 = .ok (.invokespecial 43, 3) := dk_183 0 43 (dk_at dksX0_homeOfKind_4 0 rfl rfl)
theorem dX0_homeOfKind_89 : decode cX0_homeOfKind 89 = .ok (.areturn, 1) := dk_176 (dk_at dksX0_homeOfKind_4 3 rfl rfl)
theorem dX0_homeOfKind_90 : decode cX0_homeOfKind 90 = .ok (.new 44, 3) := dk_187 0 44 (dk_at dksX0_homeOfKind_4 4 rfl rfl)
theorem dX0_homeOfKind_93 : decode cX0_homeOfKind 93 = .ok (.dup, 1) := dk_89 (dk_at dksX0_homeOfKind_4 7 rfl rfl)
theorem dX0_homeOfKind_94 : decode cX0_homeOfKind 94 = .ok (.iload_n 1, 1) := dk_27 (dk_at dksX0_homeOfKind_4 8 rfl rfl)
theorem dX0_homeOfKind_95 : decode cX0_homeOfKind 95 = .ok (.iload_n 2, 1) := dk_28 (dk_at dksX0_homeOfKind_4 9 rfl rfl)
theorem dX0_homeOfKind_96 : decode cX0_homeOfKind 96 = .ok (.invokespecial 46, 3) := dk_183 0 46 (dk_at dksX0_homeOfKind_4 10 rfl rfl)
theorem dX0_homeOfKind_99 : decode cX0_homeOfKind 99 = .ok (.areturn, 1) := dk_176 (dk_at dksX0_homeOfKind_4 13 rfl rfl)
theorem dX0_homeOfKind_100 : decode cX0_homeOfKind 100 = .ok (.new 47, 3) := dk_187 0 47 (dk_at dksX0_homeOfKind_4 14 rfl rfl)
theorem dX0_homeOfKind_103 : decode cX0_homeOfKind 103 = .ok (.dup, 1) := dk_89 (dk_at dksX0_homeOfKind_4 17 rfl rfl)
theorem dX0_homeOfKind_104 : decode cX0_homeOfKind 104 = .ok (.iload_n 1, 1) := dk_27 (dk_at dksX0_homeOfKind_4 18 rfl rfl)
theorem dX0_homeOfKind_105 : decode cX0_homeOfKind 105 = .ok (.iload_n 2, 1) := dk_28 (dk_at dksX0_homeOfKind_4 19 rfl rfl)
theorem dX0_homeOfKind_106 : decode cX0_homeOfKind 106 = .ok (.invokespecial 49, 3) := dk_183 0 49 (dk_at dksX0_homeOfKind_4 20 rfl rfl)
theorem dX0_homeOfKind_109 : decode cX0_homeOfKind 109 = .ok (.areturn, 1) := dk_176 (dk_at dksX0_homeOfKind_4 23 rfl rfl)
abbrev cX0_homeOf : ByteArray := prog_1_method_21_code
def yX0_homeOf : MethodName := ⟨RX0, "homeOf", "(II)I"⟩
def dkwX0_homeOf_4 : List UInt8 := [153, 0, 7, 4, 167, 0, 4, 3, 172, 42, 180, 0, 90, 180, 0, 214, 27, 46, 172, 42, 182, 0, 198, 172]
abbrev dktX0_homeOf_4 : List UInt8 := dkwX0_homeOf_4 ++ []
def dkwX0_homeOf_3 : List UInt8 := [180, 0, 204, 172, 42, 180, 0, 90, 180, 0, 207, 27, 46, 172, 42, 180, 0, 90, 180, 0, 210, 27, 51]
abbrev dktX0_homeOf_3 : List UInt8 := dkwX0_homeOf_3 ++ dktX0_homeOf_4
def dkwX0_homeOf_2 : List UInt8 := [42, 180, 0, 90, 180, 0, 129, 27, 50, 182, 0, 201, 172, 42, 180, 0, 90, 180, 0, 129, 27, 50]
abbrev dktX0_homeOf_2 : List UInt8 := dkwX0_homeOf_2 ++ dktX0_homeOf_3
def dkwX0_homeOf_1 : List UInt8 := [170, 0, 0, 0, 0, 0, 99, 0, 0, 0, 0, 0, 0, 0, 4, 0, 0, 0, 35, 0, 0, 0, 48, 0, 0, 0, 61, 0, 0, 0, 71, 0, 0, 0, 89]
abbrev dktX0_homeOf_1 : List UInt8 := dkwX0_homeOf_1 ++ dktX0_homeOf_2
def dkwX0_homeOf_0 : List UInt8 := [42, 180, 0, 90, 27, 182, 0, 108, 154, 0, 8, 42, 182, 0, 198, 172, 28]
abbrev dktX0_homeOf_0 : List UInt8 := dkwX0_homeOf_0 ++ dktX0_homeOf_1
theorem dksX0_homeOf_0 : cX0_homeOf.data.toList.drop 0 = dktX0_homeOf_0 := by decide +kernel
theorem dksX0_homeOf_1 : cX0_homeOf.data.toList.drop 17 = dktX0_homeOf_1 := dk_seg dksX0_homeOf_0 17 rfl rfl
theorem dksX0_homeOf_2 : cX0_homeOf.data.toList.drop 52 = dktX0_homeOf_2 := dk_seg dksX0_homeOf_1 35 rfl rfl
theorem dksX0_homeOf_3 : cX0_homeOf.data.toList.drop 74 = dktX0_homeOf_3 := dk_seg dksX0_homeOf_2 22 rfl rfl
theorem dksX0_homeOf_4 : cX0_homeOf.data.toList.drop 97 = dktX0_homeOf_4 := dk_seg dksX0_homeOf_3 23 rfl rfl
theorem dX0_homeOf_0 : decode cX0_homeOf 0 = .ok (.aload_n 0, 1) := dk_42 (dk_at dksX0_homeOf_0 0 rfl rfl)
theorem dX0_homeOf_1 : decode cX0_homeOf 1 = .ok (.getfield 90, 3) := dk_180 0 90 (dk_at dksX0_homeOf_0 1 rfl rfl)
theorem dX0_homeOf_4 : decode cX0_homeOf 4 = .ok (.iload_n 1, 1) := dk_27 (dk_at dksX0_homeOf_0 4 rfl rfl)
theorem dX0_homeOf_5 : decode cX0_homeOf 5 = .ok (.invokevirtual 108, 3) := dk_182 0 108 (dk_at dksX0_homeOf_0 5 rfl rfl)
theorem dX0_homeOf_8 : decode cX0_homeOf 8 = .ok (.ifCond .ne 8, 3) := dk_154 0 8 (dk_at dksX0_homeOf_0 8 rfl rfl)
theorem dX0_homeOf_11 : decode cX0_homeOf 11 = .ok (.aload_n 0, 1) := dk_42 (dk_at dksX0_homeOf_0 11 rfl rfl)
theorem dX0_homeOf_12 : decode cX0_homeOf 12 = .ok (.invokevirtual 198, 3) := dk_182 0 198 (dk_at dksX0_homeOf_0 12 rfl rfl)
theorem dX0_homeOf_15 : decode cX0_homeOf 15 = .ok (.ireturn, 1) := dk_172 (dk_at dksX0_homeOf_0 15 rfl rfl)
theorem dX0_homeOf_16 : decode cX0_homeOf 16 = .ok (.iload_n 2, 1) := dk_28 (dk_at dksX0_homeOf_0 16 rfl rfl)
theorem dX0_homeOf_17 : decode cX0_homeOf 17 = .ok (.tableswitch 99 0 4 #[35, 48, 61, 71, 89], 35) := by decide +kernel
theorem dX0_homeOf_52 : decode cX0_homeOf 52 = .ok (.aload_n 0, 1) := dk_42 (dk_at dksX0_homeOf_2 0 rfl rfl)
theorem dX0_homeOf_53 : decode cX0_homeOf 53 = .ok (.getfield 90, 3) := dk_180 0 90 (dk_at dksX0_homeOf_2 1 rfl rfl)
theorem dX0_homeOf_56 : decode cX0_homeOf 56 = .ok (.getfield 129, 3) := dk_180 0 129 (dk_at dksX0_homeOf_2 4 rfl rfl)
theorem dX0_homeOf_59 : decode cX0_homeOf 59 = .ok (.iload_n 1, 1) := dk_27 (dk_at dksX0_homeOf_2 7 rfl rfl)
theorem dX0_homeOf_60 : decode cX0_homeOf 60 = .ok (.aaload, 1) := dk_50 (dk_at dksX0_homeOf_2 8 rfl rfl)
theorem dX0_homeOf_61 : decode cX0_homeOf 61 = .ok (.invokevirtual 201, 3) := dk_182 0 201 (dk_at dksX0_homeOf_2 9 rfl rfl)
theorem dX0_homeOf_64 : decode cX0_homeOf 64 = .ok (.ireturn, 1) := dk_172 (dk_at dksX0_homeOf_2 12 rfl rfl)
theorem dX0_homeOf_65 : decode cX0_homeOf 65 = .ok (.aload_n 0, 1) := dk_42 (dk_at dksX0_homeOf_2 13 rfl rfl)
theorem dX0_homeOf_66 : decode cX0_homeOf 66 = .ok (.getfield 90, 3) := dk_180 0 90 (dk_at dksX0_homeOf_2 14 rfl rfl)
theorem dX0_homeOf_69 : decode cX0_homeOf 69 = .ok (.getfield 129, 3) := dk_180 0 129 (dk_at dksX0_homeOf_2 17 rfl rfl)
theorem dX0_homeOf_72 : decode cX0_homeOf 72 = .ok (.iload_n 1, 1) := dk_27 (dk_at dksX0_homeOf_2 20 rfl rfl)
theorem dX0_homeOf_73 : decode cX0_homeOf 73 = .ok (.aaload, 1) := dk_50 (dk_at dksX0_homeOf_2 21 rfl rfl)
theorem dX0_homeOf_74 : decode cX0_homeOf 74 = .ok (.getfield 204, 3) := dk_180 0 204 (dk_at dksX0_homeOf_3 0 rfl rfl)
theorem dX0_homeOf_77 : decode cX0_homeOf 77 = .ok (.ireturn, 1) := dk_172 (dk_at dksX0_homeOf_3 3 rfl rfl)
theorem dX0_homeOf_78 : decode cX0_homeOf 78 = .ok (.aload_n 0, 1) := dk_42 (dk_at dksX0_homeOf_3 4 rfl rfl)
theorem dX0_homeOf_79 : decode cX0_homeOf 79 = .ok (.getfield 90, 3) := dk_180 0 90 (dk_at dksX0_homeOf_3 5 rfl rfl)
theorem dX0_homeOf_82 : decode cX0_homeOf 82 = .ok (.getfield 207, 3) := dk_180 0 207 (dk_at dksX0_homeOf_3 8 rfl rfl)
theorem dX0_homeOf_85 : decode cX0_homeOf 85 = .ok (.iload_n 1, 1) := dk_27 (dk_at dksX0_homeOf_3 11 rfl rfl)
theorem dX0_homeOf_86 : decode cX0_homeOf 86 = .ok (.iaload, 1) := dk_46 (dk_at dksX0_homeOf_3 12 rfl rfl)
theorem dX0_homeOf_87 : decode cX0_homeOf 87 = .ok (.ireturn, 1) := dk_172 (dk_at dksX0_homeOf_3 13 rfl rfl)
theorem dX0_homeOf_88 : decode cX0_homeOf 88 = .ok (.aload_n 0, 1) := dk_42 (dk_at dksX0_homeOf_3 14 rfl rfl)
theorem dX0_homeOf_89 : decode cX0_homeOf 89 = .ok (.getfield 90, 3) := dk_180 0 90 (dk_at dksX0_homeOf_3 15 rfl rfl)
theorem dX0_homeOf_92 : decode cX0_homeOf 92 = .ok (.getfield 210, 3) := dk_180 0 210 (dk_at dksX0_homeOf_3 18 rfl rfl)
theorem dX0_homeOf_95 : decode cX0_homeOf 95 = .ok (.iload_n 1, 1) := dk_27 (dk_at dksX0_homeOf_3 21 rfl rfl)
theorem dX0_homeOf_96 : decode cX0_homeOf 96 = .ok (.baload, 1) := dk_51 (dk_at dksX0_homeOf_3 22 rfl rfl)
theorem dX0_homeOf_97 : decode cX0_homeOf 97 = .ok (.ifCond .eq 7, 3) := dk_153 0 7 (dk_at dksX0_homeOf_4 0 rfl rfl)
theorem dX0_homeOf_100 : decode cX0_homeOf 100 = .ok (.iconst 1, 1) := dk_4 (dk_at dksX0_homeOf_4 3 rfl rfl)
theorem dX0_homeOf_101 : decode cX0_homeOf 101 = .ok (.goto 4, 3) := dk_167 0 4 (dk_at dksX0_homeOf_4 4 rfl rfl)
theorem dX0_homeOf_104 : decode cX0_homeOf 104 = .ok (.iconst 0, 1) := dk_3 (dk_at dksX0_homeOf_4 7 rfl rfl)
theorem dX0_homeOf_105 : decode cX0_homeOf 105 = .ok (.ireturn, 1) := dk_172 (dk_at dksX0_homeOf_4 8 rfl rfl)
theorem dX0_homeOf_106 : decode cX0_homeOf 106 = .ok (.aload_n 0, 1) := dk_42 (dk_at dksX0_homeOf_4 9 rfl rfl)
theorem dX0_homeOf_107 : decode cX0_homeOf 107 = .ok (.getfield 90, 3) := dk_180 0 90 (dk_at dksX0_homeOf_4 10 rfl rfl)
theorem dX0_homeOf_110 : decode cX0_homeOf 110 = .ok (.getfield 214, 3) := dk_180 0 214 (dk_at dksX0_homeOf_4 13 rfl rfl)
theorem dX0_homeOf_113 : decode cX0_homeOf 113 = .ok (.iload_n 1, 1) := dk_27 (dk_at dksX0_homeOf_4 16 rfl rfl)
theorem dX0_homeOf_114 : decode cX0_homeOf 114 = .ok (.iaload, 1) := dk_46 (dk_at dksX0_homeOf_4 17 rfl rfl)
theorem dX0_homeOf_115 : decode cX0_homeOf 115 = .ok (.ireturn, 1) := dk_172 (dk_at dksX0_homeOf_4 18 rfl rfl)
theorem dX0_homeOf_116 : decode cX0_homeOf 116 = .ok (.aload_n 0, 1) := dk_42 (dk_at dksX0_homeOf_4 19 rfl rfl)
theorem dX0_homeOf_117 : decode cX0_homeOf 117 = .ok (.invokevirtual 198, 3) := dk_182 0 198 (dk_at dksX0_homeOf_4 20 rfl rfl)
theorem dX0_homeOf_120 : decode cX0_homeOf 120 = .ok (.ireturn, 1) := dk_172 (dk_at dksX0_homeOf_4 23 rfl rfl)
abbrev cX0_beyond : ByteArray := prog_1_method_7_code
def yX0_beyond : MethodName := ⟨RX0, "beyond", "()I"⟩
def dkwX0_beyond_0 : List UInt8 := [42, 180, 0, 63, 8, 92, 46, 4, 96, 79, 16, 251, 172]
abbrev dktX0_beyond_0 : List UInt8 := dkwX0_beyond_0 ++ []
theorem dksX0_beyond_0 : cX0_beyond.data.toList.drop 0 = dktX0_beyond_0 := by decide +kernel
theorem dX0_beyond_0 : decode cX0_beyond 0 = .ok (.aload_n 0, 1) := dk_42 (dk_at dksX0_beyond_0 0 rfl rfl)
theorem dX0_beyond_1 : decode cX0_beyond 1 = .ok (.getfield 63, 3) := dk_180 0 63 (dk_at dksX0_beyond_0 1 rfl rfl)
theorem dX0_beyond_4 : decode cX0_beyond 4 = .ok (.iconst 5, 1) := dk_8 (dk_at dksX0_beyond_0 4 rfl rfl)
theorem dX0_beyond_5 : decode cX0_beyond 5 = .ok (.dup2, 1) := dk_92 (dk_at dksX0_beyond_0 5 rfl rfl)
theorem dX0_beyond_6 : decode cX0_beyond 6 = .ok (.iaload, 1) := dk_46 (dk_at dksX0_beyond_0 6 rfl rfl)
theorem dX0_beyond_7 : decode cX0_beyond 7 = .ok (.iconst 1, 1) := dk_4 (dk_at dksX0_beyond_0 7 rfl rfl)
theorem dX0_beyond_8 : decode cX0_beyond 8 = .ok (.iadd, 1) := dk_96 (dk_at dksX0_beyond_0 8 rfl rfl)
theorem dX0_beyond_9 : decode cX0_beyond 9 = .ok (.iastore, 1) := dk_79 (dk_at dksX0_beyond_0 9 rfl rfl)
theorem dX0_beyond_10 : decode cX0_beyond 10 = .ok (.bipush (-5), 2) := dk_16 251 (dk_at dksX0_beyond_0 10 rfl rfl)
theorem dX0_beyond_12 : decode cX0_beyond 12 = .ok (.ireturn, 1) := dk_172 (dk_at dksX0_beyond_0 12 rfl rfl)
abbrev cX0_marks : ByteArray := prog_1_method_22_code
def yX0_marks : MethodName := ⟨RX0, "marks", "(II)I"⟩
def dkwX0_marks_2 : List UInt8 := [172]
abbrev dktX0_marks_2 : List UInt8 := dkwX0_marks_2 ++ []
def dkwX0_marks_1 : List UInt8 := [180, 0, 207, 27, 46, 62, 42, 180, 0, 90, 180, 0, 207, 27, 28, 79, 29, 172, 78, 42, 45, 182, 0, 161]
abbrev dktX0_marks_1 : List UInt8 := dkwX0_marks_1 ++ dktX0_marks_2
def dkwX0_marks_0 : List UInt8 := [42, 27, 182, 0, 181, 28, 133, 9, 20, 0, 190, 184, 0, 153, 16, 250, 184, 0, 112, 42, 180, 0, 90]
abbrev dktX0_marks_0 : List UInt8 := dkwX0_marks_0 ++ dktX0_marks_1
theorem dksX0_marks_0 : cX0_marks.data.toList.drop 0 = dktX0_marks_0 := by decide +kernel
theorem dksX0_marks_1 : cX0_marks.data.toList.drop 23 = dktX0_marks_1 := dk_seg dksX0_marks_0 23 rfl rfl
theorem dksX0_marks_2 : cX0_marks.data.toList.drop 47 = dktX0_marks_2 := dk_seg dksX0_marks_1 24 rfl rfl
theorem dX0_marks_0 : decode cX0_marks 0 = .ok (.aload_n 0, 1) := dk_42 (dk_at dksX0_marks_0 0 rfl rfl)
theorem dX0_marks_1 : decode cX0_marks 1 = .ok (.iload_n 1, 1) := dk_27 (dk_at dksX0_marks_0 1 rfl rfl)
theorem dX0_marks_2 : decode cX0_marks 2 = .ok (.invokevirtual 181, 3) := dk_182 0 181 (dk_at dksX0_marks_0 2 rfl rfl)
theorem dX0_marks_5 : decode cX0_marks 5 = .ok (.iload_n 2, 1) := dk_28 (dk_at dksX0_marks_0 5 rfl rfl)
theorem dX0_marks_6 : decode cX0_marks 6 = .ok (.i2l, 1) := dk_133 (dk_at dksX0_marks_0 6 rfl rfl)
theorem dX0_marks_7 : decode cX0_marks 7 = .ok (.lconst 0, 1) := dk_9 (dk_at dksX0_marks_0 7 rfl rfl)
theorem dX0_marks_8 : decode cX0_marks 8 = .ok (.ldc2_w 190, 3) := dk_20 0 190 (dk_at dksX0_marks_0 8 rfl rfl)
theorem dX0_marks_11 : decode cX0_marks 11 = .ok (.invokestatic 153, 3) := dk_184 0 153 (dk_at dksX0_marks_0 11 rfl rfl)
theorem dX0_marks_14 : decode cX0_marks 14 = .ok (.bipush (-6), 2) := dk_16 250 (dk_at dksX0_marks_0 14 rfl rfl)
theorem dX0_marks_16 : decode cX0_marks 16 = .ok (.invokestatic 112, 3) := dk_184 0 112 (dk_at dksX0_marks_0 16 rfl rfl)
theorem dX0_marks_19 : decode cX0_marks 19 = .ok (.aload_n 0, 1) := dk_42 (dk_at dksX0_marks_0 19 rfl rfl)
theorem dX0_marks_20 : decode cX0_marks 20 = .ok (.getfield 90, 3) := dk_180 0 90 (dk_at dksX0_marks_0 20 rfl rfl)
theorem dX0_marks_23 : decode cX0_marks 23 = .ok (.getfield 207, 3) := dk_180 0 207 (dk_at dksX0_marks_1 0 rfl rfl)
theorem dX0_marks_26 : decode cX0_marks 26 = .ok (.iload_n 1, 1) := dk_27 (dk_at dksX0_marks_1 3 rfl rfl)
theorem dX0_marks_27 : decode cX0_marks 27 = .ok (.iaload, 1) := dk_46 (dk_at dksX0_marks_1 4 rfl rfl)
theorem dX0_marks_28 : decode cX0_marks 28 = .ok (.istore_n 3, 1) := dk_62 (dk_at dksX0_marks_1 5 rfl rfl)
theorem dX0_marks_29 : decode cX0_marks 29 = .ok (.aload_n 0, 1) := dk_42 (dk_at dksX0_marks_1 6 rfl rfl)
theorem dX0_marks_30 : decode cX0_marks 30 = .ok (.getfield 90, 3) := dk_180 0 90 (dk_at dksX0_marks_1 7 rfl rfl)
theorem dX0_marks_33 : decode cX0_marks 33 = .ok (.getfield 207, 3) := dk_180 0 207 (dk_at dksX0_marks_1 10 rfl rfl)
theorem dX0_marks_36 : decode cX0_marks 36 = .ok (.iload_n 1, 1) := dk_27 (dk_at dksX0_marks_1 13 rfl rfl)
theorem dX0_marks_37 : decode cX0_marks 37 = .ok (.iload_n 2, 1) := dk_28 (dk_at dksX0_marks_1 14 rfl rfl)
theorem dX0_marks_38 : decode cX0_marks 38 = .ok (.iastore, 1) := dk_79 (dk_at dksX0_marks_1 15 rfl rfl)
theorem dX0_marks_39 : decode cX0_marks 39 = .ok (.iload_n 3, 1) := dk_29 (dk_at dksX0_marks_1 16 rfl rfl)
theorem dX0_marks_40 : decode cX0_marks 40 = .ok (.ireturn, 1) := dk_172 (dk_at dksX0_marks_1 17 rfl rfl)
theorem dX0_marks_41 : decode cX0_marks 41 = .ok (.astore_n 3, 1) := dk_78 (dk_at dksX0_marks_1 18 rfl rfl)
theorem dX0_marks_42 : decode cX0_marks 42 = .ok (.aload_n 0, 1) := dk_42 (dk_at dksX0_marks_1 19 rfl rfl)
theorem dX0_marks_43 : decode cX0_marks 43 = .ok (.aload_n 3, 1) := dk_45 (dk_at dksX0_marks_1 20 rfl rfl)
theorem dX0_marks_44 : decode cX0_marks 44 = .ok (.invokevirtual 161, 3) := dk_182 0 161 (dk_at dksX0_marks_1 21 rfl rfl)
theorem dX0_marks_47 : decode cX0_marks 47 = .ok (.ireturn, 1) := dk_172 (dk_at dksX0_marks_2 0 rfl rfl)
abbrev cX0_allergic : ByteArray := prog_1_method_23_code
def yX0_allergic : MethodName := ⟨RX0, "allergic", "(IZ)I"⟩
def dkwX0_allergic_1 : List UInt8 := [84, 29, 28, 159, 0, 7, 4, 167, 0, 4, 3, 172, 78, 42, 45, 182, 0, 161, 172]
abbrev dktX0_allergic_1 : List UInt8 := dkwX0_allergic_1 ++ []
def dkwX0_allergic_0 : List UInt8 := [42, 27, 182, 0, 181, 42, 180, 0, 90, 180, 0, 210, 27, 51, 62, 42, 180, 0, 90, 180, 0, 210, 27, 28]
abbrev dktX0_allergic_0 : List UInt8 := dkwX0_allergic_0 ++ dktX0_allergic_1
theorem dksX0_allergic_0 : cX0_allergic.data.toList.drop 0 = dktX0_allergic_0 := by decide +kernel
theorem dksX0_allergic_1 : cX0_allergic.data.toList.drop 24 = dktX0_allergic_1 := dk_seg dksX0_allergic_0 24 rfl rfl
theorem dX0_allergic_0 : decode cX0_allergic 0 = .ok (.aload_n 0, 1) := dk_42 (dk_at dksX0_allergic_0 0 rfl rfl)
theorem dX0_allergic_1 : decode cX0_allergic 1 = .ok (.iload_n 1, 1) := dk_27 (dk_at dksX0_allergic_0 1 rfl rfl)
theorem dX0_allergic_2 : decode cX0_allergic 2 = .ok (.invokevirtual 181, 3) := dk_182 0 181 (dk_at dksX0_allergic_0 2 rfl rfl)
theorem dX0_allergic_5 : decode cX0_allergic 5 = .ok (.aload_n 0, 1) := dk_42 (dk_at dksX0_allergic_0 5 rfl rfl)
theorem dX0_allergic_6 : decode cX0_allergic 6 = .ok (.getfield 90, 3) := dk_180 0 90 (dk_at dksX0_allergic_0 6 rfl rfl)
theorem dX0_allergic_9 : decode cX0_allergic 9 = .ok (.getfield 210, 3) := dk_180 0 210 (dk_at dksX0_allergic_0 9 rfl rfl)
theorem dX0_allergic_12 : decode cX0_allergic 12 = .ok (.iload_n 1, 1) := dk_27 (dk_at dksX0_allergic_0 12 rfl rfl)
theorem dX0_allergic_13 : decode cX0_allergic 13 = .ok (.baload, 1) := dk_51 (dk_at dksX0_allergic_0 13 rfl rfl)
theorem dX0_allergic_14 : decode cX0_allergic 14 = .ok (.istore_n 3, 1) := dk_62 (dk_at dksX0_allergic_0 14 rfl rfl)
theorem dX0_allergic_15 : decode cX0_allergic 15 = .ok (.aload_n 0, 1) := dk_42 (dk_at dksX0_allergic_0 15 rfl rfl)
theorem dX0_allergic_16 : decode cX0_allergic 16 = .ok (.getfield 90, 3) := dk_180 0 90 (dk_at dksX0_allergic_0 16 rfl rfl)
theorem dX0_allergic_19 : decode cX0_allergic 19 = .ok (.getfield 210, 3) := dk_180 0 210 (dk_at dksX0_allergic_0 19 rfl rfl)
theorem dX0_allergic_22 : decode cX0_allergic 22 = .ok (.iload_n 1, 1) := dk_27 (dk_at dksX0_allergic_0 22 rfl rfl)
theorem dX0_allergic_23 : decode cX0_allergic 23 = .ok (.iload_n 2, 1) := dk_28 (dk_at dksX0_allergic_0 23 rfl rfl)
theorem dX0_allergic_24 : decode cX0_allergic 24 = .ok (.bastore, 1) := dk_84 (dk_at dksX0_allergic_1 0 rfl rfl)
theorem dX0_allergic_25 : decode cX0_allergic 25 = .ok (.iload_n 3, 1) := dk_29 (dk_at dksX0_allergic_1 1 rfl rfl)
theorem dX0_allergic_26 : decode cX0_allergic 26 = .ok (.iload_n 2, 1) := dk_28 (dk_at dksX0_allergic_1 2 rfl rfl)
theorem dX0_allergic_27 : decode cX0_allergic 27 = .ok (.if_icmp .eq 7, 3) := dk_159 0 7 (dk_at dksX0_allergic_1 3 rfl rfl)
theorem dX0_allergic_30 : decode cX0_allergic 30 = .ok (.iconst 1, 1) := dk_4 (dk_at dksX0_allergic_1 6 rfl rfl)
theorem dX0_allergic_31 : decode cX0_allergic 31 = .ok (.goto 4, 3) := dk_167 0 4 (dk_at dksX0_allergic_1 7 rfl rfl)
theorem dX0_allergic_34 : decode cX0_allergic 34 = .ok (.iconst 0, 1) := dk_3 (dk_at dksX0_allergic_1 10 rfl rfl)
theorem dX0_allergic_35 : decode cX0_allergic 35 = .ok (.ireturn, 1) := dk_172 (dk_at dksX0_allergic_1 11 rfl rfl)
theorem dX0_allergic_36 : decode cX0_allergic 36 = .ok (.astore_n 3, 1) := dk_78 (dk_at dksX0_allergic_1 12 rfl rfl)
theorem dX0_allergic_37 : decode cX0_allergic 37 = .ok (.aload_n 0, 1) := dk_42 (dk_at dksX0_allergic_1 13 rfl rfl)
theorem dX0_allergic_38 : decode cX0_allergic 38 = .ok (.aload_n 3, 1) := dk_45 (dk_at dksX0_allergic_1 14 rfl rfl)
theorem dX0_allergic_39 : decode cX0_allergic 39 = .ok (.invokevirtual 161, 3) := dk_182 0 161 (dk_at dksX0_allergic_1 15 rfl rfl)
theorem dX0_allergic_42 : decode cX0_allergic 42 = .ok (.ireturn, 1) := dk_172 (dk_at dksX0_allergic_1 18 rfl rfl)
abbrev cX0_ask : ByteArray := prog_1_method_26_code
def yX0_ask : MethodName := ⟨RX0, "ask", "(II)I"⟩
def dkwX0_ask_4 : List UInt8 := [180, 0, 225, 180, 0, 237, 27, 6, 100, 28, 79, 29, 172, 78, 42, 45, 182, 0, 161, 172]
abbrev dktX0_ask_4 : List UInt8 := dkwX0_ask_4 ++ []
def dkwX0_ask_3 : List UInt8 := [181, 0, 231, 167, 0, 32, 42, 180, 0, 90, 180, 0, 225, 28, 181, 0, 234, 167, 0, 18, 42, 180, 0, 90]
abbrev dktX0_ask_3 : List UInt8 := dkwX0_ask_3 ++ dktX0_ask_4
def dkwX0_ask_2 : List UInt8 := [42, 180, 0, 90, 180, 0, 225, 28, 181, 0, 228, 167, 0, 46, 42, 180, 0, 90, 180, 0, 225, 28]
abbrev dktX0_ask_2 : List UInt8 := dkwX0_ask_2 ++ dktX0_ask_3
def dkwX0_ask_1 : List UInt8 := [170, 0, 0, 0, 0, 0, 69, 0, 0, 0, 0, 0, 0, 0, 2, 0, 0, 0, 27, 0, 0, 0, 41, 0, 0, 0, 55]
abbrev dktX0_ask_1 : List UInt8 := dkwX0_ask_1 ++ dktX0_ask_2
def dkwX0_ask_0 : List UInt8 := [27, 28, 184, 0, 240, 16, 250, 184, 0, 112, 42, 27, 182, 0, 244, 62, 27]
abbrev dktX0_ask_0 : List UInt8 := dkwX0_ask_0 ++ dktX0_ask_1
theorem dksX0_ask_0 : cX0_ask.data.toList.drop 0 = dktX0_ask_0 := by decide +kernel
theorem dksX0_ask_1 : cX0_ask.data.toList.drop 17 = dktX0_ask_1 := dk_seg dksX0_ask_0 17 rfl rfl
theorem dksX0_ask_2 : cX0_ask.data.toList.drop 44 = dktX0_ask_2 := dk_seg dksX0_ask_1 27 rfl rfl
theorem dksX0_ask_3 : cX0_ask.data.toList.drop 66 = dktX0_ask_3 := dk_seg dksX0_ask_2 22 rfl rfl
theorem dksX0_ask_4 : cX0_ask.data.toList.drop 90 = dktX0_ask_4 := dk_seg dksX0_ask_3 24 rfl rfl
theorem dX0_ask_0 : decode cX0_ask 0 = .ok (.iload_n 1, 1) := dk_27 (dk_at dksX0_ask_0 0 rfl rfl)
theorem dX0_ask_1 : decode cX0_ask 1 = .ok (.iload_n 2, 1) := dk_28 (dk_at dksX0_ask_0 1 rfl rfl)
theorem dX0_ask_2 : decode cX0_ask 2 = .ok (.invokestatic 240, 3) := dk_184 0 240 (dk_at dksX0_ask_0 2 rfl rfl)
theorem dX0_ask_5 : decode cX0_ask 5 = .ok (.bipush (-6), 2) := dk_16 250 (dk_at dksX0_ask_0 5 rfl rfl)
theorem dX0_ask_7 : decode cX0_ask 7 = .ok (.invokestatic 112, 3) := dk_184 0 112 (dk_at dksX0_ask_0 7 rfl rfl)
theorem dX0_ask_10 : decode cX0_ask 10 = .ok (.aload_n 0, 1) := dk_42 (dk_at dksX0_ask_0 10 rfl rfl)
theorem dX0_ask_11 : decode cX0_ask 11 = .ok (.iload_n 1, 1) := dk_27 (dk_at dksX0_ask_0 11 rfl rfl)
theorem dX0_ask_12 : decode cX0_ask 12 = .ok (.invokevirtual 244, 3) := dk_182 0 244 (dk_at dksX0_ask_0 12 rfl rfl)
theorem dX0_ask_15 : decode cX0_ask 15 = .ok (.istore_n 3, 1) := dk_62 (dk_at dksX0_ask_0 15 rfl rfl)
theorem dX0_ask_16 : decode cX0_ask 16 = .ok (.iload_n 1, 1) := dk_27 (dk_at dksX0_ask_0 16 rfl rfl)
theorem dX0_ask_17 : decode cX0_ask 17 = .ok (.tableswitch 69 0 2 #[27, 41, 55], 27) := by decide +kernel
theorem dX0_ask_44 : decode cX0_ask 44 = .ok (.aload_n 0, 1) := dk_42 (dk_at dksX0_ask_2 0 rfl rfl)
theorem dX0_ask_45 : decode cX0_ask 45 = .ok (.getfield 90, 3) := dk_180 0 90 (dk_at dksX0_ask_2 1 rfl rfl)
theorem dX0_ask_48 : decode cX0_ask 48 = .ok (.getfield 225, 3) := dk_180 0 225 (dk_at dksX0_ask_2 4 rfl rfl)
theorem dX0_ask_51 : decode cX0_ask 51 = .ok (.iload_n 2, 1) := dk_28 (dk_at dksX0_ask_2 7 rfl rfl)
theorem dX0_ask_52 : decode cX0_ask 52 = .ok (.putfield 228, 3) := dk_181 0 228 (dk_at dksX0_ask_2 8 rfl rfl)
theorem dX0_ask_55 : decode cX0_ask 55 = .ok (.goto 46, 3) := dk_167 0 46 (dk_at dksX0_ask_2 11 rfl rfl)
theorem dX0_ask_58 : decode cX0_ask 58 = .ok (.aload_n 0, 1) := dk_42 (dk_at dksX0_ask_2 14 rfl rfl)
theorem dX0_ask_59 : decode cX0_ask 59 = .ok (.getfield 90, 3) := dk_180 0 90 (dk_at dksX0_ask_2 15 rfl rfl)
theorem dX0_ask_62 : decode cX0_ask 62 = .ok (.getfield 225, 3) := dk_180 0 225 (dk_at dksX0_ask_2 18 rfl rfl)
theorem dX0_ask_65 : decode cX0_ask 65 = .ok (.iload_n 2, 1) := dk_28 (dk_at dksX0_ask_2 21 rfl rfl)
theorem dX0_ask_66 : decode cX0_ask 66 = .ok (.putfield 231, 3) := dk_181 0 231 (dk_at dksX0_ask_3 0 rfl rfl)
theorem dX0_ask_69 : decode cX0_ask 69 = .ok (.goto 32, 3) := dk_167 0 32 (dk_at dksX0_ask_3 3 rfl rfl)
theorem dX0_ask_72 : decode cX0_ask 72 = .ok (.aload_n 0, 1) := dk_42 (dk_at dksX0_ask_3 6 rfl rfl)
theorem dX0_ask_73 : decode cX0_ask 73 = .ok (.getfield 90, 3) := dk_180 0 90 (dk_at dksX0_ask_3 7 rfl rfl)
theorem dX0_ask_76 : decode cX0_ask 76 = .ok (.getfield 225, 3) := dk_180 0 225 (dk_at dksX0_ask_3 10 rfl rfl)
theorem dX0_ask_79 : decode cX0_ask 79 = .ok (.iload_n 2, 1) := dk_28 (dk_at dksX0_ask_3 13 rfl rfl)
theorem dX0_ask_80 : decode cX0_ask 80 = .ok (.putfield 234, 3) := dk_181 0 234 (dk_at dksX0_ask_3 14 rfl rfl)
theorem dX0_ask_83 : decode cX0_ask 83 = .ok (.goto 18, 3) := dk_167 0 18 (dk_at dksX0_ask_3 17 rfl rfl)
theorem dX0_ask_86 : decode cX0_ask 86 = .ok (.aload_n 0, 1) := dk_42 (dk_at dksX0_ask_3 20 rfl rfl)
theorem dX0_ask_87 : decode cX0_ask 87 = .ok (.getfield 90, 3) := dk_180 0 90 (dk_at dksX0_ask_3 21 rfl rfl)
theorem dX0_ask_90 : decode cX0_ask 90 = .ok (.getfield 225, 3) := dk_180 0 225 (dk_at dksX0_ask_4 0 rfl rfl)
theorem dX0_ask_93 : decode cX0_ask 93 = .ok (.getfield 237, 3) := dk_180 0 237 (dk_at dksX0_ask_4 3 rfl rfl)
theorem dX0_ask_96 : decode cX0_ask 96 = .ok (.iload_n 1, 1) := dk_27 (dk_at dksX0_ask_4 6 rfl rfl)
theorem dX0_ask_97 : decode cX0_ask 97 = .ok (.iconst 3, 1) := dk_6 (dk_at dksX0_ask_4 7 rfl rfl)
theorem dX0_ask_98 : decode cX0_ask 98 = .ok (.isub, 1) := dk_100 (dk_at dksX0_ask_4 8 rfl rfl)
theorem dX0_ask_99 : decode cX0_ask 99 = .ok (.iload_n 2, 1) := dk_28 (dk_at dksX0_ask_4 9 rfl rfl)
theorem dX0_ask_100 : decode cX0_ask 100 = .ok (.iastore, 1) := dk_79 (dk_at dksX0_ask_4 10 rfl rfl)
theorem dX0_ask_101 : decode cX0_ask 101 = .ok (.iload_n 3, 1) := dk_29 (dk_at dksX0_ask_4 11 rfl rfl)
theorem dX0_ask_102 : decode cX0_ask 102 = .ok (.ireturn, 1) := dk_172 (dk_at dksX0_ask_4 12 rfl rfl)
theorem dX0_ask_103 : decode cX0_ask 103 = .ok (.astore_n 3, 1) := dk_78 (dk_at dksX0_ask_4 13 rfl rfl)
theorem dX0_ask_104 : decode cX0_ask 104 = .ok (.aload_n 0, 1) := dk_42 (dk_at dksX0_ask_4 14 rfl rfl)
theorem dX0_ask_105 : decode cX0_ask 105 = .ok (.aload_n 3, 1) := dk_45 (dk_at dksX0_ask_4 15 rfl rfl)
theorem dX0_ask_106 : decode cX0_ask 106 = .ok (.invokevirtual 161, 3) := dk_182 0 161 (dk_at dksX0_ask_4 16 rfl rfl)
theorem dX0_ask_109 : decode cX0_ask 109 = .ok (.ireturn, 1) := dk_172 (dk_at dksX0_ask_4 19 rfl rfl)
abbrev cX0_mayAsk : ByteArray := prog_1_method_24_code
def yX0_mayAsk : MethodName := ⟨RX0, "mayAsk", "(II)Z"⟩
def dkwX0_mayAsk_5 : List UInt8 := [167, 0, 4, 3, 172]
abbrev dktX0_mayAsk_5 : List UInt8 := dkwX0_mayAsk_5 ++ []
def dkwX0_mayAsk_4 : List UInt8 := [184, 0, 153, 172, 26, 8, 160, 0, 19, 27, 133, 9, 20, 0, 223, 184, 0, 153, 153, 0, 7, 4]
abbrev dktX0_mayAsk_4 : List UInt8 := dkwX0_mayAsk_4 ++ dktX0_mayAsk_5
def dkwX0_mayAsk_3 : List UInt8 := [20, 0, 221, 184, 0, 153, 172, 27, 133, 9, 20, 0, 190, 184, 0, 153, 172, 27, 133, 10, 20, 0, 221]
abbrev dktX0_mayAsk_3 : List UInt8 := dkwX0_mayAsk_3 ++ dktX0_mayAsk_4
def dkwX0_mayAsk_2 : List UInt8 := [27, 133, 9, 20, 0, 217, 184, 0, 153, 172, 27, 133, 9, 20, 0, 219, 184, 0, 153, 172, 27, 133, 9]
abbrev dktX0_mayAsk_2 : List UInt8 := dkwX0_mayAsk_2 ++ dktX0_mayAsk_3
def dkwX0_mayAsk_1 : List UInt8 := [170, 0, 0, 0, 0, 0, 85, 0, 0, 0, 0, 0, 0, 0, 4, 0, 0, 0, 35, 0, 0, 0, 45, 0, 0, 0, 55, 0, 0, 0, 65, 0, 0, 0, 75]
abbrev dktX0_mayAsk_1 : List UInt8 := dkwX0_mayAsk_1 ++ dktX0_mayAsk_2
def dkwX0_mayAsk_0 : List UInt8 := [26]
abbrev dktX0_mayAsk_0 : List UInt8 := dkwX0_mayAsk_0 ++ dktX0_mayAsk_1
theorem dksX0_mayAsk_0 : cX0_mayAsk.data.toList.drop 0 = dktX0_mayAsk_0 := by decide +kernel
theorem dksX0_mayAsk_1 : cX0_mayAsk.data.toList.drop 1 = dktX0_mayAsk_1 := dk_seg dksX0_mayAsk_0 1 rfl rfl
theorem dksX0_mayAsk_2 : cX0_mayAsk.data.toList.drop 36 = dktX0_mayAsk_2 := dk_seg dksX0_mayAsk_1 35 rfl rfl
theorem dksX0_mayAsk_3 : cX0_mayAsk.data.toList.drop 59 = dktX0_mayAsk_3 := dk_seg dksX0_mayAsk_2 23 rfl rfl
theorem dksX0_mayAsk_4 : cX0_mayAsk.data.toList.drop 82 = dktX0_mayAsk_4 := dk_seg dksX0_mayAsk_3 23 rfl rfl
theorem dksX0_mayAsk_5 : cX0_mayAsk.data.toList.drop 104 = dktX0_mayAsk_5 := dk_seg dksX0_mayAsk_4 22 rfl rfl
theorem dX0_mayAsk_0 : decode cX0_mayAsk 0 = .ok (.iload_n 0, 1) := dk_26 (dk_at dksX0_mayAsk_0 0 rfl rfl)
theorem dX0_mayAsk_1 : decode cX0_mayAsk 1 = .ok (.tableswitch 85 0 4 #[35, 45, 55, 65, 75], 35) := by decide +kernel
theorem dX0_mayAsk_36 : decode cX0_mayAsk 36 = .ok (.iload_n 1, 1) := dk_27 (dk_at dksX0_mayAsk_2 0 rfl rfl)
theorem dX0_mayAsk_37 : decode cX0_mayAsk 37 = .ok (.i2l, 1) := dk_133 (dk_at dksX0_mayAsk_2 1 rfl rfl)
theorem dX0_mayAsk_38 : decode cX0_mayAsk 38 = .ok (.lconst 0, 1) := dk_9 (dk_at dksX0_mayAsk_2 2 rfl rfl)
theorem dX0_mayAsk_39 : decode cX0_mayAsk 39 = .ok (.ldc2_w 217, 3) := dk_20 0 217 (dk_at dksX0_mayAsk_2 3 rfl rfl)
theorem dX0_mayAsk_42 : decode cX0_mayAsk 42 = .ok (.invokestatic 153, 3) := dk_184 0 153 (dk_at dksX0_mayAsk_2 6 rfl rfl)
theorem dX0_mayAsk_45 : decode cX0_mayAsk 45 = .ok (.ireturn, 1) := dk_172 (dk_at dksX0_mayAsk_2 9 rfl rfl)
theorem dX0_mayAsk_46 : decode cX0_mayAsk 46 = .ok (.iload_n 1, 1) := dk_27 (dk_at dksX0_mayAsk_2 10 rfl rfl)
theorem dX0_mayAsk_47 : decode cX0_mayAsk 47 = .ok (.i2l, 1) := dk_133 (dk_at dksX0_mayAsk_2 11 rfl rfl)
theorem dX0_mayAsk_48 : decode cX0_mayAsk 48 = .ok (.lconst 0, 1) := dk_9 (dk_at dksX0_mayAsk_2 12 rfl rfl)
theorem dX0_mayAsk_49 : decode cX0_mayAsk 49 = .ok (.ldc2_w 219, 3) := dk_20 0 219 (dk_at dksX0_mayAsk_2 13 rfl rfl)
theorem dX0_mayAsk_52 : decode cX0_mayAsk 52 = .ok (.invokestatic 153, 3) := dk_184 0 153 (dk_at dksX0_mayAsk_2 16 rfl rfl)
theorem dX0_mayAsk_55 : decode cX0_mayAsk 55 = .ok (.ireturn, 1) := dk_172 (dk_at dksX0_mayAsk_2 19 rfl rfl)
theorem dX0_mayAsk_56 : decode cX0_mayAsk 56 = .ok (.iload_n 1, 1) := dk_27 (dk_at dksX0_mayAsk_2 20 rfl rfl)
theorem dX0_mayAsk_57 : decode cX0_mayAsk 57 = .ok (.i2l, 1) := dk_133 (dk_at dksX0_mayAsk_2 21 rfl rfl)
theorem dX0_mayAsk_58 : decode cX0_mayAsk 58 = .ok (.lconst 0, 1) := dk_9 (dk_at dksX0_mayAsk_2 22 rfl rfl)
theorem dX0_mayAsk_59 : decode cX0_mayAsk 59 = .ok (.ldc2_w 221, 3) := dk_20 0 221 (dk_at dksX0_mayAsk_3 0 rfl rfl)
theorem dX0_mayAsk_62 : decode cX0_mayAsk 62 = .ok (.invokestatic 153, 3) := dk_184 0 153 (dk_at dksX0_mayAsk_3 3 rfl rfl)
theorem dX0_mayAsk_65 : decode cX0_mayAsk 65 = .ok (.ireturn, 1) := dk_172 (dk_at dksX0_mayAsk_3 6 rfl rfl)
theorem dX0_mayAsk_66 : decode cX0_mayAsk 66 = .ok (.iload_n 1, 1) := dk_27 (dk_at dksX0_mayAsk_3 7 rfl rfl)
theorem dX0_mayAsk_67 : decode cX0_mayAsk 67 = .ok (.i2l, 1) := dk_133 (dk_at dksX0_mayAsk_3 8 rfl rfl)
theorem dX0_mayAsk_68 : decode cX0_mayAsk 68 = .ok (.lconst 0, 1) := dk_9 (dk_at dksX0_mayAsk_3 9 rfl rfl)
theorem dX0_mayAsk_69 : decode cX0_mayAsk 69 = .ok (.ldc2_w 190, 3) := dk_20 0 190 (dk_at dksX0_mayAsk_3 10 rfl rfl)
theorem dX0_mayAsk_72 : decode cX0_mayAsk 72 = .ok (.invokestatic 153, 3) := dk_184 0 153 (dk_at dksX0_mayAsk_3 13 rfl rfl)
theorem dX0_mayAsk_75 : decode cX0_mayAsk 75 = .ok (.ireturn, 1) := dk_172 (dk_at dksX0_mayAsk_3 16 rfl rfl)
theorem dX0_mayAsk_76 : decode cX0_mayAsk 76 = .ok (.iload_n 1, 1) := dk_27 (dk_at dksX0_mayAsk_3 17 rfl rfl)
theorem dX0_mayAsk_77 : decode cX0_mayAsk 77 = .ok (.i2l, 1) := dk_133 (dk_at dksX0_mayAsk_3 18 rfl rfl)
theorem dX0_mayAsk_78 : decode cX0_mayAsk 78 = .ok (.lconst 1, 1) := dk_10 (dk_at dksX0_mayAsk_3 19 rfl rfl)
theorem dX0_mayAsk_79 : decode cX0_mayAsk 79 = .ok (.ldc2_w 221, 3) := dk_20 0 221 (dk_at dksX0_mayAsk_3 20 rfl rfl)
theorem dX0_mayAsk_82 : decode cX0_mayAsk 82 = .ok (.invokestatic 153, 3) := dk_184 0 153 (dk_at dksX0_mayAsk_4 0 rfl rfl)
theorem dX0_mayAsk_85 : decode cX0_mayAsk 85 = .ok (.ireturn, 1) := dk_172 (dk_at dksX0_mayAsk_4 3 rfl rfl)
theorem dX0_mayAsk_86 : decode cX0_mayAsk 86 = .ok (.iload_n 0, 1) := dk_26 (dk_at dksX0_mayAsk_4 4 rfl rfl)
theorem dX0_mayAsk_87 : decode cX0_mayAsk 87 = .ok (.iconst 5, 1) := dk_8 (dk_at dksX0_mayAsk_4 5 rfl rfl)
theorem dX0_mayAsk_88 : decode cX0_mayAsk 88 = .ok (.if_icmp .ne 19, 3) := dk_160 0 19 (dk_at dksX0_mayAsk_4 6 rfl rfl)
theorem dX0_mayAsk_91 : decode cX0_mayAsk 91 = .ok (.iload_n 1, 1) := dk_27 (dk_at dksX0_mayAsk_4 9 rfl rfl)
theorem dX0_mayAsk_92 : decode cX0_mayAsk 92 = .ok (.i2l, 1) := dk_133 (dk_at dksX0_mayAsk_4 10 rfl rfl)
theorem dX0_mayAsk_93 : decode cX0_mayAsk 93 = .ok (.lconst 0, 1) := dk_9 (dk_at dksX0_mayAsk_4 11 rfl rfl)
theorem dX0_mayAsk_94 : decode cX0_mayAsk 94 = .ok (.ldc2_w 223, 3) := dk_20 0 223 (dk_at dksX0_mayAsk_4 12 rfl rfl)
theorem dX0_mayAsk_97 : decode cX0_mayAsk 97 = .ok (.invokestatic 153, 3) := dk_184 0 153 (dk_at dksX0_mayAsk_4 15 rfl rfl)
theorem dX0_mayAsk_100 : decode cX0_mayAsk 100 = .ok (.ifCond .eq 7, 3) := dk_153 0 7 (dk_at dksX0_mayAsk_4 18 rfl rfl)
theorem dX0_mayAsk_103 : decode cX0_mayAsk 103 = .ok (.iconst 1, 1) := dk_4 (dk_at dksX0_mayAsk_4 21 rfl rfl)
theorem dX0_mayAsk_104 : decode cX0_mayAsk 104 = .ok (.goto 4, 3) := dk_167 0 4 (dk_at dksX0_mayAsk_5 0 rfl rfl)
theorem dX0_mayAsk_107 : decode cX0_mayAsk 107 = .ok (.iconst 0, 1) := dk_3 (dk_at dksX0_mayAsk_5 3 rfl rfl)
theorem dX0_mayAsk_108 : decode cX0_mayAsk 108 = .ok (.ireturn, 1) := dk_172 (dk_at dksX0_mayAsk_5 4 rfl rfl)
abbrev cX0_asked : ByteArray := prog_1_method_25_code
def yX0_asked : MethodName := ⟨RX0, "asked", "(I)I"⟩
def dkwX0_asked_4 : List UInt8 := [172]
abbrev dktX0_asked_4 : List UInt8 := dkwX0_asked_4 ++ []
def dkwX0_asked_3 : List UInt8 := [180, 0, 90, 180, 0, 225, 180, 0, 234, 172, 42, 180, 0, 90, 180, 0, 225, 180, 0, 237, 27, 6, 100, 46]
abbrev dktX0_asked_3 : List UInt8 := dkwX0_asked_3 ++ dktX0_asked_4
def dkwX0_asked_2 : List UInt8 := [42, 180, 0, 90, 180, 0, 225, 180, 0, 228, 172, 42, 180, 0, 90, 180, 0, 225, 180, 0, 231, 172, 42]
abbrev dktX0_asked_2 : List UInt8 := dkwX0_asked_2 ++ dktX0_asked_3
def dkwX0_asked_1 : List UInt8 := [170, 0, 0, 0, 0, 0, 60, 0, 0, 0, 0, 0, 0, 0, 2, 0, 0, 0, 27, 0, 0, 0, 38, 0, 0, 0, 49]
abbrev dktX0_asked_1 : List UInt8 := dkwX0_asked_1 ++ dktX0_asked_2
def dkwX0_asked_0 : List UInt8 := [27]
abbrev dktX0_asked_0 : List UInt8 := dkwX0_asked_0 ++ dktX0_asked_1
theorem dksX0_asked_0 : cX0_asked.data.toList.drop 0 = dktX0_asked_0 := by decide +kernel
theorem dksX0_asked_1 : cX0_asked.data.toList.drop 1 = dktX0_asked_1 := dk_seg dksX0_asked_0 1 rfl rfl
theorem dksX0_asked_2 : cX0_asked.data.toList.drop 28 = dktX0_asked_2 := dk_seg dksX0_asked_1 27 rfl rfl
theorem dksX0_asked_3 : cX0_asked.data.toList.drop 51 = dktX0_asked_3 := dk_seg dksX0_asked_2 23 rfl rfl
theorem dksX0_asked_4 : cX0_asked.data.toList.drop 75 = dktX0_asked_4 := dk_seg dksX0_asked_3 24 rfl rfl
theorem dX0_asked_0 : decode cX0_asked 0 = .ok (.iload_n 1, 1) := dk_27 (dk_at dksX0_asked_0 0 rfl rfl)
theorem dX0_asked_1 : decode cX0_asked 1 = .ok (.tableswitch 60 0 2 #[27, 38, 49], 27) := by decide +kernel
theorem dX0_asked_28 : decode cX0_asked 28 = .ok (.aload_n 0, 1) := dk_42 (dk_at dksX0_asked_2 0 rfl rfl)
theorem dX0_asked_29 : decode cX0_asked 29 = .ok (.getfield 90, 3) := dk_180 0 90 (dk_at dksX0_asked_2 1 rfl rfl)
theorem dX0_asked_32 : decode cX0_asked 32 = .ok (.getfield 225, 3) := dk_180 0 225 (dk_at dksX0_asked_2 4 rfl rfl)
theorem dX0_asked_35 : decode cX0_asked 35 = .ok (.getfield 228, 3) := dk_180 0 228 (dk_at dksX0_asked_2 7 rfl rfl)
theorem dX0_asked_38 : decode cX0_asked 38 = .ok (.ireturn, 1) := dk_172 (dk_at dksX0_asked_2 10 rfl rfl)
theorem dX0_asked_39 : decode cX0_asked 39 = .ok (.aload_n 0, 1) := dk_42 (dk_at dksX0_asked_2 11 rfl rfl)
theorem dX0_asked_40 : decode cX0_asked 40 = .ok (.getfield 90, 3) := dk_180 0 90 (dk_at dksX0_asked_2 12 rfl rfl)
theorem dX0_asked_43 : decode cX0_asked 43 = .ok (.getfield 225, 3) := dk_180 0 225 (dk_at dksX0_asked_2 15 rfl rfl)
theorem dX0_asked_46 : decode cX0_asked 46 = .ok (.getfield 231, 3) := dk_180 0 231 (dk_at dksX0_asked_2 18 rfl rfl)
theorem dX0_asked_49 : decode cX0_asked 49 = .ok (.ireturn, 1) := dk_172 (dk_at dksX0_asked_2 21 rfl rfl)
theorem dX0_asked_50 : decode cX0_asked 50 = .ok (.aload_n 0, 1) := dk_42 (dk_at dksX0_asked_2 22 rfl rfl)
theorem dX0_asked_51 : decode cX0_asked 51 = .ok (.getfield 90, 3) := dk_180 0 90 (dk_at dksX0_asked_3 0 rfl rfl)
theorem dX0_asked_54 : decode cX0_asked 54 = .ok (.getfield 225, 3) := dk_180 0 225 (dk_at dksX0_asked_3 3 rfl rfl)
theorem dX0_asked_57 : decode cX0_asked 57 = .ok (.getfield 234, 3) := dk_180 0 234 (dk_at dksX0_asked_3 6 rfl rfl)
theorem dX0_asked_60 : decode cX0_asked 60 = .ok (.ireturn, 1) := dk_172 (dk_at dksX0_asked_3 9 rfl rfl)
theorem dX0_asked_61 : decode cX0_asked 61 = .ok (.aload_n 0, 1) := dk_42 (dk_at dksX0_asked_3 10 rfl rfl)
theorem dX0_asked_62 : decode cX0_asked 62 = .ok (.getfield 90, 3) := dk_180 0 90 (dk_at dksX0_asked_3 11 rfl rfl)
theorem dX0_asked_65 : decode cX0_asked 65 = .ok (.getfield 225, 3) := dk_180 0 225 (dk_at dksX0_asked_3 14 rfl rfl)
theorem dX0_asked_68 : decode cX0_asked 68 = .ok (.getfield 237, 3) := dk_180 0 237 (dk_at dksX0_asked_3 17 rfl rfl)
theorem dX0_asked_71 : decode cX0_asked 71 = .ok (.iload_n 1, 1) := dk_27 (dk_at dksX0_asked_3 20 rfl rfl)
theorem dX0_asked_72 : decode cX0_asked 72 = .ok (.iconst 3, 1) := dk_6 (dk_at dksX0_asked_3 21 rfl rfl)
theorem dX0_asked_73 : decode cX0_asked 73 = .ok (.isub, 1) := dk_100 (dk_at dksX0_asked_3 22 rfl rfl)
theorem dX0_asked_74 : decode cX0_asked 74 = .ok (.iaload, 1) := dk_46 (dk_at dksX0_asked_3 23 rfl rfl)
theorem dX0_asked_75 : decode cX0_asked 75 = .ok (.ireturn, 1) := dk_172 (dk_at dksX0_asked_4 0 rfl rfl)
abbrev cX0_classOf : ByteArray := prog_1_method_27_code
def yX0_classOf : MethodName := ⟨RX0, "classOf", "(I)I"⟩
def dkwX0_classOf_3 : List UInt8 := [183, 0, 23, 191, 77, 42, 44, 182, 0, 161, 172]
abbrev dktX0_classOf_3 : List UInt8 := dkwX0_classOf_3 ++ []
def dkwX0_classOf_2 : List UInt8 := [181, 0, 90, 21, 4, 172, 58, 4, 42, 25, 4, 180, 1, 5, 181, 0, 94, 187, 0, 21, 89, 16, 250]
abbrev dktX0_classOf_2 : List UInt8 := dkwX0_classOf_2 ++ dktX0_classOf_3
def dkwX0_classOf_1 : List UInt8 := [180, 0, 90, 182, 0, 247, 78, 187, 0, 251, 89, 44, 45, 183, 0, 253, 182, 1, 0, 54, 4, 42, 45]
abbrev dktX0_classOf_1 : List UInt8 := dkwX0_classOf_1 ++ dktX0_classOf_2
def dkwX0_classOf_0 : List UInt8 := [42, 27, 182, 0, 147, 182, 0, 165, 77, 42, 2, 181, 0, 94, 187, 0, 87, 89, 183, 0, 89, 42]
abbrev dktX0_classOf_0 : List UInt8 := dkwX0_classOf_0 ++ dktX0_classOf_1
theorem dksX0_classOf_0 : cX0_classOf.data.toList.drop 0 = dktX0_classOf_0 := by decide +kernel
theorem dksX0_classOf_1 : cX0_classOf.data.toList.drop 22 = dktX0_classOf_1 := dk_seg dksX0_classOf_0 22 rfl rfl
theorem dksX0_classOf_2 : cX0_classOf.data.toList.drop 45 = dktX0_classOf_2 := dk_seg dksX0_classOf_1 23 rfl rfl
theorem dksX0_classOf_3 : cX0_classOf.data.toList.drop 68 = dktX0_classOf_3 := dk_seg dksX0_classOf_2 23 rfl rfl
theorem dX0_classOf_0 : decode cX0_classOf 0 = .ok (.aload_n 0, 1) := dk_42 (dk_at dksX0_classOf_0 0 rfl rfl)
theorem dX0_classOf_1 : decode cX0_classOf 1 = .ok (.iload_n 1, 1) := dk_27 (dk_at dksX0_classOf_0 1 rfl rfl)
theorem dX0_classOf_2 : decode cX0_classOf 2 = .ok (.invokevirtual 147, 3) := dk_182 0 147 (dk_at dksX0_classOf_0 2 rfl rfl)
theorem dX0_classOf_5 : decode cX0_classOf 5 = .ok (.invokevirtual 165, 3) := dk_182 0 165 (dk_at dksX0_classOf_0 5 rfl rfl)
theorem dX0_classOf_8 : decode cX0_classOf 8 = .ok (.astore_n 2, 1) := dk_77 (dk_at dksX0_classOf_0 8 rfl rfl)
theorem dX0_classOf_9 : decode cX0_classOf 9 = .ok (.aload_n 0, 1) := dk_42 (dk_at dksX0_classOf_0 9 rfl rfl)
theorem dX0_classOf_10 : decode cX0_classOf 10 = .ok (.iconst (-1), 1) := dk_2 (dk_at dksX0_classOf_0 10 rfl rfl)
theorem dX0_classOf_11 : decode cX0_classOf 11 = .ok (.putfield 94, 3) := dk_181 0 94 (dk_at dksX0_classOf_0 11 rfl rfl)
theorem dX0_classOf_14 : decode cX0_classOf 14 = .ok (.new 87, 3) := dk_187 0 87 (dk_at dksX0_classOf_0 14 rfl rfl)
theorem dX0_classOf_17 : decode cX0_classOf 17 = .ok (.dup, 1) := dk_89 (dk_at dksX0_classOf_0 17 rfl rfl)
theorem dX0_classOf_18 : decode cX0_classOf 18 = .ok (.invokespecial 89, 3) := dk_183 0 89 (dk_at dksX0_classOf_0 18 rfl rfl)
theorem dX0_classOf_21 : decode cX0_classOf 21 = .ok (.aload_n 0, 1) := dk_42 (dk_at dksX0_classOf_0 21 rfl rfl)
theorem dX0_classOf_22 : decode cX0_classOf 22 = .ok (.getfield 90, 3) := dk_180 0 90 (dk_at dksX0_classOf_1 0 rfl rfl)
theorem dX0_classOf_25 : decode cX0_classOf 25 = .ok (.invokevirtual 247, 3) := dk_182 0 247 (dk_at dksX0_classOf_1 3 rfl rfl)
theorem dX0_classOf_28 : decode cX0_classOf 28 = .ok (.astore_n 3, 1) := dk_78 (dk_at dksX0_classOf_1 6 rfl rfl)
theorem dX0_classOf_29 : decode cX0_classOf 29 = .ok (.new 251, 3) := dk_187 0 251 (dk_at dksX0_classOf_1 7 rfl rfl)
theorem dX0_classOf_32 : decode cX0_classOf 32 = .ok (.dup, 1) := dk_89 (dk_at dksX0_classOf_1 10 rfl rfl)
theorem dX0_classOf_33 : decode cX0_classOf 33 = .ok (.aload_n 2, 1) := dk_44 (dk_at dksX0_classOf_1 11 rfl rfl)
theorem dX0_classOf_34 : decode cX0_classOf 34 = .ok (.aload_n 3, 1) := dk_45 (dk_at dksX0_classOf_1 12 rfl rfl)
theorem dX0_classOf_35 : decode cX0_classOf 35 = .ok (.invokespecial 253, 3) := dk_183 0 253 (dk_at dksX0_classOf_1 13 rfl rfl)
theorem dX0_classOf_38 : decode cX0_classOf 38 = .ok (.invokevirtual 256, 3) := dk_182 1 0 (dk_at dksX0_classOf_1 16 rfl rfl)
theorem dX0_classOf_41 : decode cX0_classOf 41 = .ok (.istore 4, 2) := dk_54 4 (dk_at dksX0_classOf_1 19 rfl rfl)
theorem dX0_classOf_43 : decode cX0_classOf 43 = .ok (.aload_n 0, 1) := dk_42 (dk_at dksX0_classOf_1 21 rfl rfl)
theorem dX0_classOf_44 : decode cX0_classOf 44 = .ok (.aload_n 3, 1) := dk_45 (dk_at dksX0_classOf_1 22 rfl rfl)
theorem dX0_classOf_45 : decode cX0_classOf 45 = .ok (.putfield 90, 3) := dk_181 0 90 (dk_at dksX0_classOf_2 0 rfl rfl)
theorem dX0_classOf_48 : decode cX0_classOf 48 = .ok (.iload 4, 2) := dk_21 4 (dk_at dksX0_classOf_2 3 rfl rfl)
theorem dX0_classOf_50 : decode cX0_classOf 50 = .ok (.ireturn, 1) := dk_172 (dk_at dksX0_classOf_2 5 rfl rfl)
theorem dX0_classOf_51 : decode cX0_classOf 51 = .ok (.astore 4, 2) := dk_58 4 (dk_at dksX0_classOf_2 6 rfl rfl)
theorem dX0_classOf_53 : decode cX0_classOf 53 = .ok (.aload_n 0, 1) := dk_42 (dk_at dksX0_classOf_2 8 rfl rfl)
theorem dX0_classOf_54 : decode cX0_classOf 54 = .ok (.aload 4, 2) := dk_25 4 (dk_at dksX0_classOf_2 9 rfl rfl)
theorem dX0_classOf_56 : decode cX0_classOf 56 = .ok (.getfield 261, 3) := dk_180 1 5 (dk_at dksX0_classOf_2 11 rfl rfl)
theorem dX0_classOf_59 : decode cX0_classOf 59 = .ok (.putfield 94, 3) := dk_181 0 94 (dk_at dksX0_classOf_2 14 rfl rfl)
theorem dX0_classOf_62 : decode cX0_classOf 62 = .ok (.new 21, 3) := dk_187 0 21 (dk_at dksX0_classOf_2 17 rfl rfl)
theorem dX0_classOf_65 : decode cX0_classOf 65 = .ok (.dup, 1) := dk_89 (dk_at dksX0_classOf_2 20 rfl rfl)
theorem dX0_classOf_66 : decode cX0_classOf 66 = .ok (.bipush (-6), 2) := dk_16 250 (dk_at dksX0_classOf_2 21 rfl rfl)
theorem dX0_classOf_68 : decode cX0_classOf 68 = .ok (.invokespecial 23, 3) := dk_183 0 23 (dk_at dksX0_classOf_3 0 rfl rfl)
theorem dX0_classOf_71 : decode cX0_classOf 71 = .ok (.athrow, 1) := dk_191 (dk_at dksX0_classOf_3 3 rfl rfl)
theorem dX0_classOf_72 : decode cX0_classOf 72 = .ok (.astore_n 2, 1) := dk_77 (dk_at dksX0_classOf_3 4 rfl rfl)
theorem dX0_classOf_73 : decode cX0_classOf 73 = .ok (.aload_n 0, 1) := dk_42 (dk_at dksX0_classOf_3 5 rfl rfl)
theorem dX0_classOf_74 : decode cX0_classOf 74 = .ok (.aload_n 2, 1) := dk_44 (dk_at dksX0_classOf_3 6 rfl rfl)
theorem dX0_classOf_75 : decode cX0_classOf 75 = .ok (.invokevirtual 161, 3) := dk_182 0 161 (dk_at dksX0_classOf_3 7 rfl rfl)
theorem dX0_classOf_78 : decode cX0_classOf 78 = .ok (.ireturn, 1) := dk_172 (dk_at dksX0_classOf_3 10 rfl rfl)
abbrev cX0_fault : ByteArray := prog_1_method_28_code
def yX0_fault : MethodName := ⟨RX0, "fault", "()I"⟩
theorem dX0_fault_0 : decode cX0_fault 0 = .ok (.aload_n 0, 1) := by decide +kernel
theorem dX0_fault_1 : decode cX0_fault 1 = .ok (.getfield 94, 3) := by decide +kernel
theorem dX0_fault_4 : decode cX0_fault 4 = .ok (.ireturn, 1) := by decide +kernel
abbrev cX0_norm : ByteArray := prog_1_method_29_code
def yX0_norm : MethodName := ⟨RX0, "norm", "(I)I"⟩
def dkwX0_norm_1 : List UInt8 := [182, 1, 8, 172, 77, 42, 44, 182, 0, 161, 172]
abbrev dktX0_norm_1 : List UInt8 := dkwX0_norm_1 ++ []
def dkwX0_norm_0 : List UInt8 := [27, 133, 9, 20, 0, 221, 184, 0, 153, 16, 250, 184, 0, 112, 42, 180, 0, 90, 180, 0, 225, 27]
abbrev dktX0_norm_0 : List UInt8 := dkwX0_norm_0 ++ dktX0_norm_1
theorem dksX0_norm_0 : cX0_norm.data.toList.drop 0 = dktX0_norm_0 := by decide +kernel
theorem dksX0_norm_1 : cX0_norm.data.toList.drop 22 = dktX0_norm_1 := dk_seg dksX0_norm_0 22 rfl rfl
theorem dX0_norm_0 : decode cX0_norm 0 = .ok (.iload_n 1, 1) := dk_27 (dk_at dksX0_norm_0 0 rfl rfl)
theorem dX0_norm_1 : decode cX0_norm 1 = .ok (.i2l, 1) := dk_133 (dk_at dksX0_norm_0 1 rfl rfl)
theorem dX0_norm_2 : decode cX0_norm 2 = .ok (.lconst 0, 1) := dk_9 (dk_at dksX0_norm_0 2 rfl rfl)
theorem dX0_norm_3 : decode cX0_norm 3 = .ok (.ldc2_w 221, 3) := dk_20 0 221 (dk_at dksX0_norm_0 3 rfl rfl)
theorem dX0_norm_6 : decode cX0_norm 6 = .ok (.invokestatic 153, 3) := dk_184 0 153 (dk_at dksX0_norm_0 6 rfl rfl)
theorem dX0_norm_9 : decode cX0_norm 9 = .ok (.bipush (-6), 2) := dk_16 250 (dk_at dksX0_norm_0 9 rfl rfl)
theorem dX0_norm_11 : decode cX0_norm 11 = .ok (.invokestatic 112, 3) := dk_184 0 112 (dk_at dksX0_norm_0 11 rfl rfl)
theorem dX0_norm_14 : decode cX0_norm 14 = .ok (.aload_n 0, 1) := dk_42 (dk_at dksX0_norm_0 14 rfl rfl)
theorem dX0_norm_15 : decode cX0_norm 15 = .ok (.getfield 90, 3) := dk_180 0 90 (dk_at dksX0_norm_0 15 rfl rfl)
theorem dX0_norm_18 : decode cX0_norm 18 = .ok (.getfield 225, 3) := dk_180 0 225 (dk_at dksX0_norm_0 18 rfl rfl)
theorem dX0_norm_21 : decode cX0_norm 21 = .ok (.iload_n 1, 1) := dk_27 (dk_at dksX0_norm_0 21 rfl rfl)
theorem dX0_norm_22 : decode cX0_norm 22 = .ok (.invokevirtual 264, 3) := dk_182 1 8 (dk_at dksX0_norm_1 0 rfl rfl)
theorem dX0_norm_25 : decode cX0_norm 25 = .ok (.ireturn, 1) := dk_172 (dk_at dksX0_norm_1 3 rfl rfl)
theorem dX0_norm_26 : decode cX0_norm 26 = .ok (.astore_n 2, 1) := dk_77 (dk_at dksX0_norm_1 4 rfl rfl)
theorem dX0_norm_27 : decode cX0_norm 27 = .ok (.aload_n 0, 1) := dk_42 (dk_at dksX0_norm_1 5 rfl rfl)
theorem dX0_norm_28 : decode cX0_norm 28 = .ok (.aload_n 2, 1) := dk_44 (dk_at dksX0_norm_1 6 rfl rfl)
theorem dX0_norm_29 : decode cX0_norm 29 = .ok (.invokevirtual 161, 3) := dk_182 0 161 (dk_at dksX0_norm_1 7 rfl rfl)
theorem dX0_norm_32 : decode cX0_norm 32 = .ok (.ireturn, 1) := dk_172 (dk_at dksX0_norm_1 10 rfl rfl)
abbrev cX0_judge : ByteArray := prog_1_method_34_code
def yX0_judge : MethodName := ⟨RX0, "judge", "(II)I"⟩
def dkwX0_judge_1 : List UInt8 := [45, 28, 182, 1, 52, 172, 78, 42, 45, 182, 0, 161, 16, 10, 100, 172]
abbrev dktX0_judge_1 : List UInt8 := dkwX0_judge_1 ++ []
def dkwX0_judge_0 : List UInt8 := [42, 27, 28, 182, 1, 56, 78, 28, 16, 40, 163, 0, 7, 4, 167, 0, 4, 3, 16, 250, 184, 0, 112, 42]
abbrev dktX0_judge_0 : List UInt8 := dkwX0_judge_0 ++ dktX0_judge_1
theorem dksX0_judge_0 : cX0_judge.data.toList.drop 0 = dktX0_judge_0 := by decide +kernel
theorem dksX0_judge_1 : cX0_judge.data.toList.drop 24 = dktX0_judge_1 := dk_seg dksX0_judge_0 24 rfl rfl
theorem dX0_judge_0 : decode cX0_judge 0 = .ok (.aload_n 0, 1) := dk_42 (dk_at dksX0_judge_0 0 rfl rfl)
theorem dX0_judge_1 : decode cX0_judge 1 = .ok (.iload_n 1, 1) := dk_27 (dk_at dksX0_judge_0 1 rfl rfl)
theorem dX0_judge_2 : decode cX0_judge 2 = .ok (.iload_n 2, 1) := dk_28 (dk_at dksX0_judge_0 2 rfl rfl)
theorem dX0_judge_3 : decode cX0_judge 3 = .ok (.invokevirtual 312, 3) := dk_182 1 56 (dk_at dksX0_judge_0 3 rfl rfl)
theorem dX0_judge_6 : decode cX0_judge 6 = .ok (.astore_n 3, 1) := dk_78 (dk_at dksX0_judge_0 6 rfl rfl)
theorem dX0_judge_7 : decode cX0_judge 7 = .ok (.iload_n 2, 1) := dk_28 (dk_at dksX0_judge_0 7 rfl rfl)
theorem dX0_judge_8 : decode cX0_judge 8 = .ok (.bipush 40, 2) := dk_16 40 (dk_at dksX0_judge_0 8 rfl rfl)
theorem dX0_judge_10 : decode cX0_judge 10 = .ok (.if_icmp .gt 7, 3) := dk_163 0 7 (dk_at dksX0_judge_0 10 rfl rfl)
theorem dX0_judge_13 : decode cX0_judge 13 = .ok (.iconst 1, 1) := dk_4 (dk_at dksX0_judge_0 13 rfl rfl)
theorem dX0_judge_14 : decode cX0_judge 14 = .ok (.goto 4, 3) := dk_167 0 4 (dk_at dksX0_judge_0 14 rfl rfl)
theorem dX0_judge_17 : decode cX0_judge 17 = .ok (.iconst 0, 1) := dk_3 (dk_at dksX0_judge_0 17 rfl rfl)
theorem dX0_judge_18 : decode cX0_judge 18 = .ok (.bipush (-6), 2) := dk_16 250 (dk_at dksX0_judge_0 18 rfl rfl)
theorem dX0_judge_20 : decode cX0_judge 20 = .ok (.invokestatic 112, 3) := dk_184 0 112 (dk_at dksX0_judge_0 20 rfl rfl)
theorem dX0_judge_23 : decode cX0_judge 23 = .ok (.aload_n 0, 1) := dk_42 (dk_at dksX0_judge_0 23 rfl rfl)
theorem dX0_judge_24 : decode cX0_judge 24 = .ok (.aload_n 3, 1) := dk_45 (dk_at dksX0_judge_1 0 rfl rfl)
theorem dX0_judge_25 : decode cX0_judge 25 = .ok (.iload_n 2, 1) := dk_28 (dk_at dksX0_judge_1 1 rfl rfl)
theorem dX0_judge_26 : decode cX0_judge 26 = .ok (.invokevirtual 308, 3) := dk_182 1 52 (dk_at dksX0_judge_1 2 rfl rfl)
theorem dX0_judge_29 : decode cX0_judge 29 = .ok (.ireturn, 1) := dk_172 (dk_at dksX0_judge_1 5 rfl rfl)
theorem dX0_judge_30 : decode cX0_judge 30 = .ok (.astore_n 3, 1) := dk_78 (dk_at dksX0_judge_1 6 rfl rfl)
theorem dX0_judge_31 : decode cX0_judge 31 = .ok (.aload_n 0, 1) := dk_42 (dk_at dksX0_judge_1 7 rfl rfl)
theorem dX0_judge_32 : decode cX0_judge 32 = .ok (.aload_n 3, 1) := dk_45 (dk_at dksX0_judge_1 8 rfl rfl)
theorem dX0_judge_33 : decode cX0_judge 33 = .ok (.invokevirtual 161, 3) := dk_182 0 161 (dk_at dksX0_judge_1 9 rfl rfl)
theorem dX0_judge_36 : decode cX0_judge 36 = .ok (.bipush 10, 2) := dk_16 10 (dk_at dksX0_judge_1 12 rfl rfl)
theorem dX0_judge_38 : decode cX0_judge 38 = .ok (.isub, 1) := dk_100 (dk_at dksX0_judge_1 14 rfl rfl)
theorem dX0_judge_39 : decode cX0_judge 39 = .ok (.ireturn, 1) := dk_172 (dk_at dksX0_judge_1 15 rfl rfl)
abbrev cX0_toldAt : ByteArray := prog_1_method_32_code
def yX0_toldAt : MethodName := ⟨RX0, "toldAt", "(II)LHamsterWeekends$Row;"⟩
def dkwX0_toldAt_1 : List UInt8 := [45, 182, 0, 11, 163, 0, 7, 4, 167, 0, 4, 3, 16, 251, 184, 0, 112, 45, 176]
abbrev dktX0_toldAt_1 : List UInt8 := dkwX0_toldAt_1 ++ []
def dkwX0_toldAt_0 : List UInt8 := [42, 27, 182, 0, 147, 182, 0, 165, 78, 28, 155, 0, 7, 4, 167, 0, 4, 3, 16, 252, 184, 0, 112, 28]
abbrev dktX0_toldAt_0 : List UInt8 := dkwX0_toldAt_0 ++ dktX0_toldAt_1
theorem dksX0_toldAt_0 : cX0_toldAt.data.toList.drop 0 = dktX0_toldAt_0 := by decide +kernel
theorem dksX0_toldAt_1 : cX0_toldAt.data.toList.drop 24 = dktX0_toldAt_1 := dk_seg dksX0_toldAt_0 24 rfl rfl
theorem dX0_toldAt_0 : decode cX0_toldAt 0 = .ok (.aload_n 0, 1) := dk_42 (dk_at dksX0_toldAt_0 0 rfl rfl)
theorem dX0_toldAt_1 : decode cX0_toldAt 1 = .ok (.iload_n 1, 1) := dk_27 (dk_at dksX0_toldAt_0 1 rfl rfl)
theorem dX0_toldAt_2 : decode cX0_toldAt 2 = .ok (.invokevirtual 147, 3) := dk_182 0 147 (dk_at dksX0_toldAt_0 2 rfl rfl)
theorem dX0_toldAt_5 : decode cX0_toldAt 5 = .ok (.invokevirtual 165, 3) := dk_182 0 165 (dk_at dksX0_toldAt_0 5 rfl rfl)
theorem dX0_toldAt_8 : decode cX0_toldAt 8 = .ok (.astore_n 3, 1) := dk_78 (dk_at dksX0_toldAt_0 8 rfl rfl)
theorem dX0_toldAt_9 : decode cX0_toldAt 9 = .ok (.iload_n 2, 1) := dk_28 (dk_at dksX0_toldAt_0 9 rfl rfl)
theorem dX0_toldAt_10 : decode cX0_toldAt 10 = .ok (.ifCond .lt 7, 3) := dk_155 0 7 (dk_at dksX0_toldAt_0 10 rfl rfl)
theorem dX0_toldAt_13 : decode cX0_toldAt 13 = .ok (.iconst 1, 1) := dk_4 (dk_at dksX0_toldAt_0 13 rfl rfl)
theorem dX0_toldAt_14 : decode cX0_toldAt 14 = .ok (.goto 4, 3) := dk_167 0 4 (dk_at dksX0_toldAt_0 14 rfl rfl)
theorem dX0_toldAt_17 : decode cX0_toldAt 17 = .ok (.iconst 0, 1) := dk_3 (dk_at dksX0_toldAt_0 17 rfl rfl)
theorem dX0_toldAt_18 : decode cX0_toldAt 18 = .ok (.bipush (-4), 2) := dk_16 252 (dk_at dksX0_toldAt_0 18 rfl rfl)
theorem dX0_toldAt_20 : decode cX0_toldAt 20 = .ok (.invokestatic 112, 3) := dk_184 0 112 (dk_at dksX0_toldAt_0 20 rfl rfl)
theorem dX0_toldAt_23 : decode cX0_toldAt 23 = .ok (.iload_n 2, 1) := dk_28 (dk_at dksX0_toldAt_0 23 rfl rfl)
theorem dX0_toldAt_24 : decode cX0_toldAt 24 = .ok (.aload_n 3, 1) := dk_45 (dk_at dksX0_toldAt_1 0 rfl rfl)
theorem dX0_toldAt_25 : decode cX0_toldAt 25 = .ok (.invokevirtual 11, 3) := dk_182 0 11 (dk_at dksX0_toldAt_1 1 rfl rfl)
theorem dX0_toldAt_28 : decode cX0_toldAt 28 = .ok (.if_icmp .gt 7, 3) := dk_163 0 7 (dk_at dksX0_toldAt_1 4 rfl rfl)
theorem dX0_toldAt_31 : decode cX0_toldAt 31 = .ok (.iconst 1, 1) := dk_4 (dk_at dksX0_toldAt_1 7 rfl rfl)
theorem dX0_toldAt_32 : decode cX0_toldAt 32 = .ok (.goto 4, 3) := dk_167 0 4 (dk_at dksX0_toldAt_1 8 rfl rfl)
theorem dX0_toldAt_35 : decode cX0_toldAt 35 = .ok (.iconst 0, 1) := dk_3 (dk_at dksX0_toldAt_1 11 rfl rfl)
theorem dX0_toldAt_36 : decode cX0_toldAt 36 = .ok (.bipush (-5), 2) := dk_16 251 (dk_at dksX0_toldAt_1 12 rfl rfl)
theorem dX0_toldAt_38 : decode cX0_toldAt 38 = .ok (.invokestatic 112, 3) := dk_184 0 112 (dk_at dksX0_toldAt_1 14 rfl rfl)
theorem dX0_toldAt_41 : decode cX0_toldAt 41 = .ok (.aload_n 3, 1) := dk_45 (dk_at dksX0_toldAt_1 17 rfl rfl)
theorem dX0_toldAt_42 : decode cX0_toldAt 42 = .ok (.areturn, 1) := dk_176 (dk_at dksX0_toldAt_1 18 rfl rfl)
abbrev cX0_wrongIn : ByteArray := prog_1_method_31_code
def yX0_wrongIn : MethodName := ⟨RX0, "wrongIn", "(LHamsterWeekends$Row;I)I"⟩
def dkwX0_wrongIn_2 : List UInt8 := [132, 3, 1, 167, 255, 209, 2, 172]
abbrev dktX0_wrongIn_2 : List UInt8 := dkwX0_wrongIn_2 ++ []
def dkwX0_wrongIn_1 : List UInt8 := [2, 159, 0, 21, 42, 180, 0, 90, 42, 180, 0, 81, 29, 46, 182, 1, 49, 154, 0, 5, 29, 172]
abbrev dktX0_wrongIn_1 : List UInt8 := dkwX0_wrongIn_1 ++ dktX0_wrongIn_2
def dkwX0_wrongIn_0 : List UInt8 := [3, 62, 29, 28, 162, 0, 48, 42, 180, 0, 81, 29, 43, 29, 182, 1, 46, 79, 42, 180, 0, 81, 29, 46]
abbrev dktX0_wrongIn_0 : List UInt8 := dkwX0_wrongIn_0 ++ dktX0_wrongIn_1
theorem dksX0_wrongIn_0 : cX0_wrongIn.data.toList.drop 0 = dktX0_wrongIn_0 := by decide +kernel
theorem dksX0_wrongIn_1 : cX0_wrongIn.data.toList.drop 24 = dktX0_wrongIn_1 := dk_seg dksX0_wrongIn_0 24 rfl rfl
theorem dksX0_wrongIn_2 : cX0_wrongIn.data.toList.drop 46 = dktX0_wrongIn_2 := dk_seg dksX0_wrongIn_1 22 rfl rfl
theorem dX0_wrongIn_0 : decode cX0_wrongIn 0 = .ok (.iconst 0, 1) := dk_3 (dk_at dksX0_wrongIn_0 0 rfl rfl)
theorem dX0_wrongIn_1 : decode cX0_wrongIn 1 = .ok (.istore_n 3, 1) := dk_62 (dk_at dksX0_wrongIn_0 1 rfl rfl)
theorem dX0_wrongIn_2 : decode cX0_wrongIn 2 = .ok (.iload_n 3, 1) := dk_29 (dk_at dksX0_wrongIn_0 2 rfl rfl)
theorem dX0_wrongIn_3 : decode cX0_wrongIn 3 = .ok (.iload_n 2, 1) := dk_28 (dk_at dksX0_wrongIn_0 3 rfl rfl)
theorem dX0_wrongIn_4 : decode cX0_wrongIn 4 = .ok (.if_icmp .ge 48, 3) := dk_162 0 48 (dk_at dksX0_wrongIn_0 4 rfl rfl)
theorem dX0_wrongIn_7 : decode cX0_wrongIn 7 = .ok (.aload_n 0, 1) := dk_42 (dk_at dksX0_wrongIn_0 7 rfl rfl)
theorem dX0_wrongIn_8 : decode cX0_wrongIn 8 = .ok (.getfield 81, 3) := dk_180 0 81 (dk_at dksX0_wrongIn_0 8 rfl rfl)
theorem dX0_wrongIn_11 : decode cX0_wrongIn 11 = .ok (.iload_n 3, 1) := dk_29 (dk_at dksX0_wrongIn_0 11 rfl rfl)
theorem dX0_wrongIn_12 : decode cX0_wrongIn 12 = .ok (.aload_n 1, 1) := dk_43 (dk_at dksX0_wrongIn_0 12 rfl rfl)
theorem dX0_wrongIn_13 : decode cX0_wrongIn 13 = .ok (.iload_n 3, 1) := dk_29 (dk_at dksX0_wrongIn_0 13 rfl rfl)
theorem dX0_wrongIn_14 : decode cX0_wrongIn 14 = .ok (.invokevirtual 302, 3) := dk_182 1 46 (dk_at dksX0_wrongIn_0 14 rfl rfl)
theorem dX0_wrongIn_17 : decode cX0_wrongIn 17 = .ok (.iastore, 1) := dk_79 (dk_at dksX0_wrongIn_0 17 rfl rfl)
theorem dX0_wrongIn_18 : decode cX0_wrongIn 18 = .ok (.aload_n 0, 1) := dk_42 (dk_at dksX0_wrongIn_0 18 rfl rfl)
theorem dX0_wrongIn_19 : decode cX0_wrongIn 19 = .ok (.getfield 81, 3) := dk_180 0 81 (dk_at dksX0_wrongIn_0 19 rfl rfl)
theorem dX0_wrongIn_22 : decode cX0_wrongIn 22 = .ok (.iload_n 3, 1) := dk_29 (dk_at dksX0_wrongIn_0 22 rfl rfl)
theorem dX0_wrongIn_23 : decode cX0_wrongIn 23 = .ok (.iaload, 1) := dk_46 (dk_at dksX0_wrongIn_0 23 rfl rfl)
theorem dX0_wrongIn_24 : decode cX0_wrongIn 24 = .ok (.iconst (-1), 1) := dk_2 (dk_at dksX0_wrongIn_1 0 rfl rfl)
theorem dX0_wrongIn_25 : decode cX0_wrongIn 25 = .ok (.if_icmp .eq 21, 3) := dk_159 0 21 (dk_at dksX0_wrongIn_1 1 rfl rfl)
theorem dX0_wrongIn_28 : decode cX0_wrongIn 28 = .ok (.aload_n 0, 1) := dk_42 (dk_at dksX0_wrongIn_1 4 rfl rfl)
theorem dX0_wrongIn_29 : decode cX0_wrongIn 29 = .ok (.getfield 90, 3) := dk_180 0 90 (dk_at dksX0_wrongIn_1 5 rfl rfl)
theorem dX0_wrongIn_32 : decode cX0_wrongIn 32 = .ok (.aload_n 0, 1) := dk_42 (dk_at dksX0_wrongIn_1 8 rfl rfl)
theorem dX0_wrongIn_33 : decode cX0_wrongIn 33 = .ok (.getfield 81, 3) := dk_180 0 81 (dk_at dksX0_wrongIn_1 9 rfl rfl)
theorem dX0_wrongIn_36 : decode cX0_wrongIn 36 = .ok (.iload_n 3, 1) := dk_29 (dk_at dksX0_wrongIn_1 12 rfl rfl)
theorem dX0_wrongIn_37 : decode cX0_wrongIn 37 = .ok (.iaload, 1) := dk_46 (dk_at dksX0_wrongIn_1 13 rfl rfl)
theorem dX0_wrongIn_38 : decode cX0_wrongIn 38 = .ok (.invokevirtual 305, 3) := dk_182 1 49 (dk_at dksX0_wrongIn_1 14 rfl rfl)
theorem dX0_wrongIn_41 : decode cX0_wrongIn 41 = .ok (.ifCond .ne 5, 3) := dk_154 0 5 (dk_at dksX0_wrongIn_1 17 rfl rfl)
theorem dX0_wrongIn_44 : decode cX0_wrongIn 44 = .ok (.iload_n 3, 1) := dk_29 (dk_at dksX0_wrongIn_1 20 rfl rfl)
theorem dX0_wrongIn_45 : decode cX0_wrongIn 45 = .ok (.ireturn, 1) := dk_172 (dk_at dksX0_wrongIn_1 21 rfl rfl)
theorem dX0_wrongIn_46 : decode cX0_wrongIn 46 = .ok (.iinc 3 1, 3) := dk_132 3 1 (dk_at dksX0_wrongIn_2 0 rfl rfl)
theorem dX0_wrongIn_49 : decode cX0_wrongIn 49 = .ok (.goto (-47), 3) := dk_167 255 209 (dk_at dksX0_wrongIn_2 3 rfl rfl)
theorem dX0_wrongIn_52 : decode cX0_wrongIn 52 = .ok (.iconst (-1), 1) := dk_2 (dk_at dksX0_wrongIn_2 6 rfl rfl)
theorem dX0_wrongIn_53 : decode cX0_wrongIn 53 = .ok (.ireturn, 1) := dk_172 (dk_at dksX0_wrongIn_2 7 rfl rfl)
abbrev cX0_behind : ByteArray := prog_1_method_35_code
def yX0_behind : MethodName := ⟨RX0, "behind", "(III)I"⟩
def dkwX0_behind_4 : List UInt8 := [42, 180, 1, 11, 172, 58, 4, 42, 25, 4, 182, 0, 161, 172]
abbrev dktX0_behind_4 : List UInt8 := dkwX0_behind_4 ++ []
def dkwX0_behind_3 : List UInt8 := [180, 0, 77, 180, 0, 231, 167, 0, 22, 29, 5, 160, 0, 13, 42, 180, 0, 77, 180, 0, 234, 167, 0, 7]
abbrev dktX0_behind_3 : List UInt8 := dkwX0_behind_3 ++ dktX0_behind_4
def dkwX0_behind_2 : List UInt8 := [182, 1, 66, 29, 154, 0, 13, 42, 180, 0, 77, 180, 0, 228, 167, 0, 37, 29, 4, 160, 0, 13, 42]
abbrev dktX0_behind_2 : List UInt8 := dkwX0_behind_2 ++ dktX0_behind_3
def dkwX0_behind_1 : List UInt8 := [25, 4, 28, 182, 1, 59, 42, 180, 0, 77, 42, 180, 0, 90, 180, 0, 225, 182, 1, 63, 87, 42, 28]
abbrev dktX0_behind_1 : List UInt8 := dkwX0_behind_1 ++ dktX0_behind_2
def dkwX0_behind_0 : List UInt8 := [42, 27, 28, 182, 1, 56, 58, 4, 29, 133, 9, 20, 0, 151, 184, 0, 153, 16, 251, 184, 0, 112, 42]
abbrev dktX0_behind_0 : List UInt8 := dkwX0_behind_0 ++ dktX0_behind_1
theorem dksX0_behind_0 : cX0_behind.data.toList.drop 0 = dktX0_behind_0 := by decide +kernel
theorem dksX0_behind_1 : cX0_behind.data.toList.drop 23 = dktX0_behind_1 := dk_seg dksX0_behind_0 23 rfl rfl
theorem dksX0_behind_2 : cX0_behind.data.toList.drop 46 = dktX0_behind_2 := dk_seg dksX0_behind_1 23 rfl rfl
theorem dksX0_behind_3 : cX0_behind.data.toList.drop 69 = dktX0_behind_3 := dk_seg dksX0_behind_2 23 rfl rfl
theorem dksX0_behind_4 : cX0_behind.data.toList.drop 93 = dktX0_behind_4 := dk_seg dksX0_behind_3 24 rfl rfl
theorem dX0_behind_0 : decode cX0_behind 0 = .ok (.aload_n 0, 1) := dk_42 (dk_at dksX0_behind_0 0 rfl rfl)
theorem dX0_behind_1 : decode cX0_behind 1 = .ok (.iload_n 1, 1) := dk_27 (dk_at dksX0_behind_0 1 rfl rfl)
theorem dX0_behind_2 : decode cX0_behind 2 = .ok (.iload_n 2, 1) := dk_28 (dk_at dksX0_behind_0 2 rfl rfl)
theorem dX0_behind_3 : decode cX0_behind 3 = .ok (.invokevirtual 312, 3) := dk_182 1 56 (dk_at dksX0_behind_0 3 rfl rfl)
theorem dX0_behind_6 : decode cX0_behind 6 = .ok (.astore 4, 2) := dk_58 4 (dk_at dksX0_behind_0 6 rfl rfl)
theorem dX0_behind_8 : decode cX0_behind 8 = .ok (.iload_n 3, 1) := dk_29 (dk_at dksX0_behind_0 8 rfl rfl)
theorem dX0_behind_9 : decode cX0_behind 9 = .ok (.i2l, 1) := dk_133 (dk_at dksX0_behind_0 9 rfl rfl)
theorem dX0_behind_10 : decode cX0_behind 10 = .ok (.lconst 0, 1) := dk_9 (dk_at dksX0_behind_0 10 rfl rfl)
theorem dX0_behind_11 : decode cX0_behind 11 = .ok (.ldc2_w 151, 3) := dk_20 0 151 (dk_at dksX0_behind_0 11 rfl rfl)
theorem dX0_behind_14 : decode cX0_behind 14 = .ok (.invokestatic 153, 3) := dk_184 0 153 (dk_at dksX0_behind_0 14 rfl rfl)
theorem dX0_behind_17 : decode cX0_behind 17 = .ok (.bipush (-5), 2) := dk_16 251 (dk_at dksX0_behind_0 17 rfl rfl)
theorem dX0_behind_19 : decode cX0_behind 19 = .ok (.invokestatic 112, 3) := dk_184 0 112 (dk_at dksX0_behind_0 19 rfl rfl)
theorem dX0_behind_22 : decode cX0_behind 22 = .ok (.aload_n 0, 1) := dk_42 (dk_at dksX0_behind_0 22 rfl rfl)
theorem dX0_behind_23 : decode cX0_behind 23 = .ok (.aload 4, 2) := dk_25 4 (dk_at dksX0_behind_1 0 rfl rfl)
theorem dX0_behind_25 : decode cX0_behind 25 = .ok (.iload_n 2, 1) := dk_28 (dk_at dksX0_behind_1 2 rfl rfl)
theorem dX0_behind_26 : decode cX0_behind 26 = .ok (.invokevirtual 315, 3) := dk_182 1 59 (dk_at dksX0_behind_1 3 rfl rfl)
theorem dX0_behind_29 : decode cX0_behind 29 = .ok (.aload_n 0, 1) := dk_42 (dk_at dksX0_behind_1 6 rfl rfl)
theorem dX0_behind_30 : decode cX0_behind 30 = .ok (.getfield 77, 3) := dk_180 0 77 (dk_at dksX0_behind_1 7 rfl rfl)
theorem dX0_behind_33 : decode cX0_behind 33 = .ok (.aload_n 0, 1) := dk_42 (dk_at dksX0_behind_1 10 rfl rfl)
theorem dX0_behind_34 : decode cX0_behind 34 = .ok (.getfield 90, 3) := dk_180 0 90 (dk_at dksX0_behind_1 11 rfl rfl)
theorem dX0_behind_37 : decode cX0_behind 37 = .ok (.getfield 225, 3) := dk_180 0 225 (dk_at dksX0_behind_1 14 rfl rfl)
theorem dX0_behind_40 : decode cX0_behind 40 = .ok (.invokevirtual 319, 3) := dk_182 1 63 (dk_at dksX0_behind_1 17 rfl rfl)
theorem dX0_behind_43 : decode cX0_behind 43 = .ok (.pop, 1) := dk_87 (dk_at dksX0_behind_1 20 rfl rfl)
theorem dX0_behind_44 : decode cX0_behind 44 = .ok (.aload_n 0, 1) := dk_42 (dk_at dksX0_behind_1 21 rfl rfl)
theorem dX0_behind_45 : decode cX0_behind 45 = .ok (.iload_n 2, 1) := dk_28 (dk_at dksX0_behind_1 22 rfl rfl)
theorem dX0_behind_46 : decode cX0_behind 46 = .ok (.invokevirtual 322, 3) := dk_182 1 66 (dk_at dksX0_behind_2 0 rfl rfl)
theorem dX0_behind_49 : decode cX0_behind 49 = .ok (.iload_n 3, 1) := dk_29 (dk_at dksX0_behind_2 3 rfl rfl)
theorem dX0_behind_50 : decode cX0_behind 50 = .ok (.ifCond .ne 13, 3) := dk_154 0 13 (dk_at dksX0_behind_2 4 rfl rfl)
theorem dX0_behind_53 : decode cX0_behind 53 = .ok (.aload_n 0, 1) := dk_42 (dk_at dksX0_behind_2 7 rfl rfl)
theorem dX0_behind_54 : decode cX0_behind 54 = .ok (.getfield 77, 3) := dk_180 0 77 (dk_at dksX0_behind_2 8 rfl rfl)
theorem dX0_behind_57 : decode cX0_behind 57 = .ok (.getfield 228, 3) := dk_180 0 228 (dk_at dksX0_behind_2 11 rfl rfl)
theorem dX0_behind_60 : decode cX0_behind 60 = .ok (.goto 37, 3) := dk_167 0 37 (dk_at dksX0_behind_2 14 rfl rfl)
theorem dX0_behind_63 : decode cX0_behind 63 = .ok (.iload_n 3, 1) := dk_29 (dk_at dksX0_behind_2 17 rfl rfl)
theorem dX0_behind_64 : decode cX0_behind 64 = .ok (.iconst 1, 1) := dk_4 (dk_at dksX0_behind_2 18 rfl rfl)
theorem dX0_behind_65 : decode cX0_behind 65 = .ok (.if_icmp .ne 13, 3) := dk_160 0 13 (dk_at dksX0_behind_2 19 rfl rfl)
theorem dX0_behind_68 : decode cX0_behind 68 = .ok (.aload_n 0, 1) := dk_42 (dk_at dksX0_behind_2 22 rfl rfl)
theorem dX0_behind_69 : decode cX0_behind 69 = .ok (.getfield 77, 3) := dk_180 0 77 (dk_at dksX0_behind_3 0 rfl rfl)
theorem dX0_behind_72 : decode cX0_behind 72 = .ok (.getfield 231, 3) := dk_180 0 231 (dk_at dksX0_behind_3 3 rfl rfl)
theorem dX0_behind_75 : decode cX0_behind 75 = .ok (.goto 22, 3) := dk_167 0 22 (dk_at dksX0_behind_3 6 rfl rfl)
theorem dX0_behind_78 : decode cX0_behind 78 = .ok (.iload_n 3, 1) := dk_29 (dk_at dksX0_behind_3 9 rfl rfl)
theorem dX0_behind_79 : decode cX0_behind 79 = .ok (.iconst 2, 1) := dk_5 (dk_at dksX0_behind_3 10 rfl rfl)
theorem dX0_behind_80 : decode cX0_behind 80 = .ok (.if_icmp .ne 13, 3) := dk_160 0 13 (dk_at dksX0_behind_3 11 rfl rfl)
theorem dX0_behind_83 : decode cX0_behind 83 = .ok (.aload_n 0, 1) := dk_42 (dk_at dksX0_behind_3 14 rfl rfl)
theorem dX0_behind_84 : decode cX0_behind 84 = .ok (.getfield 77, 3) := dk_180 0 77 (dk_at dksX0_behind_3 15 rfl rfl)
theorem dX0_behind_87 : decode cX0_behind 87 = .ok (.getfield 234, 3) := dk_180 0 234 (dk_at dksX0_behind_3 18 rfl rfl)
theorem dX0_behind_90 : decode cX0_behind 90 = .ok (.goto 7, 3) := dk_167 0 7 (dk_at dksX0_behind_3 21 rfl rfl)
theorem dX0_behind_93 : decode cX0_behind 93 = .ok (.aload_n 0, 1) := dk_42 (dk_at dksX0_behind_4 0 rfl rfl)
theorem dX0_behind_94 : decode cX0_behind 94 = .ok (.getfield 267, 3) := dk_180 1 11 (dk_at dksX0_behind_4 1 rfl rfl)
theorem dX0_behind_97 : decode cX0_behind 97 = .ok (.ireturn, 1) := dk_172 (dk_at dksX0_behind_4 4 rfl rfl)
theorem dX0_behind_98 : decode cX0_behind 98 = .ok (.astore 4, 2) := dk_58 4 (dk_at dksX0_behind_4 5 rfl rfl)
theorem dX0_behind_100 : decode cX0_behind 100 = .ok (.aload_n 0, 1) := dk_42 (dk_at dksX0_behind_4 7 rfl rfl)
theorem dX0_behind_101 : decode cX0_behind 101 = .ok (.aload 4, 2) := dk_25 4 (dk_at dksX0_behind_4 8 rfl rfl)
theorem dX0_behind_103 : decode cX0_behind 103 = .ok (.invokevirtual 161, 3) := dk_182 0 161 (dk_at dksX0_behind_4 10 rfl rfl)
theorem dX0_behind_106 : decode cX0_behind 106 = .ok (.ireturn, 1) := dk_172 (dk_at dksX0_behind_4 13 rfl rfl)
abbrev cX0_mustBeRight : ByteArray := prog_1_method_33_code
def yX0_mustBeRight : MethodName := ⟨RX0, "mustBeRight", "(LHamsterWeekends$Row;I)V"⟩
def dkwX0_mustBeRight_1 : List UInt8 := [184, 0, 112, 177]
abbrev dktX0_mustBeRight_1 : List UInt8 := dkwX0_mustBeRight_1 ++ []
def dkwX0_mustBeRight_0 : List UInt8 := [28, 16, 40, 163, 0, 17, 42, 43, 28, 182, 1, 52, 2, 160, 0, 7, 4, 167, 0, 4, 3, 16, 250]
abbrev dktX0_mustBeRight_0 : List UInt8 := dkwX0_mustBeRight_0 ++ dktX0_mustBeRight_1
theorem dksX0_mustBeRight_0 : cX0_mustBeRight.data.toList.drop 0 = dktX0_mustBeRight_0 := by decide +kernel
theorem dksX0_mustBeRight_1 : cX0_mustBeRight.data.toList.drop 23 = dktX0_mustBeRight_1 := dk_seg dksX0_mustBeRight_0 23 rfl rfl
theorem dX0_mustBeRight_0 : decode cX0_mustBeRight 0 = .ok (.iload_n 2, 1) := dk_28 (dk_at dksX0_mustBeRight_0 0 rfl rfl)
theorem dX0_mustBeRight_1 : decode cX0_mustBeRight 1 = .ok (.bipush 40, 2) := dk_16 40 (dk_at dksX0_mustBeRight_0 1 rfl rfl)
theorem dX0_mustBeRight_3 : decode cX0_mustBeRight 3 = .ok (.if_icmp .gt 17, 3) := dk_163 0 17 (dk_at dksX0_mustBeRight_0 3 rfl rfl)
theorem dX0_mustBeRight_6 : decode cX0_mustBeRight 6 = .ok (.aload_n 0, 1) := dk_42 (dk_at dksX0_mustBeRight_0 6 rfl rfl)
theorem dX0_mustBeRight_7 : decode cX0_mustBeRight 7 = .ok (.aload_n 1, 1) := dk_43 (dk_at dksX0_mustBeRight_0 7 rfl rfl)
theorem dX0_mustBeRight_8 : decode cX0_mustBeRight 8 = .ok (.iload_n 2, 1) := dk_28 (dk_at dksX0_mustBeRight_0 8 rfl rfl)
theorem dX0_mustBeRight_9 : decode cX0_mustBeRight 9 = .ok (.invokevirtual 308, 3) := dk_182 1 52 (dk_at dksX0_mustBeRight_0 9 rfl rfl)
theorem dX0_mustBeRight_12 : decode cX0_mustBeRight 12 = .ok (.iconst (-1), 1) := dk_2 (dk_at dksX0_mustBeRight_0 12 rfl rfl)
theorem dX0_mustBeRight_13 : decode cX0_mustBeRight 13 = .ok (.if_icmp .ne 7, 3) := dk_160 0 7 (dk_at dksX0_mustBeRight_0 13 rfl rfl)
theorem dX0_mustBeRight_16 : decode cX0_mustBeRight 16 = .ok (.iconst 1, 1) := dk_4 (dk_at dksX0_mustBeRight_0 16 rfl rfl)
theorem dX0_mustBeRight_17 : decode cX0_mustBeRight 17 = .ok (.goto 4, 3) := dk_167 0 4 (dk_at dksX0_mustBeRight_0 17 rfl rfl)
theorem dX0_mustBeRight_20 : decode cX0_mustBeRight 20 = .ok (.iconst 0, 1) := dk_3 (dk_at dksX0_mustBeRight_0 20 rfl rfl)
theorem dX0_mustBeRight_21 : decode cX0_mustBeRight 21 = .ok (.bipush (-6), 2) := dk_16 250 (dk_at dksX0_mustBeRight_0 21 rfl rfl)
theorem dX0_mustBeRight_23 : decode cX0_mustBeRight 23 = .ok (.invokestatic 112, 3) := dk_184 0 112 (dk_at dksX0_mustBeRight_1 0 rfl rfl)
theorem dX0_mustBeRight_26 : decode cX0_mustBeRight 26 = .ok (.return_, 1) := dk_177 (dk_at dksX0_mustBeRight_1 3 rfl rfl)
abbrev cX0_goesRow : ByteArray := prog_1_method_30_code
def yX0_goesRow : MethodName := ⟨RX0, "goesRow", "(I)V"⟩
def dkwX0_goesRow_6 : List UInt8 := [4, 167, 0, 4, 3, 96, 181, 1, 14, 42, 180, 0, 77, 182, 1, 43, 132, 2, 1, 167, 255, 130, 177]
abbrev dktX0_goesRow_6 : List UInt8 := dkwX0_goesRow_6 ++ []
def dkwX0_goesRow_5 : List UInt8 := [89, 180, 1, 14, 42, 180, 0, 77, 180, 0, 228, 16, 80, 100, 184, 1, 37, 42, 180, 1, 40, 161, 0, 7]
abbrev dktX0_goesRow_5 : List UInt8 := dkwX0_goesRow_5 ++ dktX0_goesRow_6
def dkwX0_goesRow_4 : List UInt8 := [180, 0, 228, 184, 1, 31, 181, 1, 17, 29, 153, 0, 54, 42, 89, 180, 1, 11, 4, 96, 181, 1, 11, 42]
abbrev dktX0_goesRow_4 : List UInt8 := dkwX0_goesRow_4 ++ dktX0_goesRow_5
def dkwX0_goesRow_3 : List UInt8 := [167, 0, 4, 3, 62, 42, 29, 153, 0, 7, 3, 167, 0, 17, 42, 180, 1, 17, 42, 180, 0, 77]
abbrev dktX0_goesRow_3 : List UInt8 := dkwX0_goesRow_3 ++ dktX0_goesRow_4
def dkwX0_goesRow_2 : List UInt8 := [42, 180, 0, 81, 28, 46, 182, 1, 20, 182, 1, 24, 42, 180, 0, 77, 182, 1, 28, 2, 159, 0, 7, 4]
abbrev dktX0_goesRow_2 : List UInt8 := dkwX0_goesRow_2 ++ dktX0_goesRow_3
def dkwX0_goesRow_1 : List UInt8 := [167, 0, 6, 17, 1, 144, 181, 1, 17, 3, 61, 28, 27, 162, 0, 127, 42, 180, 0, 77, 42, 180, 0, 90]
abbrev dktX0_goesRow_1 : List UInt8 := dkwX0_goesRow_1 ++ dktX0_goesRow_2
def dkwX0_goesRow_0 : List UInt8 := [42, 3, 181, 1, 11, 42, 3, 181, 1, 14, 42, 27, 154, 0, 13, 42, 180, 0, 77, 180, 0, 228]
abbrev dktX0_goesRow_0 : List UInt8 := dkwX0_goesRow_0 ++ dktX0_goesRow_1
theorem dksX0_goesRow_0 : cX0_goesRow.data.toList.drop 0 = dktX0_goesRow_0 := by decide +kernel
theorem dksX0_goesRow_1 : cX0_goesRow.data.toList.drop 22 = dktX0_goesRow_1 := dk_seg dksX0_goesRow_0 22 rfl rfl
theorem dksX0_goesRow_2 : cX0_goesRow.data.toList.drop 46 = dktX0_goesRow_2 := dk_seg dksX0_goesRow_1 24 rfl rfl
theorem dksX0_goesRow_3 : cX0_goesRow.data.toList.drop 70 = dktX0_goesRow_3 := dk_seg dksX0_goesRow_2 24 rfl rfl
theorem dksX0_goesRow_4 : cX0_goesRow.data.toList.drop 92 = dktX0_goesRow_4 := dk_seg dksX0_goesRow_3 22 rfl rfl
theorem dksX0_goesRow_5 : cX0_goesRow.data.toList.drop 116 = dktX0_goesRow_5 := dk_seg dksX0_goesRow_4 24 rfl rfl
theorem dksX0_goesRow_6 : cX0_goesRow.data.toList.drop 140 = dktX0_goesRow_6 := dk_seg dksX0_goesRow_5 24 rfl rfl
theorem dX0_goesRow_0 : decode cX0_goesRow 0 = .ok (.aload_n 0, 1) := dk_42 (dk_at dksX0_goesRow_0 0 rfl rfl)
theorem dX0_goesRow_1 : decode cX0_goesRow 1 = .ok (.iconst 0, 1) := dk_3 (dk_at dksX0_goesRow_0 1 rfl rfl)
theorem dX0_goesRow_2 : decode cX0_goesRow 2 = .ok (.putfield 267, 3) := dk_181 1 11 (dk_at dksX0_goesRow_0 2 rfl rfl)
theorem dX0_goesRow_5 : decode cX0_goesRow 5 = .ok (.aload_n 0, 1) := dk_42 (dk_at dksX0_goesRow_0 5 rfl rfl)
theorem dX0_goesRow_6 : decode cX0_goesRow 6 = .ok (.iconst 0, 1) := dk_3 (dk_at dksX0_goesRow_0 6 rfl rfl)
theorem dX0_goesRow_7 : decode cX0_goesRow 7 = .ok (.putfield 270, 3) := dk_181 1 14 (dk_at dksX0_goesRow_0 7 rfl rfl)
theorem dX0_goesRow_10 : decode cX0_goesRow 10 = .ok (.aload_n 0, 1) := dk_42 (dk_at dksX0_goesRow_0 10 rfl rfl)
theorem dX0_goesRow_11 : decode cX0_goesRow 11 = .ok (.iload_n 1, 1) := dk_27 (dk_at dksX0_goesRow_0 11 rfl rfl)
theorem dX0_goesRow_12 : decode cX0_goesRow 12 = .ok (.ifCond .ne 13, 3) := dk_154 0 13 (dk_at dksX0_goesRow_0 12 rfl rfl)
theorem dX0_goesRow_15 : decode cX0_goesRow 15 = .ok (.aload_n 0, 1) := dk_42 (dk_at dksX0_goesRow_0 15 rfl rfl)
theorem dX0_goesRow_16 : decode cX0_goesRow 16 = .ok (.getfield 77, 3) := dk_180 0 77 (dk_at dksX0_goesRow_0 16 rfl rfl)
theorem dX0_goesRow_19 : decode cX0_goesRow 19 = .ok (.getfield 228, 3) := dk_180 0 228 (dk_at dksX0_goesRow_0 19 rfl rfl)
theorem dX0_goesRow_22 : decode cX0_goesRow 22 = .ok (.goto 6, 3) := dk_167 0 6 (dk_at dksX0_goesRow_1 0 rfl rfl)
theorem dX0_goesRow_25 : decode cX0_goesRow 25 = .ok (.sipush 400, 3) := dk_17 1 144 (dk_at dksX0_goesRow_1 3 rfl rfl)
theorem dX0_goesRow_28 : decode cX0_goesRow 28 = .ok (.putfield 273, 3) := dk_181 1 17 (dk_at dksX0_goesRow_1 6 rfl rfl)
theorem dX0_goesRow_31 : decode cX0_goesRow 31 = .ok (.iconst 0, 1) := dk_3 (dk_at dksX0_goesRow_1 9 rfl rfl)
theorem dX0_goesRow_32 : decode cX0_goesRow 32 = .ok (.istore_n 2, 1) := dk_61 (dk_at dksX0_goesRow_1 10 rfl rfl)
theorem dX0_goesRow_33 : decode cX0_goesRow 33 = .ok (.iload_n 2, 1) := dk_28 (dk_at dksX0_goesRow_1 11 rfl rfl)
theorem dX0_goesRow_34 : decode cX0_goesRow 34 = .ok (.iload_n 1, 1) := dk_27 (dk_at dksX0_goesRow_1 12 rfl rfl)
theorem dX0_goesRow_35 : decode cX0_goesRow 35 = .ok (.if_icmp .ge 127, 3) := dk_162 0 127 (dk_at dksX0_goesRow_1 13 rfl rfl)
theorem dX0_goesRow_38 : decode cX0_goesRow 38 = .ok (.aload_n 0, 1) := dk_42 (dk_at dksX0_goesRow_1 16 rfl rfl)
theorem dX0_goesRow_39 : decode cX0_goesRow 39 = .ok (.getfield 77, 3) := dk_180 0 77 (dk_at dksX0_goesRow_1 17 rfl rfl)
theorem dX0_goesRow_42 : decode cX0_goesRow 42 = .ok (.aload_n 0, 1) := dk_42 (dk_at dksX0_goesRow_1 20 rfl rfl)
theorem dX0_goesRow_43 : decode cX0_goesRow 43 = .ok (.getfield 90, 3) := dk_180 0 90 (dk_at dksX0_goesRow_1 21 rfl rfl)
theorem dX0_goesRow_46 : decode cX0_goesRow 46 = .ok (.aload_n 0, 1) := dk_42 (dk_at dksX0_goesRow_2 0 rfl rfl)
theorem dX0_goesRow_47 : decode cX0_goesRow 47 = .ok (.getfield 81, 3) := dk_180 0 81 (dk_at dksX0_goesRow_2 1 rfl rfl)
theorem dX0_goesRow_50 : decode cX0_goesRow 50 = .ok (.iload_n 2, 1) := dk_28 (dk_at dksX0_goesRow_2 4 rfl rfl)
theorem dX0_goesRow_51 : decode cX0_goesRow 51 = .ok (.iaload, 1) := dk_46 (dk_at dksX0_goesRow_2 5 rfl rfl)
theorem dX0_goesRow_52 : decode cX0_goesRow 52 = .ok (.invokevirtual 276, 3) := dk_182 1 20 (dk_at dksX0_goesRow_2 6 rfl rfl)
theorem dX0_goesRow_55 : decode cX0_goesRow 55 = .ok (.invokevirtual 280, 3) := dk_182 1 24 (dk_at dksX0_goesRow_2 9 rfl rfl)
theorem dX0_goesRow_58 : decode cX0_goesRow 58 = .ok (.aload_n 0, 1) := dk_42 (dk_at dksX0_goesRow_2 12 rfl rfl)
theorem dX0_goesRow_59 : decode cX0_goesRow 59 = .ok (.getfield 77, 3) := dk_180 0 77 (dk_at dksX0_goesRow_2 13 rfl rfl)
theorem dX0_goesRow_62 : decode cX0_goesRow 62 = .ok (.invokevirtual 284, 3) := dk_182 1 28 (dk_at dksX0_goesRow_2 16 rfl rfl)
theorem dX0_goesRow_65 : decode cX0_goesRow 65 = .ok (.iconst (-1), 1) := dk_2 (dk_at dksX0_goesRow_2 19 rfl rfl)
theorem dX0_goesRow_66 : decode cX0_goesRow 66 = .ok (.if_icmp .eq 7, 3) := dk_159 0 7 (dk_at dksX0_goesRow_2 20 rfl rfl)
theorem dX0_goesRow_69 : decode cX0_goesRow 69 = .ok (.iconst 1, 1) := dk_4 (dk_at dksX0_goesRow_2 23 rfl rfl)
theorem dX0_goesRow_70 : decode cX0_goesRow 70 = .ok (.goto 4, 3) := dk_167 0 4 (dk_at dksX0_goesRow_3 0 rfl rfl)
theorem dX0_goesRow_73 : decode cX0_goesRow 73 = .ok (.iconst 0, 1) := dk_3 (dk_at dksX0_goesRow_3 3 rfl rfl)
theorem dX0_goesRow_74 : decode cX0_goesRow 74 = .ok (.istore_n 3, 1) := dk_62 (dk_at dksX0_goesRow_3 4 rfl rfl)
theorem dX0_goesRow_75 : decode cX0_goesRow 75 = .ok (.aload_n 0, 1) := dk_42 (dk_at dksX0_goesRow_3 5 rfl rfl)
theorem dX0_goesRow_76 : decode cX0_goesRow 76 = .ok (.iload_n 3, 1) := dk_29 (dk_at dksX0_goesRow_3 6 rfl rfl)
theorem dX0_goesRow_77 : decode cX0_goesRow 77 = .ok (.ifCond .eq 7, 3) := dk_153 0 7 (dk_at dksX0_goesRow_3 7 rfl rfl)
theorem dX0_goesRow_80 : decode cX0_goesRow 80 = .ok (.iconst 0, 1) := dk_3 (dk_at dksX0_goesRow_3 10 rfl rfl)
theorem dX0_goesRow_81 : decode cX0_goesRow 81 = .ok (.goto 17, 3) := dk_167 0 17 (dk_at dksX0_goesRow_3 11 rfl rfl)
theorem dX0_goesRow_84 : decode cX0_goesRow 84 = .ok (.aload_n 0, 1) := dk_42 (dk_at dksX0_goesRow_3 14 rfl rfl)
theorem dX0_goesRow_85 : decode cX0_goesRow 85 = .ok (.getfield 273, 3) := dk_180 1 17 (dk_at dksX0_goesRow_3 15 rfl rfl)
theorem dX0_goesRow_88 : decode cX0_goesRow 88 = .ok (.aload_n 0, 1) := dk_42 (dk_at dksX0_goesRow_3 18 rfl rfl)
theorem dX0_goesRow_89 : decode cX0_goesRow 89 = .ok (.getfield 77, 3) := dk_180 0 77 (dk_at dksX0_goesRow_3 19 rfl rfl)
theorem dX0_goesRow_92 : decode cX0_goesRow 92 = .ok (.getfield 228, 3) := dk_180 0 228 (dk_at dksX0_goesRow_4 0 rfl rfl)
theorem dX0_goesRow_95 : decode cX0_goesRow 95 = .ok (.invokestatic 287, 3) := dk_184 1 31 (dk_at dksX0_goesRow_4 3 rfl rfl)
theorem dX0_goesRow_98 : decode cX0_goesRow 98 = .ok (.putfield 273, 3) := dk_181 1 17 (dk_at dksX0_goesRow_4 6 rfl rfl)
theorem dX0_goesRow_101 : decode cX0_goesRow 101 = .ok (.iload_n 3, 1) := dk_29 (dk_at dksX0_goesRow_4 9 rfl rfl)
theorem dX0_goesRow_102 : decode cX0_goesRow 102 = .ok (.ifCond .eq 54, 3) := dk_153 0 54 (dk_at dksX0_goesRow_4 10 rfl rfl)
theorem dX0_goesRow_105 : decode cX0_goesRow 105 = .ok (.aload_n 0, 1) := dk_42 (dk_at dksX0_goesRow_4 13 rfl rfl)
theorem dX0_goesRow_106 : decode cX0_goesRow 106 = .ok (.dup, 1) := dk_89 (dk_at dksX0_goesRow_4 14 rfl rfl)
theorem dX0_goesRow_107 : decode cX0_goesRow 107 = .ok (.getfield 267, 3) := dk_180 1 11 (dk_at dksX0_goesRow_4 15 rfl rfl)
theorem dX0_goesRow_110 : decode cX0_goesRow 110 = .ok (.iconst 1, 1) := dk_4 (dk_at dksX0_goesRow_4 18 rfl rfl)
theorem dX0_goesRow_111 : decode cX0_goesRow 111 = .ok (.iadd, 1) := dk_96 (dk_at dksX0_goesRow_4 19 rfl rfl)
theorem dX0_goesRow_112 : decode cX0_goesRow 112 = .ok (.putfield 267, 3) := dk_181 1 11 (dk_at dksX0_goesRow_4 20 rfl rfl)
theorem dX0_goesRow_115 : decode cX0_goesRow 115 = .ok (.aload_n 0, 1) := dk_42 (dk_at dksX0_goesRow_4 23 rfl rfl)
theorem dX0_goesRow_116 : decode cX0_goesRow 116 = .ok (.dup, 1) := dk_89 (dk_at dksX0_goesRow_5 0 rfl rfl)
theorem dX0_goesRow_117 : decode cX0_goesRow 117 = .ok (.getfield 270, 3) := dk_180 1 14 (dk_at dksX0_goesRow_5 1 rfl rfl)
theorem dX0_goesRow_120 : decode cX0_goesRow 120 = .ok (.aload_n 0, 1) := dk_42 (dk_at dksX0_goesRow_5 4 rfl rfl)
theorem dX0_goesRow_121 : decode cX0_goesRow 121 = .ok (.getfield 77, 3) := dk_180 0 77 (dk_at dksX0_goesRow_5 5 rfl rfl)
theorem dX0_goesRow_124 : decode cX0_goesRow 124 = .ok (.getfield 228, 3) := dk_180 0 228 (dk_at dksX0_goesRow_5 8 rfl rfl)
theorem dX0_goesRow_127 : decode cX0_goesRow 127 = .ok (.bipush 80, 2) := dk_16 80 (dk_at dksX0_goesRow_5 11 rfl rfl)
theorem dX0_goesRow_129 : decode cX0_goesRow 129 = .ok (.isub, 1) := dk_100 (dk_at dksX0_goesRow_5 13 rfl rfl)
theorem dX0_goesRow_130 : decode cX0_goesRow 130 = .ok (.invokestatic 293, 3) := dk_184 1 37 (dk_at dksX0_goesRow_5 14 rfl rfl)
theorem dX0_goesRow_133 : decode cX0_goesRow 133 = .ok (.aload_n 0, 1) := dk_42 (dk_at dksX0_goesRow_5 17 rfl rfl)
theorem dX0_goesRow_134 : decode cX0_goesRow 134 = .ok (.getfield 296, 3) := dk_180 1 40 (dk_at dksX0_goesRow_5 18 rfl rfl)
theorem dX0_goesRow_137 : decode cX0_goesRow 137 = .ok (.if_icmp .lt 7, 3) := dk_161 0 7 (dk_at dksX0_goesRow_5 21 rfl rfl)
theorem dX0_goesRow_140 : decode cX0_goesRow 140 = .ok (.iconst 1, 1) := dk_4 (dk_at dksX0_goesRow_6 0 rfl rfl)
theorem dX0_goesRow_141 : decode cX0_goesRow 141 = .ok (.goto 4, 3) := dk_167 0 4 (dk_at dksX0_goesRow_6 1 rfl rfl)
theorem dX0_goesRow_144 : decode cX0_goesRow 144 = .ok (.iconst 0, 1) := dk_3 (dk_at dksX0_goesRow_6 4 rfl rfl)
theorem dX0_goesRow_145 : decode cX0_goesRow 145 = .ok (.iadd, 1) := dk_96 (dk_at dksX0_goesRow_6 5 rfl rfl)
theorem dX0_goesRow_146 : decode cX0_goesRow 146 = .ok (.putfield 270, 3) := dk_181 1 14 (dk_at dksX0_goesRow_6 6 rfl rfl)
theorem dX0_goesRow_149 : decode cX0_goesRow 149 = .ok (.aload_n 0, 1) := dk_42 (dk_at dksX0_goesRow_6 9 rfl rfl)
theorem dX0_goesRow_150 : decode cX0_goesRow 150 = .ok (.getfield 77, 3) := dk_180 0 77 (dk_at dksX0_goesRow_6 10 rfl rfl)
theorem dX0_goesRow_153 : decode cX0_goesRow 153 = .ok (.invokevirtual 299, 3) := dk_182 1 43 (dk_at dksX0_goesRow_6 13 rfl rfl)
theorem dX0_goesRow_156 : decode cX0_goesRow 156 = .ok (.iinc 2 1, 3) := dk_132 2 1 (dk_at dksX0_goesRow_6 16 rfl rfl)
theorem dX0_goesRow_159 : decode cX0_goesRow 159 = .ok (.goto (-126), 3) := dk_167 255 130 (dk_at dksX0_goesRow_6 19 rfl rfl)
theorem dX0_goesRow_162 : decode cX0_goesRow 162 = .ok (.return_, 1) := dk_177 (dk_at dksX0_goesRow_6 22 rfl rfl)
abbrev cX0_leastFeed : ByteArray := prog_1_method_36_code
def yX0_leastFeed : MethodName := ⟨RX0, "leastFeed", "(III)I"⟩
def dkwX0_leastFeed_4 : List UInt8 := [167, 255, 193, 2, 172, 58, 4, 42, 25, 4, 182, 0, 161, 16, 10, 100, 172]
abbrev dktX0_leastFeed_4 : List UInt8 := dkwX0_leastFeed_4 ++ []
def dkwX0_leastFeed_3 : List UInt8 := [180, 1, 11, 154, 0, 18, 28, 153, 0, 11, 42, 180, 1, 17, 29, 161, 0, 6, 21, 5, 172, 132, 5, 1]
abbrev dktX0_leastFeed_3 : List UInt8 := dkwX0_leastFeed_3 ++ dktX0_leastFeed_4
def dkwX0_leastFeed_2 : List UInt8 := [180, 0, 225, 182, 1, 63, 87, 42, 180, 0, 77, 180, 0, 237, 3, 21, 5, 79, 42, 28, 182, 1, 66, 42]
abbrev dktX0_leastFeed_2 : List UInt8 := dkwX0_leastFeed_2 ++ dktX0_leastFeed_3
def dkwX0_leastFeed_1 : List UInt8 := [25, 4, 28, 182, 1, 59, 3, 54, 5, 21, 5, 16, 9, 163, 0, 62, 42, 180, 0, 77, 42, 180, 0, 90]
abbrev dktX0_leastFeed_1 : List UInt8 := dkwX0_leastFeed_1 ++ dktX0_leastFeed_2
def dkwX0_leastFeed_0 : List UInt8 := [42, 27, 28, 182, 1, 56, 58, 4, 29, 133, 9, 20, 0, 217, 184, 0, 153, 16, 250, 184, 0, 112, 42]
abbrev dktX0_leastFeed_0 : List UInt8 := dkwX0_leastFeed_0 ++ dktX0_leastFeed_1
theorem dksX0_leastFeed_0 : cX0_leastFeed.data.toList.drop 0 = dktX0_leastFeed_0 := by decide +kernel
theorem dksX0_leastFeed_1 : cX0_leastFeed.data.toList.drop 23 = dktX0_leastFeed_1 := dk_seg dksX0_leastFeed_0 23 rfl rfl
theorem dksX0_leastFeed_2 : cX0_leastFeed.data.toList.drop 47 = dktX0_leastFeed_2 := dk_seg dksX0_leastFeed_1 24 rfl rfl
theorem dksX0_leastFeed_3 : cX0_leastFeed.data.toList.drop 71 = dktX0_leastFeed_3 := dk_seg dksX0_leastFeed_2 24 rfl rfl
theorem dksX0_leastFeed_4 : cX0_leastFeed.data.toList.drop 95 = dktX0_leastFeed_4 := dk_seg dksX0_leastFeed_3 24 rfl rfl
theorem dX0_leastFeed_0 : decode cX0_leastFeed 0 = .ok (.aload_n 0, 1) := dk_42 (dk_at dksX0_leastFeed_0 0 rfl rfl)
theorem dX0_leastFeed_1 : decode cX0_leastFeed 1 = .ok (.iload_n 1, 1) := dk_27 (dk_at dksX0_leastFeed_0 1 rfl rfl)
theorem dX0_leastFeed_2 : decode cX0_leastFeed 2 = .ok (.iload_n 2, 1) := dk_28 (dk_at dksX0_leastFeed_0 2 rfl rfl)
theorem dX0_leastFeed_3 : decode cX0_leastFeed 3 = .ok (.invokevirtual 312, 3) := dk_182 1 56 (dk_at dksX0_leastFeed_0 3 rfl rfl)
theorem dX0_leastFeed_6 : decode cX0_leastFeed 6 = .ok (.astore 4, 2) := dk_58 4 (dk_at dksX0_leastFeed_0 6 rfl rfl)
theorem dX0_leastFeed_8 : decode cX0_leastFeed 8 = .ok (.iload_n 3, 1) := dk_29 (dk_at dksX0_leastFeed_0 8 rfl rfl)
theorem dX0_leastFeed_9 : decode cX0_leastFeed 9 = .ok (.i2l, 1) := dk_133 (dk_at dksX0_leastFeed_0 9 rfl rfl)
theorem dX0_leastFeed_10 : decode cX0_leastFeed 10 = .ok (.lconst 0, 1) := dk_9 (dk_at dksX0_leastFeed_0 10 rfl rfl)
theorem dX0_leastFeed_11 : decode cX0_leastFeed 11 = .ok (.ldc2_w 217, 3) := dk_20 0 217 (dk_at dksX0_leastFeed_0 11 rfl rfl)
theorem dX0_leastFeed_14 : decode cX0_leastFeed 14 = .ok (.invokestatic 153, 3) := dk_184 0 153 (dk_at dksX0_leastFeed_0 14 rfl rfl)
theorem dX0_leastFeed_17 : decode cX0_leastFeed 17 = .ok (.bipush (-6), 2) := dk_16 250 (dk_at dksX0_leastFeed_0 17 rfl rfl)
theorem dX0_leastFeed_19 : decode cX0_leastFeed 19 = .ok (.invokestatic 112, 3) := dk_184 0 112 (dk_at dksX0_leastFeed_0 19 rfl rfl)
theorem dX0_leastFeed_22 : decode cX0_leastFeed 22 = .ok (.aload_n 0, 1) := dk_42 (dk_at dksX0_leastFeed_0 22 rfl rfl)
theorem dX0_leastFeed_23 : decode cX0_leastFeed 23 = .ok (.aload 4, 2) := dk_25 4 (dk_at dksX0_leastFeed_1 0 rfl rfl)
theorem dX0_leastFeed_25 : decode cX0_leastFeed 25 = .ok (.iload_n 2, 1) := dk_28 (dk_at dksX0_leastFeed_1 2 rfl rfl)
theorem dX0_leastFeed_26 : decode cX0_leastFeed 26 = .ok (.invokevirtual 315, 3) := dk_182 1 59 (dk_at dksX0_leastFeed_1 3 rfl rfl)
theorem dX0_leastFeed_29 : decode cX0_leastFeed 29 = .ok (.iconst 0, 1) := dk_3 (dk_at dksX0_leastFeed_1 6 rfl rfl)
theorem dX0_leastFeed_30 : decode cX0_leastFeed 30 = .ok (.istore 5, 2) := dk_54 5 (dk_at dksX0_leastFeed_1 7 rfl rfl)
theorem dX0_leastFeed_32 : decode cX0_leastFeed 32 = .ok (.iload 5, 2) := dk_21 5 (dk_at dksX0_leastFeed_1 9 rfl rfl)
theorem dX0_leastFeed_34 : decode cX0_leastFeed 34 = .ok (.bipush 9, 2) := dk_16 9 (dk_at dksX0_leastFeed_1 11 rfl rfl)
theorem dX0_leastFeed_36 : decode cX0_leastFeed 36 = .ok (.if_icmp .gt 62, 3) := dk_163 0 62 (dk_at dksX0_leastFeed_1 13 rfl rfl)
theorem dX0_leastFeed_39 : decode cX0_leastFeed 39 = .ok (.aload_n 0, 1) := dk_42 (dk_at dksX0_leastFeed_1 16 rfl rfl)
theorem dX0_leastFeed_40 : decode cX0_leastFeed 40 = .ok (.getfield 77, 3) := dk_180 0 77 (dk_at dksX0_leastFeed_1 17 rfl rfl)
theorem dX0_leastFeed_43 : decode cX0_leastFeed 43 = .ok (.aload_n 0, 1) := dk_42 (dk_at dksX0_leastFeed_1 20 rfl rfl)
theorem dX0_leastFeed_44 : decode cX0_leastFeed 44 = .ok (.getfield 90, 3) := dk_180 0 90 (dk_at dksX0_leastFeed_1 21 rfl rfl)
theorem dX0_leastFeed_47 : decode cX0_leastFeed 47 = .ok (.getfield 225, 3) := dk_180 0 225 (dk_at dksX0_leastFeed_2 0 rfl rfl)
theorem dX0_leastFeed_50 : decode cX0_leastFeed 50 = .ok (.invokevirtual 319, 3) := dk_182 1 63 (dk_at dksX0_leastFeed_2 3 rfl rfl)
theorem dX0_leastFeed_53 : decode cX0_leastFeed 53 = .ok (.pop, 1) := dk_87 (dk_at dksX0_leastFeed_2 6 rfl rfl)
theorem dX0_leastFeed_54 : decode cX0_leastFeed 54 = .ok (.aload_n 0, 1) := dk_42 (dk_at dksX0_leastFeed_2 7 rfl rfl)
theorem dX0_leastFeed_55 : decode cX0_leastFeed 55 = .ok (.getfield 77, 3) := dk_180 0 77 (dk_at dksX0_leastFeed_2 8 rfl rfl)
theorem dX0_leastFeed_58 : decode cX0_leastFeed 58 = .ok (.getfield 237, 3) := dk_180 0 237 (dk_at dksX0_leastFeed_2 11 rfl rfl)
theorem dX0_leastFeed_61 : decode cX0_leastFeed 61 = .ok (.iconst 0, 1) := dk_3 (dk_at dksX0_leastFeed_2 14 rfl rfl)
theorem dX0_leastFeed_62 : decode cX0_leastFeed 62 = .ok (.iload 5, 2) := dk_21 5 (dk_at dksX0_leastFeed_2 15 rfl rfl)
theorem dX0_leastFeed_64 : decode cX0_leastFeed 64 = .ok (.iastore, 1) := dk_79 (dk_at dksX0_leastFeed_2 17 rfl rfl)
theorem dX0_leastFeed_65 : decode cX0_leastFeed 65 = .ok (.aload_n 0, 1) := dk_42 (dk_at dksX0_leastFeed_2 18 rfl rfl)
theorem dX0_leastFeed_66 : decode cX0_leastFeed 66 = .ok (.iload_n 2, 1) := dk_28 (dk_at dksX0_leastFeed_2 19 rfl rfl)
theorem dX0_leastFeed_67 : decode cX0_leastFeed 67 = .ok (.invokevirtual 322, 3) := dk_182 1 66 (dk_at dksX0_leastFeed_2 20 rfl rfl)
theorem dX0_leastFeed_70 : decode cX0_leastFeed 70 = .ok (.aload_n 0, 1) := dk_42 (dk_at dksX0_leastFeed_2 23 rfl rfl)
theorem dX0_leastFeed_71 : decode cX0_leastFeed 71 = .ok (.getfield 267, 3) := dk_180 1 11 (dk_at dksX0_leastFeed_3 0 rfl rfl)
theorem dX0_leastFeed_74 : decode cX0_leastFeed 74 = .ok (.ifCond .ne 18, 3) := dk_154 0 18 (dk_at dksX0_leastFeed_3 3 rfl rfl)
theorem dX0_leastFeed_77 : decode cX0_leastFeed 77 = .ok (.iload_n 2, 1) := dk_28 (dk_at dksX0_leastFeed_3 6 rfl rfl)
theorem dX0_leastFeed_78 : decode cX0_leastFeed 78 = .ok (.ifCond .eq 11, 3) := dk_153 0 11 (dk_at dksX0_leastFeed_3 7 rfl rfl)
theorem dX0_leastFeed_81 : decode cX0_leastFeed 81 = .ok (.aload_n 0, 1) := dk_42 (dk_at dksX0_leastFeed_3 10 rfl rfl)
theorem dX0_leastFeed_82 : decode cX0_leastFeed 82 = .ok (.getfield 273, 3) := dk_180 1 17 (dk_at dksX0_leastFeed_3 11 rfl rfl)
theorem dX0_leastFeed_85 : decode cX0_leastFeed 85 = .ok (.iload_n 3, 1) := dk_29 (dk_at dksX0_leastFeed_3 14 rfl rfl)
theorem dX0_leastFeed_86 : decode cX0_leastFeed 86 = .ok (.if_icmp .lt 6, 3) := dk_161 0 6 (dk_at dksX0_leastFeed_3 15 rfl rfl)
theorem dX0_leastFeed_89 : decode cX0_leastFeed 89 = .ok (.iload 5, 2) := dk_21 5 (dk_at dksX0_leastFeed_3 18 rfl rfl)
theorem dX0_leastFeed_91 : decode cX0_leastFeed 91 = .ok (.ireturn, 1) := dk_172 (dk_at dksX0_leastFeed_3 20 rfl rfl)
theorem dX0_leastFeed_92 : decode cX0_leastFeed 92 = .ok (.iinc 5 1, 3) := dk_132 5 1 (dk_at dksX0_leastFeed_3 21 rfl rfl)
theorem dX0_leastFeed_95 : decode cX0_leastFeed 95 = .ok (.goto (-63), 3) := dk_167 255 193 (dk_at dksX0_leastFeed_4 0 rfl rfl)
theorem dX0_leastFeed_98 : decode cX0_leastFeed 98 = .ok (.iconst (-1), 1) := dk_2 (dk_at dksX0_leastFeed_4 3 rfl rfl)
theorem dX0_leastFeed_99 : decode cX0_leastFeed 99 = .ok (.ireturn, 1) := dk_172 (dk_at dksX0_leastFeed_4 4 rfl rfl)
theorem dX0_leastFeed_100 : decode cX0_leastFeed 100 = .ok (.astore 4, 2) := dk_58 4 (dk_at dksX0_leastFeed_4 5 rfl rfl)
theorem dX0_leastFeed_102 : decode cX0_leastFeed 102 = .ok (.aload_n 0, 1) := dk_42 (dk_at dksX0_leastFeed_4 7 rfl rfl)
theorem dX0_leastFeed_103 : decode cX0_leastFeed 103 = .ok (.aload 4, 2) := dk_25 4 (dk_at dksX0_leastFeed_4 8 rfl rfl)
theorem dX0_leastFeed_105 : decode cX0_leastFeed 105 = .ok (.invokevirtual 161, 3) := dk_182 0 161 (dk_at dksX0_leastFeed_4 10 rfl rfl)
theorem dX0_leastFeed_108 : decode cX0_leastFeed 108 = .ok (.bipush 10, 2) := dk_16 10 (dk_at dksX0_leastFeed_4 13 rfl rfl)
theorem dX0_leastFeed_110 : decode cX0_leastFeed 110 = .ok (.isub, 1) := dk_100 (dk_at dksX0_leastFeed_4 15 rfl rfl)
theorem dX0_leastFeed_111 : decode cX0_leastFeed 111 = .ok (.ireturn, 1) := dk_172 (dk_at dksX0_leastFeed_4 16 rfl rfl)
abbrev cX0_noticed : ByteArray := prog_1_method_37_code
def yX0_noticed : MethodName := ⟨RX0, "noticed", "(III)I"⟩
def dkwX0_noticed_2 : List UInt8 := [182, 1, 63, 87, 42, 28, 182, 1, 66, 42, 180, 1, 14, 172, 58, 4, 42, 25, 4, 182, 0, 161, 172]
abbrev dktX0_noticed_2 : List UInt8 := dkwX0_noticed_2 ++ []
def dkwX0_noticed_1 : List UInt8 := [25, 4, 28, 182, 1, 59, 42, 29, 181, 1, 40, 42, 180, 0, 77, 42, 180, 0, 90, 180, 0, 225]
abbrev dktX0_noticed_1 : List UInt8 := dkwX0_noticed_1 ++ dktX0_noticed_2
def dkwX0_noticed_0 : List UInt8 := [42, 27, 28, 182, 1, 56, 58, 4, 29, 133, 9, 20, 0, 217, 184, 0, 153, 16, 250, 184, 0, 112, 42]
abbrev dktX0_noticed_0 : List UInt8 := dkwX0_noticed_0 ++ dktX0_noticed_1
theorem dksX0_noticed_0 : cX0_noticed.data.toList.drop 0 = dktX0_noticed_0 := by decide +kernel
theorem dksX0_noticed_1 : cX0_noticed.data.toList.drop 23 = dktX0_noticed_1 := dk_seg dksX0_noticed_0 23 rfl rfl
theorem dksX0_noticed_2 : cX0_noticed.data.toList.drop 45 = dktX0_noticed_2 := dk_seg dksX0_noticed_1 22 rfl rfl
theorem dX0_noticed_0 : decode cX0_noticed 0 = .ok (.aload_n 0, 1) := dk_42 (dk_at dksX0_noticed_0 0 rfl rfl)
theorem dX0_noticed_1 : decode cX0_noticed 1 = .ok (.iload_n 1, 1) := dk_27 (dk_at dksX0_noticed_0 1 rfl rfl)
theorem dX0_noticed_2 : decode cX0_noticed 2 = .ok (.iload_n 2, 1) := dk_28 (dk_at dksX0_noticed_0 2 rfl rfl)
theorem dX0_noticed_3 : decode cX0_noticed 3 = .ok (.invokevirtual 312, 3) := dk_182 1 56 (dk_at dksX0_noticed_0 3 rfl rfl)
theorem dX0_noticed_6 : decode cX0_noticed 6 = .ok (.astore 4, 2) := dk_58 4 (dk_at dksX0_noticed_0 6 rfl rfl)
theorem dX0_noticed_8 : decode cX0_noticed 8 = .ok (.iload_n 3, 1) := dk_29 (dk_at dksX0_noticed_0 8 rfl rfl)
theorem dX0_noticed_9 : decode cX0_noticed 9 = .ok (.i2l, 1) := dk_133 (dk_at dksX0_noticed_0 9 rfl rfl)
theorem dX0_noticed_10 : decode cX0_noticed 10 = .ok (.lconst 0, 1) := dk_9 (dk_at dksX0_noticed_0 10 rfl rfl)
theorem dX0_noticed_11 : decode cX0_noticed 11 = .ok (.ldc2_w 217, 3) := dk_20 0 217 (dk_at dksX0_noticed_0 11 rfl rfl)
theorem dX0_noticed_14 : decode cX0_noticed 14 = .ok (.invokestatic 153, 3) := dk_184 0 153 (dk_at dksX0_noticed_0 14 rfl rfl)
theorem dX0_noticed_17 : decode cX0_noticed 17 = .ok (.bipush (-6), 2) := dk_16 250 (dk_at dksX0_noticed_0 17 rfl rfl)
theorem dX0_noticed_19 : decode cX0_noticed 19 = .ok (.invokestatic 112, 3) := dk_184 0 112 (dk_at dksX0_noticed_0 19 rfl rfl)
theorem dX0_noticed_22 : decode cX0_noticed 22 = .ok (.aload_n 0, 1) := dk_42 (dk_at dksX0_noticed_0 22 rfl rfl)
theorem dX0_noticed_23 : decode cX0_noticed 23 = .ok (.aload 4, 2) := dk_25 4 (dk_at dksX0_noticed_1 0 rfl rfl)
theorem dX0_noticed_25 : decode cX0_noticed 25 = .ok (.iload_n 2, 1) := dk_28 (dk_at dksX0_noticed_1 2 rfl rfl)
theorem dX0_noticed_26 : decode cX0_noticed 26 = .ok (.invokevirtual 315, 3) := dk_182 1 59 (dk_at dksX0_noticed_1 3 rfl rfl)
theorem dX0_noticed_29 : decode cX0_noticed 29 = .ok (.aload_n 0, 1) := dk_42 (dk_at dksX0_noticed_1 6 rfl rfl)
theorem dX0_noticed_30 : decode cX0_noticed 30 = .ok (.iload_n 3, 1) := dk_29 (dk_at dksX0_noticed_1 7 rfl rfl)
theorem dX0_noticed_31 : decode cX0_noticed 31 = .ok (.putfield 296, 3) := dk_181 1 40 (dk_at dksX0_noticed_1 8 rfl rfl)
theorem dX0_noticed_34 : decode cX0_noticed 34 = .ok (.aload_n 0, 1) := dk_42 (dk_at dksX0_noticed_1 11 rfl rfl)
theorem dX0_noticed_35 : decode cX0_noticed 35 = .ok (.getfield 77, 3) := dk_180 0 77 (dk_at dksX0_noticed_1 12 rfl rfl)
theorem dX0_noticed_38 : decode cX0_noticed 38 = .ok (.aload_n 0, 1) := dk_42 (dk_at dksX0_noticed_1 15 rfl rfl)
theorem dX0_noticed_39 : decode cX0_noticed 39 = .ok (.getfield 90, 3) := dk_180 0 90 (dk_at dksX0_noticed_1 16 rfl rfl)
theorem dX0_noticed_42 : decode cX0_noticed 42 = .ok (.getfield 225, 3) := dk_180 0 225 (dk_at dksX0_noticed_1 19 rfl rfl)
theorem dX0_noticed_45 : decode cX0_noticed 45 = .ok (.invokevirtual 319, 3) := dk_182 1 63 (dk_at dksX0_noticed_2 0 rfl rfl)
theorem dX0_noticed_48 : decode cX0_noticed 48 = .ok (.pop, 1) := dk_87 (dk_at dksX0_noticed_2 3 rfl rfl)
theorem dX0_noticed_49 : decode cX0_noticed 49 = .ok (.aload_n 0, 1) := dk_42 (dk_at dksX0_noticed_2 4 rfl rfl)
theorem dX0_noticed_50 : decode cX0_noticed 50 = .ok (.iload_n 2, 1) := dk_28 (dk_at dksX0_noticed_2 5 rfl rfl)
theorem dX0_noticed_51 : decode cX0_noticed 51 = .ok (.invokevirtual 322, 3) := dk_182 1 66 (dk_at dksX0_noticed_2 6 rfl rfl)
theorem dX0_noticed_54 : decode cX0_noticed 54 = .ok (.aload_n 0, 1) := dk_42 (dk_at dksX0_noticed_2 9 rfl rfl)
theorem dX0_noticed_55 : decode cX0_noticed 55 = .ok (.getfield 270, 3) := dk_180 1 14 (dk_at dksX0_noticed_2 10 rfl rfl)
theorem dX0_noticed_58 : decode cX0_noticed 58 = .ok (.ireturn, 1) := dk_172 (dk_at dksX0_noticed_2 13 rfl rfl)
theorem dX0_noticed_59 : decode cX0_noticed 59 = .ok (.astore 4, 2) := dk_58 4 (dk_at dksX0_noticed_2 14 rfl rfl)
theorem dX0_noticed_61 : decode cX0_noticed 61 = .ok (.aload_n 0, 1) := dk_42 (dk_at dksX0_noticed_2 16 rfl rfl)
theorem dX0_noticed_62 : decode cX0_noticed 62 = .ok (.aload 4, 2) := dk_25 4 (dk_at dksX0_noticed_2 17 rfl rfl)
theorem dX0_noticed_64 : decode cX0_noticed 64 = .ok (.invokevirtual 161, 3) := dk_182 0 161 (dk_at dksX0_noticed_2 19 rfl rfl)
theorem dX0_noticed_67 : decode cX0_noticed 67 = .ok (.ireturn, 1) := dk_172 (dk_at dksX0_noticed_2 22 rfl rfl)
abbrev cX0_swap : ByteArray := prog_1_method_39_code
def yX0_swap : MethodName := ⟨RX0, "swap", "(II)I"⟩
def dkwX0_swap_8 : List UInt8 := [16, 10, 100, 172]
abbrev dktX0_swap_8 : List UInt8 := dkwX0_swap_8 ++ []
def dkwX0_swap_7 : List UInt8 := [54, 6, 132, 8, 1, 167, 255, 156, 132, 7, 1, 167, 255, 138, 21, 4, 172, 78, 42, 45, 182, 0, 161]
abbrev dktX0_swap_7 : List UInt8 := dkwX0_swap_7 ++ dktX0_swap_8
def dkwX0_swap_6 : List UInt8 := [16, 100, 21, 7, 104, 21, 8, 96, 54, 4, 42, 180, 1, 11, 54, 5, 42, 180, 0, 77, 180, 0, 228]
abbrev dktX0_swap_6 : List UInt8 := dkwX0_swap_6 ++ dktX0_swap_7
def dkwX0_swap_5 : List UInt8 := [161, 0, 24, 42, 180, 1, 11, 21, 5, 160, 0, 40, 42, 180, 0, 77, 180, 0, 228, 21, 6, 164, 0, 28]
abbrev dktX0_swap_5 : List UInt8 := dkwX0_swap_5 ++ dktX0_swap_6
def dkwX0_swap_4 : List UInt8 := [182, 1, 63, 87, 42, 28, 182, 1, 66, 42, 21, 7, 21, 8, 182, 1, 69, 42, 180, 1, 11, 21, 5]
abbrev dktX0_swap_4 : List UInt8 := dkwX0_swap_4 ++ dktX0_swap_5
def dkwX0_swap_3 : List UInt8 := [162, 0, 100, 42, 21, 7, 21, 8, 182, 1, 69, 42, 180, 0, 77, 42, 180, 0, 90, 180, 0, 225]
abbrev dktX0_swap_3 : List UInt8 := dkwX0_swap_3 ++ dktX0_swap_4
def dkwX0_swap_2 : List UInt8 := [180, 0, 228, 54, 6, 3, 54, 7, 21, 7, 28, 162, 0, 118, 21, 7, 4, 96, 54, 8, 21, 8, 28]
abbrev dktX0_swap_2 : List UInt8 := dkwX0_swap_2 ++ dktX0_swap_3
def dkwX0_swap_1 : List UInt8 := [182, 1, 63, 87, 42, 28, 182, 1, 66, 2, 54, 4, 42, 180, 1, 11, 54, 5, 42, 180, 0, 77]
abbrev dktX0_swap_1 : List UInt8 := dkwX0_swap_1 ++ dktX0_swap_2
def dkwX0_swap_0 : List UInt8 := [42, 27, 28, 182, 1, 56, 78, 42, 45, 28, 182, 1, 59, 42, 180, 0, 77, 42, 180, 0, 90, 180, 0, 225]
abbrev dktX0_swap_0 : List UInt8 := dkwX0_swap_0 ++ dktX0_swap_1
theorem dksX0_swap_0 : cX0_swap.data.toList.drop 0 = dktX0_swap_0 := by decide +kernel
theorem dksX0_swap_1 : cX0_swap.data.toList.drop 24 = dktX0_swap_1 := dk_seg dksX0_swap_0 24 rfl rfl
theorem dksX0_swap_2 : cX0_swap.data.toList.drop 46 = dktX0_swap_2 := dk_seg dksX0_swap_1 22 rfl rfl
theorem dksX0_swap_3 : cX0_swap.data.toList.drop 69 = dktX0_swap_3 := dk_seg dksX0_swap_2 23 rfl rfl
theorem dksX0_swap_4 : cX0_swap.data.toList.drop 91 = dktX0_swap_4 := dk_seg dksX0_swap_3 22 rfl rfl
theorem dksX0_swap_5 : cX0_swap.data.toList.drop 114 = dktX0_swap_5 := dk_seg dksX0_swap_4 23 rfl rfl
theorem dksX0_swap_6 : cX0_swap.data.toList.drop 138 = dktX0_swap_6 := dk_seg dksX0_swap_5 24 rfl rfl
theorem dksX0_swap_7 : cX0_swap.data.toList.drop 161 = dktX0_swap_7 := dk_seg dksX0_swap_6 23 rfl rfl
theorem dksX0_swap_8 : cX0_swap.data.toList.drop 184 = dktX0_swap_8 := dk_seg dksX0_swap_7 23 rfl rfl
theorem dX0_swap_0 : decode cX0_swap 0 = .ok (.aload_n 0, 1) := dk_42 (dk_at dksX0_swap_0 0 rfl rfl)
theorem dX0_swap_1 : decode cX0_swap 1 = .ok (.iload_n 1, 1) := dk_27 (dk_at dksX0_swap_0 1 rfl rfl)
theorem dX0_swap_2 : decode cX0_swap 2 = .ok (.iload_n 2, 1) := dk_28 (dk_at dksX0_swap_0 2 rfl rfl)
theorem dX0_swap_3 : decode cX0_swap 3 = .ok (.invokevirtual 312, 3) := dk_182 1 56 (dk_at dksX0_swap_0 3 rfl rfl)
theorem dX0_swap_6 : decode cX0_swap 6 = .ok (.astore_n 3, 1) := dk_78 (dk_at dksX0_swap_0 6 rfl rfl)
theorem dX0_swap_7 : decode cX0_swap 7 = .ok (.aload_n 0, 1) := dk_42 (dk_at dksX0_swap_0 7 rfl rfl)
theorem dX0_swap_8 : decode cX0_swap 8 = .ok (.aload_n 3, 1) := dk_45 (dk_at dksX0_swap_0 8 rfl rfl)
theorem dX0_swap_9 : decode cX0_swap 9 = .ok (.iload_n 2, 1) := dk_28 (dk_at dksX0_swap_0 9 rfl rfl)
theorem dX0_swap_10 : decode cX0_swap 10 = .ok (.invokevirtual 315, 3) := dk_182 1 59 (dk_at dksX0_swap_0 10 rfl rfl)
theorem dX0_swap_13 : decode cX0_swap 13 = .ok (.aload_n 0, 1) := dk_42 (dk_at dksX0_swap_0 13 rfl rfl)
theorem dX0_swap_14 : decode cX0_swap 14 = .ok (.getfield 77, 3) := dk_180 0 77 (dk_at dksX0_swap_0 14 rfl rfl)
theorem dX0_swap_17 : decode cX0_swap 17 = .ok (.aload_n 0, 1) := dk_42 (dk_at dksX0_swap_0 17 rfl rfl)
theorem dX0_swap_18 : decode cX0_swap 18 = .ok (.getfield 90, 3) := dk_180 0 90 (dk_at dksX0_swap_0 18 rfl rfl)
theorem dX0_swap_21 : decode cX0_swap 21 = .ok (.getfield 225, 3) := dk_180 0 225 (dk_at dksX0_swap_0 21 rfl rfl)
theorem dX0_swap_24 : decode cX0_swap 24 = .ok (.invokevirtual 319, 3) := dk_182 1 63 (dk_at dksX0_swap_1 0 rfl rfl)
theorem dX0_swap_27 : decode cX0_swap 27 = .ok (.pop, 1) := dk_87 (dk_at dksX0_swap_1 3 rfl rfl)
theorem dX0_swap_28 : decode cX0_swap 28 = .ok (.aload_n 0, 1) := dk_42 (dk_at dksX0_swap_1 4 rfl rfl)
theorem dX0_swap_29 : decode cX0_swap 29 = .ok (.iload_n 2, 1) := dk_28 (dk_at dksX0_swap_1 5 rfl rfl)
theorem dX0_swap_30 : decode cX0_swap 30 = .ok (.invokevirtual 322, 3) := dk_182 1 66 (dk_at dksX0_swap_1 6 rfl rfl)
theorem dX0_swap_33 : decode cX0_swap 33 = .ok (.iconst (-1), 1) := dk_2 (dk_at dksX0_swap_1 9 rfl rfl)
theorem dX0_swap_34 : decode cX0_swap 34 = .ok (.istore 4, 2) := dk_54 4 (dk_at dksX0_swap_1 10 rfl rfl)
theorem dX0_swap_36 : decode cX0_swap 36 = .ok (.aload_n 0, 1) := dk_42 (dk_at dksX0_swap_1 12 rfl rfl)
theorem dX0_swap_37 : decode cX0_swap 37 = .ok (.getfield 267, 3) := dk_180 1 11 (dk_at dksX0_swap_1 13 rfl rfl)
theorem dX0_swap_40 : decode cX0_swap 40 = .ok (.istore 5, 2) := dk_54 5 (dk_at dksX0_swap_1 16 rfl rfl)
theorem dX0_swap_42 : decode cX0_swap 42 = .ok (.aload_n 0, 1) := dk_42 (dk_at dksX0_swap_1 18 rfl rfl)
theorem dX0_swap_43 : decode cX0_swap 43 = .ok (.getfield 77, 3) := dk_180 0 77 (dk_at dksX0_swap_1 19 rfl rfl)
theorem dX0_swap_46 : decode cX0_swap 46 = .ok (.getfield 228, 3) := dk_180 0 228 (dk_at dksX0_swap_2 0 rfl rfl)
theorem dX0_swap_49 : decode cX0_swap 49 = .ok (.istore 6, 2) := dk_54 6 (dk_at dksX0_swap_2 3 rfl rfl)
theorem dX0_swap_51 : decode cX0_swap 51 = .ok (.iconst 0, 1) := dk_3 (dk_at dksX0_swap_2 5 rfl rfl)
theorem dX0_swap_52 : decode cX0_swap 52 = .ok (.istore 7, 2) := dk_54 7 (dk_at dksX0_swap_2 6 rfl rfl)
theorem dX0_swap_54 : decode cX0_swap 54 = .ok (.iload 7, 2) := dk_21 7 (dk_at dksX0_swap_2 8 rfl rfl)
theorem dX0_swap_56 : decode cX0_swap 56 = .ok (.iload_n 2, 1) := dk_28 (dk_at dksX0_swap_2 10 rfl rfl)
theorem dX0_swap_57 : decode cX0_swap 57 = .ok (.if_icmp .ge 118, 3) := dk_162 0 118 (dk_at dksX0_swap_2 11 rfl rfl)
theorem dX0_swap_60 : decode cX0_swap 60 = .ok (.iload 7, 2) := dk_21 7 (dk_at dksX0_swap_2 14 rfl rfl)
theorem dX0_swap_62 : decode cX0_swap 62 = .ok (.iconst 1, 1) := dk_4 (dk_at dksX0_swap_2 16 rfl rfl)
theorem dX0_swap_63 : decode cX0_swap 63 = .ok (.iadd, 1) := dk_96 (dk_at dksX0_swap_2 17 rfl rfl)
theorem dX0_swap_64 : decode cX0_swap 64 = .ok (.istore 8, 2) := dk_54 8 (dk_at dksX0_swap_2 18 rfl rfl)
theorem dX0_swap_66 : decode cX0_swap 66 = .ok (.iload 8, 2) := dk_21 8 (dk_at dksX0_swap_2 20 rfl rfl)
theorem dX0_swap_68 : decode cX0_swap 68 = .ok (.iload_n 2, 1) := dk_28 (dk_at dksX0_swap_2 22 rfl rfl)
theorem dX0_swap_69 : decode cX0_swap 69 = .ok (.if_icmp .ge 100, 3) := dk_162 0 100 (dk_at dksX0_swap_3 0 rfl rfl)
theorem dX0_swap_72 : decode cX0_swap 72 = .ok (.aload_n 0, 1) := dk_42 (dk_at dksX0_swap_3 3 rfl rfl)
theorem dX0_swap_73 : decode cX0_swap 73 = .ok (.iload 7, 2) := dk_21 7 (dk_at dksX0_swap_3 4 rfl rfl)
theorem dX0_swap_75 : decode cX0_swap 75 = .ok (.iload 8, 2) := dk_21 8 (dk_at dksX0_swap_3 6 rfl rfl)
theorem dX0_swap_77 : decode cX0_swap 77 = .ok (.invokevirtual 325, 3) := dk_182 1 69 (dk_at dksX0_swap_3 8 rfl rfl)
theorem dX0_swap_80 : decode cX0_swap 80 = .ok (.aload_n 0, 1) := dk_42 (dk_at dksX0_swap_3 11 rfl rfl)
theorem dX0_swap_81 : decode cX0_swap 81 = .ok (.getfield 77, 3) := dk_180 0 77 (dk_at dksX0_swap_3 12 rfl rfl)
theorem dX0_swap_84 : decode cX0_swap 84 = .ok (.aload_n 0, 1) := dk_42 (dk_at dksX0_swap_3 15 rfl rfl)
theorem dX0_swap_85 : decode cX0_swap 85 = .ok (.getfield 90, 3) := dk_180 0 90 (dk_at dksX0_swap_3 16 rfl rfl)
theorem dX0_swap_88 : decode cX0_swap 88 = .ok (.getfield 225, 3) := dk_180 0 225 (dk_at dksX0_swap_3 19 rfl rfl)
theorem dX0_swap_91 : decode cX0_swap 91 = .ok (.invokevirtual 319, 3) := dk_182 1 63 (dk_at dksX0_swap_4 0 rfl rfl)
theorem dX0_swap_94 : decode cX0_swap 94 = .ok (.pop, 1) := dk_87 (dk_at dksX0_swap_4 3 rfl rfl)
theorem dX0_swap_95 : decode cX0_swap 95 = .ok (.aload_n 0, 1) := dk_42 (dk_at dksX0_swap_4 4 rfl rfl)
theorem dX0_swap_96 : decode cX0_swap 96 = .ok (.iload_n 2, 1) := dk_28 (dk_at dksX0_swap_4 5 rfl rfl)
theorem dX0_swap_97 : decode cX0_swap 97 = .ok (.invokevirtual 322, 3) := dk_182 1 66 (dk_at dksX0_swap_4 6 rfl rfl)
theorem dX0_swap_100 : decode cX0_swap 100 = .ok (.aload_n 0, 1) := dk_42 (dk_at dksX0_swap_4 9 rfl rfl)
theorem dX0_swap_101 : decode cX0_swap 101 = .ok (.iload 7, 2) := dk_21 7 (dk_at dksX0_swap_4 10 rfl rfl)
theorem dX0_swap_103 : decode cX0_swap 103 = .ok (.iload 8, 2) := dk_21 8 (dk_at dksX0_swap_4 12 rfl rfl)
theorem dX0_swap_105 : decode cX0_swap 105 = .ok (.invokevirtual 325, 3) := dk_182 1 69 (dk_at dksX0_swap_4 14 rfl rfl)
theorem dX0_swap_108 : decode cX0_swap 108 = .ok (.aload_n 0, 1) := dk_42 (dk_at dksX0_swap_4 17 rfl rfl)
theorem dX0_swap_109 : decode cX0_swap 109 = .ok (.getfield 267, 3) := dk_180 1 11 (dk_at dksX0_swap_4 18 rfl rfl)
theorem dX0_swap_112 : decode cX0_swap 112 = .ok (.iload 5, 2) := dk_21 5 (dk_at dksX0_swap_4 21 rfl rfl)
theorem dX0_swap_114 : decode cX0_swap 114 = .ok (.if_icmp .lt 24, 3) := dk_161 0 24 (dk_at dksX0_swap_5 0 rfl rfl)
theorem dX0_swap_117 : decode cX0_swap 117 = .ok (.aload_n 0, 1) := dk_42 (dk_at dksX0_swap_5 3 rfl rfl)
theorem dX0_swap_118 : decode cX0_swap 118 = .ok (.getfield 267, 3) := dk_180 1 11 (dk_at dksX0_swap_5 4 rfl rfl)
theorem dX0_swap_121 : decode cX0_swap 121 = .ok (.iload 5, 2) := dk_21 5 (dk_at dksX0_swap_5 7 rfl rfl)
theorem dX0_swap_123 : decode cX0_swap 123 = .ok (.if_icmp .ne 40, 3) := dk_160 0 40 (dk_at dksX0_swap_5 9 rfl rfl)
theorem dX0_swap_126 : decode cX0_swap 126 = .ok (.aload_n 0, 1) := dk_42 (dk_at dksX0_swap_5 12 rfl rfl)
theorem dX0_swap_127 : decode cX0_swap 127 = .ok (.getfield 77, 3) := dk_180 0 77 (dk_at dksX0_swap_5 13 rfl rfl)
theorem dX0_swap_130 : decode cX0_swap 130 = .ok (.getfield 228, 3) := dk_180 0 228 (dk_at dksX0_swap_5 16 rfl rfl)
theorem dX0_swap_133 : decode cX0_swap 133 = .ok (.iload 6, 2) := dk_21 6 (dk_at dksX0_swap_5 19 rfl rfl)
theorem dX0_swap_135 : decode cX0_swap 135 = .ok (.if_icmp .le 28, 3) := dk_164 0 28 (dk_at dksX0_swap_5 21 rfl rfl)
theorem dX0_swap_138 : decode cX0_swap 138 = .ok (.bipush 100, 2) := dk_16 100 (dk_at dksX0_swap_6 0 rfl rfl)
theorem dX0_swap_140 : decode cX0_swap 140 = .ok (.iload 7, 2) := dk_21 7 (dk_at dksX0_swap_6 2 rfl rfl)
theorem dX0_swap_142 : decode cX0_swap 142 = .ok (.imul, 1) := dk_104 (dk_at dksX0_swap_6 4 rfl rfl)
theorem dX0_swap_143 : decode cX0_swap 143 = .ok (.iload 8, 2) := dk_21 8 (dk_at dksX0_swap_6 5 rfl rfl)
theorem dX0_swap_145 : decode cX0_swap 145 = .ok (.iadd, 1) := dk_96 (dk_at dksX0_swap_6 7 rfl rfl)
theorem dX0_swap_146 : decode cX0_swap 146 = .ok (.istore 4, 2) := dk_54 4 (dk_at dksX0_swap_6 8 rfl rfl)
theorem dX0_swap_148 : decode cX0_swap 148 = .ok (.aload_n 0, 1) := dk_42 (dk_at dksX0_swap_6 10 rfl rfl)
theorem dX0_swap_149 : decode cX0_swap 149 = .ok (.getfield 267, 3) := dk_180 1 11 (dk_at dksX0_swap_6 11 rfl rfl)
theorem dX0_swap_152 : decode cX0_swap 152 = .ok (.istore 5, 2) := dk_54 5 (dk_at dksX0_swap_6 14 rfl rfl)
theorem dX0_swap_154 : decode cX0_swap 154 = .ok (.aload_n 0, 1) := dk_42 (dk_at dksX0_swap_6 16 rfl rfl)
theorem dX0_swap_155 : decode cX0_swap 155 = .ok (.getfield 77, 3) := dk_180 0 77 (dk_at dksX0_swap_6 17 rfl rfl)
theorem dX0_swap_158 : decode cX0_swap 158 = .ok (.getfield 228, 3) := dk_180 0 228 (dk_at dksX0_swap_6 20 rfl rfl)
theorem dX0_swap_161 : decode cX0_swap 161 = .ok (.istore 6, 2) := dk_54 6 (dk_at dksX0_swap_7 0 rfl rfl)
theorem dX0_swap_163 : decode cX0_swap 163 = .ok (.iinc 8 1, 3) := dk_132 8 1 (dk_at dksX0_swap_7 2 rfl rfl)
theorem dX0_swap_166 : decode cX0_swap 166 = .ok (.goto (-100), 3) := dk_167 255 156 (dk_at dksX0_swap_7 5 rfl rfl)
theorem dX0_swap_169 : decode cX0_swap 169 = .ok (.iinc 7 1, 3) := dk_132 7 1 (dk_at dksX0_swap_7 8 rfl rfl)
theorem dX0_swap_172 : decode cX0_swap 172 = .ok (.goto (-118), 3) := dk_167 255 138 (dk_at dksX0_swap_7 11 rfl rfl)
theorem dX0_swap_175 : decode cX0_swap 175 = .ok (.iload 4, 2) := dk_21 4 (dk_at dksX0_swap_7 14 rfl rfl)
theorem dX0_swap_177 : decode cX0_swap 177 = .ok (.ireturn, 1) := dk_172 (dk_at dksX0_swap_7 16 rfl rfl)
theorem dX0_swap_178 : decode cX0_swap 178 = .ok (.astore_n 3, 1) := dk_78 (dk_at dksX0_swap_7 17 rfl rfl)
theorem dX0_swap_179 : decode cX0_swap 179 = .ok (.aload_n 0, 1) := dk_42 (dk_at dksX0_swap_7 18 rfl rfl)
theorem dX0_swap_180 : decode cX0_swap 180 = .ok (.aload_n 3, 1) := dk_45 (dk_at dksX0_swap_7 19 rfl rfl)
theorem dX0_swap_181 : decode cX0_swap 181 = .ok (.invokevirtual 161, 3) := dk_182 0 161 (dk_at dksX0_swap_7 20 rfl rfl)
theorem dX0_swap_184 : decode cX0_swap 184 = .ok (.bipush 10, 2) := dk_16 10 (dk_at dksX0_swap_8 0 rfl rfl)
theorem dX0_swap_186 : decode cX0_swap 186 = .ok (.isub, 1) := dk_100 (dk_at dksX0_swap_8 2 rfl rfl)
theorem dX0_swap_187 : decode cX0_swap 187 = .ok (.ireturn, 1) := dk_172 (dk_at dksX0_swap_8 3 rfl rfl)
abbrev cX0_changes : ByteArray := prog_1_method_38_code
def yX0_changes : MethodName := ⟨RX0, "changes", "(II)V"⟩
def dkwX0_changes_1 : List UInt8 := [29, 79, 177]
abbrev dktX0_changes_1 : List UInt8 := dkwX0_changes_1 ++ []
def dkwX0_changes_0 : List UInt8 := [42, 180, 0, 81, 27, 46, 62, 42, 180, 0, 81, 27, 42, 180, 0, 81, 28, 46, 79, 42, 180, 0, 81, 28]
abbrev dktX0_changes_0 : List UInt8 := dkwX0_changes_0 ++ dktX0_changes_1
theorem dksX0_changes_0 : cX0_changes.data.toList.drop 0 = dktX0_changes_0 := by decide +kernel
theorem dksX0_changes_1 : cX0_changes.data.toList.drop 24 = dktX0_changes_1 := dk_seg dksX0_changes_0 24 rfl rfl
theorem dX0_changes_0 : decode cX0_changes 0 = .ok (.aload_n 0, 1) := dk_42 (dk_at dksX0_changes_0 0 rfl rfl)
theorem dX0_changes_1 : decode cX0_changes 1 = .ok (.getfield 81, 3) := dk_180 0 81 (dk_at dksX0_changes_0 1 rfl rfl)
theorem dX0_changes_4 : decode cX0_changes 4 = .ok (.iload_n 1, 1) := dk_27 (dk_at dksX0_changes_0 4 rfl rfl)
theorem dX0_changes_5 : decode cX0_changes 5 = .ok (.iaload, 1) := dk_46 (dk_at dksX0_changes_0 5 rfl rfl)
theorem dX0_changes_6 : decode cX0_changes 6 = .ok (.istore_n 3, 1) := dk_62 (dk_at dksX0_changes_0 6 rfl rfl)
theorem dX0_changes_7 : decode cX0_changes 7 = .ok (.aload_n 0, 1) := dk_42 (dk_at dksX0_changes_0 7 rfl rfl)
theorem dX0_changes_8 : decode cX0_changes 8 = .ok (.getfield 81, 3) := dk_180 0 81 (dk_at dksX0_changes_0 8 rfl rfl)
theorem dX0_changes_11 : decode cX0_changes 11 = .ok (.iload_n 1, 1) := dk_27 (dk_at dksX0_changes_0 11 rfl rfl)
theorem dX0_changes_12 : decode cX0_changes 12 = .ok (.aload_n 0, 1) := dk_42 (dk_at dksX0_changes_0 12 rfl rfl)
theorem dX0_changes_13 : decode cX0_changes 13 = .ok (.getfield 81, 3) := dk_180 0 81 (dk_at dksX0_changes_0 13 rfl rfl)
theorem dX0_changes_16 : decode cX0_changes 16 = .ok (.iload_n 2, 1) := dk_28 (dk_at dksX0_changes_0 16 rfl rfl)
theorem dX0_changes_17 : decode cX0_changes 17 = .ok (.iaload, 1) := dk_46 (dk_at dksX0_changes_0 17 rfl rfl)
theorem dX0_changes_18 : decode cX0_changes 18 = .ok (.iastore, 1) := dk_79 (dk_at dksX0_changes_0 18 rfl rfl)
theorem dX0_changes_19 : decode cX0_changes 19 = .ok (.aload_n 0, 1) := dk_42 (dk_at dksX0_changes_0 19 rfl rfl)
theorem dX0_changes_20 : decode cX0_changes 20 = .ok (.getfield 81, 3) := dk_180 0 81 (dk_at dksX0_changes_0 20 rfl rfl)
theorem dX0_changes_23 : decode cX0_changes 23 = .ok (.iload_n 2, 1) := dk_28 (dk_at dksX0_changes_0 23 rfl rfl)
theorem dX0_changes_24 : decode cX0_changes 24 = .ok (.iload_n 3, 1) := dk_29 (dk_at dksX0_changes_1 0 rfl rfl)
theorem dX0_changes_25 : decode cX0_changes 25 = .ok (.iastore, 1) := dk_79 (dk_at dksX0_changes_1 1 rfl rfl)
theorem dX0_changes_26 : decode cX0_changes 26 = .ok (.return_, 1) := dk_177 (dk_at dksX0_changes_1 2 rfl rfl)
abbrev cX0_whose : ByteArray := prog_1_method_40_code
def yX0_whose : MethodName := ⟨RX0, "whose", "(I)I"⟩
def dkwX0_whose_1 : List UInt8 := [160, 0, 7, 4, 167, 0, 4, 3, 182, 1, 75, 172, 77, 42, 44, 182, 0, 161, 172]
abbrev dktX0_whose_1 : List UInt8 := dkwX0_whose_1 ++ []
def dkwX0_whose_0 : List UInt8 := [27, 133, 9, 10, 184, 0, 153, 16, 251, 184, 0, 112, 42, 182, 1, 72, 42, 180, 0, 90, 27, 4]
abbrev dktX0_whose_0 : List UInt8 := dkwX0_whose_0 ++ dktX0_whose_1
theorem dksX0_whose_0 : cX0_whose.data.toList.drop 0 = dktX0_whose_0 := by decide +kernel
theorem dksX0_whose_1 : cX0_whose.data.toList.drop 22 = dktX0_whose_1 := dk_seg dksX0_whose_0 22 rfl rfl
theorem dX0_whose_0 : decode cX0_whose 0 = .ok (.iload_n 1, 1) := dk_27 (dk_at dksX0_whose_0 0 rfl rfl)
theorem dX0_whose_1 : decode cX0_whose 1 = .ok (.i2l, 1) := dk_133 (dk_at dksX0_whose_0 1 rfl rfl)
theorem dX0_whose_2 : decode cX0_whose 2 = .ok (.lconst 0, 1) := dk_9 (dk_at dksX0_whose_0 2 rfl rfl)
theorem dX0_whose_3 : decode cX0_whose 3 = .ok (.lconst 1, 1) := dk_10 (dk_at dksX0_whose_0 3 rfl rfl)
theorem dX0_whose_4 : decode cX0_whose 4 = .ok (.invokestatic 153, 3) := dk_184 0 153 (dk_at dksX0_whose_0 4 rfl rfl)
theorem dX0_whose_7 : decode cX0_whose 7 = .ok (.bipush (-5), 2) := dk_16 251 (dk_at dksX0_whose_0 7 rfl rfl)
theorem dX0_whose_9 : decode cX0_whose 9 = .ok (.invokestatic 112, 3) := dk_184 0 112 (dk_at dksX0_whose_0 9 rfl rfl)
theorem dX0_whose_12 : decode cX0_whose 12 = .ok (.aload_n 0, 1) := dk_42 (dk_at dksX0_whose_0 12 rfl rfl)
theorem dX0_whose_13 : decode cX0_whose 13 = .ok (.invokevirtual 328, 3) := dk_182 1 72 (dk_at dksX0_whose_0 13 rfl rfl)
theorem dX0_whose_16 : decode cX0_whose 16 = .ok (.aload_n 0, 1) := dk_42 (dk_at dksX0_whose_0 16 rfl rfl)
theorem dX0_whose_17 : decode cX0_whose 17 = .ok (.getfield 90, 3) := dk_180 0 90 (dk_at dksX0_whose_0 17 rfl rfl)
theorem dX0_whose_20 : decode cX0_whose 20 = .ok (.iload_n 1, 1) := dk_27 (dk_at dksX0_whose_0 20 rfl rfl)
theorem dX0_whose_21 : decode cX0_whose 21 = .ok (.iconst 1, 1) := dk_4 (dk_at dksX0_whose_0 21 rfl rfl)
theorem dX0_whose_22 : decode cX0_whose 22 = .ok (.if_icmp .ne 7, 3) := dk_160 0 7 (dk_at dksX0_whose_1 0 rfl rfl)
theorem dX0_whose_25 : decode cX0_whose 25 = .ok (.iconst 1, 1) := dk_4 (dk_at dksX0_whose_1 3 rfl rfl)
theorem dX0_whose_26 : decode cX0_whose 26 = .ok (.goto 4, 3) := dk_167 0 4 (dk_at dksX0_whose_1 4 rfl rfl)
theorem dX0_whose_29 : decode cX0_whose 29 = .ok (.iconst 0, 1) := dk_3 (dk_at dksX0_whose_1 7 rfl rfl)
theorem dX0_whose_30 : decode cX0_whose 30 = .ok (.invokevirtual 331, 3) := dk_182 1 75 (dk_at dksX0_whose_1 8 rfl rfl)
theorem dX0_whose_33 : decode cX0_whose 33 = .ok (.ireturn, 1) := dk_172 (dk_at dksX0_whose_1 11 rfl rfl)
theorem dX0_whose_34 : decode cX0_whose 34 = .ok (.astore_n 2, 1) := dk_77 (dk_at dksX0_whose_1 12 rfl rfl)
theorem dX0_whose_35 : decode cX0_whose 35 = .ok (.aload_n 0, 1) := dk_42 (dk_at dksX0_whose_1 13 rfl rfl)
theorem dX0_whose_36 : decode cX0_whose 36 = .ok (.aload_n 2, 1) := dk_44 (dk_at dksX0_whose_1 14 rfl rfl)
theorem dX0_whose_37 : decode cX0_whose 37 = .ok (.invokevirtual 161, 3) := dk_182 0 161 (dk_at dksX0_whose_1 15 rfl rfl)
theorem dX0_whose_40 : decode cX0_whose 40 = .ok (.ireturn, 1) := dk_172 (dk_at dksX0_whose_1 18 rfl rfl)
abbrev cX0_someMay : ByteArray := prog_1_method_10_code
def yX0_someMay : MethodName := ⟨RX0, "someMay", "()V"⟩
def dkwX0_someMay_0 : List UInt8 := [42, 180, 0, 90, 182, 0, 116, 158, 0, 7, 4, 167, 0, 4, 3, 16, 251, 184, 0, 112, 177]
abbrev dktX0_someMay_0 : List UInt8 := dkwX0_someMay_0 ++ []
theorem dksX0_someMay_0 : cX0_someMay.data.toList.drop 0 = dktX0_someMay_0 := by decide +kernel
theorem dX0_someMay_0 : decode cX0_someMay 0 = .ok (.aload_n 0, 1) := dk_42 (dk_at dksX0_someMay_0 0 rfl rfl)
theorem dX0_someMay_1 : decode cX0_someMay 1 = .ok (.getfield 90, 3) := dk_180 0 90 (dk_at dksX0_someMay_0 1 rfl rfl)
theorem dX0_someMay_4 : decode cX0_someMay 4 = .ok (.invokevirtual 116, 3) := dk_182 0 116 (dk_at dksX0_someMay_0 4 rfl rfl)
theorem dX0_someMay_7 : decode cX0_someMay 7 = .ok (.ifCond .le 7, 3) := dk_158 0 7 (dk_at dksX0_someMay_0 7 rfl rfl)
theorem dX0_someMay_10 : decode cX0_someMay 10 = .ok (.iconst 1, 1) := dk_4 (dk_at dksX0_someMay_0 10 rfl rfl)
theorem dX0_someMay_11 : decode cX0_someMay 11 = .ok (.goto 4, 3) := dk_167 0 4 (dk_at dksX0_someMay_0 11 rfl rfl)
theorem dX0_someMay_14 : decode cX0_someMay 14 = .ok (.iconst 0, 1) := dk_3 (dk_at dksX0_someMay_0 14 rfl rfl)
theorem dX0_someMay_15 : decode cX0_someMay 15 = .ok (.bipush (-5), 2) := dk_16 251 (dk_at dksX0_someMay_0 15 rfl rfl)
theorem dX0_someMay_17 : decode cX0_someMay 17 = .ok (.invokestatic 112, 3) := dk_184 0 112 (dk_at dksX0_someMay_0 17 rfl rfl)
theorem dX0_someMay_20 : decode cX0_someMay 20 = .ok (.return_, 1) := dk_177 (dk_at dksX0_someMay_0 20 rfl rfl)
abbrev cX0_order : ByteArray := prog_1_method_43_code
def yX0_order : MethodName := ⟨RX0, "order", "(I)I"⟩
def dkwX0_order_2 : List UInt8 := [42, 44, 182, 0, 161, 172]
abbrev dktX0_order_2 : List UInt8 := dkwX0_order_2 ++ []
def dkwX0_order_1 : List UInt8 := [182, 1, 91, 87, 27, 2, 160, 0, 10, 42, 180, 1, 79, 167, 0, 9, 42, 180, 0, 84, 27, 46, 172, 77]
abbrev dktX0_order_1 : List UInt8 := dkwX0_order_1 ++ dktX0_order_2
def dkwX0_order_0 : List UInt8 := [27, 133, 20, 1, 89, 42, 180, 0, 90, 182, 0, 116, 4, 100, 133, 184, 0, 153, 16, 251, 184, 0, 112, 42]
abbrev dktX0_order_0 : List UInt8 := dkwX0_order_0 ++ dktX0_order_1
theorem dksX0_order_0 : cX0_order.data.toList.drop 0 = dktX0_order_0 := by decide +kernel
theorem dksX0_order_1 : cX0_order.data.toList.drop 24 = dktX0_order_1 := dk_seg dksX0_order_0 24 rfl rfl
theorem dksX0_order_2 : cX0_order.data.toList.drop 48 = dktX0_order_2 := dk_seg dksX0_order_1 24 rfl rfl
theorem dX0_order_0 : decode cX0_order 0 = .ok (.iload_n 1, 1) := dk_27 (dk_at dksX0_order_0 0 rfl rfl)
theorem dX0_order_1 : decode cX0_order 1 = .ok (.i2l, 1) := dk_133 (dk_at dksX0_order_0 1 rfl rfl)
theorem dX0_order_2 : decode cX0_order 2 = .ok (.ldc2_w 345, 3) := dk_20 1 89 (dk_at dksX0_order_0 2 rfl rfl)
theorem dX0_order_5 : decode cX0_order 5 = .ok (.aload_n 0, 1) := dk_42 (dk_at dksX0_order_0 5 rfl rfl)
theorem dX0_order_6 : decode cX0_order 6 = .ok (.getfield 90, 3) := dk_180 0 90 (dk_at dksX0_order_0 6 rfl rfl)
theorem dX0_order_9 : decode cX0_order 9 = .ok (.invokevirtual 116, 3) := dk_182 0 116 (dk_at dksX0_order_0 9 rfl rfl)
theorem dX0_order_12 : decode cX0_order 12 = .ok (.iconst 1, 1) := dk_4 (dk_at dksX0_order_0 12 rfl rfl)
theorem dX0_order_13 : decode cX0_order 13 = .ok (.isub, 1) := dk_100 (dk_at dksX0_order_0 13 rfl rfl)
theorem dX0_order_14 : decode cX0_order 14 = .ok (.i2l, 1) := dk_133 (dk_at dksX0_order_0 14 rfl rfl)
theorem dX0_order_15 : decode cX0_order 15 = .ok (.invokestatic 153, 3) := dk_184 0 153 (dk_at dksX0_order_0 15 rfl rfl)
theorem dX0_order_18 : decode cX0_order 18 = .ok (.bipush (-5), 2) := dk_16 251 (dk_at dksX0_order_0 18 rfl rfl)
theorem dX0_order_20 : decode cX0_order 20 = .ok (.invokestatic 112, 3) := dk_184 0 112 (dk_at dksX0_order_0 20 rfl rfl)
theorem dX0_order_23 : decode cX0_order 23 = .ok (.aload_n 0, 1) := dk_42 (dk_at dksX0_order_0 23 rfl rfl)
theorem dX0_order_24 : decode cX0_order 24 = .ok (.invokevirtual 347, 3) := dk_182 1 91 (dk_at dksX0_order_1 0 rfl rfl)
theorem dX0_order_27 : decode cX0_order 27 = .ok (.pop, 1) := dk_87 (dk_at dksX0_order_1 3 rfl rfl)
theorem dX0_order_28 : decode cX0_order 28 = .ok (.iload_n 1, 1) := dk_27 (dk_at dksX0_order_1 4 rfl rfl)
theorem dX0_order_29 : decode cX0_order 29 = .ok (.iconst (-1), 1) := dk_2 (dk_at dksX0_order_1 5 rfl rfl)
theorem dX0_order_30 : decode cX0_order 30 = .ok (.if_icmp .ne 10, 3) := dk_160 0 10 (dk_at dksX0_order_1 6 rfl rfl)
theorem dX0_order_33 : decode cX0_order 33 = .ok (.aload_n 0, 1) := dk_42 (dk_at dksX0_order_1 9 rfl rfl)
theorem dX0_order_34 : decode cX0_order 34 = .ok (.getfield 335, 3) := dk_180 1 79 (dk_at dksX0_order_1 10 rfl rfl)
theorem dX0_order_37 : decode cX0_order 37 = .ok (.goto 9, 3) := dk_167 0 9 (dk_at dksX0_order_1 13 rfl rfl)
theorem dX0_order_40 : decode cX0_order 40 = .ok (.aload_n 0, 1) := dk_42 (dk_at dksX0_order_1 16 rfl rfl)
theorem dX0_order_41 : decode cX0_order 41 = .ok (.getfield 84, 3) := dk_180 0 84 (dk_at dksX0_order_1 17 rfl rfl)
theorem dX0_order_44 : decode cX0_order 44 = .ok (.iload_n 1, 1) := dk_27 (dk_at dksX0_order_1 20 rfl rfl)
theorem dX0_order_45 : decode cX0_order 45 = .ok (.iaload, 1) := dk_46 (dk_at dksX0_order_1 21 rfl rfl)
theorem dX0_order_46 : decode cX0_order 46 = .ok (.ireturn, 1) := dk_172 (dk_at dksX0_order_1 22 rfl rfl)
theorem dX0_order_47 : decode cX0_order 47 = .ok (.astore_n 2, 1) := dk_77 (dk_at dksX0_order_1 23 rfl rfl)
theorem dX0_order_48 : decode cX0_order 48 = .ok (.aload_n 0, 1) := dk_42 (dk_at dksX0_order_2 0 rfl rfl)
theorem dX0_order_49 : decode cX0_order 49 = .ok (.aload_n 2, 1) := dk_44 (dk_at dksX0_order_2 1 rfl rfl)
theorem dX0_order_50 : decode cX0_order 50 = .ok (.invokevirtual 161, 3) := dk_182 0 161 (dk_at dksX0_order_2 2 rfl rfl)
theorem dX0_order_53 : decode cX0_order 53 = .ok (.ireturn, 1) := dk_172 (dk_at dksX0_order_2 5 rfl rfl)
abbrev cX0_findOrder : ByteArray := prog_1_method_42_code
def yX0_findOrder : MethodName := ⟨RX0, "findOrder", "()I"⟩
def dkwX0_findOrder_1 : List UInt8 := [42, 2, 181, 1, 79, 42, 3, 181, 1, 82, 42, 3, 3, 27, 182, 1, 85, 27, 172]
abbrev dktX0_findOrder_1 : List UInt8 := dkwX0_findOrder_1 ++ []
def dkwX0_findOrder_0 : List UInt8 := [42, 180, 0, 90, 182, 0, 116, 60, 27, 16, 6, 163, 0, 7, 4, 167, 0, 4, 3, 16, 249, 184, 0, 112]
abbrev dktX0_findOrder_0 : List UInt8 := dkwX0_findOrder_0 ++ dktX0_findOrder_1
theorem dksX0_findOrder_0 : cX0_findOrder.data.toList.drop 0 = dktX0_findOrder_0 := by decide +kernel
theorem dksX0_findOrder_1 : cX0_findOrder.data.toList.drop 24 = dktX0_findOrder_1 := dk_seg dksX0_findOrder_0 24 rfl rfl
theorem dX0_findOrder_0 : decode cX0_findOrder 0 = .ok (.aload_n 0, 1) := dk_42 (dk_at dksX0_findOrder_0 0 rfl rfl)
theorem dX0_findOrder_1 : decode cX0_findOrder 1 = .ok (.getfield 90, 3) := dk_180 0 90 (dk_at dksX0_findOrder_0 1 rfl rfl)
theorem dX0_findOrder_4 : decode cX0_findOrder 4 = .ok (.invokevirtual 116, 3) := dk_182 0 116 (dk_at dksX0_findOrder_0 4 rfl rfl)
theorem dX0_findOrder_7 : decode cX0_findOrder 7 = .ok (.istore_n 1, 1) := dk_60 (dk_at dksX0_findOrder_0 7 rfl rfl)
theorem dX0_findOrder_8 : decode cX0_findOrder 8 = .ok (.iload_n 1, 1) := dk_27 (dk_at dksX0_findOrder_0 8 rfl rfl)
theorem dX0_findOrder_9 : decode cX0_findOrder 9 = .ok (.bipush 6, 2) := dk_16 6 (dk_at dksX0_findOrder_0 9 rfl rfl)
theorem dX0_findOrder_11 : decode cX0_findOrder 11 = .ok (.if_icmp .gt 7, 3) := dk_163 0 7 (dk_at dksX0_findOrder_0 11 rfl rfl)
theorem dX0_findOrder_14 : decode cX0_findOrder 14 = .ok (.iconst 1, 1) := dk_4 (dk_at dksX0_findOrder_0 14 rfl rfl)
theorem dX0_findOrder_15 : decode cX0_findOrder 15 = .ok (.goto 4, 3) := dk_167 0 4 (dk_at dksX0_findOrder_0 15 rfl rfl)
theorem dX0_findOrder_18 : decode cX0_findOrder 18 = .ok (.iconst 0, 1) := dk_3 (dk_at dksX0_findOrder_0 18 rfl rfl)
theorem dX0_findOrder_19 : decode cX0_findOrder 19 = .ok (.bipush (-7), 2) := dk_16 249 (dk_at dksX0_findOrder_0 19 rfl rfl)
theorem dX0_findOrder_21 : decode cX0_findOrder 21 = .ok (.invokestatic 112, 3) := dk_184 0 112 (dk_at dksX0_findOrder_0 21 rfl rfl)
theorem dX0_findOrder_24 : decode cX0_findOrder 24 = .ok (.aload_n 0, 1) := dk_42 (dk_at dksX0_findOrder_1 0 rfl rfl)
theorem dX0_findOrder_25 : decode cX0_findOrder 25 = .ok (.iconst (-1), 1) := dk_2 (dk_at dksX0_findOrder_1 1 rfl rfl)
theorem dX0_findOrder_26 : decode cX0_findOrder 26 = .ok (.putfield 335, 3) := dk_181 1 79 (dk_at dksX0_findOrder_1 2 rfl rfl)
theorem dX0_findOrder_29 : decode cX0_findOrder 29 = .ok (.aload_n 0, 1) := dk_42 (dk_at dksX0_findOrder_1 5 rfl rfl)
theorem dX0_findOrder_30 : decode cX0_findOrder 30 = .ok (.iconst 0, 1) := dk_3 (dk_at dksX0_findOrder_1 6 rfl rfl)
theorem dX0_findOrder_31 : decode cX0_findOrder 31 = .ok (.putfield 338, 3) := dk_181 1 82 (dk_at dksX0_findOrder_1 7 rfl rfl)
theorem dX0_findOrder_34 : decode cX0_findOrder 34 = .ok (.aload_n 0, 1) := dk_42 (dk_at dksX0_findOrder_1 10 rfl rfl)
theorem dX0_findOrder_35 : decode cX0_findOrder 35 = .ok (.iconst 0, 1) := dk_3 (dk_at dksX0_findOrder_1 11 rfl rfl)
theorem dX0_findOrder_36 : decode cX0_findOrder 36 = .ok (.iconst 0, 1) := dk_3 (dk_at dksX0_findOrder_1 12 rfl rfl)
theorem dX0_findOrder_37 : decode cX0_findOrder 37 = .ok (.iload_n 1, 1) := dk_27 (dk_at dksX0_findOrder_1 13 rfl rfl)
theorem dX0_findOrder_38 : decode cX0_findOrder 38 = .ok (.invokevirtual 341, 3) := dk_182 1 85 (dk_at dksX0_findOrder_1 14 rfl rfl)
theorem dX0_findOrder_41 : decode cX0_findOrder 41 = .ok (.iload_n 1, 1) := dk_27 (dk_at dksX0_findOrder_1 17 rfl rfl)
theorem dX0_findOrder_42 : decode cX0_findOrder 42 = .ok (.ireturn, 1) := dk_172 (dk_at dksX0_findOrder_1 18 rfl rfl)
abbrev cX0_seekOrder : ByteArray := prog_1_method_41_code
def yX0_seekOrder : MethodName := ⟨RX0, "seekOrder", "(III)V"⟩
def dkwX0_seekOrder_6 : List UInt8 := [79, 42, 27, 4, 96, 28, 4, 21, 4, 120, 128, 29, 182, 1, 85, 132, 4, 1, 167, 255, 198, 177]
abbrev dktX0_seekOrder_6 : List UInt8 := dkwX0_seekOrder_6 ++ []
def dkwX0_seekOrder_5 : List UInt8 := [21, 4, 182, 1, 49, 153, 0, 34, 28, 21, 4, 122, 4, 126, 154, 0, 25, 42, 180, 0, 81, 27, 21, 4]
abbrev dktX0_seekOrder_5 : List UInt8 := dkwX0_seekOrder_5 ++ dktX0_seekOrder_6
def dkwX0_seekOrder_4 : List UInt8 := [27, 184, 0, 15, 177, 3, 54, 4, 21, 4, 42, 180, 0, 90, 180, 0, 192, 162, 0, 52, 42, 180, 0, 90]
abbrev dktX0_seekOrder_4 : List UInt8 := dkwX0_seekOrder_4 ++ dktX0_seekOrder_5
def dkwX0_seekOrder_3 : List UInt8 := [180, 1, 11, 181, 1, 79, 42, 42, 180, 1, 17, 181, 1, 82, 42, 180, 0, 81, 3, 42, 180, 0, 84, 3]
abbrev dktX0_seekOrder_3 : List UInt8 := dkwX0_seekOrder_3 ++ dktX0_seekOrder_4
def dkwX0_seekOrder_2 : List UInt8 := [180, 1, 11, 42, 180, 1, 79, 160, 0, 44, 42, 180, 1, 17, 42, 180, 1, 82, 164, 0, 33, 42, 42]
abbrev dktX0_seekOrder_2 : List UInt8 := dkwX0_seekOrder_2 ++ dktX0_seekOrder_3
def dkwX0_seekOrder_1 : List UInt8 := [182, 1, 66, 42, 180, 1, 79, 2, 159, 0, 36, 42, 180, 1, 11, 42, 180, 1, 79, 161, 0, 25, 42]
abbrev dktX0_seekOrder_1 : List UInt8 := dkwX0_seekOrder_1 ++ dktX0_seekOrder_2
def dkwX0_seekOrder_0 : List UInt8 := [27, 29, 160, 0, 95, 42, 180, 0, 77, 42, 180, 0, 90, 180, 0, 225, 182, 1, 63, 87, 42, 27]
abbrev dktX0_seekOrder_0 : List UInt8 := dkwX0_seekOrder_0 ++ dktX0_seekOrder_1
theorem dksX0_seekOrder_0 : cX0_seekOrder.data.toList.drop 0 = dktX0_seekOrder_0 := by decide +kernel
theorem dksX0_seekOrder_1 : cX0_seekOrder.data.toList.drop 22 = dktX0_seekOrder_1 := dk_seg dksX0_seekOrder_0 22 rfl rfl
theorem dksX0_seekOrder_2 : cX0_seekOrder.data.toList.drop 45 = dktX0_seekOrder_2 := dk_seg dksX0_seekOrder_1 23 rfl rfl
theorem dksX0_seekOrder_3 : cX0_seekOrder.data.toList.drop 68 = dktX0_seekOrder_3 := dk_seg dksX0_seekOrder_2 23 rfl rfl
theorem dksX0_seekOrder_4 : cX0_seekOrder.data.toList.drop 92 = dktX0_seekOrder_4 := dk_seg dksX0_seekOrder_3 24 rfl rfl
theorem dksX0_seekOrder_5 : cX0_seekOrder.data.toList.drop 116 = dktX0_seekOrder_5 := dk_seg dksX0_seekOrder_4 24 rfl rfl
theorem dksX0_seekOrder_6 : cX0_seekOrder.data.toList.drop 140 = dktX0_seekOrder_6 := dk_seg dksX0_seekOrder_5 24 rfl rfl
theorem dX0_seekOrder_0 : decode cX0_seekOrder 0 = .ok (.iload_n 1, 1) := dk_27 (dk_at dksX0_seekOrder_0 0 rfl rfl)
theorem dX0_seekOrder_1 : decode cX0_seekOrder 1 = .ok (.iload_n 3, 1) := dk_29 (dk_at dksX0_seekOrder_0 1 rfl rfl)
theorem dX0_seekOrder_2 : decode cX0_seekOrder 2 = .ok (.if_icmp .ne 95, 3) := dk_160 0 95 (dk_at dksX0_seekOrder_0 2 rfl rfl)
theorem dX0_seekOrder_5 : decode cX0_seekOrder 5 = .ok (.aload_n 0, 1) := dk_42 (dk_at dksX0_seekOrder_0 5 rfl rfl)
theorem dX0_seekOrder_6 : decode cX0_seekOrder 6 = .ok (.getfield 77, 3) := dk_180 0 77 (dk_at dksX0_seekOrder_0 6 rfl rfl)
theorem dX0_seekOrder_9 : decode cX0_seekOrder 9 = .ok (.aload_n 0, 1) := dk_42 (dk_at dksX0_seekOrder_0 9 rfl rfl)
theorem dX0_seekOrder_10 : decode cX0_seekOrder 10 = .ok (.getfield 90, 3) := dk_180 0 90 (dk_at dksX0_seekOrder_0 10 rfl rfl)
theorem dX0_seekOrder_13 : decode cX0_seekOrder 13 = .ok (.getfield 225, 3) := dk_180 0 225 (dk_at dksX0_seekOrder_0 13 rfl rfl)
theorem dX0_seekOrder_16 : decode cX0_seekOrder 16 = .ok (.invokevirtual 319, 3) := dk_182 1 63 (dk_at dksX0_seekOrder_0 16 rfl rfl)
theorem dX0_seekOrder_19 : decode cX0_seekOrder 19 = .ok (.pop, 1) := dk_87 (dk_at dksX0_seekOrder_0 19 rfl rfl)
theorem dX0_seekOrder_20 : decode cX0_seekOrder 20 = .ok (.aload_n 0, 1) := dk_42 (dk_at dksX0_seekOrder_0 20 rfl rfl)
theorem dX0_seekOrder_21 : decode cX0_seekOrder 21 = .ok (.iload_n 1, 1) := dk_27 (dk_at dksX0_seekOrder_0 21 rfl rfl)
theorem dX0_seekOrder_22 : decode cX0_seekOrder 22 = .ok (.invokevirtual 322, 3) := dk_182 1 66 (dk_at dksX0_seekOrder_1 0 rfl rfl)
theorem dX0_seekOrder_25 : decode cX0_seekOrder 25 = .ok (.aload_n 0, 1) := dk_42 (dk_at dksX0_seekOrder_1 3 rfl rfl)
theorem dX0_seekOrder_26 : decode cX0_seekOrder 26 = .ok (.getfield 335, 3) := dk_180 1 79 (dk_at dksX0_seekOrder_1 4 rfl rfl)
theorem dX0_seekOrder_29 : decode cX0_seekOrder 29 = .ok (.iconst (-1), 1) := dk_2 (dk_at dksX0_seekOrder_1 7 rfl rfl)
theorem dX0_seekOrder_30 : decode cX0_seekOrder 30 = .ok (.if_icmp .eq 36, 3) := dk_159 0 36 (dk_at dksX0_seekOrder_1 8 rfl rfl)
theorem dX0_seekOrder_33 : decode cX0_seekOrder 33 = .ok (.aload_n 0, 1) := dk_42 (dk_at dksX0_seekOrder_1 11 rfl rfl)
theorem dX0_seekOrder_34 : decode cX0_seekOrder 34 = .ok (.getfield 267, 3) := dk_180 1 11 (dk_at dksX0_seekOrder_1 12 rfl rfl)
theorem dX0_seekOrder_37 : decode cX0_seekOrder 37 = .ok (.aload_n 0, 1) := dk_42 (dk_at dksX0_seekOrder_1 15 rfl rfl)
theorem dX0_seekOrder_38 : decode cX0_seekOrder 38 = .ok (.getfield 335, 3) := dk_180 1 79 (dk_at dksX0_seekOrder_1 16 rfl rfl)
theorem dX0_seekOrder_41 : decode cX0_seekOrder 41 = .ok (.if_icmp .lt 25, 3) := dk_161 0 25 (dk_at dksX0_seekOrder_1 19 rfl rfl)
theorem dX0_seekOrder_44 : decode cX0_seekOrder 44 = .ok (.aload_n 0, 1) := dk_42 (dk_at dksX0_seekOrder_1 22 rfl rfl)
theorem dX0_seekOrder_45 : decode cX0_seekOrder 45 = .ok (.getfield 267, 3) := dk_180 1 11 (dk_at dksX0_seekOrder_2 0 rfl rfl)
theorem dX0_seekOrder_48 : decode cX0_seekOrder 48 = .ok (.aload_n 0, 1) := dk_42 (dk_at dksX0_seekOrder_2 3 rfl rfl)
theorem dX0_seekOrder_49 : decode cX0_seekOrder 49 = .ok (.getfield 335, 3) := dk_180 1 79 (dk_at dksX0_seekOrder_2 4 rfl rfl)
theorem dX0_seekOrder_52 : decode cX0_seekOrder 52 = .ok (.if_icmp .ne 44, 3) := dk_160 0 44 (dk_at dksX0_seekOrder_2 7 rfl rfl)
theorem dX0_seekOrder_55 : decode cX0_seekOrder 55 = .ok (.aload_n 0, 1) := dk_42 (dk_at dksX0_seekOrder_2 10 rfl rfl)
theorem dX0_seekOrder_56 : decode cX0_seekOrder 56 = .ok (.getfield 273, 3) := dk_180 1 17 (dk_at dksX0_seekOrder_2 11 rfl rfl)
theorem dX0_seekOrder_59 : decode cX0_seekOrder 59 = .ok (.aload_n 0, 1) := dk_42 (dk_at dksX0_seekOrder_2 14 rfl rfl)
theorem dX0_seekOrder_60 : decode cX0_seekOrder 60 = .ok (.getfield 338, 3) := dk_180 1 82 (dk_at dksX0_seekOrder_2 15 rfl rfl)
theorem dX0_seekOrder_63 : decode cX0_seekOrder 63 = .ok (.if_icmp .le 33, 3) := dk_164 0 33 (dk_at dksX0_seekOrder_2 18 rfl rfl)
theorem dX0_seekOrder_66 : decode cX0_seekOrder 66 = .ok (.aload_n 0, 1) := dk_42 (dk_at dksX0_seekOrder_2 21 rfl rfl)
theorem dX0_seekOrder_67 : decode cX0_seekOrder 67 = .ok (.aload_n 0, 1) := dk_42 (dk_at dksX0_seekOrder_2 22 rfl rfl)
theorem dX0_seekOrder_68 : decode cX0_seekOrder 68 = .ok (.getfield 267, 3) := dk_180 1 11 (dk_at dksX0_seekOrder_3 0 rfl rfl)
theorem dX0_seekOrder_71 : decode cX0_seekOrder 71 = .ok (.putfield 335, 3) := dk_181 1 79 (dk_at dksX0_seekOrder_3 3 rfl rfl)
theorem dX0_seekOrder_74 : decode cX0_seekOrder 74 = .ok (.aload_n 0, 1) := dk_42 (dk_at dksX0_seekOrder_3 6 rfl rfl)
theorem dX0_seekOrder_75 : decode cX0_seekOrder 75 = .ok (.aload_n 0, 1) := dk_42 (dk_at dksX0_seekOrder_3 7 rfl rfl)
theorem dX0_seekOrder_76 : decode cX0_seekOrder 76 = .ok (.getfield 273, 3) := dk_180 1 17 (dk_at dksX0_seekOrder_3 8 rfl rfl)
theorem dX0_seekOrder_79 : decode cX0_seekOrder 79 = .ok (.putfield 338, 3) := dk_181 1 82 (dk_at dksX0_seekOrder_3 11 rfl rfl)
theorem dX0_seekOrder_82 : decode cX0_seekOrder 82 = .ok (.aload_n 0, 1) := dk_42 (dk_at dksX0_seekOrder_3 14 rfl rfl)
theorem dX0_seekOrder_83 : decode cX0_seekOrder 83 = .ok (.getfield 81, 3) := dk_180 0 81 (dk_at dksX0_seekOrder_3 15 rfl rfl)
theorem dX0_seekOrder_86 : decode cX0_seekOrder 86 = .ok (.iconst 0, 1) := dk_3 (dk_at dksX0_seekOrder_3 18 rfl rfl)
theorem dX0_seekOrder_87 : decode cX0_seekOrder 87 = .ok (.aload_n 0, 1) := dk_42 (dk_at dksX0_seekOrder_3 19 rfl rfl)
theorem dX0_seekOrder_88 : decode cX0_seekOrder 88 = .ok (.getfield 84, 3) := dk_180 0 84 (dk_at dksX0_seekOrder_3 20 rfl rfl)
theorem dX0_seekOrder_91 : decode cX0_seekOrder 91 = .ok (.iconst 0, 1) := dk_3 (dk_at dksX0_seekOrder_3 23 rfl rfl)
theorem dX0_seekOrder_92 : decode cX0_seekOrder 92 = .ok (.iload_n 1, 1) := dk_27 (dk_at dksX0_seekOrder_4 0 rfl rfl)
theorem dX0_seekOrder_93 : decode cX0_seekOrder 93 = .ok (.invokestatic 15, 3) := dk_184 0 15 (dk_at dksX0_seekOrder_4 1 rfl rfl)
theorem dX0_seekOrder_96 : decode cX0_seekOrder 96 = .ok (.return_, 1) := dk_177 (dk_at dksX0_seekOrder_4 4 rfl rfl)
theorem dX0_seekOrder_97 : decode cX0_seekOrder 97 = .ok (.iconst 0, 1) := dk_3 (dk_at dksX0_seekOrder_4 5 rfl rfl)
theorem dX0_seekOrder_98 : decode cX0_seekOrder 98 = .ok (.istore 4, 2) := dk_54 4 (dk_at dksX0_seekOrder_4 6 rfl rfl)
theorem dX0_seekOrder_100 : decode cX0_seekOrder 100 = .ok (.iload 4, 2) := dk_21 4 (dk_at dksX0_seekOrder_4 8 rfl rfl)
theorem dX0_seekOrder_102 : decode cX0_seekOrder 102 = .ok (.aload_n 0, 1) := dk_42 (dk_at dksX0_seekOrder_4 10 rfl rfl)
theorem dX0_seekOrder_103 : decode cX0_seekOrder 103 = .ok (.getfield 90, 3) := dk_180 0 90 (dk_at dksX0_seekOrder_4 11 rfl rfl)
theorem dX0_seekOrder_106 : decode cX0_seekOrder 106 = .ok (.getfield 192, 3) := dk_180 0 192 (dk_at dksX0_seekOrder_4 14 rfl rfl)
theorem dX0_seekOrder_109 : decode cX0_seekOrder 109 = .ok (.if_icmp .ge 52, 3) := dk_162 0 52 (dk_at dksX0_seekOrder_4 17 rfl rfl)
theorem dX0_seekOrder_112 : decode cX0_seekOrder 112 = .ok (.aload_n 0, 1) := dk_42 (dk_at dksX0_seekOrder_4 20 rfl rfl)
theorem dX0_seekOrder_113 : decode cX0_seekOrder 113 = .ok (.getfield 90, 3) := dk_180 0 90 (dk_at dksX0_seekOrder_4 21 rfl rfl)
theorem dX0_seekOrder_116 : decode cX0_seekOrder 116 = .ok (.iload 4, 2) := dk_21 4 (dk_at dksX0_seekOrder_5 0 rfl rfl)
theorem dX0_seekOrder_118 : decode cX0_seekOrder 118 = .ok (.invokevirtual 305, 3) := dk_182 1 49 (dk_at dksX0_seekOrder_5 2 rfl rfl)
theorem dX0_seekOrder_121 : decode cX0_seekOrder 121 = .ok (.ifCond .eq 34, 3) := dk_153 0 34 (dk_at dksX0_seekOrder_5 5 rfl rfl)
theorem dX0_seekOrder_124 : decode cX0_seekOrder 124 = .ok (.iload_n 2, 1) := dk_28 (dk_at dksX0_seekOrder_5 8 rfl rfl)
theorem dX0_seekOrder_125 : decode cX0_seekOrder 125 = .ok (.iload 4, 2) := dk_21 4 (dk_at dksX0_seekOrder_5 9 rfl rfl)
theorem dX0_seekOrder_127 : decode cX0_seekOrder 127 = .ok (.ishr, 1) := dk_122 (dk_at dksX0_seekOrder_5 11 rfl rfl)
theorem dX0_seekOrder_128 : decode cX0_seekOrder 128 = .ok (.iconst 1, 1) := dk_4 (dk_at dksX0_seekOrder_5 12 rfl rfl)
theorem dX0_seekOrder_129 : decode cX0_seekOrder 129 = .ok (.iand, 1) := dk_126 (dk_at dksX0_seekOrder_5 13 rfl rfl)
theorem dX0_seekOrder_130 : decode cX0_seekOrder 130 = .ok (.ifCond .ne 25, 3) := dk_154 0 25 (dk_at dksX0_seekOrder_5 14 rfl rfl)
theorem dX0_seekOrder_133 : decode cX0_seekOrder 133 = .ok (.aload_n 0, 1) := dk_42 (dk_at dksX0_seekOrder_5 17 rfl rfl)
theorem dX0_seekOrder_134 : decode cX0_seekOrder 134 = .ok (.getfield 81, 3) := dk_180 0 81 (dk_at dksX0_seekOrder_5 18 rfl rfl)
theorem dX0_seekOrder_137 : decode cX0_seekOrder 137 = .ok (.iload_n 1, 1) := dk_27 (dk_at dksX0_seekOrder_5 21 rfl rfl)
theorem dX0_seekOrder_138 : decode cX0_seekOrder 138 = .ok (.iload 4, 2) := dk_21 4 (dk_at dksX0_seekOrder_5 22 rfl rfl)
theorem dX0_seekOrder_140 : decode cX0_seekOrder 140 = .ok (.iastore, 1) := dk_79 (dk_at dksX0_seekOrder_6 0 rfl rfl)
theorem dX0_seekOrder_141 : decode cX0_seekOrder 141 = .ok (.aload_n 0, 1) := dk_42 (dk_at dksX0_seekOrder_6 1 rfl rfl)
theorem dX0_seekOrder_142 : decode cX0_seekOrder 142 = .ok (.iload_n 1, 1) := dk_27 (dk_at dksX0_seekOrder_6 2 rfl rfl)
theorem dX0_seekOrder_143 : decode cX0_seekOrder 143 = .ok (.iconst 1, 1) := dk_4 (dk_at dksX0_seekOrder_6 3 rfl rfl)
theorem dX0_seekOrder_144 : decode cX0_seekOrder 144 = .ok (.iadd, 1) := dk_96 (dk_at dksX0_seekOrder_6 4 rfl rfl)
theorem dX0_seekOrder_145 : decode cX0_seekOrder 145 = .ok (.iload_n 2, 1) := dk_28 (dk_at dksX0_seekOrder_6 5 rfl rfl)
theorem dX0_seekOrder_146 : decode cX0_seekOrder 146 = .ok (.iconst 1, 1) := dk_4 (dk_at dksX0_seekOrder_6 6 rfl rfl)
theorem dX0_seekOrder_147 : decode cX0_seekOrder 147 = .ok (.iload 4, 2) := dk_21 4 (dk_at dksX0_seekOrder_6 7 rfl rfl)
theorem dX0_seekOrder_149 : decode cX0_seekOrder 149 = .ok (.ishl, 1) := dk_120 (dk_at dksX0_seekOrder_6 9 rfl rfl)
theorem dX0_seekOrder_150 : decode cX0_seekOrder 150 = .ok (.ior, 1) := dk_128 (dk_at dksX0_seekOrder_6 10 rfl rfl)
theorem dX0_seekOrder_151 : decode cX0_seekOrder 151 = .ok (.iload_n 3, 1) := dk_29 (dk_at dksX0_seekOrder_6 11 rfl rfl)
theorem dX0_seekOrder_152 : decode cX0_seekOrder 152 = .ok (.invokevirtual 341, 3) := dk_182 1 85 (dk_at dksX0_seekOrder_6 12 rfl rfl)
theorem dX0_seekOrder_155 : decode cX0_seekOrder 155 = .ok (.iinc 4 1, 3) := dk_132 4 1 (dk_at dksX0_seekOrder_6 15 rfl rfl)
theorem dX0_seekOrder_158 : decode cX0_seekOrder 158 = .ok (.goto (-58), 3) := dk_167 255 198 (dk_at dksX0_seekOrder_6 18 rfl rfl)
theorem dX0_seekOrder_161 : decode cX0_seekOrder 161 = .ok (.return_, 1) := dk_177 (dk_at dksX0_seekOrder_6 21 rfl rfl)
abbrev cX0_least : ByteArray := prog_1_method_44_code
def yX0_least : MethodName := ⟨RX0, "least", "()I"⟩
def dkwX0_least_0 : List UInt8 := [42, 182, 1, 91, 87, 42, 180, 1, 82, 172, 76, 42, 43, 182, 0, 161, 172]
abbrev dktX0_least_0 : List UInt8 := dkwX0_least_0 ++ []
theorem dksX0_least_0 : cX0_least.data.toList.drop 0 = dktX0_least_0 := by decide +kernel
theorem dX0_least_0 : decode cX0_least 0 = .ok (.aload_n 0, 1) := dk_42 (dk_at dksX0_least_0 0 rfl rfl)
theorem dX0_least_1 : decode cX0_least 1 = .ok (.invokevirtual 347, 3) := dk_182 1 91 (dk_at dksX0_least_0 1 rfl rfl)
theorem dX0_least_4 : decode cX0_least 4 = .ok (.pop, 1) := dk_87 (dk_at dksX0_least_0 4 rfl rfl)
theorem dX0_least_5 : decode cX0_least 5 = .ok (.aload_n 0, 1) := dk_42 (dk_at dksX0_least_0 5 rfl rfl)
theorem dX0_least_6 : decode cX0_least 6 = .ok (.getfield 338, 3) := dk_180 1 82 (dk_at dksX0_least_0 6 rfl rfl)
theorem dX0_least_9 : decode cX0_least 9 = .ok (.ireturn, 1) := dk_172 (dk_at dksX0_least_0 9 rfl rfl)
theorem dX0_least_10 : decode cX0_least 10 = .ok (.astore_n 1, 1) := dk_76 (dk_at dksX0_least_0 10 rfl rfl)
theorem dX0_least_11 : decode cX0_least 11 = .ok (.aload_n 0, 1) := dk_42 (dk_at dksX0_least_0 11 rfl rfl)
theorem dX0_least_12 : decode cX0_least 12 = .ok (.aload_n 1, 1) := dk_43 (dk_at dksX0_least_0 12 rfl rfl)
theorem dX0_least_13 : decode cX0_least 13 = .ok (.invokevirtual 161, 3) := dk_182 0 161 (dk_at dksX0_least_0 13 rfl rfl)
theorem dX0_least_16 : decode cX0_least 16 = .ok (.ireturn, 1) := dk_172 (dk_at dksX0_least_0 16 rfl rfl)
abbrev cX0_was : ByteArray := prog_1_method_45_code
def yX0_was : MethodName := ⟨RX0, "was", "(II)I"⟩
def dkwX0_was_6 : List UInt8 := [182, 0, 161, 172]
abbrev dktX0_was_6 : List UInt8 := dkwX0_was_6 ++ []
def dkwX0_was_5 : List UInt8 := [167, 0, 4, 3, 128, 62, 132, 5, 1, 167, 255, 182, 132, 4, 1, 167, 255, 166, 29, 172, 78, 42, 45]
abbrev dktX0_was_5 : List UInt8 := dkwX0_was_5 ++ dktX0_was_6
def dkwX0_was_4 : List UInt8 := [180, 0, 77, 182, 1, 98, 29, 42, 180, 0, 77, 180, 0, 228, 28, 160, 0, 10, 4, 21, 4, 120]
abbrev dktX0_was_4 : List UInt8 := dkwX0_was_4 ++ dktX0_was_5
def dkwX0_was_3 : List UInt8 := [180, 0, 90, 180, 0, 225, 180, 0, 231, 5, 108, 181, 0, 231, 21, 4, 3, 21, 5, 184, 1, 94, 42]
abbrev dktX0_was_3 : List UInt8 := dkwX0_was_3 ++ dktX0_was_4
def dkwX0_was_2 : List UInt8 := [54, 5, 21, 5, 16, 9, 163, 0, 73, 42, 180, 0, 77, 27, 181, 0, 228, 42, 180, 0, 77, 42]
abbrev dktX0_was_2 : List UInt8 := dkwX0_was_2 ++ dktX0_was_3
def dkwX0_was_1 : List UInt8 := [4, 167, 0, 4, 3, 16, 250, 184, 0, 112, 3, 62, 3, 54, 4, 21, 4, 16, 7, 162, 0, 89, 3]
abbrev dktX0_was_1 : List UInt8 := dkwX0_was_1 ++ dktX0_was_2
def dkwX0_was_0 : List UInt8 := [27, 133, 9, 20, 0, 217, 184, 0, 153, 153, 0, 19, 28, 133, 9, 20, 0, 217, 184, 0, 153, 153, 0, 7]
abbrev dktX0_was_0 : List UInt8 := dkwX0_was_0 ++ dktX0_was_1
theorem dksX0_was_0 : cX0_was.data.toList.drop 0 = dktX0_was_0 := by decide +kernel
theorem dksX0_was_1 : cX0_was.data.toList.drop 24 = dktX0_was_1 := dk_seg dksX0_was_0 24 rfl rfl
theorem dksX0_was_2 : cX0_was.data.toList.drop 47 = dktX0_was_2 := dk_seg dksX0_was_1 23 rfl rfl
theorem dksX0_was_3 : cX0_was.data.toList.drop 69 = dktX0_was_3 := dk_seg dksX0_was_2 22 rfl rfl
theorem dksX0_was_4 : cX0_was.data.toList.drop 92 = dktX0_was_4 := dk_seg dksX0_was_3 23 rfl rfl
theorem dksX0_was_5 : cX0_was.data.toList.drop 114 = dktX0_was_5 := dk_seg dksX0_was_4 22 rfl rfl
theorem dksX0_was_6 : cX0_was.data.toList.drop 137 = dktX0_was_6 := dk_seg dksX0_was_5 23 rfl rfl
theorem dX0_was_0 : decode cX0_was 0 = .ok (.iload_n 1, 1) := dk_27 (dk_at dksX0_was_0 0 rfl rfl)
theorem dX0_was_1 : decode cX0_was 1 = .ok (.i2l, 1) := dk_133 (dk_at dksX0_was_0 1 rfl rfl)
theorem dX0_was_2 : decode cX0_was 2 = .ok (.lconst 0, 1) := dk_9 (dk_at dksX0_was_0 2 rfl rfl)
theorem dX0_was_3 : decode cX0_was 3 = .ok (.ldc2_w 217, 3) := dk_20 0 217 (dk_at dksX0_was_0 3 rfl rfl)
theorem dX0_was_6 : decode cX0_was 6 = .ok (.invokestatic 153, 3) := dk_184 0 153 (dk_at dksX0_was_0 6 rfl rfl)
theorem dX0_was_9 : decode cX0_was 9 = .ok (.ifCond .eq 19, 3) := dk_153 0 19 (dk_at dksX0_was_0 9 rfl rfl)
theorem dX0_was_12 : decode cX0_was 12 = .ok (.iload_n 2, 1) := dk_28 (dk_at dksX0_was_0 12 rfl rfl)
theorem dX0_was_13 : decode cX0_was 13 = .ok (.i2l, 1) := dk_133 (dk_at dksX0_was_0 13 rfl rfl)
theorem dX0_was_14 : decode cX0_was 14 = .ok (.lconst 0, 1) := dk_9 (dk_at dksX0_was_0 14 rfl rfl)
theorem dX0_was_15 : decode cX0_was 15 = .ok (.ldc2_w 217, 3) := dk_20 0 217 (dk_at dksX0_was_0 15 rfl rfl)
theorem dX0_was_18 : decode cX0_was 18 = .ok (.invokestatic 153, 3) := dk_184 0 153 (dk_at dksX0_was_0 18 rfl rfl)
theorem dX0_was_21 : decode cX0_was 21 = .ok (.ifCond .eq 7, 3) := dk_153 0 7 (dk_at dksX0_was_0 21 rfl rfl)
theorem dX0_was_24 : decode cX0_was 24 = .ok (.iconst 1, 1) := dk_4 (dk_at dksX0_was_1 0 rfl rfl)
theorem dX0_was_25 : decode cX0_was 25 = .ok (.goto 4, 3) := dk_167 0 4 (dk_at dksX0_was_1 1 rfl rfl)
theorem dX0_was_28 : decode cX0_was 28 = .ok (.iconst 0, 1) := dk_3 (dk_at dksX0_was_1 4 rfl rfl)
theorem dX0_was_29 : decode cX0_was 29 = .ok (.bipush (-6), 2) := dk_16 250 (dk_at dksX0_was_1 5 rfl rfl)
theorem dX0_was_31 : decode cX0_was 31 = .ok (.invokestatic 112, 3) := dk_184 0 112 (dk_at dksX0_was_1 7 rfl rfl)
theorem dX0_was_34 : decode cX0_was 34 = .ok (.iconst 0, 1) := dk_3 (dk_at dksX0_was_1 10 rfl rfl)
theorem dX0_was_35 : decode cX0_was 35 = .ok (.istore_n 3, 1) := dk_62 (dk_at dksX0_was_1 11 rfl rfl)
theorem dX0_was_36 : decode cX0_was 36 = .ok (.iconst 0, 1) := dk_3 (dk_at dksX0_was_1 12 rfl rfl)
theorem dX0_was_37 : decode cX0_was 37 = .ok (.istore 4, 2) := dk_54 4 (dk_at dksX0_was_1 13 rfl rfl)
theorem dX0_was_39 : decode cX0_was 39 = .ok (.iload 4, 2) := dk_21 4 (dk_at dksX0_was_1 15 rfl rfl)
theorem dX0_was_41 : decode cX0_was 41 = .ok (.bipush 7, 2) := dk_16 7 (dk_at dksX0_was_1 17 rfl rfl)
theorem dX0_was_43 : decode cX0_was 43 = .ok (.if_icmp .ge 89, 3) := dk_162 0 89 (dk_at dksX0_was_1 19 rfl rfl)
theorem dX0_was_46 : decode cX0_was 46 = .ok (.iconst 0, 1) := dk_3 (dk_at dksX0_was_1 22 rfl rfl)
theorem dX0_was_47 : decode cX0_was 47 = .ok (.istore 5, 2) := dk_54 5 (dk_at dksX0_was_2 0 rfl rfl)
theorem dX0_was_49 : decode cX0_was 49 = .ok (.iload 5, 2) := dk_21 5 (dk_at dksX0_was_2 2 rfl rfl)
theorem dX0_was_51 : decode cX0_was 51 = .ok (.bipush 9, 2) := dk_16 9 (dk_at dksX0_was_2 4 rfl rfl)
theorem dX0_was_53 : decode cX0_was 53 = .ok (.if_icmp .gt 73, 3) := dk_163 0 73 (dk_at dksX0_was_2 6 rfl rfl)
theorem dX0_was_56 : decode cX0_was 56 = .ok (.aload_n 0, 1) := dk_42 (dk_at dksX0_was_2 9 rfl rfl)
theorem dX0_was_57 : decode cX0_was 57 = .ok (.getfield 77, 3) := dk_180 0 77 (dk_at dksX0_was_2 10 rfl rfl)
theorem dX0_was_60 : decode cX0_was 60 = .ok (.iload_n 1, 1) := dk_27 (dk_at dksX0_was_2 13 rfl rfl)
theorem dX0_was_61 : decode cX0_was 61 = .ok (.putfield 228, 3) := dk_181 0 228 (dk_at dksX0_was_2 14 rfl rfl)
theorem dX0_was_64 : decode cX0_was 64 = .ok (.aload_n 0, 1) := dk_42 (dk_at dksX0_was_2 17 rfl rfl)
theorem dX0_was_65 : decode cX0_was 65 = .ok (.getfield 77, 3) := dk_180 0 77 (dk_at dksX0_was_2 18 rfl rfl)
theorem dX0_was_68 : decode cX0_was 68 = .ok (.aload_n 0, 1) := dk_42 (dk_at dksX0_was_2 21 rfl rfl)
theorem dX0_was_69 : decode cX0_was 69 = .ok (.getfield 90, 3) := dk_180 0 90 (dk_at dksX0_was_3 0 rfl rfl)
theorem dX0_was_72 : decode cX0_was 72 = .ok (.getfield 225, 3) := dk_180 0 225 (dk_at dksX0_was_3 3 rfl rfl)
theorem dX0_was_75 : decode cX0_was 75 = .ok (.getfield 231, 3) := dk_180 0 231 (dk_at dksX0_was_3 6 rfl rfl)
theorem dX0_was_78 : decode cX0_was 78 = .ok (.iconst 2, 1) := dk_5 (dk_at dksX0_was_3 9 rfl rfl)
theorem dX0_was_79 : decode cX0_was 79 = .ok (.idiv, 1) := dk_108 (dk_at dksX0_was_3 10 rfl rfl)
theorem dX0_was_80 : decode cX0_was 80 = .ok (.putfield 231, 3) := dk_181 0 231 (dk_at dksX0_was_3 11 rfl rfl)
theorem dX0_was_83 : decode cX0_was 83 = .ok (.iload 4, 2) := dk_21 4 (dk_at dksX0_was_3 14 rfl rfl)
theorem dX0_was_85 : decode cX0_was 85 = .ok (.iconst 0, 1) := dk_3 (dk_at dksX0_was_3 16 rfl rfl)
theorem dX0_was_86 : decode cX0_was 86 = .ok (.iload 5, 2) := dk_21 5 (dk_at dksX0_was_3 17 rfl rfl)
theorem dX0_was_88 : decode cX0_was 88 = .ok (.invokestatic 350, 3) := dk_184 1 94 (dk_at dksX0_was_3 19 rfl rfl)
theorem dX0_was_91 : decode cX0_was 91 = .ok (.aload_n 0, 1) := dk_42 (dk_at dksX0_was_3 22 rfl rfl)
theorem dX0_was_92 : decode cX0_was 92 = .ok (.getfield 77, 3) := dk_180 0 77 (dk_at dksX0_was_4 0 rfl rfl)
theorem dX0_was_95 : decode cX0_was 95 = .ok (.invokevirtual 354, 3) := dk_182 1 98 (dk_at dksX0_was_4 3 rfl rfl)
theorem dX0_was_98 : decode cX0_was 98 = .ok (.iload_n 3, 1) := dk_29 (dk_at dksX0_was_4 6 rfl rfl)
theorem dX0_was_99 : decode cX0_was 99 = .ok (.aload_n 0, 1) := dk_42 (dk_at dksX0_was_4 7 rfl rfl)
theorem dX0_was_100 : decode cX0_was 100 = .ok (.getfield 77, 3) := dk_180 0 77 (dk_at dksX0_was_4 8 rfl rfl)
theorem dX0_was_103 : decode cX0_was 103 = .ok (.getfield 228, 3) := dk_180 0 228 (dk_at dksX0_was_4 11 rfl rfl)
theorem dX0_was_106 : decode cX0_was 106 = .ok (.iload_n 2, 1) := dk_28 (dk_at dksX0_was_4 14 rfl rfl)
theorem dX0_was_107 : decode cX0_was 107 = .ok (.if_icmp .ne 10, 3) := dk_160 0 10 (dk_at dksX0_was_4 15 rfl rfl)
theorem dX0_was_110 : decode cX0_was 110 = .ok (.iconst 1, 1) := dk_4 (dk_at dksX0_was_4 18 rfl rfl)
theorem dX0_was_111 : decode cX0_was 111 = .ok (.iload 4, 2) := dk_21 4 (dk_at dksX0_was_4 19 rfl rfl)
theorem dX0_was_113 : decode cX0_was 113 = .ok (.ishl, 1) := dk_120 (dk_at dksX0_was_4 21 rfl rfl)
theorem dX0_was_114 : decode cX0_was 114 = .ok (.goto 4, 3) := dk_167 0 4 (dk_at dksX0_was_5 0 rfl rfl)
theorem dX0_was_117 : decode cX0_was 117 = .ok (.iconst 0, 1) := dk_3 (dk_at dksX0_was_5 3 rfl rfl)
theorem dX0_was_118 : decode cX0_was 118 = .ok (.ior, 1) := dk_128 (dk_at dksX0_was_5 4 rfl rfl)
theorem dX0_was_119 : decode cX0_was 119 = .ok (.istore_n 3, 1) := dk_62 (dk_at dksX0_was_5 5 rfl rfl)
theorem dX0_was_120 : decode cX0_was 120 = .ok (.iinc 5 1, 3) := dk_132 5 1 (dk_at dksX0_was_5 6 rfl rfl)
theorem dX0_was_123 : decode cX0_was 123 = .ok (.goto (-74), 3) := dk_167 255 182 (dk_at dksX0_was_5 9 rfl rfl)
theorem dX0_was_126 : decode cX0_was 126 = .ok (.iinc 4 1, 3) := dk_132 4 1 (dk_at dksX0_was_5 12 rfl rfl)
theorem dX0_was_129 : decode cX0_was 129 = .ok (.goto (-90), 3) := dk_167 255 166 (dk_at dksX0_was_5 15 rfl rfl)
theorem dX0_was_132 : decode cX0_was 132 = .ok (.iload_n 3, 1) := dk_29 (dk_at dksX0_was_5 18 rfl rfl)
theorem dX0_was_133 : decode cX0_was 133 = .ok (.ireturn, 1) := dk_172 (dk_at dksX0_was_5 19 rfl rfl)
theorem dX0_was_134 : decode cX0_was 134 = .ok (.astore_n 3, 1) := dk_78 (dk_at dksX0_was_5 20 rfl rfl)
theorem dX0_was_135 : decode cX0_was 135 = .ok (.aload_n 0, 1) := dk_42 (dk_at dksX0_was_5 21 rfl rfl)
theorem dX0_was_136 : decode cX0_was 136 = .ok (.aload_n 3, 1) := dk_45 (dk_at dksX0_was_5 22 rfl rfl)
theorem dX0_was_137 : decode cX0_was 137 = .ok (.invokevirtual 161, 3) := dk_182 0 161 (dk_at dksX0_was_6 0 rfl rfl)
theorem dX0_was_140 : decode cX0_was 140 = .ok (.ireturn, 1) := dk_172 (dk_at dksX0_was_6 3 rfl rfl)
abbrev cX0_fit : ByteArray := prog_1_method_46_code
def yX0_fit : MethodName := ⟨RX0, "fit", "(I)I"⟩
def dkwX0_fit_5 : List UInt8 := [29, 120, 167, 0, 4, 3, 128, 61, 132, 3, 1, 167, 255, 146, 28, 172, 77, 42, 44, 182, 0, 161, 172]
abbrev dktX0_fit_5 : List UInt8 := dkwX0_fit_5 ++ []
def dkwX0_fit_4 : List UInt8 := [167, 0, 4, 3, 54, 4, 28, 21, 4, 153, 0, 20, 29, 2, 160, 0, 9, 17, 1, 0, 167, 0, 10, 4]
abbrev dktX0_fit_4 : List UInt8 := dkwX0_fit_4 ++ dktX0_fit_5
def dkwX0_fit_3 : List UInt8 := [42, 180, 0, 77, 182, 1, 28, 2, 160, 0, 18, 42, 180, 0, 77, 180, 0, 228, 27, 160, 0, 7, 4]
abbrev dktX0_fit_3 : List UInt8 := dkwX0_fit_3 ++ dktX0_fit_4
def dkwX0_fit_2 : List UInt8 := [180, 0, 77, 42, 180, 0, 90, 180, 0, 225, 182, 1, 63, 42, 180, 0, 90, 29, 182, 1, 20, 182, 1, 24]
abbrev dktX0_fit_2 : List UInt8 := dkwX0_fit_2 ++ dktX0_fit_3
def dkwX0_fit_1 : List UInt8 := [180, 0, 192, 162, 0, 105, 29, 2, 159, 0, 14, 42, 180, 0, 90, 29, 182, 1, 49, 153, 0, 83, 42]
abbrev dktX0_fit_1 : List UInt8 := dkwX0_fit_1 ++ dktX0_fit_2
def dkwX0_fit_0 : List UInt8 := [27, 133, 9, 20, 0, 217, 184, 0, 153, 16, 250, 184, 0, 112, 3, 61, 2, 62, 29, 42, 180, 0, 90]
abbrev dktX0_fit_0 : List UInt8 := dkwX0_fit_0 ++ dktX0_fit_1
theorem dksX0_fit_0 : cX0_fit.data.toList.drop 0 = dktX0_fit_0 := by decide +kernel
theorem dksX0_fit_1 : cX0_fit.data.toList.drop 23 = dktX0_fit_1 := dk_seg dksX0_fit_0 23 rfl rfl
theorem dksX0_fit_2 : cX0_fit.data.toList.drop 46 = dktX0_fit_2 := dk_seg dksX0_fit_1 23 rfl rfl
theorem dksX0_fit_3 : cX0_fit.data.toList.drop 70 = dktX0_fit_3 := dk_seg dksX0_fit_2 24 rfl rfl
theorem dksX0_fit_4 : cX0_fit.data.toList.drop 93 = dktX0_fit_4 := dk_seg dksX0_fit_3 23 rfl rfl
theorem dksX0_fit_5 : cX0_fit.data.toList.drop 117 = dktX0_fit_5 := dk_seg dksX0_fit_4 24 rfl rfl
theorem dX0_fit_0 : decode cX0_fit 0 = .ok (.iload_n 1, 1) := dk_27 (dk_at dksX0_fit_0 0 rfl rfl)
theorem dX0_fit_1 : decode cX0_fit 1 = .ok (.i2l, 1) := dk_133 (dk_at dksX0_fit_0 1 rfl rfl)
theorem dX0_fit_2 : decode cX0_fit 2 = .ok (.lconst 0, 1) := dk_9 (dk_at dksX0_fit_0 2 rfl rfl)
theorem dX0_fit_3 : decode cX0_fit 3 = .ok (.ldc2_w 217, 3) := dk_20 0 217 (dk_at dksX0_fit_0 3 rfl rfl)
theorem dX0_fit_6 : decode cX0_fit 6 = .ok (.invokestatic 153, 3) := dk_184 0 153 (dk_at dksX0_fit_0 6 rfl rfl)
theorem dX0_fit_9 : decode cX0_fit 9 = .ok (.bipush (-6), 2) := dk_16 250 (dk_at dksX0_fit_0 9 rfl rfl)
theorem dX0_fit_11 : decode cX0_fit 11 = .ok (.invokestatic 112, 3) := dk_184 0 112 (dk_at dksX0_fit_0 11 rfl rfl)
theorem dX0_fit_14 : decode cX0_fit 14 = .ok (.iconst 0, 1) := dk_3 (dk_at dksX0_fit_0 14 rfl rfl)
theorem dX0_fit_15 : decode cX0_fit 15 = .ok (.istore_n 2, 1) := dk_61 (dk_at dksX0_fit_0 15 rfl rfl)
theorem dX0_fit_16 : decode cX0_fit 16 = .ok (.iconst (-1), 1) := dk_2 (dk_at dksX0_fit_0 16 rfl rfl)
theorem dX0_fit_17 : decode cX0_fit 17 = .ok (.istore_n 3, 1) := dk_62 (dk_at dksX0_fit_0 17 rfl rfl)
theorem dX0_fit_18 : decode cX0_fit 18 = .ok (.iload_n 3, 1) := dk_29 (dk_at dksX0_fit_0 18 rfl rfl)
theorem dX0_fit_19 : decode cX0_fit 19 = .ok (.aload_n 0, 1) := dk_42 (dk_at dksX0_fit_0 19 rfl rfl)
theorem dX0_fit_20 : decode cX0_fit 20 = .ok (.getfield 90, 3) := dk_180 0 90 (dk_at dksX0_fit_0 20 rfl rfl)
theorem dX0_fit_23 : decode cX0_fit 23 = .ok (.getfield 192, 3) := dk_180 0 192 (dk_at dksX0_fit_1 0 rfl rfl)
theorem dX0_fit_26 : decode cX0_fit 26 = .ok (.if_icmp .ge 105, 3) := dk_162 0 105 (dk_at dksX0_fit_1 3 rfl rfl)
theorem dX0_fit_29 : decode cX0_fit 29 = .ok (.iload_n 3, 1) := dk_29 (dk_at dksX0_fit_1 6 rfl rfl)
theorem dX0_fit_30 : decode cX0_fit 30 = .ok (.iconst (-1), 1) := dk_2 (dk_at dksX0_fit_1 7 rfl rfl)
theorem dX0_fit_31 : decode cX0_fit 31 = .ok (.if_icmp .eq 14, 3) := dk_159 0 14 (dk_at dksX0_fit_1 8 rfl rfl)
theorem dX0_fit_34 : decode cX0_fit 34 = .ok (.aload_n 0, 1) := dk_42 (dk_at dksX0_fit_1 11 rfl rfl)
theorem dX0_fit_35 : decode cX0_fit 35 = .ok (.getfield 90, 3) := dk_180 0 90 (dk_at dksX0_fit_1 12 rfl rfl)
theorem dX0_fit_38 : decode cX0_fit 38 = .ok (.iload_n 3, 1) := dk_29 (dk_at dksX0_fit_1 15 rfl rfl)
theorem dX0_fit_39 : decode cX0_fit 39 = .ok (.invokevirtual 305, 3) := dk_182 1 49 (dk_at dksX0_fit_1 16 rfl rfl)
theorem dX0_fit_42 : decode cX0_fit 42 = .ok (.ifCond .eq 83, 3) := dk_153 0 83 (dk_at dksX0_fit_1 19 rfl rfl)
theorem dX0_fit_45 : decode cX0_fit 45 = .ok (.aload_n 0, 1) := dk_42 (dk_at dksX0_fit_1 22 rfl rfl)
theorem dX0_fit_46 : decode cX0_fit 46 = .ok (.getfield 77, 3) := dk_180 0 77 (dk_at dksX0_fit_2 0 rfl rfl)
theorem dX0_fit_49 : decode cX0_fit 49 = .ok (.aload_n 0, 1) := dk_42 (dk_at dksX0_fit_2 3 rfl rfl)
theorem dX0_fit_50 : decode cX0_fit 50 = .ok (.getfield 90, 3) := dk_180 0 90 (dk_at dksX0_fit_2 4 rfl rfl)
theorem dX0_fit_53 : decode cX0_fit 53 = .ok (.getfield 225, 3) := dk_180 0 225 (dk_at dksX0_fit_2 7 rfl rfl)
theorem dX0_fit_56 : decode cX0_fit 56 = .ok (.invokevirtual 319, 3) := dk_182 1 63 (dk_at dksX0_fit_2 10 rfl rfl)
theorem dX0_fit_59 : decode cX0_fit 59 = .ok (.aload_n 0, 1) := dk_42 (dk_at dksX0_fit_2 13 rfl rfl)
theorem dX0_fit_60 : decode cX0_fit 60 = .ok (.getfield 90, 3) := dk_180 0 90 (dk_at dksX0_fit_2 14 rfl rfl)
theorem dX0_fit_63 : decode cX0_fit 63 = .ok (.iload_n 3, 1) := dk_29 (dk_at dksX0_fit_2 17 rfl rfl)
theorem dX0_fit_64 : decode cX0_fit 64 = .ok (.invokevirtual 276, 3) := dk_182 1 20 (dk_at dksX0_fit_2 18 rfl rfl)
theorem dX0_fit_67 : decode cX0_fit 67 = .ok (.invokevirtual 280, 3) := dk_182 1 24 (dk_at dksX0_fit_2 21 rfl rfl)
theorem dX0_fit_70 : decode cX0_fit 70 = .ok (.aload_n 0, 1) := dk_42 (dk_at dksX0_fit_3 0 rfl rfl)
theorem dX0_fit_71 : decode cX0_fit 71 = .ok (.getfield 77, 3) := dk_180 0 77 (dk_at dksX0_fit_3 1 rfl rfl)
theorem dX0_fit_74 : decode cX0_fit 74 = .ok (.invokevirtual 284, 3) := dk_182 1 28 (dk_at dksX0_fit_3 4 rfl rfl)
theorem dX0_fit_77 : decode cX0_fit 77 = .ok (.iconst (-1), 1) := dk_2 (dk_at dksX0_fit_3 7 rfl rfl)
theorem dX0_fit_78 : decode cX0_fit 78 = .ok (.if_icmp .ne 18, 3) := dk_160 0 18 (dk_at dksX0_fit_3 8 rfl rfl)
theorem dX0_fit_81 : decode cX0_fit 81 = .ok (.aload_n 0, 1) := dk_42 (dk_at dksX0_fit_3 11 rfl rfl)
theorem dX0_fit_82 : decode cX0_fit 82 = .ok (.getfield 77, 3) := dk_180 0 77 (dk_at dksX0_fit_3 12 rfl rfl)
theorem dX0_fit_85 : decode cX0_fit 85 = .ok (.getfield 228, 3) := dk_180 0 228 (dk_at dksX0_fit_3 15 rfl rfl)
theorem dX0_fit_88 : decode cX0_fit 88 = .ok (.iload_n 1, 1) := dk_27 (dk_at dksX0_fit_3 18 rfl rfl)
theorem dX0_fit_89 : decode cX0_fit 89 = .ok (.if_icmp .ne 7, 3) := dk_160 0 7 (dk_at dksX0_fit_3 19 rfl rfl)
theorem dX0_fit_92 : decode cX0_fit 92 = .ok (.iconst 1, 1) := dk_4 (dk_at dksX0_fit_3 22 rfl rfl)
theorem dX0_fit_93 : decode cX0_fit 93 = .ok (.goto 4, 3) := dk_167 0 4 (dk_at dksX0_fit_4 0 rfl rfl)
theorem dX0_fit_96 : decode cX0_fit 96 = .ok (.iconst 0, 1) := dk_3 (dk_at dksX0_fit_4 3 rfl rfl)
theorem dX0_fit_97 : decode cX0_fit 97 = .ok (.istore 4, 2) := dk_54 4 (dk_at dksX0_fit_4 4 rfl rfl)
theorem dX0_fit_99 : decode cX0_fit 99 = .ok (.iload_n 2, 1) := dk_28 (dk_at dksX0_fit_4 6 rfl rfl)
theorem dX0_fit_100 : decode cX0_fit 100 = .ok (.iload 4, 2) := dk_21 4 (dk_at dksX0_fit_4 7 rfl rfl)
theorem dX0_fit_102 : decode cX0_fit 102 = .ok (.ifCond .eq 20, 3) := dk_153 0 20 (dk_at dksX0_fit_4 9 rfl rfl)
theorem dX0_fit_105 : decode cX0_fit 105 = .ok (.iload_n 3, 1) := dk_29 (dk_at dksX0_fit_4 12 rfl rfl)
theorem dX0_fit_106 : decode cX0_fit 106 = .ok (.iconst (-1), 1) := dk_2 (dk_at dksX0_fit_4 13 rfl rfl)
theorem dX0_fit_107 : decode cX0_fit 107 = .ok (.if_icmp .ne 9, 3) := dk_160 0 9 (dk_at dksX0_fit_4 14 rfl rfl)
theorem dX0_fit_110 : decode cX0_fit 110 = .ok (.sipush 256, 3) := dk_17 1 0 (dk_at dksX0_fit_4 17 rfl rfl)
theorem dX0_fit_113 : decode cX0_fit 113 = .ok (.goto 10, 3) := dk_167 0 10 (dk_at dksX0_fit_4 20 rfl rfl)
theorem dX0_fit_116 : decode cX0_fit 116 = .ok (.iconst 1, 1) := dk_4 (dk_at dksX0_fit_4 23 rfl rfl)
theorem dX0_fit_117 : decode cX0_fit 117 = .ok (.iload_n 3, 1) := dk_29 (dk_at dksX0_fit_5 0 rfl rfl)
theorem dX0_fit_118 : decode cX0_fit 118 = .ok (.ishl, 1) := dk_120 (dk_at dksX0_fit_5 1 rfl rfl)
theorem dX0_fit_119 : decode cX0_fit 119 = .ok (.goto 4, 3) := dk_167 0 4 (dk_at dksX0_fit_5 2 rfl rfl)
theorem dX0_fit_122 : decode cX0_fit 122 = .ok (.iconst 0, 1) := dk_3 (dk_at dksX0_fit_5 5 rfl rfl)
theorem dX0_fit_123 : decode cX0_fit 123 = .ok (.ior, 1) := dk_128 (dk_at dksX0_fit_5 6 rfl rfl)
theorem dX0_fit_124 : decode cX0_fit 124 = .ok (.istore_n 2, 1) := dk_61 (dk_at dksX0_fit_5 7 rfl rfl)
theorem dX0_fit_125 : decode cX0_fit 125 = .ok (.iinc 3 1, 3) := dk_132 3 1 (dk_at dksX0_fit_5 8 rfl rfl)
theorem dX0_fit_128 : decode cX0_fit 128 = .ok (.goto (-110), 3) := dk_167 255 146 (dk_at dksX0_fit_5 11 rfl rfl)
theorem dX0_fit_131 : decode cX0_fit 131 = .ok (.iload_n 2, 1) := dk_28 (dk_at dksX0_fit_5 14 rfl rfl)
theorem dX0_fit_132 : decode cX0_fit 132 = .ok (.ireturn, 1) := dk_172 (dk_at dksX0_fit_5 15 rfl rfl)
theorem dX0_fit_133 : decode cX0_fit 133 = .ok (.astore_n 2, 1) := dk_77 (dk_at dksX0_fit_5 16 rfl rfl)
theorem dX0_fit_134 : decode cX0_fit 134 = .ok (.aload_n 0, 1) := dk_42 (dk_at dksX0_fit_5 17 rfl rfl)
theorem dX0_fit_135 : decode cX0_fit 135 = .ok (.aload_n 2, 1) := dk_44 (dk_at dksX0_fit_5 18 rfl rfl)
theorem dX0_fit_136 : decode cX0_fit 136 = .ok (.invokevirtual 161, 3) := dk_182 0 161 (dk_at dksX0_fit_5 19 rfl rfl)
theorem dX0_fit_139 : decode cX0_fit 139 = .ok (.ireturn, 1) := dk_172 (dk_at dksX0_fit_5 22 rfl rfl)
abbrev cX0_chance : ByteArray := prog_1_method_48_code
def yX0_chance : MethodName := ⟨RX0, "chance", "(I)I"⟩
def dkwX0_chance_1 : List UInt8 := [180, 0, 225, 27, 2, 182, 1, 102, 172, 77, 42, 44, 182, 0, 161, 172]
abbrev dktX0_chance_1 : List UInt8 := dkwX0_chance_1 ++ []
def dkwX0_chance_0 : List UInt8 := [42, 182, 1, 72, 27, 133, 10, 20, 1, 106, 184, 0, 153, 16, 250, 184, 0, 112, 42, 42, 180, 0, 90]
abbrev dktX0_chance_0 : List UInt8 := dkwX0_chance_0 ++ dktX0_chance_1
theorem dksX0_chance_0 : cX0_chance.data.toList.drop 0 = dktX0_chance_0 := by decide +kernel
theorem dksX0_chance_1 : cX0_chance.data.toList.drop 23 = dktX0_chance_1 := dk_seg dksX0_chance_0 23 rfl rfl
theorem dX0_chance_0 : decode cX0_chance 0 = .ok (.aload_n 0, 1) := dk_42 (dk_at dksX0_chance_0 0 rfl rfl)
theorem dX0_chance_1 : decode cX0_chance 1 = .ok (.invokevirtual 328, 3) := dk_182 1 72 (dk_at dksX0_chance_0 1 rfl rfl)
theorem dX0_chance_4 : decode cX0_chance 4 = .ok (.iload_n 1, 1) := dk_27 (dk_at dksX0_chance_0 4 rfl rfl)
theorem dX0_chance_5 : decode cX0_chance 5 = .ok (.i2l, 1) := dk_133 (dk_at dksX0_chance_0 5 rfl rfl)
theorem dX0_chance_6 : decode cX0_chance 6 = .ok (.lconst 1, 1) := dk_10 (dk_at dksX0_chance_0 6 rfl rfl)
theorem dX0_chance_7 : decode cX0_chance 7 = .ok (.ldc2_w 362, 3) := dk_20 1 106 (dk_at dksX0_chance_0 7 rfl rfl)
theorem dX0_chance_10 : decode cX0_chance 10 = .ok (.invokestatic 153, 3) := dk_184 0 153 (dk_at dksX0_chance_0 10 rfl rfl)
theorem dX0_chance_13 : decode cX0_chance 13 = .ok (.bipush (-6), 2) := dk_16 250 (dk_at dksX0_chance_0 13 rfl rfl)
theorem dX0_chance_15 : decode cX0_chance 15 = .ok (.invokestatic 112, 3) := dk_184 0 112 (dk_at dksX0_chance_0 15 rfl rfl)
theorem dX0_chance_18 : decode cX0_chance 18 = .ok (.aload_n 0, 1) := dk_42 (dk_at dksX0_chance_0 18 rfl rfl)
theorem dX0_chance_19 : decode cX0_chance 19 = .ok (.aload_n 0, 1) := dk_42 (dk_at dksX0_chance_0 19 rfl rfl)
theorem dX0_chance_20 : decode cX0_chance 20 = .ok (.getfield 90, 3) := dk_180 0 90 (dk_at dksX0_chance_0 20 rfl rfl)
theorem dX0_chance_23 : decode cX0_chance 23 = .ok (.getfield 225, 3) := dk_180 0 225 (dk_at dksX0_chance_1 0 rfl rfl)
theorem dX0_chance_26 : decode cX0_chance 26 = .ok (.iload_n 1, 1) := dk_27 (dk_at dksX0_chance_1 3 rfl rfl)
theorem dX0_chance_27 : decode cX0_chance 27 = .ok (.iconst (-1), 1) := dk_2 (dk_at dksX0_chance_1 4 rfl rfl)
theorem dX0_chance_28 : decode cX0_chance 28 = .ok (.invokevirtual 358, 3) := dk_182 1 102 (dk_at dksX0_chance_1 5 rfl rfl)
theorem dX0_chance_31 : decode cX0_chance 31 = .ok (.ireturn, 1) := dk_172 (dk_at dksX0_chance_1 8 rfl rfl)
theorem dX0_chance_32 : decode cX0_chance 32 = .ok (.astore_n 2, 1) := dk_77 (dk_at dksX0_chance_1 9 rfl rfl)
theorem dX0_chance_33 : decode cX0_chance 33 = .ok (.aload_n 0, 1) := dk_42 (dk_at dksX0_chance_1 10 rfl rfl)
theorem dX0_chance_34 : decode cX0_chance 34 = .ok (.aload_n 2, 1) := dk_44 (dk_at dksX0_chance_1 11 rfl rfl)
theorem dX0_chance_35 : decode cX0_chance 35 = .ok (.invokevirtual 161, 3) := dk_182 0 161 (dk_at dksX0_chance_1 12 rfl rfl)
theorem dX0_chance_38 : decode cX0_chance 38 = .ok (.ireturn, 1) := dk_172 (dk_at dksX0_chance_1 15 rfl rfl)
abbrev cX0_deathsIn : ByteArray := prog_1_method_47_code
def yX0_deathsIn : MethodName := ⟨RX0, "deathsIn", "(LHamsterWeekends$Pet;II)I"⟩
def dkwX0_deathsIn_6 : List UInt8 := [21, 5, 172]
abbrev dktX0_deathsIn_6 : List UInt8 := dkwX0_deathsIn_6 ++ []
def dkwX0_deathsIn_5 : List UInt8 := [159, 0, 9, 29, 21, 6, 160, 0, 8, 21, 4, 167, 0, 4, 3, 96, 54, 5, 132, 6, 1, 167, 255, 158]
abbrev dktX0_deathsIn_5 : List UInt8 := dkwX0_deathsIn_5 ++ dktX0_deathsIn_6
def dkwX0_deathsIn_4 : List UInt8 := [25, 7, 182, 1, 28, 2, 160, 0, 16, 42, 25, 7, 28, 4, 100, 29, 182, 1, 102, 167, 0, 20, 29, 2]
abbrev dktX0_deathsIn_4 : List UInt8 := dkwX0_deathsIn_4 ++ dktX0_deathsIn_5
def dkwX0_deathsIn_3 : List UInt8 := [43, 182, 1, 63, 58, 7, 25, 7, 42, 180, 0, 90, 180, 0, 129, 21, 6, 50, 182, 1, 24, 21, 5]
abbrev dktX0_deathsIn_3 : List UInt8 := dkwX0_deathsIn_3 ++ dktX0_deathsIn_4
def dkwX0_deathsIn_2 : List UInt8 := [180, 0, 192, 162, 0, 92, 42, 180, 0, 90, 21, 6, 182, 1, 49, 153, 0, 74, 42, 180, 0, 98, 28, 50]
abbrev dktX0_deathsIn_2 : List UInt8 := dkwX0_deathsIn_2 ++ dktX0_deathsIn_3
def dkwX0_deathsIn_1 : List UInt8 := [182, 0, 116, 104, 54, 4, 132, 5, 1, 167, 255, 235, 3, 54, 5, 3, 54, 6, 21, 6, 42, 180, 0, 90]
abbrev dktX0_deathsIn_1 : List UInt8 := dkwX0_deathsIn_1 ++ dktX0_deathsIn_2
def dkwX0_deathsIn_0 : List UInt8 := [28, 154, 0, 5, 3, 172, 4, 54, 4, 4, 54, 5, 21, 5, 28, 162, 0, 21, 21, 4, 42, 180, 0, 90]
abbrev dktX0_deathsIn_0 : List UInt8 := dkwX0_deathsIn_0 ++ dktX0_deathsIn_1
theorem dksX0_deathsIn_0 : cX0_deathsIn.data.toList.drop 0 = dktX0_deathsIn_0 := by decide +kernel
theorem dksX0_deathsIn_1 : cX0_deathsIn.data.toList.drop 24 = dktX0_deathsIn_1 := dk_seg dksX0_deathsIn_0 24 rfl rfl
theorem dksX0_deathsIn_2 : cX0_deathsIn.data.toList.drop 48 = dktX0_deathsIn_2 := dk_seg dksX0_deathsIn_1 24 rfl rfl
theorem dksX0_deathsIn_3 : cX0_deathsIn.data.toList.drop 72 = dktX0_deathsIn_3 := dk_seg dksX0_deathsIn_2 24 rfl rfl
theorem dksX0_deathsIn_4 : cX0_deathsIn.data.toList.drop 95 = dktX0_deathsIn_4 := dk_seg dksX0_deathsIn_3 23 rfl rfl
theorem dksX0_deathsIn_5 : cX0_deathsIn.data.toList.drop 119 = dktX0_deathsIn_5 := dk_seg dksX0_deathsIn_4 24 rfl rfl
theorem dksX0_deathsIn_6 : cX0_deathsIn.data.toList.drop 143 = dktX0_deathsIn_6 := dk_seg dksX0_deathsIn_5 24 rfl rfl
theorem dX0_deathsIn_0 : decode cX0_deathsIn 0 = .ok (.iload_n 2, 1) := dk_28 (dk_at dksX0_deathsIn_0 0 rfl rfl)
theorem dX0_deathsIn_1 : decode cX0_deathsIn 1 = .ok (.ifCond .ne 5, 3) := dk_154 0 5 (dk_at dksX0_deathsIn_0 1 rfl rfl)
theorem dX0_deathsIn_4 : decode cX0_deathsIn 4 = .ok (.iconst 0, 1) := dk_3 (dk_at dksX0_deathsIn_0 4 rfl rfl)
theorem dX0_deathsIn_5 : decode cX0_deathsIn 5 = .ok (.ireturn, 1) := dk_172 (dk_at dksX0_deathsIn_0 5 rfl rfl)
theorem dX0_deathsIn_6 : decode cX0_deathsIn 6 = .ok (.iconst 1, 1) := dk_4 (dk_at dksX0_deathsIn_0 6 rfl rfl)
theorem dX0_deathsIn_7 : decode cX0_deathsIn 7 = .ok (.istore 4, 2) := dk_54 4 (dk_at dksX0_deathsIn_0 7 rfl rfl)
theorem dX0_deathsIn_9 : decode cX0_deathsIn 9 = .ok (.iconst 1, 1) := dk_4 (dk_at dksX0_deathsIn_0 9 rfl rfl)
theorem dX0_deathsIn_10 : decode cX0_deathsIn 10 = .ok (.istore 5, 2) := dk_54 5 (dk_at dksX0_deathsIn_0 10 rfl rfl)
theorem dX0_deathsIn_12 : decode cX0_deathsIn 12 = .ok (.iload 5, 2) := dk_21 5 (dk_at dksX0_deathsIn_0 12 rfl rfl)
theorem dX0_deathsIn_14 : decode cX0_deathsIn 14 = .ok (.iload_n 2, 1) := dk_28 (dk_at dksX0_deathsIn_0 14 rfl rfl)
theorem dX0_deathsIn_15 : decode cX0_deathsIn 15 = .ok (.if_icmp .ge 21, 3) := dk_162 0 21 (dk_at dksX0_deathsIn_0 15 rfl rfl)
theorem dX0_deathsIn_18 : decode cX0_deathsIn 18 = .ok (.iload 4, 2) := dk_21 4 (dk_at dksX0_deathsIn_0 18 rfl rfl)
theorem dX0_deathsIn_20 : decode cX0_deathsIn 20 = .ok (.aload_n 0, 1) := dk_42 (dk_at dksX0_deathsIn_0 20 rfl rfl)
theorem dX0_deathsIn_21 : decode cX0_deathsIn 21 = .ok (.getfield 90, 3) := dk_180 0 90 (dk_at dksX0_deathsIn_0 21 rfl rfl)
theorem dX0_deathsIn_24 : decode cX0_deathsIn 24 = .ok (.invokevirtual 116, 3) := dk_182 0 116 (dk_at dksX0_deathsIn_1 0 rfl rfl)
theorem dX0_deathsIn_27 : decode cX0_deathsIn 27 = .ok (.imul, 1) := dk_104 (dk_at dksX0_deathsIn_1 3 rfl rfl)
theorem dX0_deathsIn_28 : decode cX0_deathsIn 28 = .ok (.istore 4, 2) := dk_54 4 (dk_at dksX0_deathsIn_1 4 rfl rfl)
theorem dX0_deathsIn_30 : decode cX0_deathsIn 30 = .ok (.iinc 5 1, 3) := dk_132 5 1 (dk_at dksX0_deathsIn_1 6 rfl rfl)
theorem dX0_deathsIn_33 : decode cX0_deathsIn 33 = .ok (.goto (-21), 3) := dk_167 255 235 (dk_at dksX0_deathsIn_1 9 rfl rfl)
theorem dX0_deathsIn_36 : decode cX0_deathsIn 36 = .ok (.iconst 0, 1) := dk_3 (dk_at dksX0_deathsIn_1 12 rfl rfl)
theorem dX0_deathsIn_37 : decode cX0_deathsIn 37 = .ok (.istore 5, 2) := dk_54 5 (dk_at dksX0_deathsIn_1 13 rfl rfl)
theorem dX0_deathsIn_39 : decode cX0_deathsIn 39 = .ok (.iconst 0, 1) := dk_3 (dk_at dksX0_deathsIn_1 15 rfl rfl)
theorem dX0_deathsIn_40 : decode cX0_deathsIn 40 = .ok (.istore 6, 2) := dk_54 6 (dk_at dksX0_deathsIn_1 16 rfl rfl)
theorem dX0_deathsIn_42 : decode cX0_deathsIn 42 = .ok (.iload 6, 2) := dk_21 6 (dk_at dksX0_deathsIn_1 18 rfl rfl)
theorem dX0_deathsIn_44 : decode cX0_deathsIn 44 = .ok (.aload_n 0, 1) := dk_42 (dk_at dksX0_deathsIn_1 20 rfl rfl)
theorem dX0_deathsIn_45 : decode cX0_deathsIn 45 = .ok (.getfield 90, 3) := dk_180 0 90 (dk_at dksX0_deathsIn_1 21 rfl rfl)
theorem dX0_deathsIn_48 : decode cX0_deathsIn 48 = .ok (.getfield 192, 3) := dk_180 0 192 (dk_at dksX0_deathsIn_2 0 rfl rfl)
theorem dX0_deathsIn_51 : decode cX0_deathsIn 51 = .ok (.if_icmp .ge 92, 3) := dk_162 0 92 (dk_at dksX0_deathsIn_2 3 rfl rfl)
theorem dX0_deathsIn_54 : decode cX0_deathsIn 54 = .ok (.aload_n 0, 1) := dk_42 (dk_at dksX0_deathsIn_2 6 rfl rfl)
theorem dX0_deathsIn_55 : decode cX0_deathsIn 55 = .ok (.getfield 90, 3) := dk_180 0 90 (dk_at dksX0_deathsIn_2 7 rfl rfl)
theorem dX0_deathsIn_58 : decode cX0_deathsIn 58 = .ok (.iload 6, 2) := dk_21 6 (dk_at dksX0_deathsIn_2 10 rfl rfl)
theorem dX0_deathsIn_60 : decode cX0_deathsIn 60 = .ok (.invokevirtual 305, 3) := dk_182 1 49 (dk_at dksX0_deathsIn_2 12 rfl rfl)
theorem dX0_deathsIn_63 : decode cX0_deathsIn 63 = .ok (.ifCond .eq 74, 3) := dk_153 0 74 (dk_at dksX0_deathsIn_2 15 rfl rfl)
theorem dX0_deathsIn_66 : decode cX0_deathsIn 66 = .ok (.aload_n 0, 1) := dk_42 (dk_at dksX0_deathsIn_2 18 rfl rfl)
theorem dX0_deathsIn_67 : decode cX0_deathsIn 67 = .ok (.getfield 98, 3) := dk_180 0 98 (dk_at dksX0_deathsIn_2 19 rfl rfl)
theorem dX0_deathsIn_70 : decode cX0_deathsIn 70 = .ok (.iload_n 2, 1) := dk_28 (dk_at dksX0_deathsIn_2 22 rfl rfl)
theorem dX0_deathsIn_71 : decode cX0_deathsIn 71 = .ok (.aaload, 1) := dk_50 (dk_at dksX0_deathsIn_2 23 rfl rfl)
theorem dX0_deathsIn_72 : decode cX0_deathsIn 72 = .ok (.aload_n 1, 1) := dk_43 (dk_at dksX0_deathsIn_3 0 rfl rfl)
theorem dX0_deathsIn_73 : decode cX0_deathsIn 73 = .ok (.invokevirtual 319, 3) := dk_182 1 63 (dk_at dksX0_deathsIn_3 1 rfl rfl)
theorem dX0_deathsIn_76 : decode cX0_deathsIn 76 = .ok (.astore 7, 2) := dk_58 7 (dk_at dksX0_deathsIn_3 4 rfl rfl)
theorem dX0_deathsIn_78 : decode cX0_deathsIn 78 = .ok (.aload 7, 2) := dk_25 7 (dk_at dksX0_deathsIn_3 6 rfl rfl)
theorem dX0_deathsIn_80 : decode cX0_deathsIn 80 = .ok (.aload_n 0, 1) := dk_42 (dk_at dksX0_deathsIn_3 8 rfl rfl)
theorem dX0_deathsIn_81 : decode cX0_deathsIn 81 = .ok (.getfield 90, 3) := dk_180 0 90 (dk_at dksX0_deathsIn_3 9 rfl rfl)
theorem dX0_deathsIn_84 : decode cX0_deathsIn 84 = .ok (.getfield 129, 3) := dk_180 0 129 (dk_at dksX0_deathsIn_3 12 rfl rfl)
theorem dX0_deathsIn_87 : decode cX0_deathsIn 87 = .ok (.iload 6, 2) := dk_21 6 (dk_at dksX0_deathsIn_3 15 rfl rfl)
theorem dX0_deathsIn_89 : decode cX0_deathsIn 89 = .ok (.aaload, 1) := dk_50 (dk_at dksX0_deathsIn_3 17 rfl rfl)
theorem dX0_deathsIn_90 : decode cX0_deathsIn 90 = .ok (.invokevirtual 280, 3) := dk_182 1 24 (dk_at dksX0_deathsIn_3 18 rfl rfl)
theorem dX0_deathsIn_93 : decode cX0_deathsIn 93 = .ok (.iload 5, 2) := dk_21 5 (dk_at dksX0_deathsIn_3 21 rfl rfl)
theorem dX0_deathsIn_95 : decode cX0_deathsIn 95 = .ok (.aload 7, 2) := dk_25 7 (dk_at dksX0_deathsIn_4 0 rfl rfl)
theorem dX0_deathsIn_97 : decode cX0_deathsIn 97 = .ok (.invokevirtual 284, 3) := dk_182 1 28 (dk_at dksX0_deathsIn_4 2 rfl rfl)
theorem dX0_deathsIn_100 : decode cX0_deathsIn 100 = .ok (.iconst (-1), 1) := dk_2 (dk_at dksX0_deathsIn_4 5 rfl rfl)
theorem dX0_deathsIn_101 : decode cX0_deathsIn 101 = .ok (.if_icmp .ne 16, 3) := dk_160 0 16 (dk_at dksX0_deathsIn_4 6 rfl rfl)
theorem dX0_deathsIn_104 : decode cX0_deathsIn 104 = .ok (.aload_n 0, 1) := dk_42 (dk_at dksX0_deathsIn_4 9 rfl rfl)
theorem dX0_deathsIn_105 : decode cX0_deathsIn 105 = .ok (.aload 7, 2) := dk_25 7 (dk_at dksX0_deathsIn_4 10 rfl rfl)
theorem dX0_deathsIn_107 : decode cX0_deathsIn 107 = .ok (.iload_n 2, 1) := dk_28 (dk_at dksX0_deathsIn_4 12 rfl rfl)
theorem dX0_deathsIn_108 : decode cX0_deathsIn 108 = .ok (.iconst 1, 1) := dk_4 (dk_at dksX0_deathsIn_4 13 rfl rfl)
theorem dX0_deathsIn_109 : decode cX0_deathsIn 109 = .ok (.isub, 1) := dk_100 (dk_at dksX0_deathsIn_4 14 rfl rfl)
theorem dX0_deathsIn_110 : decode cX0_deathsIn 110 = .ok (.iload_n 3, 1) := dk_29 (dk_at dksX0_deathsIn_4 15 rfl rfl)
theorem dX0_deathsIn_111 : decode cX0_deathsIn 111 = .ok (.invokevirtual 358, 3) := dk_182 1 102 (dk_at dksX0_deathsIn_4 16 rfl rfl)
theorem dX0_deathsIn_114 : decode cX0_deathsIn 114 = .ok (.goto 20, 3) := dk_167 0 20 (dk_at dksX0_deathsIn_4 19 rfl rfl)
theorem dX0_deathsIn_117 : decode cX0_deathsIn 117 = .ok (.iload_n 3, 1) := dk_29 (dk_at dksX0_deathsIn_4 22 rfl rfl)
theorem dX0_deathsIn_118 : decode cX0_deathsIn 118 = .ok (.iconst (-1), 1) := dk_2 (dk_at dksX0_deathsIn_4 23 rfl rfl)
theorem dX0_deathsIn_119 : decode cX0_deathsIn 119 = .ok (.if_icmp .eq 9, 3) := dk_159 0 9 (dk_at dksX0_deathsIn_5 0 rfl rfl)
theorem dX0_deathsIn_122 : decode cX0_deathsIn 122 = .ok (.iload_n 3, 1) := dk_29 (dk_at dksX0_deathsIn_5 3 rfl rfl)
theorem dX0_deathsIn_123 : decode cX0_deathsIn 123 = .ok (.iload 6, 2) := dk_21 6 (dk_at dksX0_deathsIn_5 4 rfl rfl)
theorem dX0_deathsIn_125 : decode cX0_deathsIn 125 = .ok (.if_icmp .ne 8, 3) := dk_160 0 8 (dk_at dksX0_deathsIn_5 6 rfl rfl)
theorem dX0_deathsIn_128 : decode cX0_deathsIn 128 = .ok (.iload 4, 2) := dk_21 4 (dk_at dksX0_deathsIn_5 9 rfl rfl)
theorem dX0_deathsIn_130 : decode cX0_deathsIn 130 = .ok (.goto 4, 3) := dk_167 0 4 (dk_at dksX0_deathsIn_5 11 rfl rfl)
theorem dX0_deathsIn_133 : decode cX0_deathsIn 133 = .ok (.iconst 0, 1) := dk_3 (dk_at dksX0_deathsIn_5 14 rfl rfl)
theorem dX0_deathsIn_134 : decode cX0_deathsIn 134 = .ok (.iadd, 1) := dk_96 (dk_at dksX0_deathsIn_5 15 rfl rfl)
theorem dX0_deathsIn_135 : decode cX0_deathsIn 135 = .ok (.istore 5, 2) := dk_54 5 (dk_at dksX0_deathsIn_5 16 rfl rfl)
theorem dX0_deathsIn_137 : decode cX0_deathsIn 137 = .ok (.iinc 6 1, 3) := dk_132 6 1 (dk_at dksX0_deathsIn_5 18 rfl rfl)
theorem dX0_deathsIn_140 : decode cX0_deathsIn 140 = .ok (.goto (-98), 3) := dk_167 255 158 (dk_at dksX0_deathsIn_5 21 rfl rfl)
theorem dX0_deathsIn_143 : decode cX0_deathsIn 143 = .ok (.iload 5, 2) := dk_21 5 (dk_at dksX0_deathsIn_6 0 rfl rfl)
theorem dX0_deathsIn_145 : decode cX0_deathsIn 145 = .ok (.ireturn, 1) := dk_172 (dk_at dksX0_deathsIn_6 2 rfl rfl)
abbrev cX0_last : ByteArray := prog_1_method_49_code
def yX0_last : MethodName := ⟨RX0, "last", "(III)I"⟩
def dkwX0_last_4 : List UInt8 := [42, 25, 4, 182, 0, 161, 172]
abbrev dktX0_last_4 : List UInt8 := dkwX0_last_4 ++ []
def dkwX0_last_3 : List UInt8 := [167, 0, 21, 21, 5, 154, 0, 7, 3, 167, 0, 12, 17, 3, 232, 21, 4, 104, 21, 5, 108, 172, 58, 4]
abbrev dktX0_last_3 : List UInt8 := dkwX0_last_3 ++ dktX0_last_4
def dkwX0_last_2 : List UInt8 := [54, 4, 42, 42, 180, 0, 90, 180, 0, 225, 28, 2, 182, 1, 102, 54, 5, 29, 154, 0, 8, 21, 4]
abbrev dktX0_last_2 : List UInt8 := dkwX0_last_2 ++ dktX0_last_3
def dkwX0_last_1 : List UInt8 := [20, 1, 106, 184, 0, 153, 16, 250, 184, 0, 112, 42, 42, 180, 0, 90, 180, 0, 225, 28, 27, 182, 1, 102]
abbrev dktX0_last_1 : List UInt8 := dkwX0_last_1 ++ dktX0_last_2
def dkwX0_last_0 : List UInt8 := [42, 27, 182, 0, 181, 29, 133, 9, 10, 184, 0, 153, 16, 251, 184, 0, 112, 42, 182, 1, 72, 28, 133, 10]
abbrev dktX0_last_0 : List UInt8 := dkwX0_last_0 ++ dktX0_last_1
theorem dksX0_last_0 : cX0_last.data.toList.drop 0 = dktX0_last_0 := by decide +kernel
theorem dksX0_last_1 : cX0_last.data.toList.drop 24 = dktX0_last_1 := dk_seg dksX0_last_0 24 rfl rfl
theorem dksX0_last_2 : cX0_last.data.toList.drop 48 = dktX0_last_2 := dk_seg dksX0_last_1 24 rfl rfl
theorem dksX0_last_3 : cX0_last.data.toList.drop 71 = dktX0_last_3 := dk_seg dksX0_last_2 23 rfl rfl
theorem dksX0_last_4 : cX0_last.data.toList.drop 95 = dktX0_last_4 := dk_seg dksX0_last_3 24 rfl rfl
theorem dX0_last_0 : decode cX0_last 0 = .ok (.aload_n 0, 1) := dk_42 (dk_at dksX0_last_0 0 rfl rfl)
theorem dX0_last_1 : decode cX0_last 1 = .ok (.iload_n 1, 1) := dk_27 (dk_at dksX0_last_0 1 rfl rfl)
theorem dX0_last_2 : decode cX0_last 2 = .ok (.invokevirtual 181, 3) := dk_182 0 181 (dk_at dksX0_last_0 2 rfl rfl)
theorem dX0_last_5 : decode cX0_last 5 = .ok (.iload_n 3, 1) := dk_29 (dk_at dksX0_last_0 5 rfl rfl)
theorem dX0_last_6 : decode cX0_last 6 = .ok (.i2l, 1) := dk_133 (dk_at dksX0_last_0 6 rfl rfl)
theorem dX0_last_7 : decode cX0_last 7 = .ok (.lconst 0, 1) := dk_9 (dk_at dksX0_last_0 7 rfl rfl)
theorem dX0_last_8 : decode cX0_last 8 = .ok (.lconst 1, 1) := dk_10 (dk_at dksX0_last_0 8 rfl rfl)
theorem dX0_last_9 : decode cX0_last 9 = .ok (.invokestatic 153, 3) := dk_184 0 153 (dk_at dksX0_last_0 9 rfl rfl)
theorem dX0_last_12 : decode cX0_last 12 = .ok (.bipush (-5), 2) := dk_16 251 (dk_at dksX0_last_0 12 rfl rfl)
theorem dX0_last_14 : decode cX0_last 14 = .ok (.invokestatic 112, 3) := dk_184 0 112 (dk_at dksX0_last_0 14 rfl rfl)
theorem dX0_last_17 : decode cX0_last 17 = .ok (.aload_n 0, 1) := dk_42 (dk_at dksX0_last_0 17 rfl rfl)
theorem dX0_last_18 : decode cX0_last 18 = .ok (.invokevirtual 328, 3) := dk_182 1 72 (dk_at dksX0_last_0 18 rfl rfl)
theorem dX0_last_21 : decode cX0_last 21 = .ok (.iload_n 2, 1) := dk_28 (dk_at dksX0_last_0 21 rfl rfl)
theorem dX0_last_22 : decode cX0_last 22 = .ok (.i2l, 1) := dk_133 (dk_at dksX0_last_0 22 rfl rfl)
theorem dX0_last_23 : decode cX0_last 23 = .ok (.lconst 1, 1) := dk_10 (dk_at dksX0_last_0 23 rfl rfl)
theorem dX0_last_24 : decode cX0_last 24 = .ok (.ldc2_w 362, 3) := dk_20 1 106 (dk_at dksX0_last_1 0 rfl rfl)
theorem dX0_last_27 : decode cX0_last 27 = .ok (.invokestatic 153, 3) := dk_184 0 153 (dk_at dksX0_last_1 3 rfl rfl)
theorem dX0_last_30 : decode cX0_last 30 = .ok (.bipush (-6), 2) := dk_16 250 (dk_at dksX0_last_1 6 rfl rfl)
theorem dX0_last_32 : decode cX0_last 32 = .ok (.invokestatic 112, 3) := dk_184 0 112 (dk_at dksX0_last_1 8 rfl rfl)
theorem dX0_last_35 : decode cX0_last 35 = .ok (.aload_n 0, 1) := dk_42 (dk_at dksX0_last_1 11 rfl rfl)
theorem dX0_last_36 : decode cX0_last 36 = .ok (.aload_n 0, 1) := dk_42 (dk_at dksX0_last_1 12 rfl rfl)
theorem dX0_last_37 : decode cX0_last 37 = .ok (.getfield 90, 3) := dk_180 0 90 (dk_at dksX0_last_1 13 rfl rfl)
theorem dX0_last_40 : decode cX0_last 40 = .ok (.getfield 225, 3) := dk_180 0 225 (dk_at dksX0_last_1 16 rfl rfl)
theorem dX0_last_43 : decode cX0_last 43 = .ok (.iload_n 2, 1) := dk_28 (dk_at dksX0_last_1 19 rfl rfl)
theorem dX0_last_44 : decode cX0_last 44 = .ok (.iload_n 1, 1) := dk_27 (dk_at dksX0_last_1 20 rfl rfl)
theorem dX0_last_45 : decode cX0_last 45 = .ok (.invokevirtual 358, 3) := dk_182 1 102 (dk_at dksX0_last_1 21 rfl rfl)
theorem dX0_last_48 : decode cX0_last 48 = .ok (.istore 4, 2) := dk_54 4 (dk_at dksX0_last_2 0 rfl rfl)
theorem dX0_last_50 : decode cX0_last 50 = .ok (.aload_n 0, 1) := dk_42 (dk_at dksX0_last_2 2 rfl rfl)
theorem dX0_last_51 : decode cX0_last 51 = .ok (.aload_n 0, 1) := dk_42 (dk_at dksX0_last_2 3 rfl rfl)
theorem dX0_last_52 : decode cX0_last 52 = .ok (.getfield 90, 3) := dk_180 0 90 (dk_at dksX0_last_2 4 rfl rfl)
theorem dX0_last_55 : decode cX0_last 55 = .ok (.getfield 225, 3) := dk_180 0 225 (dk_at dksX0_last_2 7 rfl rfl)
theorem dX0_last_58 : decode cX0_last 58 = .ok (.iload_n 2, 1) := dk_28 (dk_at dksX0_last_2 10 rfl rfl)
theorem dX0_last_59 : decode cX0_last 59 = .ok (.iconst (-1), 1) := dk_2 (dk_at dksX0_last_2 11 rfl rfl)
theorem dX0_last_60 : decode cX0_last 60 = .ok (.invokevirtual 358, 3) := dk_182 1 102 (dk_at dksX0_last_2 12 rfl rfl)
theorem dX0_last_63 : decode cX0_last 63 = .ok (.istore 5, 2) := dk_54 5 (dk_at dksX0_last_2 15 rfl rfl)
theorem dX0_last_65 : decode cX0_last 65 = .ok (.iload_n 3, 1) := dk_29 (dk_at dksX0_last_2 17 rfl rfl)
theorem dX0_last_66 : decode cX0_last 66 = .ok (.ifCond .ne 8, 3) := dk_154 0 8 (dk_at dksX0_last_2 18 rfl rfl)
theorem dX0_last_69 : decode cX0_last 69 = .ok (.iload 4, 2) := dk_21 4 (dk_at dksX0_last_2 21 rfl rfl)
theorem dX0_last_71 : decode cX0_last 71 = .ok (.goto 21, 3) := dk_167 0 21 (dk_at dksX0_last_3 0 rfl rfl)
theorem dX0_last_74 : decode cX0_last 74 = .ok (.iload 5, 2) := dk_21 5 (dk_at dksX0_last_3 3 rfl rfl)
theorem dX0_last_76 : decode cX0_last 76 = .ok (.ifCond .ne 7, 3) := dk_154 0 7 (dk_at dksX0_last_3 5 rfl rfl)
theorem dX0_last_79 : decode cX0_last 79 = .ok (.iconst 0, 1) := dk_3 (dk_at dksX0_last_3 8 rfl rfl)
theorem dX0_last_80 : decode cX0_last 80 = .ok (.goto 12, 3) := dk_167 0 12 (dk_at dksX0_last_3 9 rfl rfl)
theorem dX0_last_83 : decode cX0_last 83 = .ok (.sipush 1000, 3) := dk_17 3 232 (dk_at dksX0_last_3 12 rfl rfl)
theorem dX0_last_86 : decode cX0_last 86 = .ok (.iload 4, 2) := dk_21 4 (dk_at dksX0_last_3 15 rfl rfl)
theorem dX0_last_88 : decode cX0_last 88 = .ok (.imul, 1) := dk_104 (dk_at dksX0_last_3 17 rfl rfl)
theorem dX0_last_89 : decode cX0_last 89 = .ok (.iload 5, 2) := dk_21 5 (dk_at dksX0_last_3 18 rfl rfl)
theorem dX0_last_91 : decode cX0_last 91 = .ok (.idiv, 1) := dk_108 (dk_at dksX0_last_3 20 rfl rfl)
theorem dX0_last_92 : decode cX0_last 92 = .ok (.ireturn, 1) := dk_172 (dk_at dksX0_last_3 21 rfl rfl)
theorem dX0_last_93 : decode cX0_last 93 = .ok (.astore 4, 2) := dk_58 4 (dk_at dksX0_last_3 22 rfl rfl)
theorem dX0_last_95 : decode cX0_last 95 = .ok (.aload_n 0, 1) := dk_42 (dk_at dksX0_last_4 0 rfl rfl)
theorem dX0_last_96 : decode cX0_last 96 = .ok (.aload 4, 2) := dk_25 4 (dk_at dksX0_last_4 1 rfl rfl)
theorem dX0_last_98 : decode cX0_last 98 = .ok (.invokevirtual 161, 3) := dk_182 0 161 (dk_at dksX0_last_4 3 rfl rfl)
theorem dX0_last_101 : decode cX0_last 101 = .ok (.ireturn, 1) := dk_172 (dk_at dksX0_last_4 6 rfl rfl)
abbrev cX0_carried : ByteArray := prog_1_method_51_code
def yX0_carried : MethodName := ⟨RX0, "carried", "(II)I"⟩
def dkwX0_carried_1 : List UInt8 := [182, 1, 110, 42, 27, 28, 182, 1, 110, 100, 172, 78, 17, 252, 24, 42, 45, 182, 0, 161, 96, 172]
abbrev dktX0_carried_1 : List UInt8 := dkwX0_carried_1 ++ []
def dkwX0_carried_0 : List UInt8 := [42, 27, 182, 0, 181, 28, 133, 9, 20, 1, 108, 184, 0, 153, 16, 250, 184, 0, 112, 42, 2, 28]
abbrev dktX0_carried_0 : List UInt8 := dkwX0_carried_0 ++ dktX0_carried_1
theorem dksX0_carried_0 : cX0_carried.data.toList.drop 0 = dktX0_carried_0 := by decide +kernel
theorem dksX0_carried_1 : cX0_carried.data.toList.drop 22 = dktX0_carried_1 := dk_seg dksX0_carried_0 22 rfl rfl
theorem dX0_carried_0 : decode cX0_carried 0 = .ok (.aload_n 0, 1) := dk_42 (dk_at dksX0_carried_0 0 rfl rfl)
theorem dX0_carried_1 : decode cX0_carried 1 = .ok (.iload_n 1, 1) := dk_27 (dk_at dksX0_carried_0 1 rfl rfl)
theorem dX0_carried_2 : decode cX0_carried 2 = .ok (.invokevirtual 181, 3) := dk_182 0 181 (dk_at dksX0_carried_0 2 rfl rfl)
theorem dX0_carried_5 : decode cX0_carried 5 = .ok (.iload_n 2, 1) := dk_28 (dk_at dksX0_carried_0 5 rfl rfl)
theorem dX0_carried_6 : decode cX0_carried 6 = .ok (.i2l, 1) := dk_133 (dk_at dksX0_carried_0 6 rfl rfl)
theorem dX0_carried_7 : decode cX0_carried 7 = .ok (.lconst 0, 1) := dk_9 (dk_at dksX0_carried_0 7 rfl rfl)
theorem dX0_carried_8 : decode cX0_carried 8 = .ok (.ldc2_w 364, 3) := dk_20 1 108 (dk_at dksX0_carried_0 8 rfl rfl)
theorem dX0_carried_11 : decode cX0_carried 11 = .ok (.invokestatic 153, 3) := dk_184 0 153 (dk_at dksX0_carried_0 11 rfl rfl)
theorem dX0_carried_14 : decode cX0_carried 14 = .ok (.bipush (-6), 2) := dk_16 250 (dk_at dksX0_carried_0 14 rfl rfl)
theorem dX0_carried_16 : decode cX0_carried 16 = .ok (.invokestatic 112, 3) := dk_184 0 112 (dk_at dksX0_carried_0 16 rfl rfl)
theorem dX0_carried_19 : decode cX0_carried 19 = .ok (.aload_n 0, 1) := dk_42 (dk_at dksX0_carried_0 19 rfl rfl)
theorem dX0_carried_20 : decode cX0_carried 20 = .ok (.iconst (-1), 1) := dk_2 (dk_at dksX0_carried_0 20 rfl rfl)
theorem dX0_carried_21 : decode cX0_carried 21 = .ok (.iload_n 2, 1) := dk_28 (dk_at dksX0_carried_0 21 rfl rfl)
theorem dX0_carried_22 : decode cX0_carried 22 = .ok (.invokevirtual 366, 3) := dk_182 1 110 (dk_at dksX0_carried_1 0 rfl rfl)
theorem dX0_carried_25 : decode cX0_carried 25 = .ok (.aload_n 0, 1) := dk_42 (dk_at dksX0_carried_1 3 rfl rfl)
theorem dX0_carried_26 : decode cX0_carried 26 = .ok (.iload_n 1, 1) := dk_27 (dk_at dksX0_carried_1 4 rfl rfl)
theorem dX0_carried_27 : decode cX0_carried 27 = .ok (.iload_n 2, 1) := dk_28 (dk_at dksX0_carried_1 5 rfl rfl)
theorem dX0_carried_28 : decode cX0_carried 28 = .ok (.invokevirtual 366, 3) := dk_182 1 110 (dk_at dksX0_carried_1 6 rfl rfl)
theorem dX0_carried_31 : decode cX0_carried 31 = .ok (.isub, 1) := dk_100 (dk_at dksX0_carried_1 9 rfl rfl)
theorem dX0_carried_32 : decode cX0_carried 32 = .ok (.ireturn, 1) := dk_172 (dk_at dksX0_carried_1 10 rfl rfl)
theorem dX0_carried_33 : decode cX0_carried 33 = .ok (.astore_n 3, 1) := dk_78 (dk_at dksX0_carried_1 11 rfl rfl)
theorem dX0_carried_34 : decode cX0_carried 34 = .ok (.sipush (-1000), 3) := dk_17 252 24 (dk_at dksX0_carried_1 12 rfl rfl)
theorem dX0_carried_37 : decode cX0_carried 37 = .ok (.aload_n 0, 1) := dk_42 (dk_at dksX0_carried_1 15 rfl rfl)
theorem dX0_carried_38 : decode cX0_carried 38 = .ok (.aload_n 3, 1) := dk_45 (dk_at dksX0_carried_1 16 rfl rfl)
theorem dX0_carried_39 : decode cX0_carried 39 = .ok (.invokevirtual 161, 3) := dk_182 0 161 (dk_at dksX0_carried_1 17 rfl rfl)
theorem dX0_carried_42 : decode cX0_carried 42 = .ok (.iadd, 1) := dk_96 (dk_at dksX0_carried_1 20 rfl rfl)
theorem dX0_carried_43 : decode cX0_carried 43 = .ok (.ireturn, 1) := dk_172 (dk_at dksX0_carried_1 21 rfl rfl)
abbrev cX0_weightBehind : ByteArray := prog_1_method_50_code
def yX0_weightBehind : MethodName := ⟨RX0, "weightBehind", "(II)I"⟩
def dkwX0_weightBehind_2 : List UInt8 := [42, 180, 0, 77, 180, 0, 228, 172]
abbrev dktX0_weightBehind_2 : List UInt8 := dkwX0_weightBehind_2 ++ []
def dkwX0_weightBehind_1 : List UInt8 := [182, 1, 24, 3, 62, 29, 28, 162, 0, 17, 42, 180, 0, 77, 1, 182, 1, 24, 132, 3, 1, 167, 255, 240]
abbrev dktX0_weightBehind_1 : List UInt8 := dkwX0_weightBehind_1 ++ dktX0_weightBehind_2
def dkwX0_weightBehind_0 : List UInt8 := [42, 180, 0, 77, 42, 180, 0, 90, 180, 0, 225, 182, 1, 63, 42, 180, 0, 90, 27, 182, 1, 20]
abbrev dktX0_weightBehind_0 : List UInt8 := dkwX0_weightBehind_0 ++ dktX0_weightBehind_1
theorem dksX0_weightBehind_0 : cX0_weightBehind.data.toList.drop 0 = dktX0_weightBehind_0 := by decide +kernel
theorem dksX0_weightBehind_1 : cX0_weightBehind.data.toList.drop 22 = dktX0_weightBehind_1 := dk_seg dksX0_weightBehind_0 22 rfl rfl
theorem dksX0_weightBehind_2 : cX0_weightBehind.data.toList.drop 46 = dktX0_weightBehind_2 := dk_seg dksX0_weightBehind_1 24 rfl rfl
theorem dX0_weightBehind_0 : decode cX0_weightBehind 0 = .ok (.aload_n 0, 1) := dk_42 (dk_at dksX0_weightBehind_0 0 rfl rfl)
theorem dX0_weightBehind_1 : decode cX0_weightBehind 1 = .ok (.getfield 77, 3) := dk_180 0 77 (dk_at dksX0_weightBehind_0 1 rfl rfl)
theorem dX0_weightBehind_4 : decode cX0_weightBehind 4 = .ok (.aload_n 0, 1) := dk_42 (dk_at dksX0_weightBehind_0 4 rfl rfl)
theorem dX0_weightBehind_5 : decode cX0_weightBehind 5 = .ok (.getfield 90, 3) := dk_180 0 90 (dk_at dksX0_weightBehind_0 5 rfl rfl)
theorem dX0_weightBehind_8 : decode cX0_weightBehind 8 = .ok (.getfield 225, 3) := dk_180 0 225 (dk_at dksX0_weightBehind_0 8 rfl rfl)
theorem dX0_weightBehind_11 : decode cX0_weightBehind 11 = .ok (.invokevirtual 319, 3) := dk_182 1 63 (dk_at dksX0_weightBehind_0 11 rfl rfl)
theorem dX0_weightBehind_14 : decode cX0_weightBehind 14 = .ok (.aload_n 0, 1) := dk_42 (dk_at dksX0_weightBehind_0 14 rfl rfl)
theorem dX0_weightBehind_15 : decode cX0_weightBehind 15 = .ok (.getfield 90, 3) := dk_180 0 90 (dk_at dksX0_weightBehind_0 15 rfl rfl)
theorem dX0_weightBehind_18 : decode cX0_weightBehind 18 = .ok (.iload_n 1, 1) := dk_27 (dk_at dksX0_weightBehind_0 18 rfl rfl)
theorem dX0_weightBehind_19 : decode cX0_weightBehind 19 = .ok (.invokevirtual 276, 3) := dk_182 1 20 (dk_at dksX0_weightBehind_0 19 rfl rfl)
theorem dX0_weightBehind_22 : decode cX0_weightBehind 22 = .ok (.invokevirtual 280, 3) := dk_182 1 24 (dk_at dksX0_weightBehind_1 0 rfl rfl)
theorem dX0_weightBehind_25 : decode cX0_weightBehind 25 = .ok (.iconst 0, 1) := dk_3 (dk_at dksX0_weightBehind_1 3 rfl rfl)
theorem dX0_weightBehind_26 : decode cX0_weightBehind 26 = .ok (.istore_n 3, 1) := dk_62 (dk_at dksX0_weightBehind_1 4 rfl rfl)
theorem dX0_weightBehind_27 : decode cX0_weightBehind 27 = .ok (.iload_n 3, 1) := dk_29 (dk_at dksX0_weightBehind_1 5 rfl rfl)
theorem dX0_weightBehind_28 : decode cX0_weightBehind 28 = .ok (.iload_n 2, 1) := dk_28 (dk_at dksX0_weightBehind_1 6 rfl rfl)
theorem dX0_weightBehind_29 : decode cX0_weightBehind 29 = .ok (.if_icmp .ge 17, 3) := dk_162 0 17 (dk_at dksX0_weightBehind_1 7 rfl rfl)
theorem dX0_weightBehind_32 : decode cX0_weightBehind 32 = .ok (.aload_n 0, 1) := dk_42 (dk_at dksX0_weightBehind_1 10 rfl rfl)
theorem dX0_weightBehind_33 : decode cX0_weightBehind 33 = .ok (.getfield 77, 3) := dk_180 0 77 (dk_at dksX0_weightBehind_1 11 rfl rfl)
theorem dX0_weightBehind_36 : decode cX0_weightBehind 36 = .ok (.aconst_null, 1) := dk_1 (dk_at dksX0_weightBehind_1 14 rfl rfl)
theorem dX0_weightBehind_37 : decode cX0_weightBehind 37 = .ok (.invokevirtual 280, 3) := dk_182 1 24 (dk_at dksX0_weightBehind_1 15 rfl rfl)
theorem dX0_weightBehind_40 : decode cX0_weightBehind 40 = .ok (.iinc 3 1, 3) := dk_132 3 1 (dk_at dksX0_weightBehind_1 18 rfl rfl)
theorem dX0_weightBehind_43 : decode cX0_weightBehind 43 = .ok (.goto (-16), 3) := dk_167 255 240 (dk_at dksX0_weightBehind_1 21 rfl rfl)
theorem dX0_weightBehind_46 : decode cX0_weightBehind 46 = .ok (.aload_n 0, 1) := dk_42 (dk_at dksX0_weightBehind_2 0 rfl rfl)
theorem dX0_weightBehind_47 : decode cX0_weightBehind 47 = .ok (.getfield 77, 3) := dk_180 0 77 (dk_at dksX0_weightBehind_2 1 rfl rfl)
theorem dX0_weightBehind_50 : decode cX0_weightBehind 50 = .ok (.getfield 228, 3) := dk_180 0 228 (dk_at dksX0_weightBehind_2 4 rfl rfl)
theorem dX0_weightBehind_53 : decode cX0_weightBehind 53 = .ok (.ireturn, 1) := dk_172 (dk_at dksX0_weightBehind_2 7 rfl rfl)
abbrev cX0_lasts : ByteArray := prog_1_method_52_code
def yX0_lasts : MethodName := ⟨RX0, "lasts", "()I"⟩
def dkwX0_lasts_2 : List UInt8 := [167, 255, 225, 2, 172]
abbrev dktX0_lasts_2 : List UInt8 := dkwX0_lasts_2 ++ []
def dkwX0_lasts_1 : List UInt8 := [42, 180, 0, 77, 1, 182, 1, 24, 42, 180, 0, 77, 182, 1, 28, 2, 159, 0, 5, 27, 172, 132, 1, 1]
abbrev dktX0_lasts_1 : List UInt8 := dkwX0_lasts_1 ++ dktX0_lasts_2
def dkwX0_lasts_0 : List UInt8 := [42, 180, 0, 77, 42, 180, 0, 90, 180, 0, 225, 182, 1, 63, 87, 4, 60, 27, 17, 3, 232, 163, 0, 30]
abbrev dktX0_lasts_0 : List UInt8 := dkwX0_lasts_0 ++ dktX0_lasts_1
theorem dksX0_lasts_0 : cX0_lasts.data.toList.drop 0 = dktX0_lasts_0 := by decide +kernel
theorem dksX0_lasts_1 : cX0_lasts.data.toList.drop 24 = dktX0_lasts_1 := dk_seg dksX0_lasts_0 24 rfl rfl
theorem dksX0_lasts_2 : cX0_lasts.data.toList.drop 48 = dktX0_lasts_2 := dk_seg dksX0_lasts_1 24 rfl rfl
theorem dX0_lasts_0 : decode cX0_lasts 0 = .ok (.aload_n 0, 1) := dk_42 (dk_at dksX0_lasts_0 0 rfl rfl)
theorem dX0_lasts_1 : decode cX0_lasts 1 = .ok (.getfield 77, 3) := dk_180 0 77 (dk_at dksX0_lasts_0 1 rfl rfl)
theorem dX0_lasts_4 : decode cX0_lasts 4 = .ok (.aload_n 0, 1) := dk_42 (dk_at dksX0_lasts_0 4 rfl rfl)
theorem dX0_lasts_5 : decode cX0_lasts 5 = .ok (.getfield 90, 3) := dk_180 0 90 (dk_at dksX0_lasts_0 5 rfl rfl)
theorem dX0_lasts_8 : decode cX0_lasts 8 = .ok (.getfield 225, 3) := dk_180 0 225 (dk_at dksX0_lasts_0 8 rfl rfl)
theorem dX0_lasts_11 : decode cX0_lasts 11 = .ok (.invokevirtual 319, 3) := dk_182 1 63 (dk_at dksX0_lasts_0 11 rfl rfl)
theorem dX0_lasts_14 : decode cX0_lasts 14 = .ok (.pop, 1) := dk_87 (dk_at dksX0_lasts_0 14 rfl rfl)
theorem dX0_lasts_15 : decode cX0_lasts 15 = .ok (.iconst 1, 1) := dk_4 (dk_at dksX0_lasts_0 15 rfl rfl)
theorem dX0_lasts_16 : decode cX0_lasts 16 = .ok (.istore_n 1, 1) := dk_60 (dk_at dksX0_lasts_0 16 rfl rfl)
theorem dX0_lasts_17 : decode cX0_lasts 17 = .ok (.iload_n 1, 1) := dk_27 (dk_at dksX0_lasts_0 17 rfl rfl)
theorem dX0_lasts_18 : decode cX0_lasts 18 = .ok (.sipush 1000, 3) := dk_17 3 232 (dk_at dksX0_lasts_0 18 rfl rfl)
theorem dX0_lasts_21 : decode cX0_lasts 21 = .ok (.if_icmp .gt 30, 3) := dk_163 0 30 (dk_at dksX0_lasts_0 21 rfl rfl)
theorem dX0_lasts_24 : decode cX0_lasts 24 = .ok (.aload_n 0, 1) := dk_42 (dk_at dksX0_lasts_1 0 rfl rfl)
theorem dX0_lasts_25 : decode cX0_lasts 25 = .ok (.getfield 77, 3) := dk_180 0 77 (dk_at dksX0_lasts_1 1 rfl rfl)
theorem dX0_lasts_28 : decode cX0_lasts 28 = .ok (.aconst_null, 1) := dk_1 (dk_at dksX0_lasts_1 4 rfl rfl)
theorem dX0_lasts_29 : decode cX0_lasts 29 = .ok (.invokevirtual 280, 3) := dk_182 1 24 (dk_at dksX0_lasts_1 5 rfl rfl)
theorem dX0_lasts_32 : decode cX0_lasts 32 = .ok (.aload_n 0, 1) := dk_42 (dk_at dksX0_lasts_1 8 rfl rfl)
theorem dX0_lasts_33 : decode cX0_lasts 33 = .ok (.getfield 77, 3) := dk_180 0 77 (dk_at dksX0_lasts_1 9 rfl rfl)
theorem dX0_lasts_36 : decode cX0_lasts 36 = .ok (.invokevirtual 284, 3) := dk_182 1 28 (dk_at dksX0_lasts_1 12 rfl rfl)
theorem dX0_lasts_39 : decode cX0_lasts 39 = .ok (.iconst (-1), 1) := dk_2 (dk_at dksX0_lasts_1 15 rfl rfl)
theorem dX0_lasts_40 : decode cX0_lasts 40 = .ok (.if_icmp .eq 5, 3) := dk_159 0 5 (dk_at dksX0_lasts_1 16 rfl rfl)
theorem dX0_lasts_43 : decode cX0_lasts 43 = .ok (.iload_n 1, 1) := dk_27 (dk_at dksX0_lasts_1 19 rfl rfl)
theorem dX0_lasts_44 : decode cX0_lasts 44 = .ok (.ireturn, 1) := dk_172 (dk_at dksX0_lasts_1 20 rfl rfl)
theorem dX0_lasts_45 : decode cX0_lasts 45 = .ok (.iinc 1 1, 3) := dk_132 1 1 (dk_at dksX0_lasts_1 21 rfl rfl)
theorem dX0_lasts_48 : decode cX0_lasts 48 = .ok (.goto (-31), 3) := dk_167 255 225 (dk_at dksX0_lasts_2 0 rfl rfl)
theorem dX0_lasts_51 : decode cX0_lasts 51 = .ok (.iconst (-1), 1) := dk_2 (dk_at dksX0_lasts_2 3 rfl rfl)
theorem dX0_lasts_52 : decode cX0_lasts 52 = .ok (.ireturn, 1) := dk_172 (dk_at dksX0_lasts_2 4 rfl rfl)
abbrev cX0_week : ByteArray := prog_1_method_53_code
def yX0_week : MethodName := ⟨RX0, "week", "(I)I"⟩
def dkwX0_week_3 : List UInt8 := [180, 0, 228, 167, 0, 4, 2, 172, 77, 42, 44, 182, 0, 161, 16, 10, 100, 172]
abbrev dktX0_week_3 : List UInt8 := dkwX0_week_3 ++ []
def dkwX0_week_2 : List UInt8 := [16, 250, 184, 0, 112, 42, 180, 0, 90, 27, 182, 1, 113, 2, 160, 0, 16, 42, 180, 0, 90, 180, 0, 225]
abbrev dktX0_week_2 : List UInt8 := dkwX0_week_2 ++ dktX0_week_3
def dkwX0_week_1 : List UInt8 := [184, 0, 112, 27, 2, 159, 0, 14, 42, 180, 0, 90, 27, 182, 1, 49, 153, 0, 7, 4, 167, 0, 4, 3]
abbrev dktX0_week_1 : List UInt8 := dkwX0_week_1 ++ dktX0_week_2
def dkwX0_week_0 : List UInt8 := [27, 2, 159, 0, 14, 42, 180, 0, 90, 27, 182, 0, 108, 153, 0, 7, 4, 167, 0, 4, 3, 2]
abbrev dktX0_week_0 : List UInt8 := dkwX0_week_0 ++ dktX0_week_1
theorem dksX0_week_0 : cX0_week.data.toList.drop 0 = dktX0_week_0 := by decide +kernel
theorem dksX0_week_1 : cX0_week.data.toList.drop 22 = dktX0_week_1 := dk_seg dksX0_week_0 22 rfl rfl
theorem dksX0_week_2 : cX0_week.data.toList.drop 46 = dktX0_week_2 := dk_seg dksX0_week_1 24 rfl rfl
theorem dksX0_week_3 : cX0_week.data.toList.drop 70 = dktX0_week_3 := dk_seg dksX0_week_2 24 rfl rfl
theorem dX0_week_0 : decode cX0_week 0 = .ok (.iload_n 1, 1) := dk_27 (dk_at dksX0_week_0 0 rfl rfl)
theorem dX0_week_1 : decode cX0_week 1 = .ok (.iconst (-1), 1) := dk_2 (dk_at dksX0_week_0 1 rfl rfl)
theorem dX0_week_2 : decode cX0_week 2 = .ok (.if_icmp .eq 14, 3) := dk_159 0 14 (dk_at dksX0_week_0 2 rfl rfl)
theorem dX0_week_5 : decode cX0_week 5 = .ok (.aload_n 0, 1) := dk_42 (dk_at dksX0_week_0 5 rfl rfl)
theorem dX0_week_6 : decode cX0_week 6 = .ok (.getfield 90, 3) := dk_180 0 90 (dk_at dksX0_week_0 6 rfl rfl)
theorem dX0_week_9 : decode cX0_week 9 = .ok (.iload_n 1, 1) := dk_27 (dk_at dksX0_week_0 9 rfl rfl)
theorem dX0_week_10 : decode cX0_week 10 = .ok (.invokevirtual 108, 3) := dk_182 0 108 (dk_at dksX0_week_0 10 rfl rfl)
theorem dX0_week_13 : decode cX0_week 13 = .ok (.ifCond .eq 7, 3) := dk_153 0 7 (dk_at dksX0_week_0 13 rfl rfl)
theorem dX0_week_16 : decode cX0_week 16 = .ok (.iconst 1, 1) := dk_4 (dk_at dksX0_week_0 16 rfl rfl)
theorem dX0_week_17 : decode cX0_week 17 = .ok (.goto 4, 3) := dk_167 0 4 (dk_at dksX0_week_0 17 rfl rfl)
theorem dX0_week_20 : decode cX0_week 20 = .ok (.iconst 0, 1) := dk_3 (dk_at dksX0_week_0 20 rfl rfl)
theorem dX0_week_21 : decode cX0_week 21 = .ok (.iconst (-1), 1) := dk_2 (dk_at dksX0_week_0 21 rfl rfl)
theorem dX0_week_22 : decode cX0_week 22 = .ok (.invokestatic 112, 3) := dk_184 0 112 (dk_at dksX0_week_1 0 rfl rfl)
theorem dX0_week_25 : decode cX0_week 25 = .ok (.iload_n 1, 1) := dk_27 (dk_at dksX0_week_1 3 rfl rfl)
theorem dX0_week_26 : decode cX0_week 26 = .ok (.iconst (-1), 1) := dk_2 (dk_at dksX0_week_1 4 rfl rfl)
theorem dX0_week_27 : decode cX0_week 27 = .ok (.if_icmp .eq 14, 3) := dk_159 0 14 (dk_at dksX0_week_1 5 rfl rfl)
theorem dX0_week_30 : decode cX0_week 30 = .ok (.aload_n 0, 1) := dk_42 (dk_at dksX0_week_1 8 rfl rfl)
theorem dX0_week_31 : decode cX0_week 31 = .ok (.getfield 90, 3) := dk_180 0 90 (dk_at dksX0_week_1 9 rfl rfl)
theorem dX0_week_34 : decode cX0_week 34 = .ok (.iload_n 1, 1) := dk_27 (dk_at dksX0_week_1 12 rfl rfl)
theorem dX0_week_35 : decode cX0_week 35 = .ok (.invokevirtual 305, 3) := dk_182 1 49 (dk_at dksX0_week_1 13 rfl rfl)
theorem dX0_week_38 : decode cX0_week 38 = .ok (.ifCond .eq 7, 3) := dk_153 0 7 (dk_at dksX0_week_1 16 rfl rfl)
theorem dX0_week_41 : decode cX0_week 41 = .ok (.iconst 1, 1) := dk_4 (dk_at dksX0_week_1 19 rfl rfl)
theorem dX0_week_42 : decode cX0_week 42 = .ok (.goto 4, 3) := dk_167 0 4 (dk_at dksX0_week_1 20 rfl rfl)
theorem dX0_week_45 : decode cX0_week 45 = .ok (.iconst 0, 1) := dk_3 (dk_at dksX0_week_1 23 rfl rfl)
theorem dX0_week_46 : decode cX0_week 46 = .ok (.bipush (-6), 2) := dk_16 250 (dk_at dksX0_week_2 0 rfl rfl)
theorem dX0_week_48 : decode cX0_week 48 = .ok (.invokestatic 112, 3) := dk_184 0 112 (dk_at dksX0_week_2 2 rfl rfl)
theorem dX0_week_51 : decode cX0_week 51 = .ok (.aload_n 0, 1) := dk_42 (dk_at dksX0_week_2 5 rfl rfl)
theorem dX0_week_52 : decode cX0_week 52 = .ok (.getfield 90, 3) := dk_180 0 90 (dk_at dksX0_week_2 6 rfl rfl)
theorem dX0_week_55 : decode cX0_week 55 = .ok (.iload_n 1, 1) := dk_27 (dk_at dksX0_week_2 9 rfl rfl)
theorem dX0_week_56 : decode cX0_week 56 = .ok (.invokevirtual 369, 3) := dk_182 1 113 (dk_at dksX0_week_2 10 rfl rfl)
theorem dX0_week_59 : decode cX0_week 59 = .ok (.iconst (-1), 1) := dk_2 (dk_at dksX0_week_2 13 rfl rfl)
theorem dX0_week_60 : decode cX0_week 60 = .ok (.if_icmp .ne 16, 3) := dk_160 0 16 (dk_at dksX0_week_2 14 rfl rfl)
theorem dX0_week_63 : decode cX0_week 63 = .ok (.aload_n 0, 1) := dk_42 (dk_at dksX0_week_2 17 rfl rfl)
theorem dX0_week_64 : decode cX0_week 64 = .ok (.getfield 90, 3) := dk_180 0 90 (dk_at dksX0_week_2 18 rfl rfl)
theorem dX0_week_67 : decode cX0_week 67 = .ok (.getfield 225, 3) := dk_180 0 225 (dk_at dksX0_week_2 21 rfl rfl)
theorem dX0_week_70 : decode cX0_week 70 = .ok (.getfield 228, 3) := dk_180 0 228 (dk_at dksX0_week_3 0 rfl rfl)
theorem dX0_week_73 : decode cX0_week 73 = .ok (.goto 4, 3) := dk_167 0 4 (dk_at dksX0_week_3 3 rfl rfl)
theorem dX0_week_76 : decode cX0_week 76 = .ok (.iconst (-1), 1) := dk_2 (dk_at dksX0_week_3 6 rfl rfl)
theorem dX0_week_77 : decode cX0_week 77 = .ok (.ireturn, 1) := dk_172 (dk_at dksX0_week_3 7 rfl rfl)
theorem dX0_week_78 : decode cX0_week 78 = .ok (.astore_n 2, 1) := dk_77 (dk_at dksX0_week_3 8 rfl rfl)
theorem dX0_week_79 : decode cX0_week 79 = .ok (.aload_n 0, 1) := dk_42 (dk_at dksX0_week_3 9 rfl rfl)
theorem dX0_week_80 : decode cX0_week 80 = .ok (.aload_n 2, 1) := dk_44 (dk_at dksX0_week_3 10 rfl rfl)
theorem dX0_week_81 : decode cX0_week 81 = .ok (.invokevirtual 161, 3) := dk_182 0 161 (dk_at dksX0_week_3 11 rfl rfl)
theorem dX0_week_84 : decode cX0_week 84 = .ok (.bipush 10, 2) := dk_16 10 (dk_at dksX0_week_3 14 rfl rfl)
theorem dX0_week_86 : decode cX0_week 86 = .ok (.isub, 1) := dk_100 (dk_at dksX0_week_3 16 rfl rfl)
theorem dX0_week_87 : decode cX0_week 87 = .ok (.ireturn, 1) := dk_172 (dk_at dksX0_week_3 17 rfl rfl)
abbrev cX0_weeks : ByteArray := prog_1_method_54_code
def yX0_weeks : MethodName := ⟨RX0, "weeks", "(II)I"⟩
def dkwX0_weeks_4 : List UInt8 := [182, 0, 161, 172]
abbrev dktX0_weeks_4 : List UInt8 := dkwX0_weeks_4 ++ []
def dkwX0_weeks_3 : List UInt8 := [182, 1, 113, 87, 132, 4, 1, 167, 255, 222, 42, 180, 0, 90, 180, 1, 117, 29, 100, 172, 78, 42, 45]
abbrev dktX0_weeks_3 : List UInt8 := dkwX0_weeks_3 ++ dktX0_weeks_4
def dkwX0_weeks_2 : List UInt8 := [162, 0, 34, 42, 180, 0, 90, 42, 180, 0, 90, 28, 4, 160, 0, 7, 4, 167, 0, 4, 3, 182, 1, 75]
abbrev dktX0_weeks_2 : List UInt8 := dkwX0_weeks_2 ++ dktX0_weeks_3
def dkwX0_weeks_1 : List UInt8 := [184, 0, 153, 16, 250, 184, 0, 112, 42, 180, 0, 90, 180, 1, 117, 62, 3, 54, 4, 21, 4, 27]
abbrev dktX0_weeks_1 : List UInt8 := dkwX0_weeks_1 ++ dktX0_weeks_2
def dkwX0_weeks_0 : List UInt8 := [28, 133, 9, 10, 184, 0, 153, 16, 251, 184, 0, 112, 42, 182, 1, 72, 27, 133, 10, 20, 1, 115]
abbrev dktX0_weeks_0 : List UInt8 := dkwX0_weeks_0 ++ dktX0_weeks_1
theorem dksX0_weeks_0 : cX0_weeks.data.toList.drop 0 = dktX0_weeks_0 := by decide +kernel
theorem dksX0_weeks_1 : cX0_weeks.data.toList.drop 22 = dktX0_weeks_1 := dk_seg dksX0_weeks_0 22 rfl rfl
theorem dksX0_weeks_2 : cX0_weeks.data.toList.drop 44 = dktX0_weeks_2 := dk_seg dksX0_weeks_1 22 rfl rfl
theorem dksX0_weeks_3 : cX0_weeks.data.toList.drop 68 = dktX0_weeks_3 := dk_seg dksX0_weeks_2 24 rfl rfl
theorem dksX0_weeks_4 : cX0_weeks.data.toList.drop 91 = dktX0_weeks_4 := dk_seg dksX0_weeks_3 23 rfl rfl
theorem dX0_weeks_0 : decode cX0_weeks 0 = .ok (.iload_n 2, 1) := dk_28 (dk_at dksX0_weeks_0 0 rfl rfl)
theorem dX0_weeks_1 : decode cX0_weeks 1 = .ok (.i2l, 1) := dk_133 (dk_at dksX0_weeks_0 1 rfl rfl)
theorem dX0_weeks_2 : decode cX0_weeks 2 = .ok (.lconst 0, 1) := dk_9 (dk_at dksX0_weeks_0 2 rfl rfl)
theorem dX0_weeks_3 : decode cX0_weeks 3 = .ok (.lconst 1, 1) := dk_10 (dk_at dksX0_weeks_0 3 rfl rfl)
theorem dX0_weeks_4 : decode cX0_weeks 4 = .ok (.invokestatic 153, 3) := dk_184 0 153 (dk_at dksX0_weeks_0 4 rfl rfl)
theorem dX0_weeks_7 : decode cX0_weeks 7 = .ok (.bipush (-5), 2) := dk_16 251 (dk_at dksX0_weeks_0 7 rfl rfl)
theorem dX0_weeks_9 : decode cX0_weeks 9 = .ok (.invokestatic 112, 3) := dk_184 0 112 (dk_at dksX0_weeks_0 9 rfl rfl)
theorem dX0_weeks_12 : decode cX0_weeks 12 = .ok (.aload_n 0, 1) := dk_42 (dk_at dksX0_weeks_0 12 rfl rfl)
theorem dX0_weeks_13 : decode cX0_weeks 13 = .ok (.invokevirtual 328, 3) := dk_182 1 72 (dk_at dksX0_weeks_0 13 rfl rfl)
theorem dX0_weeks_16 : decode cX0_weeks 16 = .ok (.iload_n 1, 1) := dk_27 (dk_at dksX0_weeks_0 16 rfl rfl)
theorem dX0_weeks_17 : decode cX0_weeks 17 = .ok (.i2l, 1) := dk_133 (dk_at dksX0_weeks_0 17 rfl rfl)
theorem dX0_weeks_18 : decode cX0_weeks 18 = .ok (.lconst 1, 1) := dk_10 (dk_at dksX0_weeks_0 18 rfl rfl)
theorem dX0_weeks_19 : decode cX0_weeks 19 = .ok (.ldc2_w 371, 3) := dk_20 1 115 (dk_at dksX0_weeks_0 19 rfl rfl)
theorem dX0_weeks_22 : decode cX0_weeks 22 = .ok (.invokestatic 153, 3) := dk_184 0 153 (dk_at dksX0_weeks_1 0 rfl rfl)
theorem dX0_weeks_25 : decode cX0_weeks 25 = .ok (.bipush (-6), 2) := dk_16 250 (dk_at dksX0_weeks_1 3 rfl rfl)
theorem dX0_weeks_27 : decode cX0_weeks 27 = .ok (.invokestatic 112, 3) := dk_184 0 112 (dk_at dksX0_weeks_1 5 rfl rfl)
theorem dX0_weeks_30 : decode cX0_weeks 30 = .ok (.aload_n 0, 1) := dk_42 (dk_at dksX0_weeks_1 8 rfl rfl)
theorem dX0_weeks_31 : decode cX0_weeks 31 = .ok (.getfield 90, 3) := dk_180 0 90 (dk_at dksX0_weeks_1 9 rfl rfl)
theorem dX0_weeks_34 : decode cX0_weeks 34 = .ok (.getfield 373, 3) := dk_180 1 117 (dk_at dksX0_weeks_1 12 rfl rfl)
theorem dX0_weeks_37 : decode cX0_weeks 37 = .ok (.istore_n 3, 1) := dk_62 (dk_at dksX0_weeks_1 15 rfl rfl)
theorem dX0_weeks_38 : decode cX0_weeks 38 = .ok (.iconst 0, 1) := dk_3 (dk_at dksX0_weeks_1 16 rfl rfl)
theorem dX0_weeks_39 : decode cX0_weeks 39 = .ok (.istore 4, 2) := dk_54 4 (dk_at dksX0_weeks_1 17 rfl rfl)
theorem dX0_weeks_41 : decode cX0_weeks 41 = .ok (.iload 4, 2) := dk_21 4 (dk_at dksX0_weeks_1 19 rfl rfl)
theorem dX0_weeks_43 : decode cX0_weeks 43 = .ok (.iload_n 1, 1) := dk_27 (dk_at dksX0_weeks_1 21 rfl rfl)
theorem dX0_weeks_44 : decode cX0_weeks 44 = .ok (.if_icmp .ge 34, 3) := dk_162 0 34 (dk_at dksX0_weeks_2 0 rfl rfl)
theorem dX0_weeks_47 : decode cX0_weeks 47 = .ok (.aload_n 0, 1) := dk_42 (dk_at dksX0_weeks_2 3 rfl rfl)
theorem dX0_weeks_48 : decode cX0_weeks 48 = .ok (.getfield 90, 3) := dk_180 0 90 (dk_at dksX0_weeks_2 4 rfl rfl)
theorem dX0_weeks_51 : decode cX0_weeks 51 = .ok (.aload_n 0, 1) := dk_42 (dk_at dksX0_weeks_2 7 rfl rfl)
theorem dX0_weeks_52 : decode cX0_weeks 52 = .ok (.getfield 90, 3) := dk_180 0 90 (dk_at dksX0_weeks_2 8 rfl rfl)
theorem dX0_weeks_55 : decode cX0_weeks 55 = .ok (.iload_n 2, 1) := dk_28 (dk_at dksX0_weeks_2 11 rfl rfl)
theorem dX0_weeks_56 : decode cX0_weeks 56 = .ok (.iconst 1, 1) := dk_4 (dk_at dksX0_weeks_2 12 rfl rfl)
theorem dX0_weeks_57 : decode cX0_weeks 57 = .ok (.if_icmp .ne 7, 3) := dk_160 0 7 (dk_at dksX0_weeks_2 13 rfl rfl)
theorem dX0_weeks_60 : decode cX0_weeks 60 = .ok (.iconst 1, 1) := dk_4 (dk_at dksX0_weeks_2 16 rfl rfl)
theorem dX0_weeks_61 : decode cX0_weeks 61 = .ok (.goto 4, 3) := dk_167 0 4 (dk_at dksX0_weeks_2 17 rfl rfl)
theorem dX0_weeks_64 : decode cX0_weeks 64 = .ok (.iconst 0, 1) := dk_3 (dk_at dksX0_weeks_2 20 rfl rfl)
theorem dX0_weeks_65 : decode cX0_weeks 65 = .ok (.invokevirtual 331, 3) := dk_182 1 75 (dk_at dksX0_weeks_2 21 rfl rfl)
theorem dX0_weeks_68 : decode cX0_weeks 68 = .ok (.invokevirtual 369, 3) := dk_182 1 113 (dk_at dksX0_weeks_3 0 rfl rfl)
theorem dX0_weeks_71 : decode cX0_weeks 71 = .ok (.pop, 1) := dk_87 (dk_at dksX0_weeks_3 3 rfl rfl)
theorem dX0_weeks_72 : decode cX0_weeks 72 = .ok (.iinc 4 1, 3) := dk_132 4 1 (dk_at dksX0_weeks_3 4 rfl rfl)
theorem dX0_weeks_75 : decode cX0_weeks 75 = .ok (.goto (-34), 3) := dk_167 255 222 (dk_at dksX0_weeks_3 7 rfl rfl)
theorem dX0_weeks_78 : decode cX0_weeks 78 = .ok (.aload_n 0, 1) := dk_42 (dk_at dksX0_weeks_3 10 rfl rfl)
theorem dX0_weeks_79 : decode cX0_weeks 79 = .ok (.getfield 90, 3) := dk_180 0 90 (dk_at dksX0_weeks_3 11 rfl rfl)
theorem dX0_weeks_82 : decode cX0_weeks 82 = .ok (.getfield 373, 3) := dk_180 1 117 (dk_at dksX0_weeks_3 14 rfl rfl)
theorem dX0_weeks_85 : decode cX0_weeks 85 = .ok (.iload_n 3, 1) := dk_29 (dk_at dksX0_weeks_3 17 rfl rfl)
theorem dX0_weeks_86 : decode cX0_weeks 86 = .ok (.isub, 1) := dk_100 (dk_at dksX0_weeks_3 18 rfl rfl)
theorem dX0_weeks_87 : decode cX0_weeks 87 = .ok (.ireturn, 1) := dk_172 (dk_at dksX0_weeks_3 19 rfl rfl)
theorem dX0_weeks_88 : decode cX0_weeks 88 = .ok (.astore_n 3, 1) := dk_78 (dk_at dksX0_weeks_3 20 rfl rfl)
theorem dX0_weeks_89 : decode cX0_weeks 89 = .ok (.aload_n 0, 1) := dk_42 (dk_at dksX0_weeks_3 21 rfl rfl)
theorem dX0_weeks_90 : decode cX0_weeks 90 = .ok (.aload_n 3, 1) := dk_45 (dk_at dksX0_weeks_3 22 rfl rfl)
theorem dX0_weeks_91 : decode cX0_weeks 91 = .ok (.invokevirtual 161, 3) := dk_182 0 161 (dk_at dksX0_weeks_4 0 rfl rfl)
theorem dX0_weeks_94 : decode cX0_weeks 94 = .ok (.ireturn, 1) := dk_172 (dk_at dksX0_weeks_4 3 rfl rfl)
abbrev cX0_term : ByteArray := prog_1_method_55_code
def yX0_term : MethodName := ⟨RX0, "term", "(I)I"⟩
def dkwX0_term_2 : List UInt8 := [172, 77, 42, 44, 182, 0, 161, 172]
abbrev dktX0_term_2 : List UInt8 := dkwX0_term_2 ++ []
def dkwX0_term_1 : List UInt8 := [42, 180, 0, 90, 182, 1, 120, 153, 0, 7, 4, 167, 0, 4, 3, 96, 61, 132, 3, 1, 167, 255, 230, 28]
abbrev dktX0_term_1 : List UInt8 := dkwX0_term_1 ++ dktX0_term_2
def dkwX0_term_0 : List UInt8 := [27, 133, 10, 20, 1, 115, 184, 0, 153, 16, 250, 184, 0, 112, 3, 61, 3, 62, 29, 27, 162, 0, 27, 28]
abbrev dktX0_term_0 : List UInt8 := dkwX0_term_0 ++ dktX0_term_1
theorem dksX0_term_0 : cX0_term.data.toList.drop 0 = dktX0_term_0 := by decide +kernel
theorem dksX0_term_1 : cX0_term.data.toList.drop 24 = dktX0_term_1 := dk_seg dksX0_term_0 24 rfl rfl
theorem dksX0_term_2 : cX0_term.data.toList.drop 48 = dktX0_term_2 := dk_seg dksX0_term_1 24 rfl rfl
theorem dX0_term_0 : decode cX0_term 0 = .ok (.iload_n 1, 1) := dk_27 (dk_at dksX0_term_0 0 rfl rfl)
theorem dX0_term_1 : decode cX0_term 1 = .ok (.i2l, 1) := dk_133 (dk_at dksX0_term_0 1 rfl rfl)
theorem dX0_term_2 : decode cX0_term 2 = .ok (.lconst 1, 1) := dk_10 (dk_at dksX0_term_0 2 rfl rfl)
theorem dX0_term_3 : decode cX0_term 3 = .ok (.ldc2_w 371, 3) := dk_20 1 115 (dk_at dksX0_term_0 3 rfl rfl)
theorem dX0_term_6 : decode cX0_term 6 = .ok (.invokestatic 153, 3) := dk_184 0 153 (dk_at dksX0_term_0 6 rfl rfl)
theorem dX0_term_9 : decode cX0_term 9 = .ok (.bipush (-6), 2) := dk_16 250 (dk_at dksX0_term_0 9 rfl rfl)
theorem dX0_term_11 : decode cX0_term 11 = .ok (.invokestatic 112, 3) := dk_184 0 112 (dk_at dksX0_term_0 11 rfl rfl)
theorem dX0_term_14 : decode cX0_term 14 = .ok (.iconst 0, 1) := dk_3 (dk_at dksX0_term_0 14 rfl rfl)
theorem dX0_term_15 : decode cX0_term 15 = .ok (.istore_n 2, 1) := dk_61 (dk_at dksX0_term_0 15 rfl rfl)
theorem dX0_term_16 : decode cX0_term 16 = .ok (.iconst 0, 1) := dk_3 (dk_at dksX0_term_0 16 rfl rfl)
theorem dX0_term_17 : decode cX0_term 17 = .ok (.istore_n 3, 1) := dk_62 (dk_at dksX0_term_0 17 rfl rfl)
theorem dX0_term_18 : decode cX0_term 18 = .ok (.iload_n 3, 1) := dk_29 (dk_at dksX0_term_0 18 rfl rfl)
theorem dX0_term_19 : decode cX0_term 19 = .ok (.iload_n 1, 1) := dk_27 (dk_at dksX0_term_0 19 rfl rfl)
theorem dX0_term_20 : decode cX0_term 20 = .ok (.if_icmp .ge 27, 3) := dk_162 0 27 (dk_at dksX0_term_0 20 rfl rfl)
theorem dX0_term_23 : decode cX0_term 23 = .ok (.iload_n 2, 1) := dk_28 (dk_at dksX0_term_0 23 rfl rfl)
theorem dX0_term_24 : decode cX0_term 24 = .ok (.aload_n 0, 1) := dk_42 (dk_at dksX0_term_1 0 rfl rfl)
theorem dX0_term_25 : decode cX0_term 25 = .ok (.getfield 90, 3) := dk_180 0 90 (dk_at dksX0_term_1 1 rfl rfl)
theorem dX0_term_28 : decode cX0_term 28 = .ok (.invokevirtual 376, 3) := dk_182 1 120 (dk_at dksX0_term_1 4 rfl rfl)
theorem dX0_term_31 : decode cX0_term 31 = .ok (.ifCond .eq 7, 3) := dk_153 0 7 (dk_at dksX0_term_1 7 rfl rfl)
theorem dX0_term_34 : decode cX0_term 34 = .ok (.iconst 1, 1) := dk_4 (dk_at dksX0_term_1 10 rfl rfl)
theorem dX0_term_35 : decode cX0_term 35 = .ok (.goto 4, 3) := dk_167 0 4 (dk_at dksX0_term_1 11 rfl rfl)
theorem dX0_term_38 : decode cX0_term 38 = .ok (.iconst 0, 1) := dk_3 (dk_at dksX0_term_1 14 rfl rfl)
theorem dX0_term_39 : decode cX0_term 39 = .ok (.iadd, 1) := dk_96 (dk_at dksX0_term_1 15 rfl rfl)
theorem dX0_term_40 : decode cX0_term 40 = .ok (.istore_n 2, 1) := dk_61 (dk_at dksX0_term_1 16 rfl rfl)
theorem dX0_term_41 : decode cX0_term 41 = .ok (.iinc 3 1, 3) := dk_132 3 1 (dk_at dksX0_term_1 17 rfl rfl)
theorem dX0_term_44 : decode cX0_term 44 = .ok (.goto (-26), 3) := dk_167 255 230 (dk_at dksX0_term_1 20 rfl rfl)
theorem dX0_term_47 : decode cX0_term 47 = .ok (.iload_n 2, 1) := dk_28 (dk_at dksX0_term_1 23 rfl rfl)
theorem dX0_term_48 : decode cX0_term 48 = .ok (.ireturn, 1) := dk_172 (dk_at dksX0_term_2 0 rfl rfl)
theorem dX0_term_49 : decode cX0_term 49 = .ok (.astore_n 2, 1) := dk_77 (dk_at dksX0_term_2 1 rfl rfl)
theorem dX0_term_50 : decode cX0_term 50 = .ok (.aload_n 0, 1) := dk_42 (dk_at dksX0_term_2 2 rfl rfl)
theorem dX0_term_51 : decode cX0_term 51 = .ok (.aload_n 2, 1) := dk_44 (dk_at dksX0_term_2 3 rfl rfl)
theorem dX0_term_52 : decode cX0_term 52 = .ok (.invokevirtual 161, 3) := dk_182 0 161 (dk_at dksX0_term_2 4 rfl rfl)
theorem dX0_term_55 : decode cX0_term 55 = .ok (.ireturn, 1) := dk_172 (dk_at dksX0_term_2 7 rfl rfl)
abbrev cX0_anew : ByteArray := prog_1_method_56_code
def yX0_anew : MethodName := ⟨RX0, "anew", "()I"⟩
def dkwX0_anew_1 : List UInt8 := [181, 1, 132, 27, 172]
abbrev dktX0_anew_1 : List UInt8 := dkwX0_anew_1 ++ []
def dkwX0_anew_0 : List UInt8 := [42, 180, 0, 90, 182, 1, 123, 60, 42, 180, 0, 90, 180, 0, 214, 3, 184, 1, 126, 42, 180, 0, 90, 2]
abbrev dktX0_anew_0 : List UInt8 := dkwX0_anew_0 ++ dktX0_anew_1
theorem dksX0_anew_0 : cX0_anew.data.toList.drop 0 = dktX0_anew_0 := by decide +kernel
theorem dksX0_anew_1 : cX0_anew.data.toList.drop 24 = dktX0_anew_1 := dk_seg dksX0_anew_0 24 rfl rfl
theorem dX0_anew_0 : decode cX0_anew 0 = .ok (.aload_n 0, 1) := dk_42 (dk_at dksX0_anew_0 0 rfl rfl)
theorem dX0_anew_1 : decode cX0_anew 1 = .ok (.getfield 90, 3) := dk_180 0 90 (dk_at dksX0_anew_0 1 rfl rfl)
theorem dX0_anew_4 : decode cX0_anew 4 = .ok (.invokevirtual 379, 3) := dk_182 1 123 (dk_at dksX0_anew_0 4 rfl rfl)
theorem dX0_anew_7 : decode cX0_anew 7 = .ok (.istore_n 1, 1) := dk_60 (dk_at dksX0_anew_0 7 rfl rfl)
theorem dX0_anew_8 : decode cX0_anew 8 = .ok (.aload_n 0, 1) := dk_42 (dk_at dksX0_anew_0 8 rfl rfl)
theorem dX0_anew_9 : decode cX0_anew 9 = .ok (.getfield 90, 3) := dk_180 0 90 (dk_at dksX0_anew_0 9 rfl rfl)
theorem dX0_anew_12 : decode cX0_anew 12 = .ok (.getfield 214, 3) := dk_180 0 214 (dk_at dksX0_anew_0 12 rfl rfl)
theorem dX0_anew_15 : decode cX0_anew 15 = .ok (.iconst 0, 1) := dk_3 (dk_at dksX0_anew_0 15 rfl rfl)
theorem dX0_anew_16 : decode cX0_anew 16 = .ok (.invokestatic 382, 3) := dk_184 1 126 (dk_at dksX0_anew_0 16 rfl rfl)
theorem dX0_anew_19 : decode cX0_anew 19 = .ok (.aload_n 0, 1) := dk_42 (dk_at dksX0_anew_0 19 rfl rfl)
theorem dX0_anew_20 : decode cX0_anew 20 = .ok (.getfield 90, 3) := dk_180 0 90 (dk_at dksX0_anew_0 20 rfl rfl)
theorem dX0_anew_23 : decode cX0_anew 23 = .ok (.iconst (-1), 1) := dk_2 (dk_at dksX0_anew_0 23 rfl rfl)
theorem dX0_anew_24 : decode cX0_anew 24 = .ok (.putfield 388, 3) := dk_181 1 132 (dk_at dksX0_anew_1 0 rfl rfl)
theorem dX0_anew_27 : decode cX0_anew 27 = .ok (.iload_n 1, 1) := dk_27 (dk_at dksX0_anew_1 3 rfl rfl)
theorem dX0_anew_28 : decode cX0_anew 28 = .ok (.ireturn, 1) := dk_172 (dk_at dksX0_anew_1 4 rfl rfl)
abbrev cX0_seed : ByteArray := prog_1_method_57_code
def yX0_seed : MethodName := ⟨RX0, "seed", "(I)I"⟩
def dkwX0_seed_0 : List UInt8 := [42, 180, 0, 90, 180, 1, 135, 61, 42, 180, 0, 90, 27, 181, 1, 135, 28, 172]
abbrev dktX0_seed_0 : List UInt8 := dkwX0_seed_0 ++ []
theorem dksX0_seed_0 : cX0_seed.data.toList.drop 0 = dktX0_seed_0 := by decide +kernel
theorem dX0_seed_0 : decode cX0_seed 0 = .ok (.aload_n 0, 1) := dk_42 (dk_at dksX0_seed_0 0 rfl rfl)
theorem dX0_seed_1 : decode cX0_seed 1 = .ok (.getfield 90, 3) := dk_180 0 90 (dk_at dksX0_seed_0 1 rfl rfl)
theorem dX0_seed_4 : decode cX0_seed 4 = .ok (.getfield 391, 3) := dk_180 1 135 (dk_at dksX0_seed_0 4 rfl rfl)
theorem dX0_seed_7 : decode cX0_seed 7 = .ok (.istore_n 2, 1) := dk_61 (dk_at dksX0_seed_0 7 rfl rfl)
theorem dX0_seed_8 : decode cX0_seed 8 = .ok (.aload_n 0, 1) := dk_42 (dk_at dksX0_seed_0 8 rfl rfl)
theorem dX0_seed_9 : decode cX0_seed 9 = .ok (.getfield 90, 3) := dk_180 0 90 (dk_at dksX0_seed_0 9 rfl rfl)
theorem dX0_seed_12 : decode cX0_seed 12 = .ok (.iload_n 1, 1) := dk_27 (dk_at dksX0_seed_0 12 rfl rfl)
theorem dX0_seed_13 : decode cX0_seed 13 = .ok (.putfield 391, 3) := dk_181 1 135 (dk_at dksX0_seed_0 13 rfl rfl)
theorem dX0_seed_16 : decode cX0_seed 16 = .ok (.iload_n 2, 1) := dk_28 (dk_at dksX0_seed_0 16 rfl rfl)
theorem dX0_seed_17 : decode cX0_seed 17 = .ok (.ireturn, 1) := dk_172 (dk_at dksX0_seed_0 17 rfl rfl)
abbrev cX0_act : ByteArray := prog_1_method_58_code
def yX0_act : MethodName := ⟨RX0, "act", "(III)I"⟩
def dkwX0_act_4 : List UInt8 := [29, 42, 180, 0, 70, 182, 1, 146, 172, 3, 172]
abbrev dktX0_act_4 : List UInt8 := dkwX0_act_4 ++ []
def dkwX0_act_3 : List UInt8 := [25, 4, 29, 42, 180, 0, 70, 182, 1, 139, 172, 25, 4, 29, 42, 180, 0, 70, 182, 1, 143, 172, 25, 4]
abbrev dktX0_act_3 : List UInt8 := dkwX0_act_3 ++ dktX0_act_4
def dkwX0_act_2 : List UInt8 := [170, 0, 0, 0, 0, 0, 60, 0, 0, 0, 0, 0, 0, 0, 2, 0, 0, 0, 27, 0, 0, 0, 38, 0, 0, 0, 49]
abbrev dktX0_act_2 : List UInt8 := dkwX0_act_2 ++ dktX0_act_3
def dkwX0_act_1 : List UInt8 := [180, 0, 90, 180, 0, 129, 27, 50, 58, 4, 28]
abbrev dktX0_act_1 : List UInt8 := dkwX0_act_1 ++ dktX0_act_2
def dkwX0_act_0 : List UInt8 := [42, 180, 0, 70, 3, 181, 1, 138, 42, 180, 0, 90, 27, 182, 0, 108, 154, 0, 5, 3, 172, 42]
abbrev dktX0_act_0 : List UInt8 := dkwX0_act_0 ++ dktX0_act_1
theorem dksX0_act_0 : cX0_act.data.toList.drop 0 = dktX0_act_0 := by decide +kernel
theorem dksX0_act_1 : cX0_act.data.toList.drop 22 = dktX0_act_1 := dk_seg dksX0_act_0 22 rfl rfl
theorem dksX0_act_2 : cX0_act.data.toList.drop 33 = dktX0_act_2 := dk_seg dksX0_act_1 11 rfl rfl
theorem dksX0_act_3 : cX0_act.data.toList.drop 60 = dktX0_act_3 := dk_seg dksX0_act_2 27 rfl rfl
theorem dksX0_act_4 : cX0_act.data.toList.drop 84 = dktX0_act_4 := dk_seg dksX0_act_3 24 rfl rfl
theorem dX0_act_0 : decode cX0_act 0 = .ok (.aload_n 0, 1) := dk_42 (dk_at dksX0_act_0 0 rfl rfl)
theorem dX0_act_1 : decode cX0_act 1 = .ok (.getfield 70, 3) := dk_180 0 70 (dk_at dksX0_act_0 1 rfl rfl)
theorem dX0_act_4 : decode cX0_act 4 = .ok (.iconst 0, 1) := dk_3 (dk_at dksX0_act_0 4 rfl rfl)
theorem dX0_act_5 : decode cX0_act 5 = .ok (.putfield 394, 3) := dk_181 1 138 (dk_at dksX0_act_0 5 rfl rfl)
theorem dX0_act_8 : decode cX0_act 8 = .ok (.aload_n 0, 1) := dk_42 (dk_at dksX0_act_0 8 rfl rfl)
theorem dX0_act_9 : decode cX0_act 9 = .ok (.getfield 90, 3) := dk_180 0 90 (dk_at dksX0_act_0 9 rfl rfl)
theorem dX0_act_12 : decode cX0_act 12 = .ok (.iload_n 1, 1) := dk_27 (dk_at dksX0_act_0 12 rfl rfl)
theorem dX0_act_13 : decode cX0_act 13 = .ok (.invokevirtual 108, 3) := dk_182 0 108 (dk_at dksX0_act_0 13 rfl rfl)
theorem dX0_act_16 : decode cX0_act 16 = .ok (.ifCond .ne 5, 3) := dk_154 0 5 (dk_at dksX0_act_0 16 rfl rfl)
theorem dX0_act_19 : decode cX0_act 19 = .ok (.iconst 0, 1) := dk_3 (dk_at dksX0_act_0 19 rfl rfl)
theorem dX0_act_20 : decode cX0_act 20 = .ok (.ireturn, 1) := dk_172 (dk_at dksX0_act_0 20 rfl rfl)
theorem dX0_act_21 : decode cX0_act 21 = .ok (.aload_n 0, 1) := dk_42 (dk_at dksX0_act_0 21 rfl rfl)
theorem dX0_act_22 : decode cX0_act 22 = .ok (.getfield 90, 3) := dk_180 0 90 (dk_at dksX0_act_1 0 rfl rfl)
theorem dX0_act_25 : decode cX0_act 25 = .ok (.getfield 129, 3) := dk_180 0 129 (dk_at dksX0_act_1 3 rfl rfl)
theorem dX0_act_28 : decode cX0_act 28 = .ok (.iload_n 1, 1) := dk_27 (dk_at dksX0_act_1 6 rfl rfl)
theorem dX0_act_29 : decode cX0_act 29 = .ok (.aaload, 1) := dk_50 (dk_at dksX0_act_1 7 rfl rfl)
theorem dX0_act_30 : decode cX0_act 30 = .ok (.astore 4, 2) := dk_58 4 (dk_at dksX0_act_1 8 rfl rfl)
theorem dX0_act_32 : decode cX0_act 32 = .ok (.iload_n 2, 1) := dk_28 (dk_at dksX0_act_1 10 rfl rfl)
theorem dX0_act_33 : decode cX0_act 33 = .ok (.tableswitch 60 0 2 #[27, 38, 49], 27) := by decide +kernel
theorem dX0_act_60 : decode cX0_act 60 = .ok (.aload 4, 2) := dk_25 4 (dk_at dksX0_act_3 0 rfl rfl)
theorem dX0_act_62 : decode cX0_act 62 = .ok (.iload_n 3, 1) := dk_29 (dk_at dksX0_act_3 2 rfl rfl)
theorem dX0_act_63 : decode cX0_act 63 = .ok (.aload_n 0, 1) := dk_42 (dk_at dksX0_act_3 3 rfl rfl)
theorem dX0_act_64 : decode cX0_act 64 = .ok (.getfield 70, 3) := dk_180 0 70 (dk_at dksX0_act_3 4 rfl rfl)
theorem dX0_act_67 : decode cX0_act 67 = .ok (.invokevirtual 395, 3) := dk_182 1 139 (dk_at dksX0_act_3 7 rfl rfl)
theorem dX0_act_70 : decode cX0_act 70 = .ok (.ireturn, 1) := dk_172 (dk_at dksX0_act_3 10 rfl rfl)
theorem dX0_act_71 : decode cX0_act 71 = .ok (.aload 4, 2) := dk_25 4 (dk_at dksX0_act_3 11 rfl rfl)
theorem dX0_act_73 : decode cX0_act 73 = .ok (.iload_n 3, 1) := dk_29 (dk_at dksX0_act_3 13 rfl rfl)
theorem dX0_act_74 : decode cX0_act 74 = .ok (.aload_n 0, 1) := dk_42 (dk_at dksX0_act_3 14 rfl rfl)
theorem dX0_act_75 : decode cX0_act 75 = .ok (.getfield 70, 3) := dk_180 0 70 (dk_at dksX0_act_3 15 rfl rfl)
theorem dX0_act_78 : decode cX0_act 78 = .ok (.invokevirtual 399, 3) := dk_182 1 143 (dk_at dksX0_act_3 18 rfl rfl)
theorem dX0_act_81 : decode cX0_act 81 = .ok (.ireturn, 1) := dk_172 (dk_at dksX0_act_3 21 rfl rfl)
theorem dX0_act_82 : decode cX0_act 82 = .ok (.aload 4, 2) := dk_25 4 (dk_at dksX0_act_3 22 rfl rfl)
theorem dX0_act_84 : decode cX0_act 84 = .ok (.iload_n 3, 1) := dk_29 (dk_at dksX0_act_4 0 rfl rfl)
theorem dX0_act_85 : decode cX0_act 85 = .ok (.aload_n 0, 1) := dk_42 (dk_at dksX0_act_4 1 rfl rfl)
theorem dX0_act_86 : decode cX0_act 86 = .ok (.getfield 70, 3) := dk_180 0 70 (dk_at dksX0_act_4 2 rfl rfl)
theorem dX0_act_89 : decode cX0_act 89 = .ok (.invokevirtual 402, 3) := dk_182 1 146 (dk_at dksX0_act_4 5 rfl rfl)
theorem dX0_act_92 : decode cX0_act 92 = .ok (.ireturn, 1) := dk_172 (dk_at dksX0_act_4 8 rfl rfl)
theorem dX0_act_93 : decode cX0_act 93 = .ok (.iconst 0, 1) := dk_3 (dk_at dksX0_act_4 9 rfl rfl)
theorem dX0_act_94 : decode cX0_act 94 = .ok (.ireturn, 1) := dk_172 (dk_at dksX0_act_4 10 rfl rfl)
abbrev cX0_trace : ByteArray := prog_1_method_59_code
def yX0_trace : MethodName := ⟨RX0, "trace", "(I)I"⟩
def dkwX0_trace_1 : List UInt8 := [42, 180, 0, 70, 180, 1, 149, 27, 46, 167, 0, 4, 2, 172]
abbrev dktX0_trace_1 : List UInt8 := dkwX0_trace_1 ++ []
def dkwX0_trace_0 : List UInt8 := [27, 133, 9, 42, 180, 0, 70, 180, 1, 138, 16, 20, 184, 1, 31, 4, 100, 133, 184, 0, 153, 153, 0, 15]
abbrev dktX0_trace_0 : List UInt8 := dkwX0_trace_0 ++ dktX0_trace_1
theorem dksX0_trace_0 : cX0_trace.data.toList.drop 0 = dktX0_trace_0 := by decide +kernel
theorem dksX0_trace_1 : cX0_trace.data.toList.drop 24 = dktX0_trace_1 := dk_seg dksX0_trace_0 24 rfl rfl
theorem dX0_trace_0 : decode cX0_trace 0 = .ok (.iload_n 1, 1) := dk_27 (dk_at dksX0_trace_0 0 rfl rfl)
theorem dX0_trace_1 : decode cX0_trace 1 = .ok (.i2l, 1) := dk_133 (dk_at dksX0_trace_0 1 rfl rfl)
theorem dX0_trace_2 : decode cX0_trace 2 = .ok (.lconst 0, 1) := dk_9 (dk_at dksX0_trace_0 2 rfl rfl)
theorem dX0_trace_3 : decode cX0_trace 3 = .ok (.aload_n 0, 1) := dk_42 (dk_at dksX0_trace_0 3 rfl rfl)
theorem dX0_trace_4 : decode cX0_trace 4 = .ok (.getfield 70, 3) := dk_180 0 70 (dk_at dksX0_trace_0 4 rfl rfl)
theorem dX0_trace_7 : decode cX0_trace 7 = .ok (.getfield 394, 3) := dk_180 1 138 (dk_at dksX0_trace_0 7 rfl rfl)
theorem dX0_trace_10 : decode cX0_trace 10 = .ok (.bipush 20, 2) := dk_16 20 (dk_at dksX0_trace_0 10 rfl rfl)
theorem dX0_trace_12 : decode cX0_trace 12 = .ok (.invokestatic 287, 3) := dk_184 1 31 (dk_at dksX0_trace_0 12 rfl rfl)
theorem dX0_trace_15 : decode cX0_trace 15 = .ok (.iconst 1, 1) := dk_4 (dk_at dksX0_trace_0 15 rfl rfl)
theorem dX0_trace_16 : decode cX0_trace 16 = .ok (.isub, 1) := dk_100 (dk_at dksX0_trace_0 16 rfl rfl)
theorem dX0_trace_17 : decode cX0_trace 17 = .ok (.i2l, 1) := dk_133 (dk_at dksX0_trace_0 17 rfl rfl)
theorem dX0_trace_18 : decode cX0_trace 18 = .ok (.invokestatic 153, 3) := dk_184 0 153 (dk_at dksX0_trace_0 18 rfl rfl)
theorem dX0_trace_21 : decode cX0_trace 21 = .ok (.ifCond .eq 15, 3) := dk_153 0 15 (dk_at dksX0_trace_0 21 rfl rfl)
theorem dX0_trace_24 : decode cX0_trace 24 = .ok (.aload_n 0, 1) := dk_42 (dk_at dksX0_trace_1 0 rfl rfl)
theorem dX0_trace_25 : decode cX0_trace 25 = .ok (.getfield 70, 3) := dk_180 0 70 (dk_at dksX0_trace_1 1 rfl rfl)
theorem dX0_trace_28 : decode cX0_trace 28 = .ok (.getfield 405, 3) := dk_180 1 149 (dk_at dksX0_trace_1 4 rfl rfl)
theorem dX0_trace_31 : decode cX0_trace 31 = .ok (.iload_n 1, 1) := dk_27 (dk_at dksX0_trace_1 7 rfl rfl)
theorem dX0_trace_32 : decode cX0_trace 32 = .ok (.iaload, 1) := dk_46 (dk_at dksX0_trace_1 8 rfl rfl)
theorem dX0_trace_33 : decode cX0_trace 33 = .ok (.goto 4, 3) := dk_167 0 4 (dk_at dksX0_trace_1 9 rfl rfl)
theorem dX0_trace_36 : decode cX0_trace 36 = .ok (.iconst (-1), 1) := dk_2 (dk_at dksX0_trace_1 12 rfl rfl)
theorem dX0_trace_37 : decode cX0_trace 37 = .ok (.ireturn, 1) := dk_172 (dk_at dksX0_trace_1 13 rfl rfl)
abbrev cX0_image : ByteArray := prog_1_method_60_code
def yX0_image : MethodName := ⟨RX0, "image", "()I"⟩
def dkwX0_image_1 : List UInt8 := [180, 0, 192, 172]
abbrev dktX0_image_1 : List UInt8 := dkwX0_image_1 ++ []
def dkwX0_image_0 : List UInt8 := [42, 187, 0, 87, 89, 183, 0, 89, 42, 180, 0, 90, 182, 0, 247, 181, 1, 152, 42, 180, 0, 90]
abbrev dktX0_image_0 : List UInt8 := dkwX0_image_0 ++ dktX0_image_1
theorem dksX0_image_0 : cX0_image.data.toList.drop 0 = dktX0_image_0 := by decide +kernel
theorem dksX0_image_1 : cX0_image.data.toList.drop 22 = dktX0_image_1 := dk_seg dksX0_image_0 22 rfl rfl
theorem dX0_image_0 : decode cX0_image 0 = .ok (.aload_n 0, 1) := dk_42 (dk_at dksX0_image_0 0 rfl rfl)
theorem dX0_image_1 : decode cX0_image 1 = .ok (.new 87, 3) := dk_187 0 87 (dk_at dksX0_image_0 1 rfl rfl)
theorem dX0_image_4 : decode cX0_image 4 = .ok (.dup, 1) := dk_89 (dk_at dksX0_image_0 4 rfl rfl)
theorem dX0_image_5 : decode cX0_image 5 = .ok (.invokespecial 89, 3) := dk_183 0 89 (dk_at dksX0_image_0 5 rfl rfl)
theorem dX0_image_8 : decode cX0_image 8 = .ok (.aload_n 0, 1) := dk_42 (dk_at dksX0_image_0 8 rfl rfl)
theorem dX0_image_9 : decode cX0_image 9 = .ok (.getfield 90, 3) := dk_180 0 90 (dk_at dksX0_image_0 9 rfl rfl)
theorem dX0_image_12 : decode cX0_image 12 = .ok (.invokevirtual 247, 3) := dk_182 0 247 (dk_at dksX0_image_0 12 rfl rfl)
theorem dX0_image_15 : decode cX0_image 15 = .ok (.putfield 408, 3) := dk_181 1 152 (dk_at dksX0_image_0 15 rfl rfl)
theorem dX0_image_18 : decode cX0_image 18 = .ok (.aload_n 0, 1) := dk_42 (dk_at dksX0_image_0 18 rfl rfl)
theorem dX0_image_19 : decode cX0_image 19 = .ok (.getfield 90, 3) := dk_180 0 90 (dk_at dksX0_image_0 19 rfl rfl)
theorem dX0_image_22 : decode cX0_image 22 = .ok (.getfield 192, 3) := dk_180 0 192 (dk_at dksX0_image_1 0 rfl rfl)
theorem dX0_image_25 : decode cX0_image 25 = .ok (.ireturn, 1) := dk_172 (dk_at dksX0_image_1 3 rfl rfl)
abbrev cX0_restore : ByteArray := prog_1_method_61_code
def yX0_restore : MethodName := ⟨RX0, "restore", "()I"⟩
def dkwX0_restore_2 : List UInt8 := [172, 76, 42, 43, 182, 0, 161, 172]
abbrev dktX0_restore_2 : List UInt8 := dkwX0_restore_2 ++ []
def dkwX0_restore_1 : List UInt8 := [183, 0, 89, 42, 180, 1, 152, 182, 0, 247, 181, 0, 90, 42, 182, 1, 155, 42, 180, 0, 90, 180, 0, 192]
abbrev dktX0_restore_1 : List UInt8 := dkwX0_restore_1 ++ dktX0_restore_2
def dkwX0_restore_0 : List UInt8 := [42, 180, 1, 152, 198, 0, 7, 4, 167, 0, 4, 3, 16, 250, 184, 0, 112, 42, 187, 0, 87, 89]
abbrev dktX0_restore_0 : List UInt8 := dkwX0_restore_0 ++ dktX0_restore_1
theorem dksX0_restore_0 : cX0_restore.data.toList.drop 0 = dktX0_restore_0 := by decide +kernel
theorem dksX0_restore_1 : cX0_restore.data.toList.drop 22 = dktX0_restore_1 := dk_seg dksX0_restore_0 22 rfl rfl
theorem dksX0_restore_2 : cX0_restore.data.toList.drop 46 = dktX0_restore_2 := dk_seg dksX0_restore_1 24 rfl rfl
theorem dX0_restore_0 : decode cX0_restore 0 = .ok (.aload_n 0, 1) := dk_42 (dk_at dksX0_restore_0 0 rfl rfl)
theorem dX0_restore_1 : decode cX0_restore 1 = .ok (.getfield 408, 3) := dk_180 1 152 (dk_at dksX0_restore_0 1 rfl rfl)
theorem dX0_restore_4 : decode cX0_restore 4 = .ok (.ifnull 7, 3) := dk_198 0 7 (dk_at dksX0_restore_0 4 rfl rfl)
theorem dX0_restore_7 : decode cX0_restore 7 = .ok (.iconst 1, 1) := dk_4 (dk_at dksX0_restore_0 7 rfl rfl)
theorem dX0_restore_8 : decode cX0_restore 8 = .ok (.goto 4, 3) := dk_167 0 4 (dk_at dksX0_restore_0 8 rfl rfl)
theorem dX0_restore_11 : decode cX0_restore 11 = .ok (.iconst 0, 1) := dk_3 (dk_at dksX0_restore_0 11 rfl rfl)
theorem dX0_restore_12 : decode cX0_restore 12 = .ok (.bipush (-6), 2) := dk_16 250 (dk_at dksX0_restore_0 12 rfl rfl)
theorem dX0_restore_14 : decode cX0_restore 14 = .ok (.invokestatic 112, 3) := dk_184 0 112 (dk_at dksX0_restore_0 14 rfl rfl)
theorem dX0_restore_17 : decode cX0_restore 17 = .ok (.aload_n 0, 1) := dk_42 (dk_at dksX0_restore_0 17 rfl rfl)
theorem dX0_restore_18 : decode cX0_restore 18 = .ok (.new 87, 3) := dk_187 0 87 (dk_at dksX0_restore_0 18 rfl rfl)
theorem dX0_restore_21 : decode cX0_restore 21 = .ok (.dup, 1) := dk_89 (dk_at dksX0_restore_0 21 rfl rfl)
theorem dX0_restore_22 : decode cX0_restore 22 = .ok (.invokespecial 89, 3) := dk_183 0 89 (dk_at dksX0_restore_1 0 rfl rfl)
theorem dX0_restore_25 : decode cX0_restore 25 = .ok (.aload_n 0, 1) := dk_42 (dk_at dksX0_restore_1 3 rfl rfl)
theorem dX0_restore_26 : decode cX0_restore 26 = .ok (.getfield 408, 3) := dk_180 1 152 (dk_at dksX0_restore_1 4 rfl rfl)
theorem dX0_restore_29 : decode cX0_restore 29 = .ok (.invokevirtual 247, 3) := dk_182 0 247 (dk_at dksX0_restore_1 7 rfl rfl)
theorem dX0_restore_32 : decode cX0_restore 32 = .ok (.putfield 90, 3) := dk_181 0 90 (dk_at dksX0_restore_1 10 rfl rfl)
theorem dX0_restore_35 : decode cX0_restore 35 = .ok (.aload_n 0, 1) := dk_42 (dk_at dksX0_restore_1 13 rfl rfl)
theorem dX0_restore_36 : decode cX0_restore 36 = .ok (.invokevirtual 411, 3) := dk_182 1 155 (dk_at dksX0_restore_1 14 rfl rfl)
theorem dX0_restore_39 : decode cX0_restore 39 = .ok (.aload_n 0, 1) := dk_42 (dk_at dksX0_restore_1 17 rfl rfl)
theorem dX0_restore_40 : decode cX0_restore 40 = .ok (.getfield 90, 3) := dk_180 0 90 (dk_at dksX0_restore_1 18 rfl rfl)
theorem dX0_restore_43 : decode cX0_restore 43 = .ok (.getfield 192, 3) := dk_180 0 192 (dk_at dksX0_restore_1 21 rfl rfl)
theorem dX0_restore_46 : decode cX0_restore 46 = .ok (.ireturn, 1) := dk_172 (dk_at dksX0_restore_2 0 rfl rfl)
theorem dX0_restore_47 : decode cX0_restore 47 = .ok (.astore_n 1, 1) := dk_76 (dk_at dksX0_restore_2 1 rfl rfl)
theorem dX0_restore_48 : decode cX0_restore 48 = .ok (.aload_n 0, 1) := dk_42 (dk_at dksX0_restore_2 2 rfl rfl)
theorem dX0_restore_49 : decode cX0_restore 49 = .ok (.aload_n 1, 1) := dk_43 (dk_at dksX0_restore_2 3 rfl rfl)
theorem dX0_restore_50 : decode cX0_restore 50 = .ok (.invokevirtual 161, 3) := dk_182 0 161 (dk_at dksX0_restore_2 4 rfl rfl)
theorem dX0_restore_53 : decode cX0_restore 53 = .ok (.ireturn, 1) := dk_172 (dk_at dksX0_restore_2 7 rfl rfl)
abbrev cX0_shelvesFollow : ByteArray := prog_1_method_11_code
def yX0_shelvesFollow : MethodName := ⟨RX0, "shelvesFollow", "()V"⟩
def dkwX0_shelvesFollow_3 : List UInt8 := [1, 181, 0, 123, 132, 3, 1, 167, 255, 191, 177]
abbrev dktX0_shelvesFollow_3 : List UInt8 := dkwX0_shelvesFollow_3 ++ []
def dkwX0_shelvesFollow_2 : List UInt8 := [180, 0, 90, 21, 5, 182, 0, 108, 153, 0, 16, 42, 180, 0, 90, 180, 0, 129, 21, 5, 50, 167, 0, 4]
abbrev dktX0_shelvesFollow_2 : List UInt8 := dkwX0_shelvesFollow_2 ++ dktX0_shelvesFollow_3
def dkwX0_shelvesFollow_1 : List UInt8 := [182, 0, 119, 153, 0, 47, 25, 4, 180, 0, 123, 192, 0, 47, 180, 0, 126, 54, 5, 25, 4, 42]
abbrev dktX0_shelvesFollow_1 : List UInt8 := dkwX0_shelvesFollow_1 ++ dktX0_shelvesFollow_2
def dkwX0_shelvesFollow_0 : List UInt8 := [42, 180, 0, 59, 76, 43, 190, 61, 3, 62, 29, 28, 162, 0, 66, 43, 29, 50, 58, 4, 25, 4]
abbrev dktX0_shelvesFollow_0 : List UInt8 := dkwX0_shelvesFollow_0 ++ dktX0_shelvesFollow_1
theorem dksX0_shelvesFollow_0 : cX0_shelvesFollow.data.toList.drop 0 = dktX0_shelvesFollow_0 := by decide +kernel
theorem dksX0_shelvesFollow_1 : cX0_shelvesFollow.data.toList.drop 22 = dktX0_shelvesFollow_1 := dk_seg dksX0_shelvesFollow_0 22 rfl rfl
theorem dksX0_shelvesFollow_2 : cX0_shelvesFollow.data.toList.drop 44 = dktX0_shelvesFollow_2 := dk_seg dksX0_shelvesFollow_1 22 rfl rfl
theorem dksX0_shelvesFollow_3 : cX0_shelvesFollow.data.toList.drop 68 = dktX0_shelvesFollow_3 := dk_seg dksX0_shelvesFollow_2 24 rfl rfl
theorem dX0_shelvesFollow_0 : decode cX0_shelvesFollow 0 = .ok (.aload_n 0, 1) := dk_42 (dk_at dksX0_shelvesFollow_0 0 rfl rfl)
theorem dX0_shelvesFollow_1 : decode cX0_shelvesFollow 1 = .ok (.getfield 59, 3) := dk_180 0 59 (dk_at dksX0_shelvesFollow_0 1 rfl rfl)
theorem dX0_shelvesFollow_4 : decode cX0_shelvesFollow 4 = .ok (.astore_n 1, 1) := dk_76 (dk_at dksX0_shelvesFollow_0 4 rfl rfl)
theorem dX0_shelvesFollow_5 : decode cX0_shelvesFollow 5 = .ok (.aload_n 1, 1) := dk_43 (dk_at dksX0_shelvesFollow_0 5 rfl rfl)
theorem dX0_shelvesFollow_6 : decode cX0_shelvesFollow 6 = .ok (.arraylength, 1) := dk_190 (dk_at dksX0_shelvesFollow_0 6 rfl rfl)
theorem dX0_shelvesFollow_7 : decode cX0_shelvesFollow 7 = .ok (.istore_n 2, 1) := dk_61 (dk_at dksX0_shelvesFollow_0 7 rfl rfl)
theorem dX0_shelvesFollow_8 : decode cX0_shelvesFollow 8 = .ok (.iconst 0, 1) := dk_3 (dk_at dksX0_shelvesFollow_0 8 rfl rfl)
theorem dX0_shelvesFollow_9 : decode cX0_shelvesFollow 9 = .ok (.istore_n 3, 1) := dk_62 (dk_at dksX0_shelvesFollow_0 9 rfl rfl)
theorem dX0_shelvesFollow_10 : decode cX0_shelvesFollow 10 = .ok (.iload_n 3, 1) := dk_29 (dk_at dksX0_shelvesFollow_0 10 rfl rfl)
theorem dX0_shelvesFollow_11 : decode cX0_shelvesFollow 11 = .ok (.iload_n 2, 1) := dk_28 (dk_at dksX0_shelvesFollow_0 11 rfl rfl)
theorem dX0_shelvesFollow_12 : decode cX0_shelvesFollow 12 = .ok (.if_icmp .ge 66, 3) := dk_162 0 66 (dk_at dksX0_shelvesFollow_0 12 rfl rfl)
theorem dX0_shelvesFollow_15 : decode cX0_shelvesFollow 15 = .ok (.aload_n 1, 1) := dk_43 (dk_at dksX0_shelvesFollow_0 15 rfl rfl)
theorem dX0_shelvesFollow_16 : decode cX0_shelvesFollow 16 = .ok (.iload_n 3, 1) := dk_29 (dk_at dksX0_shelvesFollow_0 16 rfl rfl)
theorem dX0_shelvesFollow_17 : decode cX0_shelvesFollow 17 = .ok (.aaload, 1) := dk_50 (dk_at dksX0_shelvesFollow_0 17 rfl rfl)
theorem dX0_shelvesFollow_18 : decode cX0_shelvesFollow 18 = .ok (.astore 4, 2) := dk_58 4 (dk_at dksX0_shelvesFollow_0 18 rfl rfl)
theorem dX0_shelvesFollow_20 : decode cX0_shelvesFollow 20 = .ok (.aload 4, 2) := dk_25 4 (dk_at dksX0_shelvesFollow_0 20 rfl rfl)
theorem dX0_shelvesFollow_22 : decode cX0_shelvesFollow 22 = .ok (.invokevirtual 119, 3) := dk_182 0 119 (dk_at dksX0_shelvesFollow_1 0 rfl rfl)
theorem dX0_shelvesFollow_25 : decode cX0_shelvesFollow 25 = .ok (.ifCond .eq 47, 3) := dk_153 0 47 (dk_at dksX0_shelvesFollow_1 3 rfl rfl)
theorem dX0_shelvesFollow_28 : decode cX0_shelvesFollow 28 = .ok (.aload 4, 2) := dk_25 4 (dk_at dksX0_shelvesFollow_1 6 rfl rfl)
theorem dX0_shelvesFollow_30 : decode cX0_shelvesFollow 30 = .ok (.getfield 123, 3) := dk_180 0 123 (dk_at dksX0_shelvesFollow_1 8 rfl rfl)
theorem dX0_shelvesFollow_33 : decode cX0_shelvesFollow 33 = .ok (.checkcast 47, 3) := dk_192 0 47 (dk_at dksX0_shelvesFollow_1 11 rfl rfl)
theorem dX0_shelvesFollow_36 : decode cX0_shelvesFollow 36 = .ok (.getfield 126, 3) := dk_180 0 126 (dk_at dksX0_shelvesFollow_1 14 rfl rfl)
theorem dX0_shelvesFollow_39 : decode cX0_shelvesFollow 39 = .ok (.istore 5, 2) := dk_54 5 (dk_at dksX0_shelvesFollow_1 17 rfl rfl)
theorem dX0_shelvesFollow_41 : decode cX0_shelvesFollow 41 = .ok (.aload 4, 2) := dk_25 4 (dk_at dksX0_shelvesFollow_1 19 rfl rfl)
theorem dX0_shelvesFollow_43 : decode cX0_shelvesFollow 43 = .ok (.aload_n 0, 1) := dk_42 (dk_at dksX0_shelvesFollow_1 21 rfl rfl)
theorem dX0_shelvesFollow_44 : decode cX0_shelvesFollow 44 = .ok (.getfield 90, 3) := dk_180 0 90 (dk_at dksX0_shelvesFollow_2 0 rfl rfl)
theorem dX0_shelvesFollow_47 : decode cX0_shelvesFollow 47 = .ok (.iload 5, 2) := dk_21 5 (dk_at dksX0_shelvesFollow_2 3 rfl rfl)
theorem dX0_shelvesFollow_49 : decode cX0_shelvesFollow 49 = .ok (.invokevirtual 108, 3) := dk_182 0 108 (dk_at dksX0_shelvesFollow_2 5 rfl rfl)
theorem dX0_shelvesFollow_52 : decode cX0_shelvesFollow 52 = .ok (.ifCond .eq 16, 3) := dk_153 0 16 (dk_at dksX0_shelvesFollow_2 8 rfl rfl)
theorem dX0_shelvesFollow_55 : decode cX0_shelvesFollow 55 = .ok (.aload_n 0, 1) := dk_42 (dk_at dksX0_shelvesFollow_2 11 rfl rfl)
theorem dX0_shelvesFollow_56 : decode cX0_shelvesFollow 56 = .ok (.getfield 90, 3) := dk_180 0 90 (dk_at dksX0_shelvesFollow_2 12 rfl rfl)
theorem dX0_shelvesFollow_59 : decode cX0_shelvesFollow 59 = .ok (.getfield 129, 3) := dk_180 0 129 (dk_at dksX0_shelvesFollow_2 15 rfl rfl)
theorem dX0_shelvesFollow_62 : decode cX0_shelvesFollow 62 = .ok (.iload 5, 2) := dk_21 5 (dk_at dksX0_shelvesFollow_2 18 rfl rfl)
theorem dX0_shelvesFollow_64 : decode cX0_shelvesFollow 64 = .ok (.aaload, 1) := dk_50 (dk_at dksX0_shelvesFollow_2 20 rfl rfl)
theorem dX0_shelvesFollow_65 : decode cX0_shelvesFollow 65 = .ok (.goto 4, 3) := dk_167 0 4 (dk_at dksX0_shelvesFollow_2 21 rfl rfl)
theorem dX0_shelvesFollow_68 : decode cX0_shelvesFollow 68 = .ok (.aconst_null, 1) := dk_1 (dk_at dksX0_shelvesFollow_3 0 rfl rfl)
theorem dX0_shelvesFollow_69 : decode cX0_shelvesFollow 69 = .ok (.putfield 123, 3) := dk_181 0 123 (dk_at dksX0_shelvesFollow_3 1 rfl rfl)
theorem dX0_shelvesFollow_72 : decode cX0_shelvesFollow 72 = .ok (.iinc 3 1, 3) := dk_132 3 1 (dk_at dksX0_shelvesFollow_3 4 rfl rfl)
theorem dX0_shelvesFollow_75 : decode cX0_shelvesFollow 75 = .ok (.goto (-65), 3) := dk_167 255 191 (dk_at dksX0_shelvesFollow_3 7 rfl rfl)
theorem dX0_shelvesFollow_78 : decode cX0_shelvesFollow 78 = .ok (.return_, 1) := dk_177 (dk_at dksX0_shelvesFollow_3 10 rfl rfl)
abbrev cX0_status : ByteArray := prog_1_method_62_code
def yX0_status : MethodName := ⟨RX0, "status", "(I)I"⟩
def dkwX0_status_5 : List UInt8 := [153, 0, 15, 42, 180, 0, 63, 27, 16, 10, 100, 46, 167, 0, 4, 2, 172]
abbrev dktX0_status_5 : List UInt8 := dkwX0_status_5 ++ []
def dkwX0_status_4 : List UInt8 := [16, 18, 100, 46, 172, 42, 180, 0, 70, 180, 1, 138, 172, 27, 133, 20, 1, 165, 20, 1, 167, 184, 0, 153]
abbrev dktX0_status_4 : List UInt8 := dkwX0_status_4 ++ dktX0_status_5
def dkwX0_status_3 : List UInt8 := [42, 180, 0, 90, 180, 1, 132, 172, 42, 180, 0, 90, 180, 1, 135, 172, 42, 180, 0, 90, 180, 1, 162, 27]
abbrev dktX0_status_3 : List UInt8 := dkwX0_status_3 ++ dktX0_status_4
def dkwX0_status_2 : List UInt8 := [42, 180, 0, 90, 180, 0, 192, 172, 42, 180, 0, 90, 182, 0, 116, 172, 42, 180, 0, 90, 180, 1, 117, 172]
abbrev dktX0_status_2 : List UInt8 := dkwX0_status_2 ++ dktX0_status_3
def dkwX0_status_1 : List UInt8 := [170, 0, 0, 0, 162, 0, 0, 0, 0, 0, 0, 0, 21, 0, 0, 0, 101, 0, 0, 0, 109, 0, 0, 0, 162, 0, 0, 0, 162, 0, 0, 0, 162, 0, 0, 0, 162, 0, 0, 0, 162, 0, 0, 0, 162, 0, 0, 0, 117, 0, 0, 0, 125, 0, 0, 0, 133, 0, 0, 0, 162, 0, 0, 0, 162, 0, 0, 0, 162, 0, 0, 0, 162, 0, 0, 0, 162, 0, 0, 0, 162, 0, 0, 0, 162, 0, 0, 0, 141, 0, 0, 0, 141, 0, 0, 0, 141, 0, 0, 0, 154]
abbrev dktX0_status_1 : List UInt8 := dkwX0_status_1 ++ dktX0_status_2
def dkwX0_status_0 : List UInt8 := [27, 133, 20, 1, 158, 20, 1, 160, 184, 0, 153, 153, 0, 11, 42, 27, 5, 100, 182, 0, 244, 172, 27]
abbrev dktX0_status_0 : List UInt8 := dkwX0_status_0 ++ dktX0_status_1
theorem dksX0_status_0 : cX0_status.data.toList.drop 0 = dktX0_status_0 := by decide +kernel
theorem dksX0_status_1 : cX0_status.data.toList.drop 23 = dktX0_status_1 := dk_seg dksX0_status_0 23 rfl rfl
theorem dksX0_status_2 : cX0_status.data.toList.drop 124 = dktX0_status_2 := dk_seg dksX0_status_1 101 rfl rfl
theorem dksX0_status_3 : cX0_status.data.toList.drop 148 = dktX0_status_3 := dk_seg dksX0_status_2 24 rfl rfl
theorem dksX0_status_4 : cX0_status.data.toList.drop 172 = dktX0_status_4 := dk_seg dksX0_status_3 24 rfl rfl
theorem dksX0_status_5 : cX0_status.data.toList.drop 196 = dktX0_status_5 := dk_seg dksX0_status_4 24 rfl rfl
theorem dX0_status_0 : decode cX0_status 0 = .ok (.iload_n 1, 1) := dk_27 (dk_at dksX0_status_0 0 rfl rfl)
theorem dX0_status_1 : decode cX0_status 1 = .ok (.i2l, 1) := dk_133 (dk_at dksX0_status_0 1 rfl rfl)
theorem dX0_status_2 : decode cX0_status 2 = .ok (.ldc2_w 414, 3) := dk_20 1 158 (dk_at dksX0_status_0 2 rfl rfl)
theorem dX0_status_5 : decode cX0_status 5 = .ok (.ldc2_w 416, 3) := dk_20 1 160 (dk_at dksX0_status_0 5 rfl rfl)
theorem dX0_status_8 : decode cX0_status 8 = .ok (.invokestatic 153, 3) := dk_184 0 153 (dk_at dksX0_status_0 8 rfl rfl)
theorem dX0_status_11 : decode cX0_status 11 = .ok (.ifCond .eq 11, 3) := dk_153 0 11 (dk_at dksX0_status_0 11 rfl rfl)
theorem dX0_status_14 : decode cX0_status 14 = .ok (.aload_n 0, 1) := dk_42 (dk_at dksX0_status_0 14 rfl rfl)
theorem dX0_status_15 : decode cX0_status 15 = .ok (.iload_n 1, 1) := dk_27 (dk_at dksX0_status_0 15 rfl rfl)
theorem dX0_status_16 : decode cX0_status 16 = .ok (.iconst 2, 1) := dk_5 (dk_at dksX0_status_0 16 rfl rfl)
theorem dX0_status_17 : decode cX0_status 17 = .ok (.isub, 1) := dk_100 (dk_at dksX0_status_0 17 rfl rfl)
theorem dX0_status_18 : decode cX0_status 18 = .ok (.invokevirtual 244, 3) := dk_182 0 244 (dk_at dksX0_status_0 18 rfl rfl)
theorem dX0_status_21 : decode cX0_status 21 = .ok (.ireturn, 1) := dk_172 (dk_at dksX0_status_0 21 rfl rfl)
theorem dX0_status_22 : decode cX0_status 22 = .ok (.iload_n 1, 1) := dk_27 (dk_at dksX0_status_0 22 rfl rfl)
theorem dX0_status_23 : decode cX0_status 23 = .ok (.tableswitch 162 0 21 #[101, 109, 162, 162, 162, 162, 162, 162, 117, 125, 133, 162, 162, 162, 162, 162, 162, 162, 141, 141, 141, 154], 101) := by decide +kernel
theorem dX0_status_124 : decode cX0_status 124 = .ok (.aload_n 0, 1) := dk_42 (dk_at dksX0_status_2 0 rfl rfl)
theorem dX0_status_125 : decode cX0_status 125 = .ok (.getfield 90, 3) := dk_180 0 90 (dk_at dksX0_status_2 1 rfl rfl)
theorem dX0_status_128 : decode cX0_status 128 = .ok (.getfield 192, 3) := dk_180 0 192 (dk_at dksX0_status_2 4 rfl rfl)
theorem dX0_status_131 : decode cX0_status 131 = .ok (.ireturn, 1) := dk_172 (dk_at dksX0_status_2 7 rfl rfl)
theorem dX0_status_132 : decode cX0_status 132 = .ok (.aload_n 0, 1) := dk_42 (dk_at dksX0_status_2 8 rfl rfl)
theorem dX0_status_133 : decode cX0_status 133 = .ok (.getfield 90, 3) := dk_180 0 90 (dk_at dksX0_status_2 9 rfl rfl)
theorem dX0_status_136 : decode cX0_status 136 = .ok (.invokevirtual 116, 3) := dk_182 0 116 (dk_at dksX0_status_2 12 rfl rfl)
theorem dX0_status_139 : decode cX0_status 139 = .ok (.ireturn, 1) := dk_172 (dk_at dksX0_status_2 15 rfl rfl)
theorem dX0_status_140 : decode cX0_status 140 = .ok (.aload_n 0, 1) := dk_42 (dk_at dksX0_status_2 16 rfl rfl)
theorem dX0_status_141 : decode cX0_status 141 = .ok (.getfield 90, 3) := dk_180 0 90 (dk_at dksX0_status_2 17 rfl rfl)
theorem dX0_status_144 : decode cX0_status 144 = .ok (.getfield 373, 3) := dk_180 1 117 (dk_at dksX0_status_2 20 rfl rfl)
theorem dX0_status_147 : decode cX0_status 147 = .ok (.ireturn, 1) := dk_172 (dk_at dksX0_status_2 23 rfl rfl)
theorem dX0_status_148 : decode cX0_status 148 = .ok (.aload_n 0, 1) := dk_42 (dk_at dksX0_status_3 0 rfl rfl)
theorem dX0_status_149 : decode cX0_status 149 = .ok (.getfield 90, 3) := dk_180 0 90 (dk_at dksX0_status_3 1 rfl rfl)
theorem dX0_status_152 : decode cX0_status 152 = .ok (.getfield 388, 3) := dk_180 1 132 (dk_at dksX0_status_3 4 rfl rfl)
theorem dX0_status_155 : decode cX0_status 155 = .ok (.ireturn, 1) := dk_172 (dk_at dksX0_status_3 7 rfl rfl)
theorem dX0_status_156 : decode cX0_status 156 = .ok (.aload_n 0, 1) := dk_42 (dk_at dksX0_status_3 8 rfl rfl)
theorem dX0_status_157 : decode cX0_status 157 = .ok (.getfield 90, 3) := dk_180 0 90 (dk_at dksX0_status_3 9 rfl rfl)
theorem dX0_status_160 : decode cX0_status 160 = .ok (.getfield 391, 3) := dk_180 1 135 (dk_at dksX0_status_3 12 rfl rfl)
theorem dX0_status_163 : decode cX0_status 163 = .ok (.ireturn, 1) := dk_172 (dk_at dksX0_status_3 15 rfl rfl)
theorem dX0_status_164 : decode cX0_status 164 = .ok (.aload_n 0, 1) := dk_42 (dk_at dksX0_status_3 16 rfl rfl)
theorem dX0_status_165 : decode cX0_status 165 = .ok (.getfield 90, 3) := dk_180 0 90 (dk_at dksX0_status_3 17 rfl rfl)
theorem dX0_status_168 : decode cX0_status 168 = .ok (.getfield 418, 3) := dk_180 1 162 (dk_at dksX0_status_3 20 rfl rfl)
theorem dX0_status_171 : decode cX0_status 171 = .ok (.iload_n 1, 1) := dk_27 (dk_at dksX0_status_3 23 rfl rfl)
theorem dX0_status_172 : decode cX0_status 172 = .ok (.bipush 18, 2) := dk_16 18 (dk_at dksX0_status_4 0 rfl rfl)
theorem dX0_status_174 : decode cX0_status 174 = .ok (.isub, 1) := dk_100 (dk_at dksX0_status_4 2 rfl rfl)
theorem dX0_status_175 : decode cX0_status 175 = .ok (.iaload, 1) := dk_46 (dk_at dksX0_status_4 3 rfl rfl)
theorem dX0_status_176 : decode cX0_status 176 = .ok (.ireturn, 1) := dk_172 (dk_at dksX0_status_4 4 rfl rfl)
theorem dX0_status_177 : decode cX0_status 177 = .ok (.aload_n 0, 1) := dk_42 (dk_at dksX0_status_4 5 rfl rfl)
theorem dX0_status_178 : decode cX0_status 178 = .ok (.getfield 70, 3) := dk_180 0 70 (dk_at dksX0_status_4 6 rfl rfl)
theorem dX0_status_181 : decode cX0_status 181 = .ok (.getfield 394, 3) := dk_180 1 138 (dk_at dksX0_status_4 9 rfl rfl)
theorem dX0_status_184 : decode cX0_status 184 = .ok (.ireturn, 1) := dk_172 (dk_at dksX0_status_4 12 rfl rfl)
theorem dX0_status_185 : decode cX0_status 185 = .ok (.iload_n 1, 1) := dk_27 (dk_at dksX0_status_4 13 rfl rfl)
theorem dX0_status_186 : decode cX0_status 186 = .ok (.i2l, 1) := dk_133 (dk_at dksX0_status_4 14 rfl rfl)
theorem dX0_status_187 : decode cX0_status 187 = .ok (.ldc2_w 421, 3) := dk_20 1 165 (dk_at dksX0_status_4 15 rfl rfl)
theorem dX0_status_190 : decode cX0_status 190 = .ok (.ldc2_w 423, 3) := dk_20 1 167 (dk_at dksX0_status_4 18 rfl rfl)
theorem dX0_status_193 : decode cX0_status 193 = .ok (.invokestatic 153, 3) := dk_184 0 153 (dk_at dksX0_status_4 21 rfl rfl)
theorem dX0_status_196 : decode cX0_status 196 = .ok (.ifCond .eq 15, 3) := dk_153 0 15 (dk_at dksX0_status_5 0 rfl rfl)
theorem dX0_status_199 : decode cX0_status 199 = .ok (.aload_n 0, 1) := dk_42 (dk_at dksX0_status_5 3 rfl rfl)
theorem dX0_status_200 : decode cX0_status 200 = .ok (.getfield 63, 3) := dk_180 0 63 (dk_at dksX0_status_5 4 rfl rfl)
theorem dX0_status_203 : decode cX0_status 203 = .ok (.iload_n 1, 1) := dk_27 (dk_at dksX0_status_5 7 rfl rfl)
theorem dX0_status_204 : decode cX0_status 204 = .ok (.bipush 10, 2) := dk_16 10 (dk_at dksX0_status_5 8 rfl rfl)
theorem dX0_status_206 : decode cX0_status 206 = .ok (.isub, 1) := dk_100 (dk_at dksX0_status_5 10 rfl rfl)
theorem dX0_status_207 : decode cX0_status 207 = .ok (.iaload, 1) := dk_46 (dk_at dksX0_status_5 11 rfl rfl)
theorem dX0_status_208 : decode cX0_status 208 = .ok (.goto 4, 3) := dk_167 0 4 (dk_at dksX0_status_5 12 rfl rfl)
theorem dX0_status_211 : decode cX0_status 211 = .ok (.iconst (-1), 1) := dk_2 (dk_at dksX0_status_5 15 rfl rfl)
theorem dX0_status_212 : decode cX0_status 212 = .ok (.ireturn, 1) := dk_172 (dk_at dksX0_status_5 16 rfl rfl)
theorem q80 : (Jvm.Cond.initialized "HamsterWeekends") ∈ lw_all := lw_g (lw_at lw_m1 1 rfl) rfl
theorem q116 : (Jvm.Cond.instantiable "HamsterWeekends" (16 : Nat)) ∈ lw_all := lw_g (lw_at lw_m1 37 rfl) rfl
theorem q118 : (Jvm.Cond.instanceMethod ({ cls := "HamsterWeekends", name := "<init>", desc := "()V" } : Jvm.MethodName)) ∈ lw_all := lw_g (lw_at lw_m1 39 rfl) rfl
theorem q119 : (Jvm.Cond.code ({ cls := "HamsterWeekends", name := "<init>", desc := "()V" } : Jvm.MethodName) prog_1_method_5_code (2 : Nat) (Option.none : Option Jvm.ClassFile.FieldType)) ∈ lw_all := lw_g (lw_at lw_m1 40 rfl) rfl
theorem q120 : (Jvm.Cond.methodLink "HamsterWeekends" (50 : Nat) ({ cls := "java/lang/Object", name := "<init>", desc := "()V" } : Jvm.MethodName)) ∈ lw_all := lw_g (lw_at lw_m1 41 rfl) rfl
theorem q123 : (Jvm.Cond.classLink "HamsterWeekends" (57 : Nat) "HamsterWeekends$Shelf") ∈ lw_all := lw_g (lw_at lw_m1 44 rfl) rfl
theorem q125 : (Jvm.Cond.classLink "HamsterWeekends" (67 : Nat) "HamsterWeekends$Trace") ∈ lw_all := lw_g (lw_at lw_m1 46 rfl) rfl
theorem q127 : (Jvm.Cond.methodLink "HamsterWeekends" (69 : Nat) ({ cls := "HamsterWeekends$Trace", name := "<init>", desc := "()V" } : Jvm.MethodName)) ∈ lw_all := lw_g (lw_at lw_m1 48 rfl) rfl
theorem q132 : (Jvm.Cond.fieldLink "HamsterWeekends" (405 : Nat) "HamsterWeekends$Trace" "bodies" "[I") ∈ lw_all := lw_g (lw_at lw_m1 53 rfl) rfl
theorem q134 : (Jvm.Cond.fieldLink "HamsterWeekends" (394 : Nat) "HamsterWeekends$Trace" "many" "I") ∈ lw_all := lw_g (lw_at lw_m1 55 rfl) rfl
theorem q141 : (Jvm.Cond.classLink "HamsterWeekends" (74 : Nat) "HamsterWeekends$Pet") ∈ lw_all := lw_g (lw_at lw_m1 62 rfl) rfl
theorem q143 : (Jvm.Cond.methodLink "HamsterWeekends" (76 : Nat) ({ cls := "HamsterWeekends$Pet", name := "<init>", desc := "()V" } : Jvm.MethodName)) ∈ lw_all := lw_g (lw_at lw_m1 64 rfl) rfl
theorem q149 : (Jvm.Cond.fieldLink "HamsterWeekends" (228 : Nat) "HamsterWeekends$Pet" "weight" "I") ∈ lw_all := lw_g (lw_at lw_m1 70 rfl) rfl
theorem q154 : (Jvm.Cond.fieldLink "HamsterWeekends" (231 : Nat) "HamsterWeekends$Pet" "fright" "I") ∈ lw_all := lw_g (lw_at lw_m1 75 rfl) rfl
theorem q157 : (Jvm.Cond.fieldLink "HamsterWeekends" (234 : Nat) "HamsterWeekends$Pet" "age" "I") ∈ lw_all := lw_g (lw_at lw_m1 78 rfl) rfl
theorem q160 : (Jvm.Cond.fieldLink "HamsterWeekends" (237 : Nat) "HamsterWeekends$Pet" "asked" "[I") ∈ lw_all := lw_g (lw_at lw_m1 81 rfl) rfl
theorem q170 : (Jvm.Cond.classLink "HamsterWeekends" (87 : Nat) "HamsterWeekends$Room") ∈ lw_all := lw_g (lw_at lw_m1 91 rfl) rfl
theorem q172 : (Jvm.Cond.methodLink "HamsterWeekends" (89 : Nat) ({ cls := "HamsterWeekends$Room", name := "<init>", desc := "()V" } : Jvm.MethodName)) ∈ lw_all := lw_g (lw_at lw_m1 93 rfl) rfl
theorem q182 : (Jvm.Cond.fieldLink "HamsterWeekends" (192 : Nat) "HamsterWeekends$Room" "many" "I") ∈ lw_all := lw_g (lw_at lw_m1 103 rfl) rfl
theorem q184 : (Jvm.Cond.fieldLink "HamsterWeekends" (373 : Nat) "HamsterWeekends$Room" "pets" "I") ∈ lw_all := lw_g (lw_at lw_m1 105 rfl) rfl
theorem q186 : (Jvm.Cond.fieldLink "HamsterWeekends" (388 : Nat) "HamsterWeekends$Room" "last" "I") ∈ lw_all := lw_g (lw_at lw_m1 107 rfl) rfl
theorem q188 : (Jvm.Cond.fieldLink "HamsterWeekends" (391 : Nat) "HamsterWeekends$Room" "seed" "I") ∈ lw_all := lw_g (lw_at lw_m1 109 rfl) rfl
theorem q191 : (Jvm.Cond.fieldLink "HamsterWeekends" (225 : Nat) "HamsterWeekends$Room" "pet" "LHamsterWeekends$Pet;") ∈ lw_all := lw_g (lw_at lw_m1 112 rfl) rfl
theorem q193 : (Jvm.Cond.fieldLink "HamsterWeekends" (129 : Nat) "HamsterWeekends$Room" "homes" "[LHamsterWeekends$Home;") ∈ lw_all := lw_g (lw_at lw_m1 114 rfl) rfl
theorem q196 : (Jvm.Cond.fieldLink "HamsterWeekends" (207 : Nat) "HamsterWeekends$Room" "marks" "[I") ∈ lw_all := lw_g (lw_at lw_m1 117 rfl) rfl
theorem q199 : (Jvm.Cond.fieldLink "HamsterWeekends" (214 : Nat) "HamsterWeekends$Room" "had" "[I") ∈ lw_all := lw_g (lw_at lw_m1 120 rfl) rfl
theorem q202 : (Jvm.Cond.fieldLink "HamsterWeekends" (210 : Nat) "HamsterWeekends$Room" "allergic" "[Z") ∈ lw_all := lw_g (lw_at lw_m1 123 rfl) rfl
theorem q204 : (Jvm.Cond.fieldLink "HamsterWeekends" (418 : Nat) "HamsterWeekends$Room" "deaths" "[I") ∈ lw_all := lw_g (lw_at lw_m1 125 rfl) rfl
theorem q229 : (Jvm.Cond.methodLink "HamsterWeekends" (102 : Nat) ({ cls := "HamsterWeekends$Shelf", name := "<init>", desc := "()V" } : Jvm.MethodName)) ∈ lw_all := lw_g (lw_at lw_m1 150 rfl) rfl
theorem q234 : (Jvm.Cond.fieldLink "HamsterWeekends" (123 : Nat) "HamsterWeekends$Shelf" "held" "Ljava/lang/Object;") ∈ lw_all := lw_g (lw_at lw_m1 155 rfl) rfl
theorem q238 : (Jvm.Cond.fieldLink "HamsterWeekends" (59 : Nat) "HamsterWeekends" "shelves" "[LHamsterWeekends$Shelf;") ∈ lw_all := lw_g (lw_at lw_m1 159 rfl) rfl
theorem q239 : (Jvm.Cond.fieldLink "HamsterWeekends" (63 : Nat) "HamsterWeekends" "refusals" "[I") ∈ lw_all := lw_g (lw_at lw_m1 160 rfl) rfl
theorem q240 : (Jvm.Cond.fieldLink "HamsterWeekends" (70 : Nat) "HamsterWeekends" "ran" "LHamsterWeekends$Trace;") ∈ lw_all := lw_g (lw_at lw_m1 161 rfl) rfl
theorem q241 : (Jvm.Cond.fieldLink "HamsterWeekends" (77 : Nat) "HamsterWeekends" "tried" "LHamsterWeekends$Pet;") ∈ lw_all := lw_g (lw_at lw_m1 162 rfl) rfl
theorem q242 : (Jvm.Cond.fieldLink "HamsterWeekends" (81 : Nat) "HamsterWeekends" "told" "[I") ∈ lw_all := lw_g (lw_at lw_m1 163 rfl) rfl
theorem q243 : (Jvm.Cond.fieldLink "HamsterWeekends" (84 : Nat) "HamsterWeekends" "bestRow" "[I") ∈ lw_all := lw_g (lw_at lw_m1 164 rfl) rfl
theorem q244 : (Jvm.Cond.fieldLink "HamsterWeekends" (90 : Nat) "HamsterWeekends" "w" "LHamsterWeekends$Room;") ∈ lw_all := lw_g (lw_at lw_m1 165 rfl) rfl
theorem q245 : (Jvm.Cond.fieldLink "HamsterWeekends" (408 : Nat) "HamsterWeekends" "imaged" "LHamsterWeekends$Room;") ∈ lw_all := lw_g (lw_at lw_m1 166 rfl) rfl
theorem q246 : (Jvm.Cond.fieldLink "HamsterWeekends" (94 : Nat) "HamsterWeekends" "latestFault" "I") ∈ lw_all := lw_g (lw_at lw_m1 167 rfl) rfl
theorem q247 : (Jvm.Cond.fieldLink "HamsterWeekends" (267 : Nat) "HamsterWeekends" "died" "I") ∈ lw_all := lw_g (lw_at lw_m1 168 rfl) rfl
theorem q248 : (Jvm.Cond.fieldLink "HamsterWeekends" (273 : Nat) "HamsterWeekends" "leastWeight" "I") ∈ lw_all := lw_g (lw_at lw_m1 169 rfl) rfl
theorem q249 : (Jvm.Cond.fieldLink "HamsterWeekends" (296 : Nat) "HamsterWeekends" "noticedBy" "I") ∈ lw_all := lw_g (lw_at lw_m1 170 rfl) rfl
theorem q250 : (Jvm.Cond.fieldLink "HamsterWeekends" (270 : Nat) "HamsterWeekends" "noticed" "I") ∈ lw_all := lw_g (lw_at lw_m1 171 rfl) rfl
theorem q251 : (Jvm.Cond.fieldLink "HamsterWeekends" (335 : Nat) "HamsterWeekends" "orderDied" "I") ∈ lw_all := lw_g (lw_at lw_m1 172 rfl) rfl
theorem q252 : (Jvm.Cond.fieldLink "HamsterWeekends" (338 : Nat) "HamsterWeekends" "orderLeast" "I") ∈ lw_all := lw_g (lw_at lw_m1 173 rfl) rfl
theorem q253 : (Jvm.Cond.fieldLink "HamsterWeekends" (98 : Nat) "HamsterWeekends" "ahead" "[LHamsterWeekends$Pet;") ∈ lw_all := lw_g (lw_at lw_m1 174 rfl) rfl
theorem q254 : (Jvm.Cond.laysFinal "HamsterWeekends" "HamsterWeekends" "shelves" "[LHamsterWeekends$Shelf;") ∈ lw_all := lw_g (lw_at lw_m1 175 rfl) rfl
theorem q255 : (Jvm.Cond.soleField "HamsterWeekends" "shelves") ∈ lw_all := lw_g (lw_at lw_m1 176 rfl) rfl
theorem q256 : (Jvm.Cond.laysFinal "HamsterWeekends" "HamsterWeekends" "refusals" "[I") ∈ lw_all := lw_g (lw_at lw_m1 177 rfl) rfl
theorem q257 : (Jvm.Cond.soleField "HamsterWeekends" "refusals") ∈ lw_all := lw_g (lw_at lw_m1 178 rfl) rfl
theorem q258 : (Jvm.Cond.laysFinal "HamsterWeekends" "HamsterWeekends" "ran" "LHamsterWeekends$Trace;") ∈ lw_all := lw_g (lw_at lw_m1 179 rfl) rfl
theorem q259 : (Jvm.Cond.soleField "HamsterWeekends" "ran") ∈ lw_all := lw_g (lw_at lw_m1 180 rfl) rfl
theorem q260 : (Jvm.Cond.laysFinal "HamsterWeekends" "HamsterWeekends" "tried" "LHamsterWeekends$Pet;") ∈ lw_all := lw_g (lw_at lw_m1 181 rfl) rfl
theorem q261 : (Jvm.Cond.soleField "HamsterWeekends" "tried") ∈ lw_all := lw_g (lw_at lw_m1 182 rfl) rfl
theorem q262 : (Jvm.Cond.laysFinal "HamsterWeekends" "HamsterWeekends" "told" "[I") ∈ lw_all := lw_g (lw_at lw_m1 183 rfl) rfl
theorem q263 : (Jvm.Cond.soleField "HamsterWeekends" "told") ∈ lw_all := lw_g (lw_at lw_m1 184 rfl) rfl
theorem q264 : (Jvm.Cond.laysFinal "HamsterWeekends" "HamsterWeekends" "bestRow" "[I") ∈ lw_all := lw_g (lw_at lw_m1 185 rfl) rfl
theorem q265 : (Jvm.Cond.soleField "HamsterWeekends" "bestRow") ∈ lw_all := lw_g (lw_at lw_m1 186 rfl) rfl
theorem q266 : (Jvm.Cond.lays "HamsterWeekends" "HamsterWeekends" "w" "LHamsterWeekends$Room;") ∈ lw_all := lw_g (lw_at lw_m1 187 rfl) rfl
theorem q267 : (Jvm.Cond.soleField "HamsterWeekends" "w") ∈ lw_all := lw_g (lw_at lw_m1 188 rfl) rfl
theorem q268 : (Jvm.Cond.lays "HamsterWeekends" "HamsterWeekends" "imaged" "LHamsterWeekends$Room;") ∈ lw_all := lw_g (lw_at lw_m1 189 rfl) rfl
theorem q269 : (Jvm.Cond.soleField "HamsterWeekends" "imaged") ∈ lw_all := lw_g (lw_at lw_m1 190 rfl) rfl
theorem q270 : (Jvm.Cond.lays "HamsterWeekends" "HamsterWeekends" "latestFault" "I") ∈ lw_all := lw_g (lw_at lw_m1 191 rfl) rfl
theorem q271 : (Jvm.Cond.soleField "HamsterWeekends" "latestFault") ∈ lw_all := lw_g (lw_at lw_m1 192 rfl) rfl
theorem q272 : (Jvm.Cond.lays "HamsterWeekends" "HamsterWeekends" "died" "I") ∈ lw_all := lw_g (lw_at lw_m1 193 rfl) rfl
theorem q273 : (Jvm.Cond.soleField "HamsterWeekends" "died") ∈ lw_all := lw_g (lw_at lw_m1 194 rfl) rfl
theorem q274 : (Jvm.Cond.lays "HamsterWeekends" "HamsterWeekends" "leastWeight" "I") ∈ lw_all := lw_g (lw_at lw_m1 195 rfl) rfl
theorem q275 : (Jvm.Cond.soleField "HamsterWeekends" "leastWeight") ∈ lw_all := lw_g (lw_at lw_m1 196 rfl) rfl
theorem q276 : (Jvm.Cond.lays "HamsterWeekends" "HamsterWeekends" "noticedBy" "I") ∈ lw_all := lw_g (lw_at lw_m1 197 rfl) rfl
theorem q277 : (Jvm.Cond.soleField "HamsterWeekends" "noticedBy") ∈ lw_all := lw_g (lw_at lw_m1 198 rfl) rfl
theorem q278 : (Jvm.Cond.lays "HamsterWeekends" "HamsterWeekends" "noticed" "I") ∈ lw_all := lw_g (lw_at lw_m1 199 rfl) rfl
theorem q279 : (Jvm.Cond.soleField "HamsterWeekends" "noticed") ∈ lw_all := lw_g (lw_at lw_m1 200 rfl) rfl
theorem q280 : (Jvm.Cond.lays "HamsterWeekends" "HamsterWeekends" "orderDied" "I") ∈ lw_all := lw_g (lw_at lw_m1 201 rfl) rfl
theorem q281 : (Jvm.Cond.soleField "HamsterWeekends" "orderDied") ∈ lw_all := lw_g (lw_at lw_m1 202 rfl) rfl
theorem q282 : (Jvm.Cond.lays "HamsterWeekends" "HamsterWeekends" "orderLeast" "I") ∈ lw_all := lw_g (lw_at lw_m1 203 rfl) rfl
theorem q283 : (Jvm.Cond.soleField "HamsterWeekends" "orderLeast") ∈ lw_all := lw_g (lw_at lw_m1 204 rfl) rfl
theorem q284 : (Jvm.Cond.laysFinal "HamsterWeekends" "HamsterWeekends" "ahead" "[LHamsterWeekends$Pet;") ∈ lw_all := lw_g (lw_at lw_m1 205 rfl) rfl
theorem q285 : (Jvm.Cond.soleField "HamsterWeekends" "ahead") ∈ lw_all := lw_g (lw_at lw_m1 206 rfl) rfl
theorem q286 : (Jvm.Cond.superclass "HamsterWeekends" "java/lang/Object") ∈ lw_all := lw_g (lw_at lw_m1 207 rfl) rfl
theorem q288 : (Jvm.Cond.instanceMethod ({ cls := "HamsterWeekends", name := "row", desc := "(III)I" } : Jvm.MethodName)) ∈ lw_all := lw_g (lw_at lw_m1 209 rfl) rfl
theorem q289 : (Jvm.Cond.selects "HamsterWeekends" ({ cls := "HamsterWeekends", name := "row", desc := "(III)I" } : Jvm.MethodName) ({ cls := "HamsterWeekends", name := "row", desc := "(III)I" } : Jvm.MethodName)) ∈ lw_all := lw_g (lw_at lw_m1 210 rfl) rfl
theorem q290 : (Jvm.Cond.codeWith ({ cls := "HamsterWeekends", name := "row", desc := "(III)I" } : Jvm.MethodName) prog_1_method_13_code (5 : Nat) (Option.some Jvm.ClassFile.FieldType.int) [((0 : Nat), (63 : Nat), (64 : Nat), (21 : Nat))]) ∈ lw_all := lw_g (lw_at lw_m1 211 rfl) rfl
theorem q291 : (Jvm.Cond.classLink "HamsterWeekends" (21 : Nat) "HamsterWeekends$Refused") ∈ lw_all := lw_g (lw_at lw_m1 212 rfl) rfl
theorem q292 : (Jvm.Cond.methodLink "HamsterWeekends" (147 : Nat) ({ cls := "HamsterWeekends", name := "shelf", desc := "(I)LHamsterWeekends$Shelf;" } : Jvm.MethodName)) ∈ lw_all := lw_g (lw_at lw_m1 213 rfl) rfl
theorem q293 : (Jvm.Cond.privateMethod ({ cls := "HamsterWeekends", name := "shelf", desc := "(I)LHamsterWeekends$Shelf;" } : Jvm.MethodName)) ∈ lw_tbl := lw_at lw_m1 214 rfl
theorem q294 : (Jvm.Cond.instanceMethod ({ cls := "HamsterWeekends", name := "shelf", desc := "(I)LHamsterWeekends$Shelf;" } : Jvm.MethodName)) ∈ lw_all := lw_g (lw_at lw_m1 215 rfl) rfl
theorem q295 : (Jvm.Cond.codeWith ({ cls := "HamsterWeekends", name := "shelf", desc := "(I)LHamsterWeekends$Shelf;" } : Jvm.MethodName) prog_1_method_8_code (3 : Nat) (Option.some (Jvm.ClassFile.FieldType.object "HamsterWeekends$Shelf")) [((0 : Nat), (6 : Nat), (7 : Nat), (106 : Nat))]) ∈ lw_all := lw_g (lw_at lw_m1 216 rfl) rfl
theorem q296 : (Jvm.Cond.classLink "HamsterWeekends" (106 : Nat) "java/lang/ArrayIndexOutOfBoundsException") ∈ lw_all := lw_g (lw_at lw_m1 217 rfl) rfl
theorem q382 : (Jvm.Cond.methodLink "HamsterWeekends" (23 : Nat) ({ cls := "HamsterWeekends$Refused", name := "<init>", desc := "(I)V" } : Jvm.MethodName)) ∈ lw_all := lw_g (lw_at lw_m2 63 rfl) rfl
theorem q392 : (Jvm.Cond.fieldLink "HamsterWeekends" (103 : Nat) "HamsterWeekends$Refused" "why" "I") ∈ lw_all := lw_g (lw_at lw_m2 73 rfl) rfl
theorem q397 : (Jvm.Cond.methodLink "HamsterWeekends" (112 : Nat) ({ cls := "HamsterWeekends", name := "need", desc := "(ZI)V" } : Jvm.MethodName)) ∈ lw_all := lw_g (lw_at lw_m2 78 rfl) rfl
theorem q398 : (Jvm.Cond.static ({ cls := "HamsterWeekends", name := "need", desc := "(ZI)V" } : Jvm.MethodName)) ∈ lw_all := lw_g (lw_at lw_m2 79 rfl) rfl
theorem q399 : (Jvm.Cond.code ({ cls := "HamsterWeekends", name := "need", desc := "(ZI)V" } : Jvm.MethodName) prog_1_method_2_code (2 : Nat) (Option.none : Option Jvm.ClassFile.FieldType)) ∈ lw_all := lw_g (lw_at lw_m2 80 rfl) rfl
theorem q400 : (Jvm.Cond.constantLong "HamsterWeekends" (151 : Nat) (3 : Int64)) ∈ lw_all := lw_g (lw_at lw_m2 81 rfl) rfl
theorem q401 : (Jvm.Cond.methodLink "HamsterWeekends" (153 : Nat) ({ cls := "HamsterWeekends", name := "in", desc := "(JJJ)Z" } : Jvm.MethodName)) ∈ lw_all := lw_g (lw_at lw_m2 82 rfl) rfl
theorem q402 : (Jvm.Cond.static ({ cls := "HamsterWeekends", name := "in", desc := "(JJJ)Z" } : Jvm.MethodName)) ∈ lw_all := lw_g (lw_at lw_m2 83 rfl) rfl
theorem q403 : (Jvm.Cond.code ({ cls := "HamsterWeekends", name := "in", desc := "(JJJ)Z" } : Jvm.MethodName) prog_1_method_3_code (6 : Nat) (Option.some Jvm.ClassFile.FieldType.boolean)) ∈ lw_all := lw_g (lw_at lw_m2 84 rfl) rfl
theorem q404 : (Jvm.Cond.methodLink "HamsterWeekends" (157 : Nat) ({ cls := "HamsterWeekends", name := "newRow", desc := "(II)LHamsterWeekends$Row;" } : Jvm.MethodName)) ∈ lw_all := lw_g (lw_at lw_m2 85 rfl) rfl
theorem q405 : (Jvm.Cond.static ({ cls := "HamsterWeekends", name := "newRow", desc := "(II)LHamsterWeekends$Row;" } : Jvm.MethodName)) ∈ lw_all := lw_g (lw_at lw_m2 86 rfl) rfl
theorem q406 : (Jvm.Cond.codeWith ({ cls := "HamsterWeekends", name := "newRow", desc := "(II)LHamsterWeekends$Row;" } : Jvm.MethodName) prog_1_method_12_code (3 : Nat) (Option.some (Jvm.ClassFile.FieldType.object "HamsterWeekends$Row")) [((0 : Nat), (40 : Nat), (78 : Nat), (145 : Nat)), ((41 : Nat), (49 : Nat), (78 : Nat), (145 : Nat)), ((50 : Nat), (58 : Nat), (78 : Nat), (145 : Nat)), ((59 : Nat), (67 : Nat), (78 : Nat), (145 : Nat)), ((68 : Nat), (78 : Nat), (78 : Nat), (145 : Nat))]) ∈ lw_all := lw_g (lw_at lw_m2 87 rfl) rfl
theorem q407 : (Jvm.Cond.classLink "HamsterWeekends" (145 : Nat) "java/lang/NegativeArraySizeException") ∈ lw_all := lw_g (lw_at lw_m2 88 rfl) rfl
theorem q421 : (Jvm.Cond.classLink "HamsterWeekends" (133 : Nat) "HamsterWeekends$Bytes") ∈ lw_all := lw_g (lw_at lw_m2 102 rfl) rfl
theorem q423 : (Jvm.Cond.methodLink "HamsterWeekends" (135 : Nat) ({ cls := "HamsterWeekends$Bytes", name := "<init>", desc := "(I)V" } : Jvm.MethodName)) ∈ lw_all := lw_g (lw_at lw_m2 104 rfl) rfl
theorem q434 : (Jvm.Cond.classLink "HamsterWeekends" (136 : Nat) "HamsterWeekends$Shorts") ∈ lw_all := lw_g (lw_at lw_m2 115 rfl) rfl
theorem q436 : (Jvm.Cond.methodLink "HamsterWeekends" (138 : Nat) ({ cls := "HamsterWeekends$Shorts", name := "<init>", desc := "(I)V" } : Jvm.MethodName)) ∈ lw_all := lw_g (lw_at lw_m2 117 rfl) rfl
theorem q445 : (Jvm.Cond.classLink "HamsterWeekends" (139 : Nat) "HamsterWeekends$Ints") ∈ lw_all := lw_g (lw_at lw_m2 126 rfl) rfl
theorem q447 : (Jvm.Cond.methodLink "HamsterWeekends" (141 : Nat) ({ cls := "HamsterWeekends$Ints", name := "<init>", desc := "(I)V" } : Jvm.MethodName)) ∈ lw_all := lw_g (lw_at lw_m2 128 rfl) rfl
theorem q455 : (Jvm.Cond.classLink "HamsterWeekends" (142 : Nat) "HamsterWeekends$Longs") ∈ lw_all := lw_g (lw_at lw_m2 136 rfl) rfl
theorem q457 : (Jvm.Cond.methodLink "HamsterWeekends" (144 : Nat) ({ cls := "HamsterWeekends$Longs", name := "<init>", desc := "(I)V" } : Jvm.MethodName)) ∈ lw_all := lw_g (lw_at lw_m2 138 rfl) rfl
theorem q466 : (Jvm.Cond.methodLink "HamsterWeekends" (161 : Nat) ({ cls := "HamsterWeekends", name := "refused", desc := "(LHamsterWeekends$Refused;)I" } : Jvm.MethodName)) ∈ lw_all := lw_g (lw_at lw_m2 147 rfl) rfl
theorem q467 : (Jvm.Cond.privateMethod ({ cls := "HamsterWeekends", name := "refused", desc := "(LHamsterWeekends$Refused;)I" } : Jvm.MethodName)) ∈ lw_tbl := lw_at lw_m2 148 rfl
theorem q468 : (Jvm.Cond.instanceMethod ({ cls := "HamsterWeekends", name := "refused", desc := "(LHamsterWeekends$Refused;)I" } : Jvm.MethodName)) ∈ lw_all := lw_g (lw_at lw_m2 149 rfl) rfl
theorem q469 : (Jvm.Cond.code ({ cls := "HamsterWeekends", name := "refused", desc := "(LHamsterWeekends$Refused;)I" } : Jvm.MethodName) prog_1_method_6_code (2 : Nat) (Option.some Jvm.ClassFile.FieldType.int)) ∈ lw_all := lw_g (lw_at lw_m2 150 rfl) rfl
theorem q471 : (Jvm.Cond.instanceMethod ({ cls := "HamsterWeekends", name := "set", desc := "(IIJ)I" } : Jvm.MethodName)) ∈ lw_all := lw_g (lw_at lw_m2 152 rfl) rfl
theorem q472 : (Jvm.Cond.selects "HamsterWeekends" ({ cls := "HamsterWeekends", name := "set", desc := "(IIJ)I" } : Jvm.MethodName) ({ cls := "HamsterWeekends", name := "set", desc := "(IIJ)I" } : Jvm.MethodName)) ∈ lw_all := lw_g (lw_at lw_m2 153 rfl) rfl
theorem q473 : (Jvm.Cond.codeWith ({ cls := "HamsterWeekends", name := "set", desc := "(IIJ)I" } : Jvm.MethodName) prog_1_method_14_code (7 : Nat) (Option.some Jvm.ClassFile.FieldType.int) [((10 : Nat), (17 : Nat), (20 : Nat), (106 : Nat)), ((0 : Nat), (33 : Nat), (34 : Nat), (21 : Nat))]) ∈ lw_all := lw_g (lw_at lw_m2 154 rfl) rfl
theorem q474 : (Jvm.Cond.methodLink "HamsterWeekends" (165 : Nat) ({ cls := "HamsterWeekends$Shelf", name := "row", desc := "()LHamsterWeekends$Row;" } : Jvm.MethodName)) ∈ lw_all := lw_g (lw_at lw_m2 155 rfl) rfl
theorem q496 : (Jvm.Cond.methodLink "HamsterWeekends" (168 : Nat) ({ cls := "HamsterWeekends$Row", name := "put", desc := "(IJ)V" } : Jvm.MethodName)) ∈ lw_all := lw_g (lw_at lw_m2 177 rfl) rfl
theorem q512 : (Jvm.Cond.instanceMethod ({ cls := "HamsterWeekends", name := "copy", desc := "(IIIII)I" } : Jvm.MethodName)) ∈ lw_all := lw_g (lw_at lw_m2 193 rfl) rfl
theorem q513 : (Jvm.Cond.selects "HamsterWeekends" ({ cls := "HamsterWeekends", name := "copy", desc := "(IIIII)I" } : Jvm.MethodName) ({ cls := "HamsterWeekends", name := "copy", desc := "(IIIII)I" } : Jvm.MethodName)) ∈ lw_all := lw_g (lw_at lw_m2 194 rfl) rfl
theorem q514 : (Jvm.Cond.codeWith ({ cls := "HamsterWeekends", name := "copy", desc := "(IIIII)I" } : Jvm.MethodName) prog_1_method_15_code (11 : Nat) (Option.some Jvm.ClassFile.FieldType.int) [((114 : Nat), (132 : Nat), (135 : Nat), (175 : Nat)), ((0 : Nat), (148 : Nat), (149 : Nat), (21 : Nat))]) ∈ lw_all := lw_g (lw_at lw_m2 195 rfl) rfl
theorem q515 : (Jvm.Cond.classLink "HamsterWeekends" (175 : Nat) "java/lang/IndexOutOfBoundsException") ∈ lw_all := lw_g (lw_at lw_m2 196 rfl) rfl
theorem q516 : (Jvm.Cond.methodLink "HamsterWeekends" (119 : Nat) ({ cls := "HamsterWeekends$Shelf", name := "holdsHome", desc := "()Z" } : Jvm.MethodName)) ∈ lw_all := lw_g (lw_at lw_m2 197 rfl) rfl
theorem q521 : (Jvm.Cond.methodLink "HamsterWeekends" (172 : Nat) ({ cls := "HamsterWeekends$Row", name := "sort", desc := "()I" } : Jvm.MethodName)) ∈ lw_all := lw_g (lw_at lw_m2 202 rfl) rfl
theorem q536 : (Jvm.Cond.methodLink "HamsterWeekends" (7 : Nat) ({ cls := "HamsterWeekends$Row", name := "held", desc := "()Ljava/lang/Object;" } : Jvm.MethodName)) ∈ lw_all := lw_g (lw_at lw_m2 217 rfl) rfl
theorem q551 : (Jvm.Cond.methodLink "HamsterWeekends" (15 : Nat) ({ cls := "java/lang/System", name := "arraycopy", desc := "(Ljava/lang/Object;ILjava/lang/Object;II)V" } : Jvm.MethodName)) ∈ lw_all := lw_g (lw_at lw_m2 232 rfl) rfl
theorem q555 : (Jvm.Cond.instanceMethod ({ cls := "HamsterWeekends", name := "element", desc := "(II)J" } : Jvm.MethodName)) ∈ lw_all := lw_g (lw_at lw_m2 236 rfl) rfl
theorem q556 : (Jvm.Cond.selects "HamsterWeekends" ({ cls := "HamsterWeekends", name := "element", desc := "(II)J" } : Jvm.MethodName) ({ cls := "HamsterWeekends", name := "element", desc := "(II)J" } : Jvm.MethodName)) ∈ lw_all := lw_g (lw_at lw_m2 237 rfl) rfl
theorem q557 : (Jvm.Cond.codeWith ({ cls := "HamsterWeekends", name := "element", desc := "(II)J" } : Jvm.MethodName) prog_1_method_16_code (4 : Nat) (Option.some Jvm.ClassFile.FieldType.long) [((0 : Nat), (12 : Nat), (13 : Nat), (21 : Nat)), ((0 : Nat), (12 : Nat), (16 : Nat), (106 : Nat))]) ∈ lw_all := lw_g (lw_at lw_m2 238 rfl) rfl
theorem q558 : (Jvm.Cond.methodLink "HamsterWeekends" (177 : Nat) ({ cls := "HamsterWeekends$Row", name := "get", desc := "(I)J" } : Jvm.MethodName)) ∈ lw_all := lw_g (lw_at lw_m2 239 rfl) rfl
theorem q574 : (Jvm.Cond.instanceMethod ({ cls := "HamsterWeekends", name := "show", desc := "(II)I" } : Jvm.MethodName)) ∈ lw_all := lw_g (lw_at lw_m3 15 rfl) rfl
theorem q575 : (Jvm.Cond.selects "HamsterWeekends" ({ cls := "HamsterWeekends", name := "show", desc := "(II)I" } : Jvm.MethodName) ({ cls := "HamsterWeekends", name := "show", desc := "(II)I" } : Jvm.MethodName)) ∈ lw_all := lw_g (lw_at lw_m3 16 rfl) rfl
theorem q576 : (Jvm.Cond.codeWith ({ cls := "HamsterWeekends", name := "show", desc := "(II)I" } : Jvm.MethodName) prog_1_method_17_code (4 : Nat) (Option.some Jvm.ClassFile.FieldType.int) [((0 : Nat), (17 : Nat), (38 : Nat), (21 : Nat)), ((18 : Nat), (37 : Nat), (38 : Nat), (21 : Nat))]) ∈ lw_all := lw_g (lw_at lw_m3 17 rfl) rfl
theorem q577 : (Jvm.Cond.methodLink "HamsterWeekends" (181 : Nat) ({ cls := "HamsterWeekends", name := "mustHome", desc := "(I)V" } : Jvm.MethodName)) ∈ lw_all := lw_g (lw_at lw_m3 18 rfl) rfl
theorem q578 : (Jvm.Cond.privateMethod ({ cls := "HamsterWeekends", name := "mustHome", desc := "(I)V" } : Jvm.MethodName)) ∈ lw_tbl := lw_at lw_m3 19 rfl
theorem q579 : (Jvm.Cond.instanceMethod ({ cls := "HamsterWeekends", name := "mustHome", desc := "(I)V" } : Jvm.MethodName)) ∈ lw_all := lw_g (lw_at lw_m3 20 rfl) rfl
theorem q580 : (Jvm.Cond.code ({ cls := "HamsterWeekends", name := "mustHome", desc := "(I)V" } : Jvm.MethodName) prog_1_method_9_code (2 : Nat) (Option.none : Option Jvm.ClassFile.FieldType)) ∈ lw_all := lw_g (lw_at lw_m3 21 rfl) rfl
theorem q581 : (Jvm.Cond.methodLink "HamsterWeekends" (108 : Nat) ({ cls := "HamsterWeekends$Room", name := "isHome", desc := "(I)Z" } : Jvm.MethodName)) ∈ lw_all := lw_g (lw_at lw_m3 22 rfl) rfl
theorem q587 : (Jvm.Cond.instanceMethod ({ cls := "HamsterWeekends", name := "holds", desc := "(I)I" } : Jvm.MethodName)) ∈ lw_all := lw_g (lw_at lw_m3 28 rfl) rfl
theorem q588 : (Jvm.Cond.selects "HamsterWeekends" ({ cls := "HamsterWeekends", name := "holds", desc := "(I)I" } : Jvm.MethodName) ({ cls := "HamsterWeekends", name := "holds", desc := "(I)I" } : Jvm.MethodName)) ∈ lw_all := lw_g (lw_at lw_m3 29 rfl) rfl
theorem q589 : (Jvm.Cond.code ({ cls := "HamsterWeekends", name := "holds", desc := "(I)I" } : Jvm.MethodName) prog_1_method_18_code (3 : Nat) (Option.some Jvm.ClassFile.FieldType.int)) ∈ lw_all := lw_g (lw_at lw_m3 30 rfl) rfl
theorem q590 : (Jvm.Cond.classLink "HamsterWeekends" (47 : Nat) "HamsterWeekends$Home") ∈ lw_all := lw_g (lw_at lw_m3 31 rfl) rfl
theorem q591 : (Jvm.Cond.classLink "HamsterWeekends" (2 : Nat) "HamsterWeekends$Row") ∈ lw_all := lw_g (lw_at lw_m3 32 rfl) rfl
theorem q593 : (Jvm.Cond.instanceMethod ({ cls := "HamsterWeekends", name := "says", desc := "(II)I" } : Jvm.MethodName)) ∈ lw_all := lw_g (lw_at lw_m3 34 rfl) rfl
theorem q594 : (Jvm.Cond.selects "HamsterWeekends" ({ cls := "HamsterWeekends", name := "says", desc := "(II)I" } : Jvm.MethodName) ({ cls := "HamsterWeekends", name := "says", desc := "(II)I" } : Jvm.MethodName)) ∈ lw_all := lw_g (lw_at lw_m3 35 rfl) rfl
theorem q595 : (Jvm.Cond.codeWith ({ cls := "HamsterWeekends", name := "says", desc := "(II)I" } : Jvm.MethodName) prog_1_method_19_code (4 : Nat) (Option.some Jvm.ClassFile.FieldType.int) [((0 : Nat), (28 : Nat), (29 : Nat), (21 : Nat))]) ∈ lw_all := lw_g (lw_at lw_m3 36 rfl) rfl
theorem q596 : (Jvm.Cond.constantLong "HamsterWeekends" (184 : Nat) (6 : Int64)) ∈ lw_all := lw_g (lw_at lw_m3 37 rfl) rfl
theorem q597 : (Jvm.Cond.methodLink "HamsterWeekends" (186 : Nat) ({ cls := "HamsterWeekends$Shelf", name := "says", desc := "(ILHamsterWeekends$Room;)I" } : Jvm.MethodName)) ∈ lw_all := lw_g (lw_at lw_m3 38 rfl) rfl
theorem q645 : (Jvm.Cond.instanceMethod ({ cls := "HamsterWeekends", name := "home", desc := "(II)I" } : Jvm.MethodName)) ∈ lw_all := lw_g (lw_at lw_m3 86 rfl) rfl
theorem q646 : (Jvm.Cond.selects "HamsterWeekends" ({ cls := "HamsterWeekends", name := "home", desc := "(II)I" } : Jvm.MethodName) ({ cls := "HamsterWeekends", name := "home", desc := "(II)I" } : Jvm.MethodName)) ∈ lw_all := lw_g (lw_at lw_m3 87 rfl) rfl
theorem q647 : (Jvm.Cond.codeWith ({ cls := "HamsterWeekends", name := "home", desc := "(II)I" } : Jvm.MethodName) prog_1_method_20_code (4 : Nat) (Option.some Jvm.ClassFile.FieldType.int) [((0 : Nat), (67 : Nat), (68 : Nat), (21 : Nat))]) ∈ lw_all := lw_g (lw_at lw_m3 88 rfl) rfl
theorem q648 : (Jvm.Cond.constantLong "HamsterWeekends" (190 : Nat) (9 : Int64)) ∈ lw_all := lw_g (lw_at lw_m3 89 rfl) rfl
theorem q649 : (Jvm.Cond.methodLink "HamsterWeekends" (195 : Nat) ({ cls := "HamsterWeekends$Room", name := "addHome", desc := "(II)V" } : Jvm.MethodName)) ∈ lw_all := lw_g (lw_at lw_m3 90 rfl) rfl
theorem q654 : (Jvm.Cond.static ({ cls := "HamsterWeekends", name := "homeOfKind", desc := "(III)LHamsterWeekends$Home;" } : Jvm.MethodName)) ∈ lw_all := lw_g (lw_at lw_m3 95 rfl) rfl
theorem q655 : (Jvm.Cond.code ({ cls := "HamsterWeekends", name := "homeOfKind", desc := "(III)LHamsterWeekends$Home;" } : Jvm.MethodName) prog_1_method_4_code (3 : Nat) (Option.some (Jvm.ClassFile.FieldType.object "HamsterWeekends$Home"))) ∈ lw_all := lw_g (lw_at lw_m3 96 rfl) rfl
theorem q656 : (Jvm.Cond.classLink "HamsterWeekends" (27 : Nat) "HamsterWeekends$Good") ∈ lw_all := lw_g (lw_at lw_m3 97 rfl) rfl
theorem q658 : (Jvm.Cond.methodLink "HamsterWeekends" (29 : Nat) ({ cls := "HamsterWeekends$Good", name := "<init>", desc := "(II)V" } : Jvm.MethodName)) ∈ lw_all := lw_g (lw_at lw_m3 99 rfl) rfl
theorem q669 : (Jvm.Cond.fieldLink "HamsterWeekends" (126 : Nat) "HamsterWeekends$Home" "index" "I") ∈ lw_all := lw_g (lw_at lw_m3 110 rfl) rfl
theorem q679 : (Jvm.Cond.fieldLink "HamsterWeekends" (204 : Nat) "HamsterWeekends$Home" "by" "I") ∈ lw_all := lw_g (lw_at lw_m3 120 rfl) rfl
theorem q685 : (Jvm.Cond.classLink "HamsterWeekends" (32 : Nat) "HamsterWeekends$Cat") ∈ lw_all := lw_g (lw_at lw_m3 126 rfl) rfl
theorem q687 : (Jvm.Cond.methodLink "HamsterWeekends" (34 : Nat) ({ cls := "HamsterWeekends$Cat", name := "<init>", desc := "(II)V" } : Jvm.MethodName)) ∈ lw_all := lw_g (lw_at lw_m3 128 rfl) rfl
theorem q694 : (Jvm.Cond.classLink "HamsterWeekends" (35 : Nat) "HamsterWeekends$Overfed") ∈ lw_all := lw_g (lw_at lw_m3 135 rfl) rfl
theorem q696 : (Jvm.Cond.methodLink "HamsterWeekends" (37 : Nat) ({ cls := "HamsterWeekends$Overfed", name := "<init>", desc := "(II)V" } : Jvm.MethodName)) ∈ lw_all := lw_g (lw_at lw_m3 137 rfl) rfl
theorem q702 : (Jvm.Cond.classLink "HamsterWeekends" (38 : Nat) "HamsterWeekends$Far") ∈ lw_all := lw_g (lw_at lw_m3 143 rfl) rfl
theorem q704 : (Jvm.Cond.methodLink "HamsterWeekends" (40 : Nat) ({ cls := "HamsterWeekends$Far", name := "<init>", desc := "(II)V" } : Jvm.MethodName)) ∈ lw_all := lw_g (lw_at lw_m3 145 rfl) rfl
theorem q711 : (Jvm.Cond.classLink "HamsterWeekends" (41 : Nat) "HamsterWeekends$Dog") ∈ lw_all := lw_g (lw_at lw_m3 152 rfl) rfl
theorem q713 : (Jvm.Cond.methodLink "HamsterWeekends" (43 : Nat) ({ cls := "HamsterWeekends$Dog", name := "<init>", desc := "(II)V" } : Jvm.MethodName)) ∈ lw_all := lw_g (lw_at lw_m3 154 rfl) rfl
theorem q719 : (Jvm.Cond.classLink "HamsterWeekends" (44 : Nat) "HamsterWeekends$Bus") ∈ lw_all := lw_g (lw_at lw_m3 160 rfl) rfl
theorem q721 : (Jvm.Cond.methodLink "HamsterWeekends" (46 : Nat) ({ cls := "HamsterWeekends$Bus", name := "<init>", desc := "(II)V" } : Jvm.MethodName)) ∈ lw_all := lw_g (lw_at lw_m3 162 rfl) rfl
theorem q728 : (Jvm.Cond.methodLink "HamsterWeekends" (49 : Nat) ({ cls := "HamsterWeekends$Home", name := "<init>", desc := "(II)V" } : Jvm.MethodName)) ∈ lw_all := lw_g (lw_at lw_m3 169 rfl) rfl
theorem q733 : (Jvm.Cond.instanceMethod ({ cls := "HamsterWeekends", name := "homeOf", desc := "(II)I" } : Jvm.MethodName)) ∈ lw_all := lw_g (lw_at lw_m3 174 rfl) rfl
theorem q734 : (Jvm.Cond.selects "HamsterWeekends" ({ cls := "HamsterWeekends", name := "homeOf", desc := "(II)I" } : Jvm.MethodName) ({ cls := "HamsterWeekends", name := "homeOf", desc := "(II)I" } : Jvm.MethodName)) ∈ lw_all := lw_g (lw_at lw_m3 175 rfl) rfl
theorem q735 : (Jvm.Cond.code ({ cls := "HamsterWeekends", name := "homeOf", desc := "(II)I" } : Jvm.MethodName) prog_1_method_21_code (3 : Nat) (Option.some Jvm.ClassFile.FieldType.int)) ∈ lw_all := lw_g (lw_at lw_m3 176 rfl) rfl
theorem q736 : (Jvm.Cond.methodLink "HamsterWeekends" (198 : Nat) ({ cls := "HamsterWeekends", name := "beyond", desc := "()I" } : Jvm.MethodName)) ∈ lw_all := lw_g (lw_at lw_m3 177 rfl) rfl
theorem q737 : (Jvm.Cond.privateMethod ({ cls := "HamsterWeekends", name := "beyond", desc := "()I" } : Jvm.MethodName)) ∈ lw_tbl := lw_at lw_m3 178 rfl
theorem q738 : (Jvm.Cond.instanceMethod ({ cls := "HamsterWeekends", name := "beyond", desc := "()I" } : Jvm.MethodName)) ∈ lw_all := lw_g (lw_at lw_m3 179 rfl) rfl
theorem q739 : (Jvm.Cond.code ({ cls := "HamsterWeekends", name := "beyond", desc := "()I" } : Jvm.MethodName) prog_1_method_7_code (1 : Nat) (Option.some Jvm.ClassFile.FieldType.int)) ∈ lw_all := lw_g (lw_at lw_m3 180 rfl) rfl
theorem q740 : (Jvm.Cond.methodLink "HamsterWeekends" (201 : Nat) ({ cls := "HamsterWeekends$Home", name := "kind", desc := "()I" } : Jvm.MethodName)) ∈ lw_all := lw_g (lw_at lw_m3 181 rfl) rfl
theorem q764 : (Jvm.Cond.instanceMethod ({ cls := "HamsterWeekends", name := "marks", desc := "(II)I" } : Jvm.MethodName)) ∈ lw_all := lw_g (lw_at lw_m3 205 rfl) rfl
theorem q765 : (Jvm.Cond.selects "HamsterWeekends" ({ cls := "HamsterWeekends", name := "marks", desc := "(II)I" } : Jvm.MethodName) ({ cls := "HamsterWeekends", name := "marks", desc := "(II)I" } : Jvm.MethodName)) ∈ lw_all := lw_g (lw_at lw_m3 206 rfl) rfl
theorem q766 : (Jvm.Cond.codeWith ({ cls := "HamsterWeekends", name := "marks", desc := "(II)I" } : Jvm.MethodName) prog_1_method_22_code (4 : Nat) (Option.some Jvm.ClassFile.FieldType.int) [((0 : Nat), (40 : Nat), (41 : Nat), (21 : Nat))]) ∈ lw_all := lw_g (lw_at lw_m3 207 rfl) rfl
theorem q768 : (Jvm.Cond.instanceMethod ({ cls := "HamsterWeekends", name := "allergic", desc := "(IZ)I" } : Jvm.MethodName)) ∈ lw_all := lw_g (lw_at lw_m3 209 rfl) rfl
theorem q769 : (Jvm.Cond.selects "HamsterWeekends" ({ cls := "HamsterWeekends", name := "allergic", desc := "(IZ)I" } : Jvm.MethodName) ({ cls := "HamsterWeekends", name := "allergic", desc := "(IZ)I" } : Jvm.MethodName)) ∈ lw_all := lw_g (lw_at lw_m3 210 rfl) rfl
theorem q770 : (Jvm.Cond.codeWith ({ cls := "HamsterWeekends", name := "allergic", desc := "(IZ)I" } : Jvm.MethodName) prog_1_method_23_code (4 : Nat) (Option.some Jvm.ClassFile.FieldType.int) [((0 : Nat), (35 : Nat), (36 : Nat), (21 : Nat))]) ∈ lw_all := lw_g (lw_at lw_m3 211 rfl) rfl
theorem q772 : (Jvm.Cond.instanceMethod ({ cls := "HamsterWeekends", name := "ask", desc := "(II)I" } : Jvm.MethodName)) ∈ lw_all := lw_g (lw_at lw_m3 213 rfl) rfl
theorem q773 : (Jvm.Cond.selects "HamsterWeekends" ({ cls := "HamsterWeekends", name := "ask", desc := "(II)I" } : Jvm.MethodName) ({ cls := "HamsterWeekends", name := "ask", desc := "(II)I" } : Jvm.MethodName)) ∈ lw_all := lw_g (lw_at lw_m3 214 rfl) rfl
theorem q774 : (Jvm.Cond.codeWith ({ cls := "HamsterWeekends", name := "ask", desc := "(II)I" } : Jvm.MethodName) prog_1_method_26_code (4 : Nat) (Option.some Jvm.ClassFile.FieldType.int) [((0 : Nat), (102 : Nat), (103 : Nat), (21 : Nat))]) ∈ lw_all := lw_g (lw_at lw_m3 215 rfl) rfl
theorem q775 : (Jvm.Cond.methodLink "HamsterWeekends" (240 : Nat) ({ cls := "HamsterWeekends", name := "mayAsk", desc := "(II)Z" } : Jvm.MethodName)) ∈ lw_all := lw_g (lw_at lw_m3 216 rfl) rfl
theorem q776 : (Jvm.Cond.static ({ cls := "HamsterWeekends", name := "mayAsk", desc := "(II)Z" } : Jvm.MethodName)) ∈ lw_all := lw_g (lw_at lw_m3 217 rfl) rfl
theorem q777 : (Jvm.Cond.code ({ cls := "HamsterWeekends", name := "mayAsk", desc := "(II)Z" } : Jvm.MethodName) prog_1_method_24_code (2 : Nat) (Option.some Jvm.ClassFile.FieldType.boolean)) ∈ lw_all := lw_g (lw_at lw_m3 218 rfl) rfl
theorem q778 : (Jvm.Cond.constantLong "HamsterWeekends" (217 : Nat) (400 : Int64)) ∈ lw_all := lw_g (lw_at lw_m3 219 rfl) rfl
theorem q779 : (Jvm.Cond.constantLong "HamsterWeekends" (219 : Nat) (99 : Int64)) ∈ lw_all := lw_g (lw_at lw_m3 220 rfl) rfl
theorem q780 : (Jvm.Cond.constantLong "HamsterWeekends" (221 : Nat) (999 : Int64)) ∈ lw_all := lw_g (lw_at lw_m3 221 rfl) rfl
theorem q781 : (Jvm.Cond.constantLong "HamsterWeekends" (223 : Nat) (200 : Int64)) ∈ lw_all := lw_g (lw_at lw_m3 222 rfl) rfl
theorem q782 : (Jvm.Cond.methodLink "HamsterWeekends" (244 : Nat) ({ cls := "HamsterWeekends", name := "asked", desc := "(I)I" } : Jvm.MethodName)) ∈ lw_all := lw_g (lw_at lw_m3 223 rfl) rfl
theorem q783 : (Jvm.Cond.privateMethod ({ cls := "HamsterWeekends", name := "asked", desc := "(I)I" } : Jvm.MethodName)) ∈ lw_tbl := lw_at lw_m3 224 rfl
theorem q784 : (Jvm.Cond.instanceMethod ({ cls := "HamsterWeekends", name := "asked", desc := "(I)I" } : Jvm.MethodName)) ∈ lw_all := lw_g (lw_at lw_m3 225 rfl) rfl
theorem q785 : (Jvm.Cond.code ({ cls := "HamsterWeekends", name := "asked", desc := "(I)I" } : Jvm.MethodName) prog_1_method_25_code (2 : Nat) (Option.some Jvm.ClassFile.FieldType.int)) ∈ lw_all := lw_g (lw_at lw_m3 226 rfl) rfl
theorem q787 : (Jvm.Cond.instanceMethod ({ cls := "HamsterWeekends", name := "classOf", desc := "(I)I" } : Jvm.MethodName)) ∈ lw_all := lw_g (lw_at lw_m3 228 rfl) rfl
theorem q788 : (Jvm.Cond.selects "HamsterWeekends" ({ cls := "HamsterWeekends", name := "classOf", desc := "(I)I" } : Jvm.MethodName) ({ cls := "HamsterWeekends", name := "classOf", desc := "(I)I" } : Jvm.MethodName)) ∈ lw_all := lw_g (lw_at lw_m3 229 rfl) rfl
theorem q789 : (Jvm.Cond.codeWith ({ cls := "HamsterWeekends", name := "classOf", desc := "(I)I" } : Jvm.MethodName) prog_1_method_27_code (5 : Nat) (Option.some Jvm.ClassFile.FieldType.int) [((29 : Nat), (50 : Nat), (51 : Nat), (259 : Nat)), ((0 : Nat), (50 : Nat), (72 : Nat), (21 : Nat)), ((51 : Nat), (72 : Nat), (72 : Nat), (21 : Nat))]) ∈ lw_all := lw_g (lw_at lw_m3 230 rfl) rfl
theorem q790 : (Jvm.Cond.classLink "HamsterWeekends" (259 : Nat) "HamsterWeekends$Faulty") ∈ lw_all := lw_g (lw_at lw_m3 231 rfl) rfl
theorem q791 : (Jvm.Cond.methodLink "HamsterWeekends" (247 : Nat) ({ cls := "HamsterWeekends$Room", name := "take", desc := "(LHamsterWeekends$Room;)LHamsterWeekends$Room;" } : Jvm.MethodName)) ∈ lw_all := lw_g (lw_at lw_m3 232 rfl) rfl
theorem q801 : (Jvm.Cond.classLink "HamsterWeekends" (251 : Nat) "HamsterWeekends$Reader") ∈ lw_all := lw_g (lw_at lw_m4 2 rfl) rfl
theorem q803 : (Jvm.Cond.methodLink "HamsterWeekends" (253 : Nat) ({ cls := "HamsterWeekends$Reader", name := "<init>", desc := "(LHamsterWeekends$Row;LHamsterWeekends$Room;)V" } : Jvm.MethodName)) ∈ lw_all := lw_g (lw_at lw_m4 4 rfl) rfl
theorem q820 : (Jvm.Cond.methodLink "HamsterWeekends" (256 : Nat) ({ cls := "HamsterWeekends$Reader", name := "items", desc := "()I" } : Jvm.MethodName)) ∈ lw_all := lw_g (lw_at lw_m4 21 rfl) rfl
theorem q935 : (Jvm.Cond.fieldLink "HamsterWeekends" (261 : Nat) "HamsterWeekends$Faulty" "place" "I") ∈ lw_all := lw_g (lw_at lw_m4 136 rfl) rfl
theorem q1045 : (Jvm.Cond.instanceMethod ({ cls := "HamsterWeekends", name := "fault", desc := "()I" } : Jvm.MethodName)) ∈ lw_all := lw_g (lw_at lw_m5 6 rfl) rfl
theorem q1046 : (Jvm.Cond.selects "HamsterWeekends" ({ cls := "HamsterWeekends", name := "fault", desc := "()I" } : Jvm.MethodName) ({ cls := "HamsterWeekends", name := "fault", desc := "()I" } : Jvm.MethodName)) ∈ lw_all := lw_g (lw_at lw_m5 7 rfl) rfl
theorem q1047 : (Jvm.Cond.code ({ cls := "HamsterWeekends", name := "fault", desc := "()I" } : Jvm.MethodName) prog_1_method_28_code (1 : Nat) (Option.some Jvm.ClassFile.FieldType.int)) ∈ lw_all := lw_g (lw_at lw_m5 8 rfl) rfl
theorem q1049 : (Jvm.Cond.instanceMethod ({ cls := "HamsterWeekends", name := "norm", desc := "(I)I" } : Jvm.MethodName)) ∈ lw_all := lw_g (lw_at lw_m5 10 rfl) rfl
theorem q1050 : (Jvm.Cond.selects "HamsterWeekends" ({ cls := "HamsterWeekends", name := "norm", desc := "(I)I" } : Jvm.MethodName) ({ cls := "HamsterWeekends", name := "norm", desc := "(I)I" } : Jvm.MethodName)) ∈ lw_all := lw_g (lw_at lw_m5 11 rfl) rfl
theorem q1051 : (Jvm.Cond.codeWith ({ cls := "HamsterWeekends", name := "norm", desc := "(I)I" } : Jvm.MethodName) prog_1_method_29_code (3 : Nat) (Option.some Jvm.ClassFile.FieldType.int) [((0 : Nat), (25 : Nat), (26 : Nat), (21 : Nat))]) ∈ lw_all := lw_g (lw_at lw_m5 12 rfl) rfl
theorem q1052 : (Jvm.Cond.methodLink "HamsterWeekends" (264 : Nat) ({ cls := "HamsterWeekends$Pet", name := "norm", desc := "(I)I" } : Jvm.MethodName)) ∈ lw_all := lw_g (lw_at lw_m5 13 rfl) rfl
theorem q1054 : (Jvm.Cond.instanceMethod ({ cls := "HamsterWeekends", name := "judge", desc := "(II)I" } : Jvm.MethodName)) ∈ lw_all := lw_g (lw_at lw_m5 15 rfl) rfl
theorem q1055 : (Jvm.Cond.selects "HamsterWeekends" ({ cls := "HamsterWeekends", name := "judge", desc := "(II)I" } : Jvm.MethodName) ({ cls := "HamsterWeekends", name := "judge", desc := "(II)I" } : Jvm.MethodName)) ∈ lw_all := lw_g (lw_at lw_m5 16 rfl) rfl
theorem q1056 : (Jvm.Cond.codeWith ({ cls := "HamsterWeekends", name := "judge", desc := "(II)I" } : Jvm.MethodName) prog_1_method_34_code (4 : Nat) (Option.some Jvm.ClassFile.FieldType.int) [((0 : Nat), (29 : Nat), (30 : Nat), (21 : Nat))]) ∈ lw_all := lw_g (lw_at lw_m5 17 rfl) rfl
theorem q1057 : (Jvm.Cond.methodLink "HamsterWeekends" (312 : Nat) ({ cls := "HamsterWeekends", name := "toldAt", desc := "(II)LHamsterWeekends$Row;" } : Jvm.MethodName)) ∈ lw_all := lw_g (lw_at lw_m5 18 rfl) rfl
theorem q1058 : (Jvm.Cond.privateMethod ({ cls := "HamsterWeekends", name := "toldAt", desc := "(II)LHamsterWeekends$Row;" } : Jvm.MethodName)) ∈ lw_tbl := lw_at lw_m5 19 rfl
theorem q1059 : (Jvm.Cond.instanceMethod ({ cls := "HamsterWeekends", name := "toldAt", desc := "(II)LHamsterWeekends$Row;" } : Jvm.MethodName)) ∈ lw_all := lw_g (lw_at lw_m5 20 rfl) rfl
theorem q1060 : (Jvm.Cond.code ({ cls := "HamsterWeekends", name := "toldAt", desc := "(II)LHamsterWeekends$Row;" } : Jvm.MethodName) prog_1_method_32_code (4 : Nat) (Option.some (Jvm.ClassFile.FieldType.object "HamsterWeekends$Row"))) ∈ lw_all := lw_g (lw_at lw_m5 21 rfl) rfl
theorem q1061 : (Jvm.Cond.methodLink "HamsterWeekends" (11 : Nat) ({ cls := "HamsterWeekends$Row", name := "length", desc := "()I" } : Jvm.MethodName)) ∈ lw_all := lw_g (lw_at lw_m5 22 rfl) rfl
theorem q1062 : (Jvm.Cond.methodLink "HamsterWeekends" (308 : Nat) ({ cls := "HamsterWeekends", name := "wrongIn", desc := "(LHamsterWeekends$Row;I)I" } : Jvm.MethodName)) ∈ lw_all := lw_g (lw_at lw_m5 23 rfl) rfl
theorem q1063 : (Jvm.Cond.privateMethod ({ cls := "HamsterWeekends", name := "wrongIn", desc := "(LHamsterWeekends$Row;I)I" } : Jvm.MethodName)) ∈ lw_tbl := lw_at lw_m5 24 rfl
theorem q1064 : (Jvm.Cond.instanceMethod ({ cls := "HamsterWeekends", name := "wrongIn", desc := "(LHamsterWeekends$Row;I)I" } : Jvm.MethodName)) ∈ lw_all := lw_g (lw_at lw_m5 25 rfl) rfl
theorem q1065 : (Jvm.Cond.code ({ cls := "HamsterWeekends", name := "wrongIn", desc := "(LHamsterWeekends$Row;I)I" } : Jvm.MethodName) prog_1_method_31_code (4 : Nat) (Option.some Jvm.ClassFile.FieldType.int)) ∈ lw_all := lw_g (lw_at lw_m5 26 rfl) rfl
theorem q1066 : (Jvm.Cond.methodLink "HamsterWeekends" (302 : Nat) ({ cls := "HamsterWeekends$Row", name := "asInt", desc := "(I)I" } : Jvm.MethodName)) ∈ lw_all := lw_g (lw_at lw_m5 27 rfl) rfl
theorem q1067 : (Jvm.Cond.methodLink "HamsterWeekends" (305 : Nat) ({ cls := "HamsterWeekends$Room", name := "may", desc := "(I)Z" } : Jvm.MethodName)) ∈ lw_all := lw_g (lw_at lw_m5 28 rfl) rfl
theorem q1069 : (Jvm.Cond.instanceMethod ({ cls := "HamsterWeekends", name := "behind", desc := "(III)I" } : Jvm.MethodName)) ∈ lw_all := lw_g (lw_at lw_m5 30 rfl) rfl
theorem q1070 : (Jvm.Cond.selects "HamsterWeekends" ({ cls := "HamsterWeekends", name := "behind", desc := "(III)I" } : Jvm.MethodName) ({ cls := "HamsterWeekends", name := "behind", desc := "(III)I" } : Jvm.MethodName)) ∈ lw_all := lw_g (lw_at lw_m5 31 rfl) rfl
theorem q1071 : (Jvm.Cond.codeWith ({ cls := "HamsterWeekends", name := "behind", desc := "(III)I" } : Jvm.MethodName) prog_1_method_35_code (5 : Nat) (Option.some Jvm.ClassFile.FieldType.int) [((0 : Nat), (97 : Nat), (98 : Nat), (21 : Nat))]) ∈ lw_all := lw_g (lw_at lw_m5 32 rfl) rfl
theorem q1072 : (Jvm.Cond.methodLink "HamsterWeekends" (315 : Nat) ({ cls := "HamsterWeekends", name := "mustBeRight", desc := "(LHamsterWeekends$Row;I)V" } : Jvm.MethodName)) ∈ lw_all := lw_g (lw_at lw_m5 33 rfl) rfl
theorem q1073 : (Jvm.Cond.privateMethod ({ cls := "HamsterWeekends", name := "mustBeRight", desc := "(LHamsterWeekends$Row;I)V" } : Jvm.MethodName)) ∈ lw_tbl := lw_at lw_m5 34 rfl
theorem q1074 : (Jvm.Cond.instanceMethod ({ cls := "HamsterWeekends", name := "mustBeRight", desc := "(LHamsterWeekends$Row;I)V" } : Jvm.MethodName)) ∈ lw_all := lw_g (lw_at lw_m5 35 rfl) rfl
theorem q1075 : (Jvm.Cond.code ({ cls := "HamsterWeekends", name := "mustBeRight", desc := "(LHamsterWeekends$Row;I)V" } : Jvm.MethodName) prog_1_method_33_code (3 : Nat) (Option.none : Option Jvm.ClassFile.FieldType)) ∈ lw_all := lw_g (lw_at lw_m5 36 rfl) rfl
theorem q1076 : (Jvm.Cond.methodLink "HamsterWeekends" (319 : Nat) ({ cls := "HamsterWeekends$Pet", name := "take", desc := "(LHamsterWeekends$Pet;)LHamsterWeekends$Pet;" } : Jvm.MethodName)) ∈ lw_all := lw_g (lw_at lw_m5 37 rfl) rfl
theorem q1077 : (Jvm.Cond.methodLink "HamsterWeekends" (322 : Nat) ({ cls := "HamsterWeekends", name := "goesRow", desc := "(I)V" } : Jvm.MethodName)) ∈ lw_all := lw_g (lw_at lw_m5 38 rfl) rfl
theorem q1078 : (Jvm.Cond.privateMethod ({ cls := "HamsterWeekends", name := "goesRow", desc := "(I)V" } : Jvm.MethodName)) ∈ lw_tbl := lw_at lw_m5 39 rfl
theorem q1079 : (Jvm.Cond.instanceMethod ({ cls := "HamsterWeekends", name := "goesRow", desc := "(I)V" } : Jvm.MethodName)) ∈ lw_all := lw_g (lw_at lw_m5 40 rfl) rfl
theorem q1080 : (Jvm.Cond.code ({ cls := "HamsterWeekends", name := "goesRow", desc := "(I)V" } : Jvm.MethodName) prog_1_method_30_code (4 : Nat) (Option.none : Option Jvm.ClassFile.FieldType)) ∈ lw_all := lw_g (lw_at lw_m5 41 rfl) rfl
theorem q1081 : (Jvm.Cond.methodLink "HamsterWeekends" (276 : Nat) ({ cls := "HamsterWeekends$Room", name := "of", desc := "(I)LHamsterWeekends$Home;" } : Jvm.MethodName)) ∈ lw_all := lw_g (lw_at lw_m5 42 rfl) rfl
theorem q1082 : (Jvm.Cond.methodLink "HamsterWeekends" (280 : Nat) ({ cls := "HamsterWeekends$Pet", name := "week", desc := "(LHamsterWeekends$Home;)V" } : Jvm.MethodName)) ∈ lw_all := lw_g (lw_at lw_m5 43 rfl) rfl
theorem q1083 : (Jvm.Cond.methodLink "HamsterWeekends" (284 : Nat) ({ cls := "HamsterWeekends$Pet", name := "dies", desc := "()I" } : Jvm.MethodName)) ∈ lw_all := lw_g (lw_at lw_m5 44 rfl) rfl
theorem q1084 : (Jvm.Cond.methodLink "HamsterWeekends" (287 : Nat) ({ cls := "java/lang/Math", name := "min", desc := "(II)I" } : Jvm.MethodName)) ∈ lw_all := lw_g (lw_at lw_m5 45 rfl) rfl
theorem q1085 : (Jvm.Cond.methodLink "HamsterWeekends" (293 : Nat) ({ cls := "java/lang/Math", name := "abs", desc := "(I)I" } : Jvm.MethodName)) ∈ lw_all := lw_g (lw_at lw_m5 46 rfl) rfl
theorem q1088 : (Jvm.Cond.methodLink "HamsterWeekends" (299 : Nat) ({ cls := "HamsterWeekends$Pet", name := "replaced", desc := "()V" } : Jvm.MethodName)) ∈ lw_all := lw_g (lw_at lw_m5 49 rfl) rfl
theorem q1090 : (Jvm.Cond.instanceMethod ({ cls := "HamsterWeekends", name := "leastFeed", desc := "(III)I" } : Jvm.MethodName)) ∈ lw_all := lw_g (lw_at lw_m5 51 rfl) rfl
theorem q1091 : (Jvm.Cond.selects "HamsterWeekends" ({ cls := "HamsterWeekends", name := "leastFeed", desc := "(III)I" } : Jvm.MethodName) ({ cls := "HamsterWeekends", name := "leastFeed", desc := "(III)I" } : Jvm.MethodName)) ∈ lw_all := lw_g (lw_at lw_m5 52 rfl) rfl
theorem q1092 : (Jvm.Cond.codeWith ({ cls := "HamsterWeekends", name := "leastFeed", desc := "(III)I" } : Jvm.MethodName) prog_1_method_36_code (6 : Nat) (Option.some Jvm.ClassFile.FieldType.int) [((0 : Nat), (91 : Nat), (100 : Nat), (21 : Nat)), ((92 : Nat), (99 : Nat), (100 : Nat), (21 : Nat))]) ∈ lw_all := lw_g (lw_at lw_m5 53 rfl) rfl
theorem q1094 : (Jvm.Cond.instanceMethod ({ cls := "HamsterWeekends", name := "noticed", desc := "(III)I" } : Jvm.MethodName)) ∈ lw_all := lw_g (lw_at lw_m5 55 rfl) rfl
theorem q1095 : (Jvm.Cond.selects "HamsterWeekends" ({ cls := "HamsterWeekends", name := "noticed", desc := "(III)I" } : Jvm.MethodName) ({ cls := "HamsterWeekends", name := "noticed", desc := "(III)I" } : Jvm.MethodName)) ∈ lw_all := lw_g (lw_at lw_m5 56 rfl) rfl
theorem q1096 : (Jvm.Cond.codeWith ({ cls := "HamsterWeekends", name := "noticed", desc := "(III)I" } : Jvm.MethodName) prog_1_method_37_code (5 : Nat) (Option.some Jvm.ClassFile.FieldType.int) [((0 : Nat), (58 : Nat), (59 : Nat), (21 : Nat))]) ∈ lw_all := lw_g (lw_at lw_m5 57 rfl) rfl
theorem q1098 : (Jvm.Cond.instanceMethod ({ cls := "HamsterWeekends", name := "swap", desc := "(II)I" } : Jvm.MethodName)) ∈ lw_all := lw_g (lw_at lw_m5 59 rfl) rfl
theorem q1099 : (Jvm.Cond.selects "HamsterWeekends" ({ cls := "HamsterWeekends", name := "swap", desc := "(II)I" } : Jvm.MethodName) ({ cls := "HamsterWeekends", name := "swap", desc := "(II)I" } : Jvm.MethodName)) ∈ lw_all := lw_g (lw_at lw_m5 60 rfl) rfl
theorem q1100 : (Jvm.Cond.codeWith ({ cls := "HamsterWeekends", name := "swap", desc := "(II)I" } : Jvm.MethodName) prog_1_method_39_code (9 : Nat) (Option.some Jvm.ClassFile.FieldType.int) [((0 : Nat), (177 : Nat), (178 : Nat), (21 : Nat))]) ∈ lw_all := lw_g (lw_at lw_m5 61 rfl) rfl
theorem q1101 : (Jvm.Cond.methodLink "HamsterWeekends" (325 : Nat) ({ cls := "HamsterWeekends", name := "changes", desc := "(II)V" } : Jvm.MethodName)) ∈ lw_all := lw_g (lw_at lw_m5 62 rfl) rfl
theorem q1102 : (Jvm.Cond.privateMethod ({ cls := "HamsterWeekends", name := "changes", desc := "(II)V" } : Jvm.MethodName)) ∈ lw_tbl := lw_at lw_m5 63 rfl
theorem q1103 : (Jvm.Cond.instanceMethod ({ cls := "HamsterWeekends", name := "changes", desc := "(II)V" } : Jvm.MethodName)) ∈ lw_all := lw_g (lw_at lw_m5 64 rfl) rfl
theorem q1104 : (Jvm.Cond.code ({ cls := "HamsterWeekends", name := "changes", desc := "(II)V" } : Jvm.MethodName) prog_1_method_38_code (4 : Nat) (Option.none : Option Jvm.ClassFile.FieldType)) ∈ lw_all := lw_g (lw_at lw_m5 65 rfl) rfl
theorem q1106 : (Jvm.Cond.instanceMethod ({ cls := "HamsterWeekends", name := "whose", desc := "(I)I" } : Jvm.MethodName)) ∈ lw_all := lw_g (lw_at lw_m5 67 rfl) rfl
theorem q1107 : (Jvm.Cond.selects "HamsterWeekends" ({ cls := "HamsterWeekends", name := "whose", desc := "(I)I" } : Jvm.MethodName) ({ cls := "HamsterWeekends", name := "whose", desc := "(I)I" } : Jvm.MethodName)) ∈ lw_all := lw_g (lw_at lw_m5 68 rfl) rfl
theorem q1108 : (Jvm.Cond.codeWith ({ cls := "HamsterWeekends", name := "whose", desc := "(I)I" } : Jvm.MethodName) prog_1_method_40_code (3 : Nat) (Option.some Jvm.ClassFile.FieldType.int) [((0 : Nat), (33 : Nat), (34 : Nat), (21 : Nat))]) ∈ lw_all := lw_g (lw_at lw_m5 69 rfl) rfl
theorem q1109 : (Jvm.Cond.methodLink "HamsterWeekends" (328 : Nat) ({ cls := "HamsterWeekends", name := "someMay", desc := "()V" } : Jvm.MethodName)) ∈ lw_all := lw_g (lw_at lw_m5 70 rfl) rfl
theorem q1110 : (Jvm.Cond.privateMethod ({ cls := "HamsterWeekends", name := "someMay", desc := "()V" } : Jvm.MethodName)) ∈ lw_tbl := lw_at lw_m5 71 rfl
theorem q1111 : (Jvm.Cond.instanceMethod ({ cls := "HamsterWeekends", name := "someMay", desc := "()V" } : Jvm.MethodName)) ∈ lw_all := lw_g (lw_at lw_m5 72 rfl) rfl
theorem q1112 : (Jvm.Cond.code ({ cls := "HamsterWeekends", name := "someMay", desc := "()V" } : Jvm.MethodName) prog_1_method_10_code (1 : Nat) (Option.none : Option Jvm.ClassFile.FieldType)) ∈ lw_all := lw_g (lw_at lw_m5 73 rfl) rfl
theorem q1113 : (Jvm.Cond.methodLink "HamsterWeekends" (116 : Nat) ({ cls := "HamsterWeekends$Room", name := "mayMany", desc := "()I" } : Jvm.MethodName)) ∈ lw_all := lw_g (lw_at lw_m5 74 rfl) rfl
theorem q1118 : (Jvm.Cond.methodLink "HamsterWeekends" (331 : Nat) ({ cls := "HamsterWeekends$Room", name := "whose", desc := "(Z)I" } : Jvm.MethodName)) ∈ lw_all := lw_g (lw_at lw_m5 79 rfl) rfl
theorem q1123 : (Jvm.Cond.instanceMethod ({ cls := "HamsterWeekends", name := "order", desc := "(I)I" } : Jvm.MethodName)) ∈ lw_all := lw_g (lw_at lw_m5 84 rfl) rfl
theorem q1124 : (Jvm.Cond.selects "HamsterWeekends" ({ cls := "HamsterWeekends", name := "order", desc := "(I)I" } : Jvm.MethodName) ({ cls := "HamsterWeekends", name := "order", desc := "(I)I" } : Jvm.MethodName)) ∈ lw_all := lw_g (lw_at lw_m5 85 rfl) rfl
theorem q1125 : (Jvm.Cond.codeWith ({ cls := "HamsterWeekends", name := "order", desc := "(I)I" } : Jvm.MethodName) prog_1_method_43_code (3 : Nat) (Option.some Jvm.ClassFile.FieldType.int) [((0 : Nat), (46 : Nat), (47 : Nat), (21 : Nat))]) ∈ lw_all := lw_g (lw_at lw_m5 86 rfl) rfl
theorem q1126 : (Jvm.Cond.constantLong "HamsterWeekends" (345 : Nat) (-1 : Int64)) ∈ lw_all := lw_g (lw_at lw_m5 87 rfl) rfl
theorem q1127 : (Jvm.Cond.methodLink "HamsterWeekends" (347 : Nat) ({ cls := "HamsterWeekends", name := "findOrder", desc := "()I" } : Jvm.MethodName)) ∈ lw_all := lw_g (lw_at lw_m5 88 rfl) rfl
theorem q1128 : (Jvm.Cond.privateMethod ({ cls := "HamsterWeekends", name := "findOrder", desc := "()I" } : Jvm.MethodName)) ∈ lw_tbl := lw_at lw_m5 89 rfl
theorem q1129 : (Jvm.Cond.instanceMethod ({ cls := "HamsterWeekends", name := "findOrder", desc := "()I" } : Jvm.MethodName)) ∈ lw_all := lw_g (lw_at lw_m5 90 rfl) rfl
theorem q1130 : (Jvm.Cond.code ({ cls := "HamsterWeekends", name := "findOrder", desc := "()I" } : Jvm.MethodName) prog_1_method_42_code (2 : Nat) (Option.some Jvm.ClassFile.FieldType.int)) ∈ lw_all := lw_g (lw_at lw_m5 91 rfl) rfl
theorem q1131 : (Jvm.Cond.methodLink "HamsterWeekends" (341 : Nat) ({ cls := "HamsterWeekends", name := "seekOrder", desc := "(III)V" } : Jvm.MethodName)) ∈ lw_all := lw_g (lw_at lw_m5 92 rfl) rfl
theorem q1132 : (Jvm.Cond.privateMethod ({ cls := "HamsterWeekends", name := "seekOrder", desc := "(III)V" } : Jvm.MethodName)) ∈ lw_tbl := lw_at lw_m5 93 rfl
theorem q1133 : (Jvm.Cond.instanceMethod ({ cls := "HamsterWeekends", name := "seekOrder", desc := "(III)V" } : Jvm.MethodName)) ∈ lw_all := lw_g (lw_at lw_m5 94 rfl) rfl
theorem q1134 : (Jvm.Cond.code ({ cls := "HamsterWeekends", name := "seekOrder", desc := "(III)V" } : Jvm.MethodName) prog_1_method_41_code (5 : Nat) (Option.none : Option Jvm.ClassFile.FieldType)) ∈ lw_all := lw_g (lw_at lw_m5 95 rfl) rfl
theorem q1136 : (Jvm.Cond.instanceMethod ({ cls := "HamsterWeekends", name := "least", desc := "()I" } : Jvm.MethodName)) ∈ lw_all := lw_g (lw_at lw_m5 97 rfl) rfl
theorem q1137 : (Jvm.Cond.selects "HamsterWeekends" ({ cls := "HamsterWeekends", name := "least", desc := "()I" } : Jvm.MethodName) ({ cls := "HamsterWeekends", name := "least", desc := "()I" } : Jvm.MethodName)) ∈ lw_all := lw_g (lw_at lw_m5 98 rfl) rfl
theorem q1138 : (Jvm.Cond.codeWith ({ cls := "HamsterWeekends", name := "least", desc := "()I" } : Jvm.MethodName) prog_1_method_44_code (2 : Nat) (Option.some Jvm.ClassFile.FieldType.int) [((0 : Nat), (9 : Nat), (10 : Nat), (21 : Nat))]) ∈ lw_all := lw_g (lw_at lw_m5 99 rfl) rfl
theorem q1140 : (Jvm.Cond.instanceMethod ({ cls := "HamsterWeekends", name := "was", desc := "(II)I" } : Jvm.MethodName)) ∈ lw_all := lw_g (lw_at lw_m5 101 rfl) rfl
theorem q1141 : (Jvm.Cond.selects "HamsterWeekends" ({ cls := "HamsterWeekends", name := "was", desc := "(II)I" } : Jvm.MethodName) ({ cls := "HamsterWeekends", name := "was", desc := "(II)I" } : Jvm.MethodName)) ∈ lw_all := lw_g (lw_at lw_m5 102 rfl) rfl
theorem q1142 : (Jvm.Cond.codeWith ({ cls := "HamsterWeekends", name := "was", desc := "(II)I" } : Jvm.MethodName) prog_1_method_45_code (6 : Nat) (Option.some Jvm.ClassFile.FieldType.int) [((0 : Nat), (133 : Nat), (134 : Nat), (21 : Nat))]) ∈ lw_all := lw_g (lw_at lw_m5 103 rfl) rfl
theorem q1143 : (Jvm.Cond.methodLink "HamsterWeekends" (350 : Nat) ({ cls := "HamsterWeekends", name := "homeOfKind", desc := "(III)LHamsterWeekends$Home;" } : Jvm.MethodName)) ∈ lw_all := lw_g (lw_at lw_m5 104 rfl) rfl
theorem q1144 : (Jvm.Cond.methodLink "HamsterWeekends" (354 : Nat) ({ cls := "HamsterWeekends$Home", name := "weekend", desc := "(LHamsterWeekends$Pet;)V" } : Jvm.MethodName)) ∈ lw_all := lw_g (lw_at lw_m5 105 rfl) rfl
theorem q1146 : (Jvm.Cond.instanceMethod ({ cls := "HamsterWeekends", name := "fit", desc := "(I)I" } : Jvm.MethodName)) ∈ lw_all := lw_g (lw_at lw_m5 107 rfl) rfl
theorem q1147 : (Jvm.Cond.selects "HamsterWeekends" ({ cls := "HamsterWeekends", name := "fit", desc := "(I)I" } : Jvm.MethodName) ({ cls := "HamsterWeekends", name := "fit", desc := "(I)I" } : Jvm.MethodName)) ∈ lw_all := lw_g (lw_at lw_m5 108 rfl) rfl
theorem q1148 : (Jvm.Cond.codeWith ({ cls := "HamsterWeekends", name := "fit", desc := "(I)I" } : Jvm.MethodName) prog_1_method_46_code (5 : Nat) (Option.some Jvm.ClassFile.FieldType.int) [((0 : Nat), (132 : Nat), (133 : Nat), (21 : Nat))]) ∈ lw_all := lw_g (lw_at lw_m5 109 rfl) rfl
theorem q1150 : (Jvm.Cond.instanceMethod ({ cls := "HamsterWeekends", name := "chance", desc := "(I)I" } : Jvm.MethodName)) ∈ lw_all := lw_g (lw_at lw_m5 111 rfl) rfl
theorem q1151 : (Jvm.Cond.selects "HamsterWeekends" ({ cls := "HamsterWeekends", name := "chance", desc := "(I)I" } : Jvm.MethodName) ({ cls := "HamsterWeekends", name := "chance", desc := "(I)I" } : Jvm.MethodName)) ∈ lw_all := lw_g (lw_at lw_m5 112 rfl) rfl
theorem q1152 : (Jvm.Cond.codeWith ({ cls := "HamsterWeekends", name := "chance", desc := "(I)I" } : Jvm.MethodName) prog_1_method_48_code (3 : Nat) (Option.some Jvm.ClassFile.FieldType.int) [((0 : Nat), (31 : Nat), (32 : Nat), (21 : Nat))]) ∈ lw_all := lw_g (lw_at lw_m5 113 rfl) rfl
theorem q1153 : (Jvm.Cond.constantLong "HamsterWeekends" (362 : Nat) (4 : Int64)) ∈ lw_all := lw_g (lw_at lw_m5 114 rfl) rfl
theorem q1154 : (Jvm.Cond.methodLink "HamsterWeekends" (358 : Nat) ({ cls := "HamsterWeekends", name := "deathsIn", desc := "(LHamsterWeekends$Pet;II)I" } : Jvm.MethodName)) ∈ lw_all := lw_g (lw_at lw_m5 115 rfl) rfl
theorem q1155 : (Jvm.Cond.privateMethod ({ cls := "HamsterWeekends", name := "deathsIn", desc := "(LHamsterWeekends$Pet;II)I" } : Jvm.MethodName)) ∈ lw_tbl := lw_at lw_m5 116 rfl
theorem q1156 : (Jvm.Cond.instanceMethod ({ cls := "HamsterWeekends", name := "deathsIn", desc := "(LHamsterWeekends$Pet;II)I" } : Jvm.MethodName)) ∈ lw_all := lw_g (lw_at lw_m5 117 rfl) rfl
theorem q1157 : (Jvm.Cond.code ({ cls := "HamsterWeekends", name := "deathsIn", desc := "(LHamsterWeekends$Pet;II)I" } : Jvm.MethodName) prog_1_method_47_code (8 : Nat) (Option.some Jvm.ClassFile.FieldType.int)) ∈ lw_all := lw_g (lw_at lw_m5 118 rfl) rfl
theorem q1159 : (Jvm.Cond.instanceMethod ({ cls := "HamsterWeekends", name := "last", desc := "(III)I" } : Jvm.MethodName)) ∈ lw_all := lw_g (lw_at lw_m5 120 rfl) rfl
theorem q1160 : (Jvm.Cond.selects "HamsterWeekends" ({ cls := "HamsterWeekends", name := "last", desc := "(III)I" } : Jvm.MethodName) ({ cls := "HamsterWeekends", name := "last", desc := "(III)I" } : Jvm.MethodName)) ∈ lw_all := lw_g (lw_at lw_m5 121 rfl) rfl
theorem q1161 : (Jvm.Cond.codeWith ({ cls := "HamsterWeekends", name := "last", desc := "(III)I" } : Jvm.MethodName) prog_1_method_49_code (6 : Nat) (Option.some Jvm.ClassFile.FieldType.int) [((0 : Nat), (92 : Nat), (93 : Nat), (21 : Nat))]) ∈ lw_all := lw_g (lw_at lw_m5 122 rfl) rfl
theorem q1163 : (Jvm.Cond.instanceMethod ({ cls := "HamsterWeekends", name := "carried", desc := "(II)I" } : Jvm.MethodName)) ∈ lw_all := lw_g (lw_at lw_m5 124 rfl) rfl
theorem q1164 : (Jvm.Cond.selects "HamsterWeekends" ({ cls := "HamsterWeekends", name := "carried", desc := "(II)I" } : Jvm.MethodName) ({ cls := "HamsterWeekends", name := "carried", desc := "(II)I" } : Jvm.MethodName)) ∈ lw_all := lw_g (lw_at lw_m5 125 rfl) rfl
theorem q1165 : (Jvm.Cond.codeWith ({ cls := "HamsterWeekends", name := "carried", desc := "(II)I" } : Jvm.MethodName) prog_1_method_51_code (4 : Nat) (Option.some Jvm.ClassFile.FieldType.int) [((0 : Nat), (32 : Nat), (33 : Nat), (21 : Nat))]) ∈ lw_all := lw_g (lw_at lw_m5 126 rfl) rfl
theorem q1166 : (Jvm.Cond.constantLong "HamsterWeekends" (364 : Nat) (40 : Int64)) ∈ lw_all := lw_g (lw_at lw_m5 127 rfl) rfl
theorem q1167 : (Jvm.Cond.methodLink "HamsterWeekends" (366 : Nat) ({ cls := "HamsterWeekends", name := "weightBehind", desc := "(II)I" } : Jvm.MethodName)) ∈ lw_all := lw_g (lw_at lw_m5 128 rfl) rfl
theorem q1168 : (Jvm.Cond.privateMethod ({ cls := "HamsterWeekends", name := "weightBehind", desc := "(II)I" } : Jvm.MethodName)) ∈ lw_tbl := lw_at lw_m5 129 rfl
theorem q1169 : (Jvm.Cond.instanceMethod ({ cls := "HamsterWeekends", name := "weightBehind", desc := "(II)I" } : Jvm.MethodName)) ∈ lw_all := lw_g (lw_at lw_m5 130 rfl) rfl
theorem q1170 : (Jvm.Cond.code ({ cls := "HamsterWeekends", name := "weightBehind", desc := "(II)I" } : Jvm.MethodName) prog_1_method_50_code (4 : Nat) (Option.some Jvm.ClassFile.FieldType.int)) ∈ lw_all := lw_g (lw_at lw_m5 131 rfl) rfl
theorem q1172 : (Jvm.Cond.instanceMethod ({ cls := "HamsterWeekends", name := "lasts", desc := "()I" } : Jvm.MethodName)) ∈ lw_all := lw_g (lw_at lw_m5 133 rfl) rfl
theorem q1173 : (Jvm.Cond.selects "HamsterWeekends" ({ cls := "HamsterWeekends", name := "lasts", desc := "()I" } : Jvm.MethodName) ({ cls := "HamsterWeekends", name := "lasts", desc := "()I" } : Jvm.MethodName)) ∈ lw_all := lw_g (lw_at lw_m5 134 rfl) rfl
theorem q1174 : (Jvm.Cond.code ({ cls := "HamsterWeekends", name := "lasts", desc := "()I" } : Jvm.MethodName) prog_1_method_52_code (2 : Nat) (Option.some Jvm.ClassFile.FieldType.int)) ∈ lw_all := lw_g (lw_at lw_m5 135 rfl) rfl
theorem q1176 : (Jvm.Cond.instanceMethod ({ cls := "HamsterWeekends", name := "week", desc := "(I)I" } : Jvm.MethodName)) ∈ lw_all := lw_g (lw_at lw_m5 137 rfl) rfl
theorem q1177 : (Jvm.Cond.selects "HamsterWeekends" ({ cls := "HamsterWeekends", name := "week", desc := "(I)I" } : Jvm.MethodName) ({ cls := "HamsterWeekends", name := "week", desc := "(I)I" } : Jvm.MethodName)) ∈ lw_all := lw_g (lw_at lw_m5 138 rfl) rfl
theorem q1178 : (Jvm.Cond.codeWith ({ cls := "HamsterWeekends", name := "week", desc := "(I)I" } : Jvm.MethodName) prog_1_method_53_code (3 : Nat) (Option.some Jvm.ClassFile.FieldType.int) [((0 : Nat), (77 : Nat), (78 : Nat), (21 : Nat))]) ∈ lw_all := lw_g (lw_at lw_m5 139 rfl) rfl
theorem q1179 : (Jvm.Cond.methodLink "HamsterWeekends" (369 : Nat) ({ cls := "HamsterWeekends$Room", name := "week", desc := "(I)I" } : Jvm.MethodName)) ∈ lw_all := lw_g (lw_at lw_m5 140 rfl) rfl
theorem q1181 : (Jvm.Cond.instanceMethod ({ cls := "HamsterWeekends", name := "weeks", desc := "(II)I" } : Jvm.MethodName)) ∈ lw_all := lw_g (lw_at lw_m5 142 rfl) rfl
theorem q1182 : (Jvm.Cond.selects "HamsterWeekends" ({ cls := "HamsterWeekends", name := "weeks", desc := "(II)I" } : Jvm.MethodName) ({ cls := "HamsterWeekends", name := "weeks", desc := "(II)I" } : Jvm.MethodName)) ∈ lw_all := lw_g (lw_at lw_m5 143 rfl) rfl
theorem q1183 : (Jvm.Cond.codeWith ({ cls := "HamsterWeekends", name := "weeks", desc := "(II)I" } : Jvm.MethodName) prog_1_method_54_code (5 : Nat) (Option.some Jvm.ClassFile.FieldType.int) [((0 : Nat), (87 : Nat), (88 : Nat), (21 : Nat))]) ∈ lw_all := lw_g (lw_at lw_m5 144 rfl) rfl
theorem q1184 : (Jvm.Cond.constantLong "HamsterWeekends" (371 : Nat) (60 : Int64)) ∈ lw_all := lw_g (lw_at lw_m5 145 rfl) rfl
theorem q1186 : (Jvm.Cond.instanceMethod ({ cls := "HamsterWeekends", name := "term", desc := "(I)I" } : Jvm.MethodName)) ∈ lw_all := lw_g (lw_at lw_m5 147 rfl) rfl
theorem q1187 : (Jvm.Cond.selects "HamsterWeekends" ({ cls := "HamsterWeekends", name := "term", desc := "(I)I" } : Jvm.MethodName) ({ cls := "HamsterWeekends", name := "term", desc := "(I)I" } : Jvm.MethodName)) ∈ lw_all := lw_g (lw_at lw_m5 148 rfl) rfl
theorem q1188 : (Jvm.Cond.codeWith ({ cls := "HamsterWeekends", name := "term", desc := "(I)I" } : Jvm.MethodName) prog_1_method_55_code (4 : Nat) (Option.some Jvm.ClassFile.FieldType.int) [((0 : Nat), (48 : Nat), (49 : Nat), (21 : Nat))]) ∈ lw_all := lw_g (lw_at lw_m5 149 rfl) rfl
theorem q1189 : (Jvm.Cond.methodLink "HamsterWeekends" (376 : Nat) ({ cls := "HamsterWeekends$Room", name := "goesDraw", desc := "()Z" } : Jvm.MethodName)) ∈ lw_all := lw_g (lw_at lw_m5 150 rfl) rfl
theorem q1205 : (Jvm.Cond.instanceMethod ({ cls := "HamsterWeekends", name := "anew", desc := "()I" } : Jvm.MethodName)) ∈ lw_all := lw_g (lw_at lw_m5 166 rfl) rfl
theorem q1206 : (Jvm.Cond.selects "HamsterWeekends" ({ cls := "HamsterWeekends", name := "anew", desc := "()I" } : Jvm.MethodName) ({ cls := "HamsterWeekends", name := "anew", desc := "()I" } : Jvm.MethodName)) ∈ lw_all := lw_g (lw_at lw_m5 167 rfl) rfl
theorem q1207 : (Jvm.Cond.code ({ cls := "HamsterWeekends", name := "anew", desc := "()I" } : Jvm.MethodName) prog_1_method_56_code (2 : Nat) (Option.some Jvm.ClassFile.FieldType.int)) ∈ lw_all := lw_g (lw_at lw_m5 168 rfl) rfl
theorem q1208 : (Jvm.Cond.methodLink "HamsterWeekends" (379 : Nat) ({ cls := "HamsterWeekends$Room", name := "hadSum", desc := "()I" } : Jvm.MethodName)) ∈ lw_all := lw_g (lw_at lw_m5 169 rfl) rfl
theorem q1212 : (Jvm.Cond.methodLink "HamsterWeekends" (382 : Nat) ({ cls := "java/util/Arrays", name := "fill", desc := "([II)V" } : Jvm.MethodName)) ∈ lw_all := lw_g (lw_at lw_m5 173 rfl) rfl
theorem q1216 : (Jvm.Cond.instanceMethod ({ cls := "HamsterWeekends", name := "seed", desc := "(I)I" } : Jvm.MethodName)) ∈ lw_all := lw_g (lw_at lw_m5 177 rfl) rfl
theorem q1217 : (Jvm.Cond.selects "HamsterWeekends" ({ cls := "HamsterWeekends", name := "seed", desc := "(I)I" } : Jvm.MethodName) ({ cls := "HamsterWeekends", name := "seed", desc := "(I)I" } : Jvm.MethodName)) ∈ lw_all := lw_g (lw_at lw_m5 178 rfl) rfl
theorem q1218 : (Jvm.Cond.code ({ cls := "HamsterWeekends", name := "seed", desc := "(I)I" } : Jvm.MethodName) prog_1_method_57_code (3 : Nat) (Option.some Jvm.ClassFile.FieldType.int)) ∈ lw_all := lw_g (lw_at lw_m5 179 rfl) rfl
theorem q1220 : (Jvm.Cond.instanceMethod ({ cls := "HamsterWeekends", name := "act", desc := "(III)I" } : Jvm.MethodName)) ∈ lw_all := lw_g (lw_at lw_m5 181 rfl) rfl
theorem q1221 : (Jvm.Cond.selects "HamsterWeekends" ({ cls := "HamsterWeekends", name := "act", desc := "(III)I" } : Jvm.MethodName) ({ cls := "HamsterWeekends", name := "act", desc := "(III)I" } : Jvm.MethodName)) ∈ lw_all := lw_g (lw_at lw_m5 182 rfl) rfl
theorem q1222 : (Jvm.Cond.code ({ cls := "HamsterWeekends", name := "act", desc := "(III)I" } : Jvm.MethodName) prog_1_method_58_code (5 : Nat) (Option.some Jvm.ClassFile.FieldType.int)) ∈ lw_all := lw_g (lw_at lw_m5 183 rfl) rfl
theorem q1223 : (Jvm.Cond.methodLink "HamsterWeekends" (395 : Nat) ({ cls := "HamsterWeekends$Home", name := "feeding", desc := "(ILHamsterWeekends$Trace;)I" } : Jvm.MethodName)) ∈ lw_all := lw_g (lw_at lw_m5 184 rfl) rfl
theorem q1250 : (Jvm.Cond.methodLink "HamsterWeekends" (399 : Nat) ({ cls := "HamsterWeekends$Home", name := "weighing", desc := "(ILHamsterWeekends$Trace;)I" } : Jvm.MethodName)) ∈ lw_all := lw_g (lw_at lw_m5 211 rfl) rfl
theorem q1276 : (Jvm.Cond.methodLink "HamsterWeekends" (402 : Nat) ({ cls := "HamsterWeekends$Home", name := "writing", desc := "(ILHamsterWeekends$Trace;)I" } : Jvm.MethodName)) ∈ lw_all := lw_g (lw_at lw_m5 237 rfl) rfl
theorem q1298 : (Jvm.Cond.instanceMethod ({ cls := "HamsterWeekends", name := "trace", desc := "(I)I" } : Jvm.MethodName)) ∈ lw_all := lw_g (lw_at lw_m6 19 rfl) rfl
theorem q1299 : (Jvm.Cond.selects "HamsterWeekends" ({ cls := "HamsterWeekends", name := "trace", desc := "(I)I" } : Jvm.MethodName) ({ cls := "HamsterWeekends", name := "trace", desc := "(I)I" } : Jvm.MethodName)) ∈ lw_all := lw_g (lw_at lw_m6 20 rfl) rfl
theorem q1300 : (Jvm.Cond.code ({ cls := "HamsterWeekends", name := "trace", desc := "(I)I" } : Jvm.MethodName) prog_1_method_59_code (2 : Nat) (Option.some Jvm.ClassFile.FieldType.int)) ∈ lw_all := lw_g (lw_at lw_m6 21 rfl) rfl
theorem q1302 : (Jvm.Cond.instanceMethod ({ cls := "HamsterWeekends", name := "image", desc := "()I" } : Jvm.MethodName)) ∈ lw_all := lw_g (lw_at lw_m6 23 rfl) rfl
theorem q1303 : (Jvm.Cond.selects "HamsterWeekends" ({ cls := "HamsterWeekends", name := "image", desc := "()I" } : Jvm.MethodName) ({ cls := "HamsterWeekends", name := "image", desc := "()I" } : Jvm.MethodName)) ∈ lw_all := lw_g (lw_at lw_m6 24 rfl) rfl
theorem q1304 : (Jvm.Cond.code ({ cls := "HamsterWeekends", name := "image", desc := "()I" } : Jvm.MethodName) prog_1_method_60_code (1 : Nat) (Option.some Jvm.ClassFile.FieldType.int)) ∈ lw_all := lw_g (lw_at lw_m6 25 rfl) rfl
theorem q1306 : (Jvm.Cond.instanceMethod ({ cls := "HamsterWeekends", name := "restore", desc := "()I" } : Jvm.MethodName)) ∈ lw_all := lw_g (lw_at lw_m6 27 rfl) rfl
theorem q1307 : (Jvm.Cond.selects "HamsterWeekends" ({ cls := "HamsterWeekends", name := "restore", desc := "()I" } : Jvm.MethodName) ({ cls := "HamsterWeekends", name := "restore", desc := "()I" } : Jvm.MethodName)) ∈ lw_all := lw_g (lw_at lw_m6 28 rfl) rfl
theorem q1308 : (Jvm.Cond.codeWith ({ cls := "HamsterWeekends", name := "restore", desc := "()I" } : Jvm.MethodName) prog_1_method_61_code (2 : Nat) (Option.some Jvm.ClassFile.FieldType.int) [((0 : Nat), (46 : Nat), (47 : Nat), (21 : Nat))]) ∈ lw_all := lw_g (lw_at lw_m6 29 rfl) rfl
theorem q1309 : (Jvm.Cond.methodLink "HamsterWeekends" (411 : Nat) ({ cls := "HamsterWeekends", name := "shelvesFollow", desc := "()V" } : Jvm.MethodName)) ∈ lw_all := lw_g (lw_at lw_m6 30 rfl) rfl
theorem q1310 : (Jvm.Cond.privateMethod ({ cls := "HamsterWeekends", name := "shelvesFollow", desc := "()V" } : Jvm.MethodName)) ∈ lw_tbl := lw_at lw_m6 31 rfl
theorem q1311 : (Jvm.Cond.instanceMethod ({ cls := "HamsterWeekends", name := "shelvesFollow", desc := "()V" } : Jvm.MethodName)) ∈ lw_all := lw_g (lw_at lw_m6 32 rfl) rfl
theorem q1312 : (Jvm.Cond.code ({ cls := "HamsterWeekends", name := "shelvesFollow", desc := "()V" } : Jvm.MethodName) prog_1_method_11_code (6 : Nat) (Option.none : Option Jvm.ClassFile.FieldType)) ∈ lw_all := lw_g (lw_at lw_m6 33 rfl) rfl
theorem q1314 : (Jvm.Cond.instanceMethod ({ cls := "HamsterWeekends", name := "status", desc := "(I)I" } : Jvm.MethodName)) ∈ lw_all := lw_g (lw_at lw_m6 35 rfl) rfl
theorem q1315 : (Jvm.Cond.selects "HamsterWeekends" ({ cls := "HamsterWeekends", name := "status", desc := "(I)I" } : Jvm.MethodName) ({ cls := "HamsterWeekends", name := "status", desc := "(I)I" } : Jvm.MethodName)) ∈ lw_all := lw_g (lw_at lw_m6 36 rfl) rfl
theorem q1316 : (Jvm.Cond.code ({ cls := "HamsterWeekends", name := "status", desc := "(I)I" } : Jvm.MethodName) prog_1_method_62_code (2 : Nat) (Option.some Jvm.ClassFile.FieldType.int)) ∈ lw_all := lw_g (lw_at lw_m6 37 rfl) rfl
theorem q1317 : (Jvm.Cond.constantLong "HamsterWeekends" (414 : Nat) (2 : Int64)) ∈ lw_all := lw_g (lw_at lw_m6 38 rfl) rfl
theorem q1318 : (Jvm.Cond.constantLong "HamsterWeekends" (416 : Nat) (7 : Int64)) ∈ lw_all := lw_g (lw_at lw_m6 39 rfl) rfl
theorem q1319 : (Jvm.Cond.constantLong "HamsterWeekends" (421 : Nat) (11 : Int64)) ∈ lw_all := lw_g (lw_at lw_m6 40 rfl) rfl
theorem q1320 : (Jvm.Cond.constantLong "HamsterWeekends" (423 : Nat) (17 : Int64)) ∈ lw_all := lw_g (lw_at lw_m6 41 rfl) rfl
theorem in_X0 : ∀ w ∈ wsX00, w ∈ lw_all := lw_in wsX00 [254, 256, 258, 260, 262, 264, 266, 268, 270, 272, 274, 276, 278, 280, 282, 284] (by decide +kernel) (by decide +kernel)
