/-! HamsterWeekendsModel -/
set_option maxRecDepth 100000
def RX5 : String := "HamsterWeekendsModel"
def TX5 : u_T := fun k => match k with
  | 0 => ("HamsterWeekendsModel", "many", "I", false)
  | 1 => ("HamsterWeekendsModel", "weight", "I", false)
  | 2 => ("HamsterWeekendsModel", "fright", "I", false)
  | 3 => ("HamsterWeekendsModel", "age", "I", false)
  | 4 => ("HamsterWeekendsModel", "pets", "I", false)
  | 5 => ("HamsterWeekendsModel", "feed", "I", false)
  | 6 => ("HamsterWeekendsModel", "life", "I", false)
  | 7 => ("HamsterWeekendsModel", "low", "I", false)
  | 8 => ("HamsterWeekendsModel", "last", "I", false)
  | 9 => ("HamsterWeekendsModel", "seed", "I", false)
  | 10 => ("HamsterWeekendsModel", "fault", "I", false)
  | 11 => ("HamsterWeekendsModel", "refused", "[I", true)
  | 12 => ("HamsterWeekendsModel", "kind", "[I", true)
  | 13 => ("HamsterWeekendsModel", "part", "[I", true)
  | 14 => ("HamsterWeekendsModel", "marks", "[I", true)
  | 15 => ("HamsterWeekendsModel", "ill", "[I", true)
  | 16 => ("HamsterWeekendsModel", "had", "[I", true)
  | 17 => ("HamsterWeekendsModel", "deaths", "[I", true)
  | 18 => ("HamsterWeekendsModel", "held", "[I", true)
  | 19 => ("HamsterWeekendsModel", "sort", "[I", true)
  | 20 => ("HamsterWeekendsModel", "size", "[I", true)
  | 21 => ("HamsterWeekendsModel", "shown", "[I", true)
  | 22 => ("HamsterWeekendsModel", "cells", "[J", true)
  | 23 => ("HamsterWeekendsModel", "carried", "[J", true)
  | 24 => ("HamsterWeekendsModel", "least", "[I", true)
  | 25 => ("HamsterWeekendsModel", "greatest", "[I", true)
  | 26 => ("HamsterWeekendsModel", "words", "[I", true)
  | 27 => ("HamsterWeekendsModel", "tell", "[I", true)
  | 28 => ("HamsterWeekendsModel", "base", "I", false)
  | 29 => ("HamsterWeekendsModel", "at", "I", false)
  | 30 => ("HamsterWeekendsModel", "end", "I", false)
  | 31 => ("HamsterWeekendsModel", "number", "I", false)
  | 32 => ("HamsterWeekendsModel", "wrongAt", "I", false)
  | 33 => ("HamsterWeekendsModel", "was", "[I", true)
  | 34 => ("HamsterWeekendsModel", "kept", "[I", true)
  | 35 => ("HamsterWeekendsModel", "heft", "I", false)
  | 36 => ("HamsterWeekendsModel", "alarm", "I", false)
  | 37 => ("HamsterWeekendsModel", "old", "I", false)
  | 38 => ("HamsterWeekendsModel", "died", "I", false)
  | 39 => ("HamsterWeekendsModel", "ofWhat", "I", false)
  | 40 => ("HamsterWeekendsModel", "heavy", "I", false)
  | 41 => ("HamsterWeekendsModel", "order", "[I", true)
  | 42 => ("HamsterWeekendsModel", "best", "[I", true)
  | 43 => ("HamsterWeekendsModel", "fewest", "I", false)
  | 44 => ("HamsterWeekendsModel", "leanest", "I", false)
  | 45 => ("HamsterWeekendsModel", "blamed", "[I", true)
  | 46 => ("HamsterWeekendsModel", "trace", "[I", true)
  | 47 => ("HamsterWeekendsModel", "ran", "I", false)
  | _ => ("HamsterWeekendsModel", "isKept", "Z", false)
def tyX5 : Nat → FieldType := fun k => match k with
  | 0 => .int
  | 1 => .int
  | 2 => .int
  | 3 => .int
  | 4 => .int
  | 5 => .int
  | 6 => .int
  | 7 => .int
  | 8 => .int
  | 9 => .int
  | 10 => .int
  | 11 => .array .int
  | 12 => .array .int
  | 13 => .array .int
  | 14 => .array .int
  | 15 => .array .int
  | 16 => .array .int
  | 17 => .array .int
  | 18 => .array .int
  | 19 => .array .int
  | 20 => .array .int
  | 21 => .array .int
  | 22 => .array .long
  | 23 => .array .long
  | 24 => .array .int
  | 25 => .array .int
  | 26 => .array .int
  | 27 => .array .int
  | 28 => .int
  | 29 => .int
  | 30 => .int
  | 31 => .int
  | 32 => .int
  | 33 => .array .int
  | 34 => .array .int
  | 35 => .int
  | 36 => .int
  | 37 => .int
  | 38 => .int
  | 39 => .int
  | 40 => .int
  | 41 => .array .int
  | 42 => .array .int
  | 43 => .int
  | 44 => .int
  | 45 => .array .int
  | 46 => .array .int
  | 47 => .int
  | _ => .boolean
abbrev wsX50 : List Cond := u_ws RX5 TX5 49
set_option maxRecDepth 100000 in
theorem nmX5 : ∀ a, a < 49 → ∀ b, b < 49 → a ≠ b → (TX5 a).2.1 ≠ (TX5 b).2.1 := by decide +kernel
set_option maxRecDepth 100000 in
theorem tyX5_ok : ∀ k, k < 49 → parseFieldDescriptor (TX5 k).2.2.1 = some (tyX5 k) := by decide +kernel
abbrev cX5_init : ByteArray := prog_22_method_1_code
def yX5_init : MethodName := ⟨RX5, "<init>", "()V"⟩
def dkwX5_init_28 : List UInt8 := [16, 8, 188, 10, 181, 0, 99, 42, 16, 20, 188, 10, 181, 0, 102, 177]
abbrev dktX5_init_28 : List UInt8 := dkwX5_init_28 ++ []
def dkwX5_init_27 : List UInt8 := [16, 60, 188, 10, 181, 0, 90, 42, 16, 6, 188, 10, 181, 0, 93, 42, 16, 6, 188, 10, 181, 0, 96, 42]
abbrev dktX5_init_27 : List UInt8 := dkwX5_init_27 ++ dktX5_init_28
def dkwX5_init_26 : List UInt8 := [16, 66, 3, 79, 181, 0, 81, 42, 5, 188, 10, 181, 0, 84, 42, 16, 60, 188, 10, 181, 0, 87, 42]
abbrev dktX5_init_26 : List UInt8 := dkwX5_init_26 ++ dktX5_init_27
def dkwX5_init_25 : List UInt8 := [16, 62, 16, 101, 79, 89, 16, 63, 16, 101, 79, 89, 16, 64, 16, 107, 79, 89, 16, 65, 16, 32, 79, 89]
abbrev dktX5_init_25 : List UInt8 := dkwX5_init_25 ++ dktX5_init_26
def dkwX5_init_24 : List UInt8 := [16, 58, 16, 119, 79, 89, 16, 59, 16, 32, 79, 89, 16, 60, 3, 79, 89, 16, 61, 16, 119, 79, 89]
abbrev dktX5_init_24 : List UInt8 := dkwX5_init_24 ++ dktX5_init_25
def dkwX5_init_23 : List UInt8 := [16, 54, 16, 32, 79, 89, 16, 55, 3, 79, 89, 16, 56, 16, 108, 79, 89, 16, 57, 16, 111, 79, 89]
abbrev dktX5_init_23 : List UInt8 := dkwX5_init_23 ++ dktX5_init_24
def dkwX5_init_22 : List UInt8 := [16, 50, 16, 108, 79, 89, 16, 51, 16, 105, 79, 89, 16, 52, 16, 102, 79, 89, 16, 53, 16, 101, 79, 89]
abbrev dktX5_init_22 : List UInt8 := dkwX5_init_22 ++ dktX5_init_23
def dkwX5_init_21 : List UInt8 := [16, 46, 16, 101, 79, 89, 16, 47, 16, 100, 79, 89, 16, 48, 16, 32, 79, 89, 16, 49, 3, 79, 89]
abbrev dktX5_init_21 : List UInt8 := dkwX5_init_21 ++ dktX5_init_22
def dkwX5_init_20 : List UInt8 := [16, 42, 16, 32, 79, 89, 16, 43, 3, 79, 89, 16, 44, 16, 102, 79, 89, 16, 45, 16, 101, 79, 89]
abbrev dktX5_init_20 : List UInt8 := dkwX5_init_20 ++ dktX5_init_21
def dkwX5_init_19 : List UInt8 := [16, 38, 3, 79, 89, 16, 39, 16, 97, 79, 89, 16, 40, 16, 103, 79, 89, 16, 41, 16, 101, 79, 89]
abbrev dktX5_init_19 : List UInt8 := dkwX5_init_19 ++ dktX5_init_20
def dkwX5_init_18 : List UInt8 := [16, 34, 16, 103, 79, 89, 16, 35, 16, 104, 79, 89, 16, 36, 16, 116, 79, 89, 16, 37, 16, 32, 79, 89]
abbrev dktX5_init_18 : List UInt8 := dkwX5_init_18 ++ dktX5_init_19
def dkwX5_init_17 : List UInt8 := [16, 30, 3, 79, 89, 16, 31, 16, 102, 79, 89, 16, 32, 16, 114, 79, 89, 16, 33, 16, 105, 79, 89]
abbrev dktX5_init_17 : List UInt8 := dkwX5_init_17 ++ dktX5_init_18
def dkwX5_init_16 : List UInt8 := [16, 26, 16, 103, 79, 89, 16, 27, 16, 104, 79, 89, 16, 28, 16, 116, 79, 89, 16, 29, 16, 32, 79, 89]
abbrev dktX5_init_16 : List UInt8 := dkwX5_init_16 ++ dktX5_init_17
def dkwX5_init_15 : List UInt8 := [16, 22, 3, 79, 89, 16, 23, 16, 119, 79, 89, 16, 24, 16, 101, 79, 89, 16, 25, 16, 105, 79, 89]
abbrev dktX5_init_15 : List UInt8 := dkwX5_init_15 ++ dktX5_init_16
def dkwX5_init_14 : List UInt8 := [16, 18, 16, 103, 79, 89, 16, 19, 16, 105, 79, 89, 16, 20, 16, 99, 79, 89, 16, 21, 16, 32, 79, 89]
abbrev dktX5_init_14 : List UInt8 := dkwX5_init_14 ++ dktX5_init_15
def dkwX5_init_13 : List UInt8 := [16, 14, 16, 108, 79, 89, 16, 15, 16, 108, 79, 89, 16, 16, 16, 101, 79, 89, 16, 17, 16, 114, 79, 89]
abbrev dktX5_init_13 : List UInt8 := dkwX5_init_13 ++ dktX5_init_14
def dkwX5_init_12 : List UInt8 := [16, 10, 16, 115, 79, 89, 16, 11, 16, 32, 79, 89, 16, 12, 3, 79, 89, 16, 13, 16, 97, 79, 89]
abbrev dktX5_init_12 : List UInt8 := dkwX5_init_12 ++ dktX5_init_13
def dkwX5_init_11 : List UInt8 := [16, 6, 16, 109, 79, 89, 16, 7, 16, 97, 79, 89, 16, 8, 16, 114, 79, 89, 16, 9, 16, 107, 79, 89]
abbrev dktX5_init_11 : List UInt8 := dkwX5_init_11 ++ dktX5_init_12
def dkwX5_init_10 : List UInt8 := [4, 16, 111, 79, 89, 5, 16, 109, 79, 89, 6, 16, 101, 79, 89, 7, 16, 32, 79, 89, 8, 3, 79, 89]
abbrev dktX5_init_10 : List UInt8 := dkwX5_init_10 ++ dktX5_init_11
def dkwX5_init_9 : List UInt8 := [17, 3, 231, 79, 89, 8, 17, 0, 200, 79, 181, 0, 78, 42, 16, 67, 188, 10, 89, 3, 16, 104, 79, 89]
abbrev dktX5_init_9 : List UInt8 := dkwX5_init_9 ++ dktX5_init_10
def dkwX5_init_8 : List UInt8 := [17, 1, 144, 79, 89, 4, 16, 99, 79, 89, 5, 17, 3, 231, 79, 89, 6, 16, 9, 79, 89, 7]
abbrev dktX5_init_8 : List UInt8 := dkwX5_init_8 ++ dktX5_init_9
def dkwX5_init_7 : List UInt8 := [3, 79, 89, 6, 3, 79, 89, 7, 4, 79, 89, 8, 3, 79, 181, 0, 75, 42, 16, 6, 188, 10, 89, 3]
abbrev dktX5_init_7 : List UInt8 := dkwX5_init_7 ++ dktX5_init_8
def dkwX5_init_6 : List UInt8 := [42, 17, 0, 160, 188, 11, 181, 0, 72, 42, 16, 6, 188, 10, 89, 3, 3, 79, 89, 4, 3, 79, 89, 5]
abbrev dktX5_init_6 : List UInt8 := dkwX5_init_6 ++ dktX5_init_7
def dkwX5_init_5 : List UInt8 := [16, 8, 188, 10, 181, 0, 62, 42, 16, 8, 188, 10, 181, 0, 65, 42, 17, 5, 0, 188, 11, 181, 0, 68]
abbrev dktX5_init_5 : List UInt8 := dkwX5_init_5 ++ dktX5_init_6
def dkwX5_init_4 : List UInt8 := [42, 6, 188, 10, 181, 0, 53, 42, 16, 8, 188, 10, 181, 0, 56, 42, 16, 8, 188, 10, 181, 0, 59, 42]
abbrev dktX5_init_4 : List UInt8 := dkwX5_init_4 ++ dktX5_init_5
def dkwX5_init_3 : List UInt8 := [42, 16, 8, 188, 10, 181, 0, 44, 42, 16, 8, 188, 10, 181, 0, 47, 42, 16, 8, 188, 10, 181, 0, 50]
abbrev dktX5_init_3 : List UInt8 := dkwX5_init_3 ++ dktX5_init_4
def dkwX5_init_2 : List UInt8 := [42, 16, 8, 188, 10, 181, 0, 34, 42, 16, 8, 188, 10, 181, 0, 38, 42, 16, 8, 188, 10, 181, 0, 41]
abbrev dktX5_init_2 : List UInt8 := dkwX5_init_2 ++ dktX5_init_3
def dkwX5_init_1 : List UInt8 := [181, 0, 19, 42, 16, 60, 181, 0, 22, 42, 2, 181, 0, 25, 42, 4, 181, 0, 28, 42, 2, 181, 0, 31]
abbrev dktX5_init_1 : List UInt8 := dkwX5_init_1 ++ dktX5_init_2
def dkwX5_init_0 : List UInt8 := [42, 183, 0, 1, 42, 16, 112, 181, 0, 7, 42, 4, 181, 0, 13, 42, 7, 181, 0, 16, 42, 16, 100]
abbrev dktX5_init_0 : List UInt8 := dkwX5_init_0 ++ dktX5_init_1
theorem dksX5_init_0 : cX5_init.data.toList.drop 0 = dktX5_init_0 := by decide +kernel
theorem dksX5_init_1 : cX5_init.data.toList.drop 23 = dktX5_init_1 := dk_seg dksX5_init_0 23 rfl rfl
theorem dksX5_init_2 : cX5_init.data.toList.drop 47 = dktX5_init_2 := dk_seg dksX5_init_1 24 rfl rfl
theorem dksX5_init_3 : cX5_init.data.toList.drop 71 = dktX5_init_3 := dk_seg dksX5_init_2 24 rfl rfl
theorem dksX5_init_4 : cX5_init.data.toList.drop 95 = dktX5_init_4 := dk_seg dksX5_init_3 24 rfl rfl
theorem dksX5_init_5 : cX5_init.data.toList.drop 119 = dktX5_init_5 := dk_seg dksX5_init_4 24 rfl rfl
theorem dksX5_init_6 : cX5_init.data.toList.drop 143 = dktX5_init_6 := dk_seg dksX5_init_5 24 rfl rfl
theorem dksX5_init_7 : cX5_init.data.toList.drop 167 = dktX5_init_7 := dk_seg dksX5_init_6 24 rfl rfl
theorem dksX5_init_8 : cX5_init.data.toList.drop 191 = dktX5_init_8 := dk_seg dksX5_init_7 24 rfl rfl
theorem dksX5_init_9 : cX5_init.data.toList.drop 213 = dktX5_init_9 := dk_seg dksX5_init_8 22 rfl rfl
theorem dksX5_init_10 : cX5_init.data.toList.drop 237 = dktX5_init_10 := dk_seg dksX5_init_9 24 rfl rfl
theorem dksX5_init_11 : cX5_init.data.toList.drop 261 = dktX5_init_11 := dk_seg dksX5_init_10 24 rfl rfl
theorem dksX5_init_12 : cX5_init.data.toList.drop 285 = dktX5_init_12 := dk_seg dksX5_init_11 24 rfl rfl
theorem dksX5_init_13 : cX5_init.data.toList.drop 308 = dktX5_init_13 := dk_seg dksX5_init_12 23 rfl rfl
theorem dksX5_init_14 : cX5_init.data.toList.drop 332 = dktX5_init_14 := dk_seg dksX5_init_13 24 rfl rfl
theorem dksX5_init_15 : cX5_init.data.toList.drop 356 = dktX5_init_15 := dk_seg dksX5_init_14 24 rfl rfl
theorem dksX5_init_16 : cX5_init.data.toList.drop 379 = dktX5_init_16 := dk_seg dksX5_init_15 23 rfl rfl
theorem dksX5_init_17 : cX5_init.data.toList.drop 403 = dktX5_init_17 := dk_seg dksX5_init_16 24 rfl rfl
theorem dksX5_init_18 : cX5_init.data.toList.drop 426 = dktX5_init_18 := dk_seg dksX5_init_17 23 rfl rfl
theorem dksX5_init_19 : cX5_init.data.toList.drop 450 = dktX5_init_19 := dk_seg dksX5_init_18 24 rfl rfl
theorem dksX5_init_20 : cX5_init.data.toList.drop 473 = dktX5_init_20 := dk_seg dksX5_init_19 23 rfl rfl
theorem dksX5_init_21 : cX5_init.data.toList.drop 496 = dktX5_init_21 := dk_seg dksX5_init_20 23 rfl rfl
theorem dksX5_init_22 : cX5_init.data.toList.drop 519 = dktX5_init_22 := dk_seg dksX5_init_21 23 rfl rfl
theorem dksX5_init_23 : cX5_init.data.toList.drop 543 = dktX5_init_23 := dk_seg dksX5_init_22 24 rfl rfl
theorem dksX5_init_24 : cX5_init.data.toList.drop 566 = dktX5_init_24 := dk_seg dksX5_init_23 23 rfl rfl
theorem dksX5_init_25 : cX5_init.data.toList.drop 589 = dktX5_init_25 := dk_seg dksX5_init_24 23 rfl rfl
theorem dksX5_init_26 : cX5_init.data.toList.drop 613 = dktX5_init_26 := dk_seg dksX5_init_25 24 rfl rfl
theorem dksX5_init_27 : cX5_init.data.toList.drop 636 = dktX5_init_27 := dk_seg dksX5_init_26 23 rfl rfl
theorem dksX5_init_28 : cX5_init.data.toList.drop 660 = dktX5_init_28 := dk_seg dksX5_init_27 24 rfl rfl
theorem dX5_init_0 : decode cX5_init 0 = .ok (.aload_n 0, 1) := dk_42 (dk_at dksX5_init_0 0 rfl rfl)
theorem dX5_init_1 : decode cX5_init 1 = .ok (.invokespecial 1, 3) := dk_183 0 1 (dk_at dksX5_init_0 1 rfl rfl)
theorem dX5_init_4 : decode cX5_init 4 = .ok (.aload_n 0, 1) := dk_42 (dk_at dksX5_init_0 4 rfl rfl)
theorem dX5_init_5 : decode cX5_init 5 = .ok (.bipush 112, 2) := dk_16 112 (dk_at dksX5_init_0 5 rfl rfl)
theorem dX5_init_7 : decode cX5_init 7 = .ok (.putfield 7, 3) := dk_181 0 7 (dk_at dksX5_init_0 7 rfl rfl)
theorem dX5_init_10 : decode cX5_init 10 = .ok (.aload_n 0, 1) := dk_42 (dk_at dksX5_init_0 10 rfl rfl)
theorem dX5_init_11 : decode cX5_init 11 = .ok (.iconst 1, 1) := dk_4 (dk_at dksX5_init_0 11 rfl rfl)
theorem dX5_init_12 : decode cX5_init 12 = .ok (.putfield 13, 3) := dk_181 0 13 (dk_at dksX5_init_0 12 rfl rfl)
theorem dX5_init_15 : decode cX5_init 15 = .ok (.aload_n 0, 1) := dk_42 (dk_at dksX5_init_0 15 rfl rfl)
theorem dX5_init_16 : decode cX5_init 16 = .ok (.iconst 4, 1) := dk_7 (dk_at dksX5_init_0 16 rfl rfl)
theorem dX5_init_17 : decode cX5_init 17 = .ok (.putfield 16, 3) := dk_181 0 16 (dk_at dksX5_init_0 17 rfl rfl)
theorem dX5_init_20 : decode cX5_init 20 = .ok (.aload_n 0, 1) := dk_42 (dk_at dksX5_init_0 20 rfl rfl)
theorem dX5_init_21 : decode cX5_init 21 = .ok (.bipush 100, 2) := dk_16 100 (dk_at dksX5_init_0 21 rfl rfl)
theorem dX5_init_23 : decode cX5_init 23 = .ok (.putfield 19, 3) := dk_181 0 19 (dk_at dksX5_init_1 0 rfl rfl)
theorem dX5_init_26 : decode cX5_init 26 = .ok (.aload_n 0, 1) := dk_42 (dk_at dksX5_init_1 3 rfl rfl)
theorem dX5_init_27 : decode cX5_init 27 = .ok (.bipush 60, 2) := dk_16 60 (dk_at dksX5_init_1 4 rfl rfl)
theorem dX5_init_29 : decode cX5_init 29 = .ok (.putfield 22, 3) := dk_181 0 22 (dk_at dksX5_init_1 6 rfl rfl)
theorem dX5_init_32 : decode cX5_init 32 = .ok (.aload_n 0, 1) := dk_42 (dk_at dksX5_init_1 9 rfl rfl)
theorem dX5_init_33 : decode cX5_init 33 = .ok (.iconst (-1), 1) := dk_2 (dk_at dksX5_init_1 10 rfl rfl)
theorem dX5_init_34 : decode cX5_init 34 = .ok (.putfield 25, 3) := dk_181 0 25 (dk_at dksX5_init_1 11 rfl rfl)
theorem dX5_init_37 : decode cX5_init 37 = .ok (.aload_n 0, 1) := dk_42 (dk_at dksX5_init_1 14 rfl rfl)
theorem dX5_init_38 : decode cX5_init 38 = .ok (.iconst 1, 1) := dk_4 (dk_at dksX5_init_1 15 rfl rfl)
theorem dX5_init_39 : decode cX5_init 39 = .ok (.putfield 28, 3) := dk_181 0 28 (dk_at dksX5_init_1 16 rfl rfl)
theorem dX5_init_42 : decode cX5_init 42 = .ok (.aload_n 0, 1) := dk_42 (dk_at dksX5_init_1 19 rfl rfl)
theorem dX5_init_43 : decode cX5_init 43 = .ok (.iconst (-1), 1) := dk_2 (dk_at dksX5_init_1 20 rfl rfl)
theorem dX5_init_44 : decode cX5_init 44 = .ok (.putfield 31, 3) := dk_181 0 31 (dk_at dksX5_init_1 21 rfl rfl)
theorem dX5_init_47 : decode cX5_init 47 = .ok (.aload_n 0, 1) := dk_42 (dk_at dksX5_init_2 0 rfl rfl)
theorem dX5_init_48 : decode cX5_init 48 = .ok (.bipush 8, 2) := dk_16 8 (dk_at dksX5_init_2 1 rfl rfl)
theorem dX5_init_50 : decode cX5_init 50 = .ok (.newarray .int, 2) := dk_188_10 (dk_at dksX5_init_2 3 rfl rfl)
theorem dX5_init_52 : decode cX5_init 52 = .ok (.putfield 34, 3) := dk_181 0 34 (dk_at dksX5_init_2 5 rfl rfl)
theorem dX5_init_55 : decode cX5_init 55 = .ok (.aload_n 0, 1) := dk_42 (dk_at dksX5_init_2 8 rfl rfl)
theorem dX5_init_56 : decode cX5_init 56 = .ok (.bipush 8, 2) := dk_16 8 (dk_at dksX5_init_2 9 rfl rfl)
theorem dX5_init_58 : decode cX5_init 58 = .ok (.newarray .int, 2) := dk_188_10 (dk_at dksX5_init_2 11 rfl rfl)
theorem dX5_init_60 : decode cX5_init 60 = .ok (.putfield 38, 3) := dk_181 0 38 (dk_at dksX5_init_2 13 rfl rfl)
theorem dX5_init_63 : decode cX5_init 63 = .ok (.aload_n 0, 1) := dk_42 (dk_at dksX5_init_2 16 rfl rfl)
theorem dX5_init_64 : decode cX5_init 64 = .ok (.bipush 8, 2) := dk_16 8 (dk_at dksX5_init_2 17 rfl rfl)
theorem dX5_init_66 : decode cX5_init 66 = .ok (.newarray .int, 2) := dk_188_10 (dk_at dksX5_init_2 19 rfl rfl)
theorem dX5_init_68 : decode cX5_init 68 = .ok (.putfield 41, 3) := dk_181 0 41 (dk_at dksX5_init_2 21 rfl rfl)
theorem dX5_init_71 : decode cX5_init 71 = .ok (.aload_n 0, 1) := dk_42 (dk_at dksX5_init_3 0 rfl rfl)
theorem dX5_init_72 : decode cX5_init 72 = .ok (.bipush 8, 2) := dk_16 8 (dk_at dksX5_init_3 1 rfl rfl)
theorem dX5_init_74 : decode cX5_init 74 = .ok (.newarray .int, 2) := dk_188_10 (dk_at dksX5_init_3 3 rfl rfl)
theorem dX5_init_76 : decode cX5_init 76 = .ok (.putfield 44, 3) := dk_181 0 44 (dk_at dksX5_init_3 5 rfl rfl)
theorem dX5_init_79 : decode cX5_init 79 = .ok (.aload_n 0, 1) := dk_42 (dk_at dksX5_init_3 8 rfl rfl)
theorem dX5_init_80 : decode cX5_init 80 = .ok (.bipush 8, 2) := dk_16 8 (dk_at dksX5_init_3 9 rfl rfl)
theorem dX5_init_82 : decode cX5_init 82 = .ok (.newarray .int, 2) := dk_188_10 (dk_at dksX5_init_3 11 rfl rfl)
theorem dX5_init_84 : decode cX5_init 84 = .ok (.putfield 47, 3) := dk_181 0 47 (dk_at dksX5_init_3 13 rfl rfl)
theorem dX5_init_87 : decode cX5_init 87 = .ok (.aload_n 0, 1) := dk_42 (dk_at dksX5_init_3 16 rfl rfl)
theorem dX5_init_88 : decode cX5_init 88 = .ok (.bipush 8, 2) := dk_16 8 (dk_at dksX5_init_3 17 rfl rfl)
theorem dX5_init_90 : decode cX5_init 90 = .ok (.newarray .int, 2) := dk_188_10 (dk_at dksX5_init_3 19 rfl rfl)
theorem dX5_init_92 : decode cX5_init 92 = .ok (.putfield 50, 3) := dk_181 0 50 (dk_at dksX5_init_3 21 rfl rfl)
theorem dX5_init_95 : decode cX5_init 95 = .ok (.aload_n 0, 1) := dk_42 (dk_at dksX5_init_4 0 rfl rfl)
theorem dX5_init_96 : decode cX5_init 96 = .ok (.iconst 3, 1) := dk_6 (dk_at dksX5_init_4 1 rfl rfl)
theorem dX5_init_97 : decode cX5_init 97 = .ok (.newarray .int, 2) := dk_188_10 (dk_at dksX5_init_4 2 rfl rfl)
theorem dX5_init_99 : decode cX5_init 99 = .ok (.putfield 53, 3) := dk_181 0 53 (dk_at dksX5_init_4 4 rfl rfl)
theorem dX5_init_102 : decode cX5_init 102 = .ok (.aload_n 0, 1) := dk_42 (dk_at dksX5_init_4 7 rfl rfl)
theorem dX5_init_103 : decode cX5_init 103 = .ok (.bipush 8, 2) := dk_16 8 (dk_at dksX5_init_4 8 rfl rfl)
theorem dX5_init_105 : decode cX5_init 105 = .ok (.newarray .int, 2) := dk_188_10 (dk_at dksX5_init_4 10 rfl rfl)
theorem dX5_init_107 : decode cX5_init 107 = .ok (.putfield 56, 3) := dk_181 0 56 (dk_at dksX5_init_4 12 rfl rfl)
theorem dX5_init_110 : decode cX5_init 110 = .ok (.aload_n 0, 1) := dk_42 (dk_at dksX5_init_4 15 rfl rfl)
theorem dX5_init_111 : decode cX5_init 111 = .ok (.bipush 8, 2) := dk_16 8 (dk_at dksX5_init_4 16 rfl rfl)
theorem dX5_init_113 : decode cX5_init 113 = .ok (.newarray .int, 2) := dk_188_10 (dk_at dksX5_init_4 18 rfl rfl)
theorem dX5_init_115 : decode cX5_init 115 = .ok (.putfield 59, 3) := dk_181 0 59 (dk_at dksX5_init_4 20 rfl rfl)
theorem dX5_init_118 : decode cX5_init 118 = .ok (.aload_n 0, 1) := dk_42 (dk_at dksX5_init_4 23 rfl rfl)
theorem dX5_init_119 : decode cX5_init 119 = .ok (.bipush 8, 2) := dk_16 8 (dk_at dksX5_init_5 0 rfl rfl)
theorem dX5_init_121 : decode cX5_init 121 = .ok (.newarray .int, 2) := dk_188_10 (dk_at dksX5_init_5 2 rfl rfl)
theorem dX5_init_123 : decode cX5_init 123 = .ok (.putfield 62, 3) := dk_181 0 62 (dk_at dksX5_init_5 4 rfl rfl)
theorem dX5_init_126 : decode cX5_init 126 = .ok (.aload_n 0, 1) := dk_42 (dk_at dksX5_init_5 7 rfl rfl)
theorem dX5_init_127 : decode cX5_init 127 = .ok (.bipush 8, 2) := dk_16 8 (dk_at dksX5_init_5 8 rfl rfl)
theorem dX5_init_129 : decode cX5_init 129 = .ok (.newarray .int, 2) := dk_188_10 (dk_at dksX5_init_5 10 rfl rfl)
theorem dX5_init_131 : decode cX5_init 131 = .ok (.putfield 65, 3) := dk_181 0 65 (dk_at dksX5_init_5 12 rfl rfl)
theorem dX5_init_134 : decode cX5_init 134 = .ok (.aload_n 0, 1) := dk_42 (dk_at dksX5_init_5 15 rfl rfl)
theorem dX5_init_135 : decode cX5_init 135 = .ok (.sipush 1280, 3) := dk_17 5 0 (dk_at dksX5_init_5 16 rfl rfl)
theorem dX5_init_138 : decode cX5_init 138 = .ok (.newarray .long, 2) := dk_188_11 (dk_at dksX5_init_5 19 rfl rfl)
theorem dX5_init_140 : decode cX5_init 140 = .ok (.putfield 68, 3) := dk_181 0 68 (dk_at dksX5_init_5 21 rfl rfl)
theorem dX5_init_143 : decode cX5_init 143 = .ok (.aload_n 0, 1) := dk_42 (dk_at dksX5_init_6 0 rfl rfl)
theorem dX5_init_144 : decode cX5_init 144 = .ok (.sipush 160, 3) := dk_17 0 160 (dk_at dksX5_init_6 1 rfl rfl)
theorem dX5_init_147 : decode cX5_init 147 = .ok (.newarray .long, 2) := dk_188_11 (dk_at dksX5_init_6 4 rfl rfl)
theorem dX5_init_149 : decode cX5_init 149 = .ok (.putfield 72, 3) := dk_181 0 72 (dk_at dksX5_init_6 6 rfl rfl)
theorem dX5_init_152 : decode cX5_init 152 = .ok (.aload_n 0, 1) := dk_42 (dk_at dksX5_init_6 9 rfl rfl)
theorem dX5_init_153 : decode cX5_init 153 = .ok (.bipush 6, 2) := dk_16 6 (dk_at dksX5_init_6 10 rfl rfl)
theorem dX5_init_155 : decode cX5_init 155 = .ok (.newarray .int, 2) := dk_188_10 (dk_at dksX5_init_6 12 rfl rfl)
theorem dX5_init_157 : decode cX5_init 157 = .ok (.dup, 1) := dk_89 (dk_at dksX5_init_6 14 rfl rfl)
theorem dX5_init_158 : decode cX5_init 158 = .ok (.iconst 0, 1) := dk_3 (dk_at dksX5_init_6 15 rfl rfl)
theorem dX5_init_159 : decode cX5_init 159 = .ok (.iconst 0, 1) := dk_3 (dk_at dksX5_init_6 16 rfl rfl)
theorem dX5_init_160 : decode cX5_init 160 = .ok (.iastore, 1) := dk_79 (dk_at dksX5_init_6 17 rfl rfl)
theorem dX5_init_161 : decode cX5_init 161 = .ok (.dup, 1) := dk_89 (dk_at dksX5_init_6 18 rfl rfl)
theorem dX5_init_162 : decode cX5_init 162 = .ok (.iconst 1, 1) := dk_4 (dk_at dksX5_init_6 19 rfl rfl)
theorem dX5_init_163 : decode cX5_init 163 = .ok (.iconst 0, 1) := dk_3 (dk_at dksX5_init_6 20 rfl rfl)
theorem dX5_init_164 : decode cX5_init 164 = .ok (.iastore, 1) := dk_79 (dk_at dksX5_init_6 21 rfl rfl)
theorem dX5_init_165 : decode cX5_init 165 = .ok (.dup, 1) := dk_89 (dk_at dksX5_init_6 22 rfl rfl)
theorem dX5_init_166 : decode cX5_init 166 = .ok (.iconst 2, 1) := dk_5 (dk_at dksX5_init_6 23 rfl rfl)
theorem dX5_init_167 : decode cX5_init 167 = .ok (.iconst 0, 1) := dk_3 (dk_at dksX5_init_7 0 rfl rfl)
theorem dX5_init_168 : decode cX5_init 168 = .ok (.iastore, 1) := dk_79 (dk_at dksX5_init_7 1 rfl rfl)
theorem dX5_init_169 : decode cX5_init 169 = .ok (.dup, 1) := dk_89 (dk_at dksX5_init_7 2 rfl rfl)
theorem dX5_init_170 : decode cX5_init 170 = .ok (.iconst 3, 1) := dk_6 (dk_at dksX5_init_7 3 rfl rfl)
theorem dX5_init_171 : decode cX5_init 171 = .ok (.iconst 0, 1) := dk_3 (dk_at dksX5_init_7 4 rfl rfl)
theorem dX5_init_172 : decode cX5_init 172 = .ok (.iastore, 1) := dk_79 (dk_at dksX5_init_7 5 rfl rfl)
theorem dX5_init_173 : decode cX5_init 173 = .ok (.dup, 1) := dk_89 (dk_at dksX5_init_7 6 rfl rfl)
theorem dX5_init_174 : decode cX5_init 174 = .ok (.iconst 4, 1) := dk_7 (dk_at dksX5_init_7 7 rfl rfl)
theorem dX5_init_175 : decode cX5_init 175 = .ok (.iconst 1, 1) := dk_4 (dk_at dksX5_init_7 8 rfl rfl)
theorem dX5_init_176 : decode cX5_init 176 = .ok (.iastore, 1) := dk_79 (dk_at dksX5_init_7 9 rfl rfl)
theorem dX5_init_177 : decode cX5_init 177 = .ok (.dup, 1) := dk_89 (dk_at dksX5_init_7 10 rfl rfl)
theorem dX5_init_178 : decode cX5_init 178 = .ok (.iconst 5, 1) := dk_8 (dk_at dksX5_init_7 11 rfl rfl)
theorem dX5_init_179 : decode cX5_init 179 = .ok (.iconst 0, 1) := dk_3 (dk_at dksX5_init_7 12 rfl rfl)
theorem dX5_init_180 : decode cX5_init 180 = .ok (.iastore, 1) := dk_79 (dk_at dksX5_init_7 13 rfl rfl)
theorem dX5_init_181 : decode cX5_init 181 = .ok (.putfield 75, 3) := dk_181 0 75 (dk_at dksX5_init_7 14 rfl rfl)
theorem dX5_init_184 : decode cX5_init 184 = .ok (.aload_n 0, 1) := dk_42 (dk_at dksX5_init_7 17 rfl rfl)
theorem dX5_init_185 : decode cX5_init 185 = .ok (.bipush 6, 2) := dk_16 6 (dk_at dksX5_init_7 18 rfl rfl)
theorem dX5_init_187 : decode cX5_init 187 = .ok (.newarray .int, 2) := dk_188_10 (dk_at dksX5_init_7 20 rfl rfl)
theorem dX5_init_189 : decode cX5_init 189 = .ok (.dup, 1) := dk_89 (dk_at dksX5_init_7 22 rfl rfl)
theorem dX5_init_190 : decode cX5_init 190 = .ok (.iconst 0, 1) := dk_3 (dk_at dksX5_init_7 23 rfl rfl)
theorem dX5_init_191 : decode cX5_init 191 = .ok (.sipush 400, 3) := dk_17 1 144 (dk_at dksX5_init_8 0 rfl rfl)
theorem dX5_init_194 : decode cX5_init 194 = .ok (.iastore, 1) := dk_79 (dk_at dksX5_init_8 3 rfl rfl)
theorem dX5_init_195 : decode cX5_init 195 = .ok (.dup, 1) := dk_89 (dk_at dksX5_init_8 4 rfl rfl)
theorem dX5_init_196 : decode cX5_init 196 = .ok (.iconst 1, 1) := dk_4 (dk_at dksX5_init_8 5 rfl rfl)
theorem dX5_init_197 : decode cX5_init 197 = .ok (.bipush 99, 2) := dk_16 99 (dk_at dksX5_init_8 6 rfl rfl)
theorem dX5_init_199 : decode cX5_init 199 = .ok (.iastore, 1) := dk_79 (dk_at dksX5_init_8 8 rfl rfl)
theorem dX5_init_200 : decode cX5_init 200 = .ok (.dup, 1) := dk_89 (dk_at dksX5_init_8 9 rfl rfl)
theorem dX5_init_201 : decode cX5_init 201 = .ok (.iconst 2, 1) := dk_5 (dk_at dksX5_init_8 10 rfl rfl)
theorem dX5_init_202 : decode cX5_init 202 = .ok (.sipush 999, 3) := dk_17 3 231 (dk_at dksX5_init_8 11 rfl rfl)
theorem dX5_init_205 : decode cX5_init 205 = .ok (.iastore, 1) := dk_79 (dk_at dksX5_init_8 14 rfl rfl)
theorem dX5_init_206 : decode cX5_init 206 = .ok (.dup, 1) := dk_89 (dk_at dksX5_init_8 15 rfl rfl)
theorem dX5_init_207 : decode cX5_init 207 = .ok (.iconst 3, 1) := dk_6 (dk_at dksX5_init_8 16 rfl rfl)
theorem dX5_init_208 : decode cX5_init 208 = .ok (.bipush 9, 2) := dk_16 9 (dk_at dksX5_init_8 17 rfl rfl)
theorem dX5_init_210 : decode cX5_init 210 = .ok (.iastore, 1) := dk_79 (dk_at dksX5_init_8 19 rfl rfl)
theorem dX5_init_211 : decode cX5_init 211 = .ok (.dup, 1) := dk_89 (dk_at dksX5_init_8 20 rfl rfl)
theorem dX5_init_212 : decode cX5_init 212 = .ok (.iconst 4, 1) := dk_7 (dk_at dksX5_init_8 21 rfl rfl)
theorem dX5_init_213 : decode cX5_init 213 = .ok (.sipush 999, 3) := dk_17 3 231 (dk_at dksX5_init_9 0 rfl rfl)
theorem dX5_init_216 : decode cX5_init 216 = .ok (.iastore, 1) := dk_79 (dk_at dksX5_init_9 3 rfl rfl)
theorem dX5_init_217 : decode cX5_init 217 = .ok (.dup, 1) := dk_89 (dk_at dksX5_init_9 4 rfl rfl)
theorem dX5_init_218 : decode cX5_init 218 = .ok (.iconst 5, 1) := dk_8 (dk_at dksX5_init_9 5 rfl rfl)
theorem dX5_init_219 : decode cX5_init 219 = .ok (.sipush 200, 3) := dk_17 0 200 (dk_at dksX5_init_9 6 rfl rfl)
theorem dX5_init_222 : decode cX5_init 222 = .ok (.iastore, 1) := dk_79 (dk_at dksX5_init_9 9 rfl rfl)
theorem dX5_init_223 : decode cX5_init 223 = .ok (.putfield 78, 3) := dk_181 0 78 (dk_at dksX5_init_9 10 rfl rfl)
theorem dX5_init_226 : decode cX5_init 226 = .ok (.aload_n 0, 1) := dk_42 (dk_at dksX5_init_9 13 rfl rfl)
theorem dX5_init_227 : decode cX5_init 227 = .ok (.bipush 67, 2) := dk_16 67 (dk_at dksX5_init_9 14 rfl rfl)
theorem dX5_init_229 : decode cX5_init 229 = .ok (.newarray .int, 2) := dk_188_10 (dk_at dksX5_init_9 16 rfl rfl)
theorem dX5_init_231 : decode cX5_init 231 = .ok (.dup, 1) := dk_89 (dk_at dksX5_init_9 18 rfl rfl)
theorem dX5_init_232 : decode cX5_init 232 = .ok (.iconst 0, 1) := dk_3 (dk_at dksX5_init_9 19 rfl rfl)
theorem dX5_init_233 : decode cX5_init 233 = .ok (.bipush 104, 2) := dk_16 104 (dk_at dksX5_init_9 20 rfl rfl)
theorem dX5_init_235 : decode cX5_init 235 = .ok (.iastore, 1) := dk_79 (dk_at dksX5_init_9 22 rfl rfl)
theorem dX5_init_236 : decode cX5_init 236 = .ok (.dup, 1) := dk_89 (dk_at dksX5_init_9 23 rfl rfl)
theorem dX5_init_237 : decode cX5_init 237 = .ok (.iconst 1, 1) := dk_4 (dk_at dksX5_init_10 0 rfl rfl)
theorem dX5_init_238 : decode cX5_init 238 = .ok (.bipush 111, 2) := dk_16 111 (dk_at dksX5_init_10 1 rfl rfl)
theorem dX5_init_240 : decode cX5_init 240 = .ok (.iastore, 1) := dk_79 (dk_at dksX5_init_10 3 rfl rfl)
theorem dX5_init_241 : decode cX5_init 241 = .ok (.dup, 1) := dk_89 (dk_at dksX5_init_10 4 rfl rfl)
theorem dX5_init_242 : decode cX5_init 242 = .ok (.iconst 2, 1) := dk_5 (dk_at dksX5_init_10 5 rfl rfl)
theorem dX5_init_243 : decode cX5_init 243 = .ok (.bipush 109, 2) := dk_16 109 (dk_at dksX5_init_10 6 rfl rfl)
theorem dX5_init_245 : decode cX5_init 245 = .ok (.iastore, 1) := dk_79 (dk_at dksX5_init_10 8 rfl rfl)
theorem dX5_init_246 : decode cX5_init 246 = .ok (.dup, 1) := dk_89 (dk_at dksX5_init_10 9 rfl rfl)
theorem dX5_init_247 : decode cX5_init 247 = .ok (.iconst 3, 1) := dk_6 (dk_at dksX5_init_10 10 rfl rfl)
theorem dX5_init_248 : decode cX5_init 248 = .ok (.bipush 101, 2) := dk_16 101 (dk_at dksX5_init_10 11 rfl rfl)
theorem dX5_init_250 : decode cX5_init 250 = .ok (.iastore, 1) := dk_79 (dk_at dksX5_init_10 13 rfl rfl)
theorem dX5_init_251 : decode cX5_init 251 = .ok (.dup, 1) := dk_89 (dk_at dksX5_init_10 14 rfl rfl)
theorem dX5_init_252 : decode cX5_init 252 = .ok (.iconst 4, 1) := dk_7 (dk_at dksX5_init_10 15 rfl rfl)
theorem dX5_init_253 : decode cX5_init 253 = .ok (.bipush 32, 2) := dk_16 32 (dk_at dksX5_init_10 16 rfl rfl)
theorem dX5_init_255 : decode cX5_init 255 = .ok (.iastore, 1) := dk_79 (dk_at dksX5_init_10 18 rfl rfl)
theorem dX5_init_256 : decode cX5_init 256 = .ok (.dup, 1) := dk_89 (dk_at dksX5_init_10 19 rfl rfl)
theorem dX5_init_257 : decode cX5_init 257 = .ok (.iconst 5, 1) := dk_8 (dk_at dksX5_init_10 20 rfl rfl)
theorem dX5_init_258 : decode cX5_init 258 = .ok (.iconst 0, 1) := dk_3 (dk_at dksX5_init_10 21 rfl rfl)
theorem dX5_init_259 : decode cX5_init 259 = .ok (.iastore, 1) := dk_79 (dk_at dksX5_init_10 22 rfl rfl)
theorem dX5_init_260 : decode cX5_init 260 = .ok (.dup, 1) := dk_89 (dk_at dksX5_init_10 23 rfl rfl)
theorem dX5_init_261 : decode cX5_init 261 = .ok (.bipush 6, 2) := dk_16 6 (dk_at dksX5_init_11 0 rfl rfl)
theorem dX5_init_263 : decode cX5_init 263 = .ok (.bipush 109, 2) := dk_16 109 (dk_at dksX5_init_11 2 rfl rfl)
theorem dX5_init_265 : decode cX5_init 265 = .ok (.iastore, 1) := dk_79 (dk_at dksX5_init_11 4 rfl rfl)
theorem dX5_init_266 : decode cX5_init 266 = .ok (.dup, 1) := dk_89 (dk_at dksX5_init_11 5 rfl rfl)
theorem dX5_init_267 : decode cX5_init 267 = .ok (.bipush 7, 2) := dk_16 7 (dk_at dksX5_init_11 6 rfl rfl)
theorem dX5_init_269 : decode cX5_init 269 = .ok (.bipush 97, 2) := dk_16 97 (dk_at dksX5_init_11 8 rfl rfl)
theorem dX5_init_271 : decode cX5_init 271 = .ok (.iastore, 1) := dk_79 (dk_at dksX5_init_11 10 rfl rfl)
theorem dX5_init_272 : decode cX5_init 272 = .ok (.dup, 1) := dk_89 (dk_at dksX5_init_11 11 rfl rfl)
theorem dX5_init_273 : decode cX5_init 273 = .ok (.bipush 8, 2) := dk_16 8 (dk_at dksX5_init_11 12 rfl rfl)
theorem dX5_init_275 : decode cX5_init 275 = .ok (.bipush 114, 2) := dk_16 114 (dk_at dksX5_init_11 14 rfl rfl)
theorem dX5_init_277 : decode cX5_init 277 = .ok (.iastore, 1) := dk_79 (dk_at dksX5_init_11 16 rfl rfl)
theorem dX5_init_278 : decode cX5_init 278 = .ok (.dup, 1) := dk_89 (dk_at dksX5_init_11 17 rfl rfl)
theorem dX5_init_279 : decode cX5_init 279 = .ok (.bipush 9, 2) := dk_16 9 (dk_at dksX5_init_11 18 rfl rfl)
theorem dX5_init_281 : decode cX5_init 281 = .ok (.bipush 107, 2) := dk_16 107 (dk_at dksX5_init_11 20 rfl rfl)
theorem dX5_init_283 : decode cX5_init 283 = .ok (.iastore, 1) := dk_79 (dk_at dksX5_init_11 22 rfl rfl)
theorem dX5_init_284 : decode cX5_init 284 = .ok (.dup, 1) := dk_89 (dk_at dksX5_init_11 23 rfl rfl)
theorem dX5_init_285 : decode cX5_init 285 = .ok (.bipush 10, 2) := dk_16 10 (dk_at dksX5_init_12 0 rfl rfl)
theorem dX5_init_287 : decode cX5_init 287 = .ok (.bipush 115, 2) := dk_16 115 (dk_at dksX5_init_12 2 rfl rfl)
theorem dX5_init_289 : decode cX5_init 289 = .ok (.iastore, 1) := dk_79 (dk_at dksX5_init_12 4 rfl rfl)
theorem dX5_init_290 : decode cX5_init 290 = .ok (.dup, 1) := dk_89 (dk_at dksX5_init_12 5 rfl rfl)
theorem dX5_init_291 : decode cX5_init 291 = .ok (.bipush 11, 2) := dk_16 11 (dk_at dksX5_init_12 6 rfl rfl)
theorem dX5_init_293 : decode cX5_init 293 = .ok (.bipush 32, 2) := dk_16 32 (dk_at dksX5_init_12 8 rfl rfl)
theorem dX5_init_295 : decode cX5_init 295 = .ok (.iastore, 1) := dk_79 (dk_at dksX5_init_12 10 rfl rfl)
theorem dX5_init_296 : decode cX5_init 296 = .ok (.dup, 1) := dk_89 (dk_at dksX5_init_12 11 rfl rfl)
theorem dX5_init_297 : decode cX5_init 297 = .ok (.bipush 12, 2) := dk_16 12 (dk_at dksX5_init_12 12 rfl rfl)
theorem dX5_init_299 : decode cX5_init 299 = .ok (.iconst 0, 1) := dk_3 (dk_at dksX5_init_12 14 rfl rfl)
theorem dX5_init_300 : decode cX5_init 300 = .ok (.iastore, 1) := dk_79 (dk_at dksX5_init_12 15 rfl rfl)
theorem dX5_init_301 : decode cX5_init 301 = .ok (.dup, 1) := dk_89 (dk_at dksX5_init_12 16 rfl rfl)
theorem dX5_init_302 : decode cX5_init 302 = .ok (.bipush 13, 2) := dk_16 13 (dk_at dksX5_init_12 17 rfl rfl)
theorem dX5_init_304 : decode cX5_init 304 = .ok (.bipush 97, 2) := dk_16 97 (dk_at dksX5_init_12 19 rfl rfl)
theorem dX5_init_306 : decode cX5_init 306 = .ok (.iastore, 1) := dk_79 (dk_at dksX5_init_12 21 rfl rfl)
theorem dX5_init_307 : decode cX5_init 307 = .ok (.dup, 1) := dk_89 (dk_at dksX5_init_12 22 rfl rfl)
theorem dX5_init_308 : decode cX5_init 308 = .ok (.bipush 14, 2) := dk_16 14 (dk_at dksX5_init_13 0 rfl rfl)
theorem dX5_init_310 : decode cX5_init 310 = .ok (.bipush 108, 2) := dk_16 108 (dk_at dksX5_init_13 2 rfl rfl)
theorem dX5_init_312 : decode cX5_init 312 = .ok (.iastore, 1) := dk_79 (dk_at dksX5_init_13 4 rfl rfl)
theorem dX5_init_313 : decode cX5_init 313 = .ok (.dup, 1) := dk_89 (dk_at dksX5_init_13 5 rfl rfl)
theorem dX5_init_314 : decode cX5_init 314 = .ok (.bipush 15, 2) := dk_16 15 (dk_at dksX5_init_13 6 rfl rfl)
theorem dX5_init_316 : decode cX5_init 316 = .ok (.bipush 108, 2) := dk_16 108 (dk_at dksX5_init_13 8 rfl rfl)
theorem dX5_init_318 : decode cX5_init 318 = .ok (.iastore, 1) := dk_79 (dk_at dksX5_init_13 10 rfl rfl)
theorem dX5_init_319 : decode cX5_init 319 = .ok (.dup, 1) := dk_89 (dk_at dksX5_init_13 11 rfl rfl)
theorem dX5_init_320 : decode cX5_init 320 = .ok (.bipush 16, 2) := dk_16 16 (dk_at dksX5_init_13 12 rfl rfl)
theorem dX5_init_322 : decode cX5_init 322 = .ok (.bipush 101, 2) := dk_16 101 (dk_at dksX5_init_13 14 rfl rfl)
theorem dX5_init_324 : decode cX5_init 324 = .ok (.iastore, 1) := dk_79 (dk_at dksX5_init_13 16 rfl rfl)
theorem dX5_init_325 : decode cX5_init 325 = .ok (.dup, 1) := dk_89 (dk_at dksX5_init_13 17 rfl rfl)
theorem dX5_init_326 : decode cX5_init 326 = .ok (.bipush 17, 2) := dk_16 17 (dk_at dksX5_init_13 18 rfl rfl)
theorem dX5_init_328 : decode cX5_init 328 = .ok (.bipush 114, 2) := dk_16 114 (dk_at dksX5_init_13 20 rfl rfl)
theorem dX5_init_330 : decode cX5_init 330 = .ok (.iastore, 1) := dk_79 (dk_at dksX5_init_13 22 rfl rfl)
theorem dX5_init_331 : decode cX5_init 331 = .ok (.dup, 1) := dk_89 (dk_at dksX5_init_13 23 rfl rfl)
theorem dX5_init_332 : decode cX5_init 332 = .ok (.bipush 18, 2) := dk_16 18 (dk_at dksX5_init_14 0 rfl rfl)
theorem dX5_init_334 : decode cX5_init 334 = .ok (.bipush 103, 2) := dk_16 103 (dk_at dksX5_init_14 2 rfl rfl)
theorem dX5_init_336 : decode cX5_init 336 = .ok (.iastore, 1) := dk_79 (dk_at dksX5_init_14 4 rfl rfl)
theorem dX5_init_337 : decode cX5_init 337 = .ok (.dup, 1) := dk_89 (dk_at dksX5_init_14 5 rfl rfl)
theorem dX5_init_338 : decode cX5_init 338 = .ok (.bipush 19, 2) := dk_16 19 (dk_at dksX5_init_14 6 rfl rfl)
theorem dX5_init_340 : decode cX5_init 340 = .ok (.bipush 105, 2) := dk_16 105 (dk_at dksX5_init_14 8 rfl rfl)
theorem dX5_init_342 : decode cX5_init 342 = .ok (.iastore, 1) := dk_79 (dk_at dksX5_init_14 10 rfl rfl)
theorem dX5_init_343 : decode cX5_init 343 = .ok (.dup, 1) := dk_89 (dk_at dksX5_init_14 11 rfl rfl)
theorem dX5_init_344 : decode cX5_init 344 = .ok (.bipush 20, 2) := dk_16 20 (dk_at dksX5_init_14 12 rfl rfl)
theorem dX5_init_346 : decode cX5_init 346 = .ok (.bipush 99, 2) := dk_16 99 (dk_at dksX5_init_14 14 rfl rfl)
theorem dX5_init_348 : decode cX5_init 348 = .ok (.iastore, 1) := dk_79 (dk_at dksX5_init_14 16 rfl rfl)
theorem dX5_init_349 : decode cX5_init 349 = .ok (.dup, 1) := dk_89 (dk_at dksX5_init_14 17 rfl rfl)
theorem dX5_init_350 : decode cX5_init 350 = .ok (.bipush 21, 2) := dk_16 21 (dk_at dksX5_init_14 18 rfl rfl)
theorem dX5_init_352 : decode cX5_init 352 = .ok (.bipush 32, 2) := dk_16 32 (dk_at dksX5_init_14 20 rfl rfl)
theorem dX5_init_354 : decode cX5_init 354 = .ok (.iastore, 1) := dk_79 (dk_at dksX5_init_14 22 rfl rfl)
theorem dX5_init_355 : decode cX5_init 355 = .ok (.dup, 1) := dk_89 (dk_at dksX5_init_14 23 rfl rfl)
theorem dX5_init_356 : decode cX5_init 356 = .ok (.bipush 22, 2) := dk_16 22 (dk_at dksX5_init_15 0 rfl rfl)
theorem dX5_init_358 : decode cX5_init 358 = .ok (.iconst 0, 1) := dk_3 (dk_at dksX5_init_15 2 rfl rfl)
theorem dX5_init_359 : decode cX5_init 359 = .ok (.iastore, 1) := dk_79 (dk_at dksX5_init_15 3 rfl rfl)
theorem dX5_init_360 : decode cX5_init 360 = .ok (.dup, 1) := dk_89 (dk_at dksX5_init_15 4 rfl rfl)
theorem dX5_init_361 : decode cX5_init 361 = .ok (.bipush 23, 2) := dk_16 23 (dk_at dksX5_init_15 5 rfl rfl)
theorem dX5_init_363 : decode cX5_init 363 = .ok (.bipush 119, 2) := dk_16 119 (dk_at dksX5_init_15 7 rfl rfl)
theorem dX5_init_365 : decode cX5_init 365 = .ok (.iastore, 1) := dk_79 (dk_at dksX5_init_15 9 rfl rfl)
theorem dX5_init_366 : decode cX5_init 366 = .ok (.dup, 1) := dk_89 (dk_at dksX5_init_15 10 rfl rfl)
theorem dX5_init_367 : decode cX5_init 367 = .ok (.bipush 24, 2) := dk_16 24 (dk_at dksX5_init_15 11 rfl rfl)
theorem dX5_init_369 : decode cX5_init 369 = .ok (.bipush 101, 2) := dk_16 101 (dk_at dksX5_init_15 13 rfl rfl)
theorem dX5_init_371 : decode cX5_init 371 = .ok (.iastore, 1) := dk_79 (dk_at dksX5_init_15 15 rfl rfl)
theorem dX5_init_372 : decode cX5_init 372 = .ok (.dup, 1) := dk_89 (dk_at dksX5_init_15 16 rfl rfl)
theorem dX5_init_373 : decode cX5_init 373 = .ok (.bipush 25, 2) := dk_16 25 (dk_at dksX5_init_15 17 rfl rfl)
theorem dX5_init_375 : decode cX5_init 375 = .ok (.bipush 105, 2) := dk_16 105 (dk_at dksX5_init_15 19 rfl rfl)
theorem dX5_init_377 : decode cX5_init 377 = .ok (.iastore, 1) := dk_79 (dk_at dksX5_init_15 21 rfl rfl)
theorem dX5_init_378 : decode cX5_init 378 = .ok (.dup, 1) := dk_89 (dk_at dksX5_init_15 22 rfl rfl)
theorem dX5_init_379 : decode cX5_init 379 = .ok (.bipush 26, 2) := dk_16 26 (dk_at dksX5_init_16 0 rfl rfl)
theorem dX5_init_381 : decode cX5_init 381 = .ok (.bipush 103, 2) := dk_16 103 (dk_at dksX5_init_16 2 rfl rfl)
theorem dX5_init_383 : decode cX5_init 383 = .ok (.iastore, 1) := dk_79 (dk_at dksX5_init_16 4 rfl rfl)
theorem dX5_init_384 : decode cX5_init 384 = .ok (.dup, 1) := dk_89 (dk_at dksX5_init_16 5 rfl rfl)
theorem dX5_init_385 : decode cX5_init 385 = .ok (.bipush 27, 2) := dk_16 27 (dk_at dksX5_init_16 6 rfl rfl)
theorem dX5_init_387 : decode cX5_init 387 = .ok (.bipush 104, 2) := dk_16 104 (dk_at dksX5_init_16 8 rfl rfl)
theorem dX5_init_389 : decode cX5_init 389 = .ok (.iastore, 1) := dk_79 (dk_at dksX5_init_16 10 rfl rfl)
theorem dX5_init_390 : decode cX5_init 390 = .ok (.dup, 1) := dk_89 (dk_at dksX5_init_16 11 rfl rfl)
theorem dX5_init_391 : decode cX5_init 391 = .ok (.bipush 28, 2) := dk_16 28 (dk_at dksX5_init_16 12 rfl rfl)
theorem dX5_init_393 : decode cX5_init 393 = .ok (.bipush 116, 2) := dk_16 116 (dk_at dksX5_init_16 14 rfl rfl)
theorem dX5_init_395 : decode cX5_init 395 = .ok (.iastore, 1) := dk_79 (dk_at dksX5_init_16 16 rfl rfl)
theorem dX5_init_396 : decode cX5_init 396 = .ok (.dup, 1) := dk_89 (dk_at dksX5_init_16 17 rfl rfl)
theorem dX5_init_397 : decode cX5_init 397 = .ok (.bipush 29, 2) := dk_16 29 (dk_at dksX5_init_16 18 rfl rfl)
theorem dX5_init_399 : decode cX5_init 399 = .ok (.bipush 32, 2) := dk_16 32 (dk_at dksX5_init_16 20 rfl rfl)
theorem dX5_init_401 : decode cX5_init 401 = .ok (.iastore, 1) := dk_79 (dk_at dksX5_init_16 22 rfl rfl)
theorem dX5_init_402 : decode cX5_init 402 = .ok (.dup, 1) := dk_89 (dk_at dksX5_init_16 23 rfl rfl)
theorem dX5_init_403 : decode cX5_init 403 = .ok (.bipush 30, 2) := dk_16 30 (dk_at dksX5_init_17 0 rfl rfl)
theorem dX5_init_405 : decode cX5_init 405 = .ok (.iconst 0, 1) := dk_3 (dk_at dksX5_init_17 2 rfl rfl)
theorem dX5_init_406 : decode cX5_init 406 = .ok (.iastore, 1) := dk_79 (dk_at dksX5_init_17 3 rfl rfl)
theorem dX5_init_407 : decode cX5_init 407 = .ok (.dup, 1) := dk_89 (dk_at dksX5_init_17 4 rfl rfl)
theorem dX5_init_408 : decode cX5_init 408 = .ok (.bipush 31, 2) := dk_16 31 (dk_at dksX5_init_17 5 rfl rfl)
theorem dX5_init_410 : decode cX5_init 410 = .ok (.bipush 102, 2) := dk_16 102 (dk_at dksX5_init_17 7 rfl rfl)
theorem dX5_init_412 : decode cX5_init 412 = .ok (.iastore, 1) := dk_79 (dk_at dksX5_init_17 9 rfl rfl)
theorem dX5_init_413 : decode cX5_init 413 = .ok (.dup, 1) := dk_89 (dk_at dksX5_init_17 10 rfl rfl)
theorem dX5_init_414 : decode cX5_init 414 = .ok (.bipush 32, 2) := dk_16 32 (dk_at dksX5_init_17 11 rfl rfl)
theorem dX5_init_416 : decode cX5_init 416 = .ok (.bipush 114, 2) := dk_16 114 (dk_at dksX5_init_17 13 rfl rfl)
theorem dX5_init_418 : decode cX5_init 418 = .ok (.iastore, 1) := dk_79 (dk_at dksX5_init_17 15 rfl rfl)
theorem dX5_init_419 : decode cX5_init 419 = .ok (.dup, 1) := dk_89 (dk_at dksX5_init_17 16 rfl rfl)
theorem dX5_init_420 : decode cX5_init 420 = .ok (.bipush 33, 2) := dk_16 33 (dk_at dksX5_init_17 17 rfl rfl)
theorem dX5_init_422 : decode cX5_init 422 = .ok (.bipush 105, 2) := dk_16 105 (dk_at dksX5_init_17 19 rfl rfl)
theorem dX5_init_424 : decode cX5_init 424 = .ok (.iastore, 1) := dk_79 (dk_at dksX5_init_17 21 rfl rfl)
theorem dX5_init_425 : decode cX5_init 425 = .ok (.dup, 1) := dk_89 (dk_at dksX5_init_17 22 rfl rfl)
theorem dX5_init_426 : decode cX5_init 426 = .ok (.bipush 34, 2) := dk_16 34 (dk_at dksX5_init_18 0 rfl rfl)
theorem dX5_init_428 : decode cX5_init 428 = .ok (.bipush 103, 2) := dk_16 103 (dk_at dksX5_init_18 2 rfl rfl)
theorem dX5_init_430 : decode cX5_init 430 = .ok (.iastore, 1) := dk_79 (dk_at dksX5_init_18 4 rfl rfl)
theorem dX5_init_431 : decode cX5_init 431 = .ok (.dup, 1) := dk_89 (dk_at dksX5_init_18 5 rfl rfl)
theorem dX5_init_432 : decode cX5_init 432 = .ok (.bipush 35, 2) := dk_16 35 (dk_at dksX5_init_18 6 rfl rfl)
theorem dX5_init_434 : decode cX5_init 434 = .ok (.bipush 104, 2) := dk_16 104 (dk_at dksX5_init_18 8 rfl rfl)
theorem dX5_init_436 : decode cX5_init 436 = .ok (.iastore, 1) := dk_79 (dk_at dksX5_init_18 10 rfl rfl)
theorem dX5_init_437 : decode cX5_init 437 = .ok (.dup, 1) := dk_89 (dk_at dksX5_init_18 11 rfl rfl)
theorem dX5_init_438 : decode cX5_init 438 = .ok (.bipush 36, 2) := dk_16 36 (dk_at dksX5_init_18 12 rfl rfl)
theorem dX5_init_440 : decode cX5_init 440 = .ok (.bipush 116, 2) := dk_16 116 (dk_at dksX5_init_18 14 rfl rfl)
theorem dX5_init_442 : decode cX5_init 442 = .ok (.iastore, 1) := dk_79 (dk_at dksX5_init_18 16 rfl rfl)
theorem dX5_init_443 : decode cX5_init 443 = .ok (.dup, 1) := dk_89 (dk_at dksX5_init_18 17 rfl rfl)
theorem dX5_init_444 : decode cX5_init 444 = .ok (.bipush 37, 2) := dk_16 37 (dk_at dksX5_init_18 18 rfl rfl)
theorem dX5_init_446 : decode cX5_init 446 = .ok (.bipush 32, 2) := dk_16 32 (dk_at dksX5_init_18 20 rfl rfl)
theorem dX5_init_448 : decode cX5_init 448 = .ok (.iastore, 1) := dk_79 (dk_at dksX5_init_18 22 rfl rfl)
theorem dX5_init_449 : decode cX5_init 449 = .ok (.dup, 1) := dk_89 (dk_at dksX5_init_18 23 rfl rfl)
theorem dX5_init_450 : decode cX5_init 450 = .ok (.bipush 38, 2) := dk_16 38 (dk_at dksX5_init_19 0 rfl rfl)
theorem dX5_init_452 : decode cX5_init 452 = .ok (.iconst 0, 1) := dk_3 (dk_at dksX5_init_19 2 rfl rfl)
theorem dX5_init_453 : decode cX5_init 453 = .ok (.iastore, 1) := dk_79 (dk_at dksX5_init_19 3 rfl rfl)
theorem dX5_init_454 : decode cX5_init 454 = .ok (.dup, 1) := dk_89 (dk_at dksX5_init_19 4 rfl rfl)
theorem dX5_init_455 : decode cX5_init 455 = .ok (.bipush 39, 2) := dk_16 39 (dk_at dksX5_init_19 5 rfl rfl)
theorem dX5_init_457 : decode cX5_init 457 = .ok (.bipush 97, 2) := dk_16 97 (dk_at dksX5_init_19 7 rfl rfl)
theorem dX5_init_459 : decode cX5_init 459 = .ok (.iastore, 1) := dk_79 (dk_at dksX5_init_19 9 rfl rfl)
theorem dX5_init_460 : decode cX5_init 460 = .ok (.dup, 1) := dk_89 (dk_at dksX5_init_19 10 rfl rfl)
theorem dX5_init_461 : decode cX5_init 461 = .ok (.bipush 40, 2) := dk_16 40 (dk_at dksX5_init_19 11 rfl rfl)
theorem dX5_init_463 : decode cX5_init 463 = .ok (.bipush 103, 2) := dk_16 103 (dk_at dksX5_init_19 13 rfl rfl)
theorem dX5_init_465 : decode cX5_init 465 = .ok (.iastore, 1) := dk_79 (dk_at dksX5_init_19 15 rfl rfl)
theorem dX5_init_466 : decode cX5_init 466 = .ok (.dup, 1) := dk_89 (dk_at dksX5_init_19 16 rfl rfl)
theorem dX5_init_467 : decode cX5_init 467 = .ok (.bipush 41, 2) := dk_16 41 (dk_at dksX5_init_19 17 rfl rfl)
theorem dX5_init_469 : decode cX5_init 469 = .ok (.bipush 101, 2) := dk_16 101 (dk_at dksX5_init_19 19 rfl rfl)
theorem dX5_init_471 : decode cX5_init 471 = .ok (.iastore, 1) := dk_79 (dk_at dksX5_init_19 21 rfl rfl)
theorem dX5_init_472 : decode cX5_init 472 = .ok (.dup, 1) := dk_89 (dk_at dksX5_init_19 22 rfl rfl)
theorem dX5_init_473 : decode cX5_init 473 = .ok (.bipush 42, 2) := dk_16 42 (dk_at dksX5_init_20 0 rfl rfl)
theorem dX5_init_475 : decode cX5_init 475 = .ok (.bipush 32, 2) := dk_16 32 (dk_at dksX5_init_20 2 rfl rfl)
theorem dX5_init_477 : decode cX5_init 477 = .ok (.iastore, 1) := dk_79 (dk_at dksX5_init_20 4 rfl rfl)
theorem dX5_init_478 : decode cX5_init 478 = .ok (.dup, 1) := dk_89 (dk_at dksX5_init_20 5 rfl rfl)
theorem dX5_init_479 : decode cX5_init 479 = .ok (.bipush 43, 2) := dk_16 43 (dk_at dksX5_init_20 6 rfl rfl)
theorem dX5_init_481 : decode cX5_init 481 = .ok (.iconst 0, 1) := dk_3 (dk_at dksX5_init_20 8 rfl rfl)
theorem dX5_init_482 : decode cX5_init 482 = .ok (.iastore, 1) := dk_79 (dk_at dksX5_init_20 9 rfl rfl)
theorem dX5_init_483 : decode cX5_init 483 = .ok (.dup, 1) := dk_89 (dk_at dksX5_init_20 10 rfl rfl)
theorem dX5_init_484 : decode cX5_init 484 = .ok (.bipush 44, 2) := dk_16 44 (dk_at dksX5_init_20 11 rfl rfl)
theorem dX5_init_486 : decode cX5_init 486 = .ok (.bipush 102, 2) := dk_16 102 (dk_at dksX5_init_20 13 rfl rfl)
theorem dX5_init_488 : decode cX5_init 488 = .ok (.iastore, 1) := dk_79 (dk_at dksX5_init_20 15 rfl rfl)
theorem dX5_init_489 : decode cX5_init 489 = .ok (.dup, 1) := dk_89 (dk_at dksX5_init_20 16 rfl rfl)
theorem dX5_init_490 : decode cX5_init 490 = .ok (.bipush 45, 2) := dk_16 45 (dk_at dksX5_init_20 17 rfl rfl)
theorem dX5_init_492 : decode cX5_init 492 = .ok (.bipush 101, 2) := dk_16 101 (dk_at dksX5_init_20 19 rfl rfl)
theorem dX5_init_494 : decode cX5_init 494 = .ok (.iastore, 1) := dk_79 (dk_at dksX5_init_20 21 rfl rfl)
theorem dX5_init_495 : decode cX5_init 495 = .ok (.dup, 1) := dk_89 (dk_at dksX5_init_20 22 rfl rfl)
theorem dX5_init_496 : decode cX5_init 496 = .ok (.bipush 46, 2) := dk_16 46 (dk_at dksX5_init_21 0 rfl rfl)
theorem dX5_init_498 : decode cX5_init 498 = .ok (.bipush 101, 2) := dk_16 101 (dk_at dksX5_init_21 2 rfl rfl)
theorem dX5_init_500 : decode cX5_init 500 = .ok (.iastore, 1) := dk_79 (dk_at dksX5_init_21 4 rfl rfl)
theorem dX5_init_501 : decode cX5_init 501 = .ok (.dup, 1) := dk_89 (dk_at dksX5_init_21 5 rfl rfl)
theorem dX5_init_502 : decode cX5_init 502 = .ok (.bipush 47, 2) := dk_16 47 (dk_at dksX5_init_21 6 rfl rfl)
theorem dX5_init_504 : decode cX5_init 504 = .ok (.bipush 100, 2) := dk_16 100 (dk_at dksX5_init_21 8 rfl rfl)
theorem dX5_init_506 : decode cX5_init 506 = .ok (.iastore, 1) := dk_79 (dk_at dksX5_init_21 10 rfl rfl)
theorem dX5_init_507 : decode cX5_init 507 = .ok (.dup, 1) := dk_89 (dk_at dksX5_init_21 11 rfl rfl)
theorem dX5_init_508 : decode cX5_init 508 = .ok (.bipush 48, 2) := dk_16 48 (dk_at dksX5_init_21 12 rfl rfl)
theorem dX5_init_510 : decode cX5_init 510 = .ok (.bipush 32, 2) := dk_16 32 (dk_at dksX5_init_21 14 rfl rfl)
theorem dX5_init_512 : decode cX5_init 512 = .ok (.iastore, 1) := dk_79 (dk_at dksX5_init_21 16 rfl rfl)
theorem dX5_init_513 : decode cX5_init 513 = .ok (.dup, 1) := dk_89 (dk_at dksX5_init_21 17 rfl rfl)
theorem dX5_init_514 : decode cX5_init 514 = .ok (.bipush 49, 2) := dk_16 49 (dk_at dksX5_init_21 18 rfl rfl)
theorem dX5_init_516 : decode cX5_init 516 = .ok (.iconst 0, 1) := dk_3 (dk_at dksX5_init_21 20 rfl rfl)
theorem dX5_init_517 : decode cX5_init 517 = .ok (.iastore, 1) := dk_79 (dk_at dksX5_init_21 21 rfl rfl)
theorem dX5_init_518 : decode cX5_init 518 = .ok (.dup, 1) := dk_89 (dk_at dksX5_init_21 22 rfl rfl)
theorem dX5_init_519 : decode cX5_init 519 = .ok (.bipush 50, 2) := dk_16 50 (dk_at dksX5_init_22 0 rfl rfl)
theorem dX5_init_521 : decode cX5_init 521 = .ok (.bipush 108, 2) := dk_16 108 (dk_at dksX5_init_22 2 rfl rfl)
theorem dX5_init_523 : decode cX5_init 523 = .ok (.iastore, 1) := dk_79 (dk_at dksX5_init_22 4 rfl rfl)
theorem dX5_init_524 : decode cX5_init 524 = .ok (.dup, 1) := dk_89 (dk_at dksX5_init_22 5 rfl rfl)
theorem dX5_init_525 : decode cX5_init 525 = .ok (.bipush 51, 2) := dk_16 51 (dk_at dksX5_init_22 6 rfl rfl)
theorem dX5_init_527 : decode cX5_init 527 = .ok (.bipush 105, 2) := dk_16 105 (dk_at dksX5_init_22 8 rfl rfl)
theorem dX5_init_529 : decode cX5_init 529 = .ok (.iastore, 1) := dk_79 (dk_at dksX5_init_22 10 rfl rfl)
theorem dX5_init_530 : decode cX5_init 530 = .ok (.dup, 1) := dk_89 (dk_at dksX5_init_22 11 rfl rfl)
theorem dX5_init_531 : decode cX5_init 531 = .ok (.bipush 52, 2) := dk_16 52 (dk_at dksX5_init_22 12 rfl rfl)
theorem dX5_init_533 : decode cX5_init 533 = .ok (.bipush 102, 2) := dk_16 102 (dk_at dksX5_init_22 14 rfl rfl)
theorem dX5_init_535 : decode cX5_init 535 = .ok (.iastore, 1) := dk_79 (dk_at dksX5_init_22 16 rfl rfl)
theorem dX5_init_536 : decode cX5_init 536 = .ok (.dup, 1) := dk_89 (dk_at dksX5_init_22 17 rfl rfl)
theorem dX5_init_537 : decode cX5_init 537 = .ok (.bipush 53, 2) := dk_16 53 (dk_at dksX5_init_22 18 rfl rfl)
theorem dX5_init_539 : decode cX5_init 539 = .ok (.bipush 101, 2) := dk_16 101 (dk_at dksX5_init_22 20 rfl rfl)
theorem dX5_init_541 : decode cX5_init 541 = .ok (.iastore, 1) := dk_79 (dk_at dksX5_init_22 22 rfl rfl)
theorem dX5_init_542 : decode cX5_init 542 = .ok (.dup, 1) := dk_89 (dk_at dksX5_init_22 23 rfl rfl)
theorem dX5_init_543 : decode cX5_init 543 = .ok (.bipush 54, 2) := dk_16 54 (dk_at dksX5_init_23 0 rfl rfl)
theorem dX5_init_545 : decode cX5_init 545 = .ok (.bipush 32, 2) := dk_16 32 (dk_at dksX5_init_23 2 rfl rfl)
theorem dX5_init_547 : decode cX5_init 547 = .ok (.iastore, 1) := dk_79 (dk_at dksX5_init_23 4 rfl rfl)
theorem dX5_init_548 : decode cX5_init 548 = .ok (.dup, 1) := dk_89 (dk_at dksX5_init_23 5 rfl rfl)
theorem dX5_init_549 : decode cX5_init 549 = .ok (.bipush 55, 2) := dk_16 55 (dk_at dksX5_init_23 6 rfl rfl)
theorem dX5_init_551 : decode cX5_init 551 = .ok (.iconst 0, 1) := dk_3 (dk_at dksX5_init_23 8 rfl rfl)
theorem dX5_init_552 : decode cX5_init 552 = .ok (.iastore, 1) := dk_79 (dk_at dksX5_init_23 9 rfl rfl)
theorem dX5_init_553 : decode cX5_init 553 = .ok (.dup, 1) := dk_89 (dk_at dksX5_init_23 10 rfl rfl)
theorem dX5_init_554 : decode cX5_init 554 = .ok (.bipush 56, 2) := dk_16 56 (dk_at dksX5_init_23 11 rfl rfl)
theorem dX5_init_556 : decode cX5_init 556 = .ok (.bipush 108, 2) := dk_16 108 (dk_at dksX5_init_23 13 rfl rfl)
theorem dX5_init_558 : decode cX5_init 558 = .ok (.iastore, 1) := dk_79 (dk_at dksX5_init_23 15 rfl rfl)
theorem dX5_init_559 : decode cX5_init 559 = .ok (.dup, 1) := dk_89 (dk_at dksX5_init_23 16 rfl rfl)
theorem dX5_init_560 : decode cX5_init 560 = .ok (.bipush 57, 2) := dk_16 57 (dk_at dksX5_init_23 17 rfl rfl)
theorem dX5_init_562 : decode cX5_init 562 = .ok (.bipush 111, 2) := dk_16 111 (dk_at dksX5_init_23 19 rfl rfl)
theorem dX5_init_564 : decode cX5_init 564 = .ok (.iastore, 1) := dk_79 (dk_at dksX5_init_23 21 rfl rfl)
theorem dX5_init_565 : decode cX5_init 565 = .ok (.dup, 1) := dk_89 (dk_at dksX5_init_23 22 rfl rfl)
theorem dX5_init_566 : decode cX5_init 566 = .ok (.bipush 58, 2) := dk_16 58 (dk_at dksX5_init_24 0 rfl rfl)
theorem dX5_init_568 : decode cX5_init 568 = .ok (.bipush 119, 2) := dk_16 119 (dk_at dksX5_init_24 2 rfl rfl)
theorem dX5_init_570 : decode cX5_init 570 = .ok (.iastore, 1) := dk_79 (dk_at dksX5_init_24 4 rfl rfl)
theorem dX5_init_571 : decode cX5_init 571 = .ok (.dup, 1) := dk_89 (dk_at dksX5_init_24 5 rfl rfl)
theorem dX5_init_572 : decode cX5_init 572 = .ok (.bipush 59, 2) := dk_16 59 (dk_at dksX5_init_24 6 rfl rfl)
theorem dX5_init_574 : decode cX5_init 574 = .ok (.bipush 32, 2) := dk_16 32 (dk_at dksX5_init_24 8 rfl rfl)
theorem dX5_init_576 : decode cX5_init 576 = .ok (.iastore, 1) := dk_79 (dk_at dksX5_init_24 10 rfl rfl)
theorem dX5_init_577 : decode cX5_init 577 = .ok (.dup, 1) := dk_89 (dk_at dksX5_init_24 11 rfl rfl)
theorem dX5_init_578 : decode cX5_init 578 = .ok (.bipush 60, 2) := dk_16 60 (dk_at dksX5_init_24 12 rfl rfl)
theorem dX5_init_580 : decode cX5_init 580 = .ok (.iconst 0, 1) := dk_3 (dk_at dksX5_init_24 14 rfl rfl)
theorem dX5_init_581 : decode cX5_init 581 = .ok (.iastore, 1) := dk_79 (dk_at dksX5_init_24 15 rfl rfl)
theorem dX5_init_582 : decode cX5_init 582 = .ok (.dup, 1) := dk_89 (dk_at dksX5_init_24 16 rfl rfl)
theorem dX5_init_583 : decode cX5_init 583 = .ok (.bipush 61, 2) := dk_16 61 (dk_at dksX5_init_24 17 rfl rfl)
theorem dX5_init_585 : decode cX5_init 585 = .ok (.bipush 119, 2) := dk_16 119 (dk_at dksX5_init_24 19 rfl rfl)
theorem dX5_init_587 : decode cX5_init 587 = .ok (.iastore, 1) := dk_79 (dk_at dksX5_init_24 21 rfl rfl)
theorem dX5_init_588 : decode cX5_init 588 = .ok (.dup, 1) := dk_89 (dk_at dksX5_init_24 22 rfl rfl)
theorem dX5_init_589 : decode cX5_init 589 = .ok (.bipush 62, 2) := dk_16 62 (dk_at dksX5_init_25 0 rfl rfl)
theorem dX5_init_591 : decode cX5_init 591 = .ok (.bipush 101, 2) := dk_16 101 (dk_at dksX5_init_25 2 rfl rfl)
theorem dX5_init_593 : decode cX5_init 593 = .ok (.iastore, 1) := dk_79 (dk_at dksX5_init_25 4 rfl rfl)
theorem dX5_init_594 : decode cX5_init 594 = .ok (.dup, 1) := dk_89 (dk_at dksX5_init_25 5 rfl rfl)
theorem dX5_init_595 : decode cX5_init 595 = .ok (.bipush 63, 2) := dk_16 63 (dk_at dksX5_init_25 6 rfl rfl)
theorem dX5_init_597 : decode cX5_init 597 = .ok (.bipush 101, 2) := dk_16 101 (dk_at dksX5_init_25 8 rfl rfl)
theorem dX5_init_599 : decode cX5_init 599 = .ok (.iastore, 1) := dk_79 (dk_at dksX5_init_25 10 rfl rfl)
theorem dX5_init_600 : decode cX5_init 600 = .ok (.dup, 1) := dk_89 (dk_at dksX5_init_25 11 rfl rfl)
theorem dX5_init_601 : decode cX5_init 601 = .ok (.bipush 64, 2) := dk_16 64 (dk_at dksX5_init_25 12 rfl rfl)
theorem dX5_init_603 : decode cX5_init 603 = .ok (.bipush 107, 2) := dk_16 107 (dk_at dksX5_init_25 14 rfl rfl)
theorem dX5_init_605 : decode cX5_init 605 = .ok (.iastore, 1) := dk_79 (dk_at dksX5_init_25 16 rfl rfl)
theorem dX5_init_606 : decode cX5_init 606 = .ok (.dup, 1) := dk_89 (dk_at dksX5_init_25 17 rfl rfl)
theorem dX5_init_607 : decode cX5_init 607 = .ok (.bipush 65, 2) := dk_16 65 (dk_at dksX5_init_25 18 rfl rfl)
theorem dX5_init_609 : decode cX5_init 609 = .ok (.bipush 32, 2) := dk_16 32 (dk_at dksX5_init_25 20 rfl rfl)
theorem dX5_init_611 : decode cX5_init 611 = .ok (.iastore, 1) := dk_79 (dk_at dksX5_init_25 22 rfl rfl)
theorem dX5_init_612 : decode cX5_init 612 = .ok (.dup, 1) := dk_89 (dk_at dksX5_init_25 23 rfl rfl)
theorem dX5_init_613 : decode cX5_init 613 = .ok (.bipush 66, 2) := dk_16 66 (dk_at dksX5_init_26 0 rfl rfl)
theorem dX5_init_615 : decode cX5_init 615 = .ok (.iconst 0, 1) := dk_3 (dk_at dksX5_init_26 2 rfl rfl)
theorem dX5_init_616 : decode cX5_init 616 = .ok (.iastore, 1) := dk_79 (dk_at dksX5_init_26 3 rfl rfl)
theorem dX5_init_617 : decode cX5_init 617 = .ok (.putfield 81, 3) := dk_181 0 81 (dk_at dksX5_init_26 4 rfl rfl)
theorem dX5_init_620 : decode cX5_init 620 = .ok (.aload_n 0, 1) := dk_42 (dk_at dksX5_init_26 7 rfl rfl)
theorem dX5_init_621 : decode cX5_init 621 = .ok (.iconst 2, 1) := dk_5 (dk_at dksX5_init_26 8 rfl rfl)
theorem dX5_init_622 : decode cX5_init 622 = .ok (.newarray .int, 2) := dk_188_10 (dk_at dksX5_init_26 9 rfl rfl)
theorem dX5_init_624 : decode cX5_init 624 = .ok (.putfield 84, 3) := dk_181 0 84 (dk_at dksX5_init_26 11 rfl rfl)
theorem dX5_init_627 : decode cX5_init 627 = .ok (.aload_n 0, 1) := dk_42 (dk_at dksX5_init_26 14 rfl rfl)
theorem dX5_init_628 : decode cX5_init 628 = .ok (.bipush 60, 2) := dk_16 60 (dk_at dksX5_init_26 15 rfl rfl)
theorem dX5_init_630 : decode cX5_init 630 = .ok (.newarray .int, 2) := dk_188_10 (dk_at dksX5_init_26 17 rfl rfl)
theorem dX5_init_632 : decode cX5_init 632 = .ok (.putfield 87, 3) := dk_181 0 87 (dk_at dksX5_init_26 19 rfl rfl)
theorem dX5_init_635 : decode cX5_init 635 = .ok (.aload_n 0, 1) := dk_42 (dk_at dksX5_init_26 22 rfl rfl)
theorem dX5_init_636 : decode cX5_init 636 = .ok (.bipush 60, 2) := dk_16 60 (dk_at dksX5_init_27 0 rfl rfl)
theorem dX5_init_638 : decode cX5_init 638 = .ok (.newarray .int, 2) := dk_188_10 (dk_at dksX5_init_27 2 rfl rfl)
theorem dX5_init_640 : decode cX5_init 640 = .ok (.putfield 90, 3) := dk_181 0 90 (dk_at dksX5_init_27 4 rfl rfl)
theorem dX5_init_643 : decode cX5_init 643 = .ok (.aload_n 0, 1) := dk_42 (dk_at dksX5_init_27 7 rfl rfl)
theorem dX5_init_644 : decode cX5_init 644 = .ok (.bipush 6, 2) := dk_16 6 (dk_at dksX5_init_27 8 rfl rfl)
theorem dX5_init_646 : decode cX5_init 646 = .ok (.newarray .int, 2) := dk_188_10 (dk_at dksX5_init_27 10 rfl rfl)
theorem dX5_init_648 : decode cX5_init 648 = .ok (.putfield 93, 3) := dk_181 0 93 (dk_at dksX5_init_27 12 rfl rfl)
theorem dX5_init_651 : decode cX5_init 651 = .ok (.aload_n 0, 1) := dk_42 (dk_at dksX5_init_27 15 rfl rfl)
theorem dX5_init_652 : decode cX5_init 652 = .ok (.bipush 6, 2) := dk_16 6 (dk_at dksX5_init_27 16 rfl rfl)
theorem dX5_init_654 : decode cX5_init 654 = .ok (.newarray .int, 2) := dk_188_10 (dk_at dksX5_init_27 18 rfl rfl)
theorem dX5_init_656 : decode cX5_init 656 = .ok (.putfield 96, 3) := dk_181 0 96 (dk_at dksX5_init_27 20 rfl rfl)
theorem dX5_init_659 : decode cX5_init 659 = .ok (.aload_n 0, 1) := dk_42 (dk_at dksX5_init_27 23 rfl rfl)
theorem dX5_init_660 : decode cX5_init 660 = .ok (.bipush 8, 2) := dk_16 8 (dk_at dksX5_init_28 0 rfl rfl)
theorem dX5_init_662 : decode cX5_init 662 = .ok (.newarray .int, 2) := dk_188_10 (dk_at dksX5_init_28 2 rfl rfl)
theorem dX5_init_664 : decode cX5_init 664 = .ok (.putfield 99, 3) := dk_181 0 99 (dk_at dksX5_init_28 4 rfl rfl)
theorem dX5_init_667 : decode cX5_init 667 = .ok (.aload_n 0, 1) := dk_42 (dk_at dksX5_init_28 7 rfl rfl)
theorem dX5_init_668 : decode cX5_init 668 = .ok (.bipush 20, 2) := dk_16 20 (dk_at dksX5_init_28 8 rfl rfl)
theorem dX5_init_670 : decode cX5_init 670 = .ok (.newarray .int, 2) := dk_188_10 (dk_at dksX5_init_28 10 rfl rfl)
theorem dX5_init_672 : decode cX5_init 672 = .ok (.putfield 102, 3) := dk_181 0 102 (dk_at dksX5_init_28 12 rfl rfl)
theorem dX5_init_675 : decode cX5_init 675 = .ok (.return_, 1) := dk_177 (dk_at dksX5_init_28 15 rfl rfl)
abbrev cX5_row : ByteArray := prog_22_method_8_code
def yX5_row : MethodName := ⟨RX5, "row", "(III)I"⟩
def dkwX5_row_4 : List UInt8 := [27, 104, 21, 4, 96, 9, 80, 132, 4, 1, 167, 255, 231, 4, 172]
abbrev dktX5_row_4 : List UInt8 := dkwX5_row_4 ++ []
def dkwX5_row_3 : List UInt8 := [180, 0, 62, 27, 29, 79, 3, 54, 4, 21, 4, 17, 0, 160, 162, 0, 23, 42, 180, 0, 68, 17, 0, 160]
abbrev dktX5_row_3 : List UInt8 := dkwX5_row_3 ++ dktX5_row_4
def dkwX5_row_2 : List UInt8 := [42, 16, 249, 182, 0, 112, 172, 42, 180, 0, 56, 27, 4, 79, 42, 180, 0, 59, 27, 28, 79, 42]
abbrev dktX5_row_2 : List UInt8 := dkwX5_row_2 ++ dktX5_row_3
def dkwX5_row_1 : List UInt8 := [172, 28, 155, 0, 8, 28, 6, 164, 0, 10, 42, 16, 250, 182, 0, 112, 172, 29, 17, 0, 160, 164, 0, 10]
abbrev dktX5_row_1 : List UInt8 := dkwX5_row_1 ++ dktX5_row_2
def dkwX5_row_0 : List UInt8 := [42, 27, 182, 0, 108, 154, 0, 9, 42, 2, 182, 0, 112, 172, 29, 156, 0, 10, 42, 16, 252, 182, 0, 112]
abbrev dktX5_row_0 : List UInt8 := dkwX5_row_0 ++ dktX5_row_1
theorem dksX5_row_0 : cX5_row.data.toList.drop 0 = dktX5_row_0 := by decide +kernel
theorem dksX5_row_1 : cX5_row.data.toList.drop 24 = dktX5_row_1 := dk_seg dksX5_row_0 24 rfl rfl
theorem dksX5_row_2 : cX5_row.data.toList.drop 48 = dktX5_row_2 := dk_seg dksX5_row_1 24 rfl rfl
theorem dksX5_row_3 : cX5_row.data.toList.drop 70 = dktX5_row_3 := dk_seg dksX5_row_2 22 rfl rfl
theorem dksX5_row_4 : cX5_row.data.toList.drop 94 = dktX5_row_4 := dk_seg dksX5_row_3 24 rfl rfl
theorem dX5_row_0 : decode cX5_row 0 = .ok (.aload_n 0, 1) := dk_42 (dk_at dksX5_row_0 0 rfl rfl)
theorem dX5_row_1 : decode cX5_row 1 = .ok (.iload_n 1, 1) := dk_27 (dk_at dksX5_row_0 1 rfl rfl)
theorem dX5_row_2 : decode cX5_row 2 = .ok (.invokevirtual 108, 3) := dk_182 0 108 (dk_at dksX5_row_0 2 rfl rfl)
theorem dX5_row_5 : decode cX5_row 5 = .ok (.ifCond .ne 9, 3) := dk_154 0 9 (dk_at dksX5_row_0 5 rfl rfl)
theorem dX5_row_8 : decode cX5_row 8 = .ok (.aload_n 0, 1) := dk_42 (dk_at dksX5_row_0 8 rfl rfl)
theorem dX5_row_9 : decode cX5_row 9 = .ok (.iconst (-1), 1) := dk_2 (dk_at dksX5_row_0 9 rfl rfl)
theorem dX5_row_10 : decode cX5_row 10 = .ok (.invokevirtual 112, 3) := dk_182 0 112 (dk_at dksX5_row_0 10 rfl rfl)
theorem dX5_row_13 : decode cX5_row 13 = .ok (.ireturn, 1) := dk_172 (dk_at dksX5_row_0 13 rfl rfl)
theorem dX5_row_14 : decode cX5_row 14 = .ok (.iload_n 3, 1) := dk_29 (dk_at dksX5_row_0 14 rfl rfl)
theorem dX5_row_15 : decode cX5_row 15 = .ok (.ifCond .ge 10, 3) := dk_156 0 10 (dk_at dksX5_row_0 15 rfl rfl)
theorem dX5_row_18 : decode cX5_row 18 = .ok (.aload_n 0, 1) := dk_42 (dk_at dksX5_row_0 18 rfl rfl)
theorem dX5_row_19 : decode cX5_row 19 = .ok (.bipush (-4), 2) := dk_16 252 (dk_at dksX5_row_0 19 rfl rfl)
theorem dX5_row_21 : decode cX5_row 21 = .ok (.invokevirtual 112, 3) := dk_182 0 112 (dk_at dksX5_row_0 21 rfl rfl)
theorem dX5_row_24 : decode cX5_row 24 = .ok (.ireturn, 1) := dk_172 (dk_at dksX5_row_1 0 rfl rfl)
theorem dX5_row_25 : decode cX5_row 25 = .ok (.iload_n 2, 1) := dk_28 (dk_at dksX5_row_1 1 rfl rfl)
theorem dX5_row_26 : decode cX5_row 26 = .ok (.ifCond .lt 8, 3) := dk_155 0 8 (dk_at dksX5_row_1 2 rfl rfl)
theorem dX5_row_29 : decode cX5_row 29 = .ok (.iload_n 2, 1) := dk_28 (dk_at dksX5_row_1 5 rfl rfl)
theorem dX5_row_30 : decode cX5_row 30 = .ok (.iconst 3, 1) := dk_6 (dk_at dksX5_row_1 6 rfl rfl)
theorem dX5_row_31 : decode cX5_row 31 = .ok (.if_icmp .le 10, 3) := dk_164 0 10 (dk_at dksX5_row_1 7 rfl rfl)
theorem dX5_row_34 : decode cX5_row 34 = .ok (.aload_n 0, 1) := dk_42 (dk_at dksX5_row_1 10 rfl rfl)
theorem dX5_row_35 : decode cX5_row 35 = .ok (.bipush (-6), 2) := dk_16 250 (dk_at dksX5_row_1 11 rfl rfl)
theorem dX5_row_37 : decode cX5_row 37 = .ok (.invokevirtual 112, 3) := dk_182 0 112 (dk_at dksX5_row_1 13 rfl rfl)
theorem dX5_row_40 : decode cX5_row 40 = .ok (.ireturn, 1) := dk_172 (dk_at dksX5_row_1 16 rfl rfl)
theorem dX5_row_41 : decode cX5_row 41 = .ok (.iload_n 3, 1) := dk_29 (dk_at dksX5_row_1 17 rfl rfl)
theorem dX5_row_42 : decode cX5_row 42 = .ok (.sipush 160, 3) := dk_17 0 160 (dk_at dksX5_row_1 18 rfl rfl)
theorem dX5_row_45 : decode cX5_row 45 = .ok (.if_icmp .le 10, 3) := dk_164 0 10 (dk_at dksX5_row_1 21 rfl rfl)
theorem dX5_row_48 : decode cX5_row 48 = .ok (.aload_n 0, 1) := dk_42 (dk_at dksX5_row_2 0 rfl rfl)
theorem dX5_row_49 : decode cX5_row 49 = .ok (.bipush (-7), 2) := dk_16 249 (dk_at dksX5_row_2 1 rfl rfl)
theorem dX5_row_51 : decode cX5_row 51 = .ok (.invokevirtual 112, 3) := dk_182 0 112 (dk_at dksX5_row_2 3 rfl rfl)
theorem dX5_row_54 : decode cX5_row 54 = .ok (.ireturn, 1) := dk_172 (dk_at dksX5_row_2 6 rfl rfl)
theorem dX5_row_55 : decode cX5_row 55 = .ok (.aload_n 0, 1) := dk_42 (dk_at dksX5_row_2 7 rfl rfl)
theorem dX5_row_56 : decode cX5_row 56 = .ok (.getfield 56, 3) := dk_180 0 56 (dk_at dksX5_row_2 8 rfl rfl)
theorem dX5_row_59 : decode cX5_row 59 = .ok (.iload_n 1, 1) := dk_27 (dk_at dksX5_row_2 11 rfl rfl)
theorem dX5_row_60 : decode cX5_row 60 = .ok (.iconst 1, 1) := dk_4 (dk_at dksX5_row_2 12 rfl rfl)
theorem dX5_row_61 : decode cX5_row 61 = .ok (.iastore, 1) := dk_79 (dk_at dksX5_row_2 13 rfl rfl)
theorem dX5_row_62 : decode cX5_row 62 = .ok (.aload_n 0, 1) := dk_42 (dk_at dksX5_row_2 14 rfl rfl)
theorem dX5_row_63 : decode cX5_row 63 = .ok (.getfield 59, 3) := dk_180 0 59 (dk_at dksX5_row_2 15 rfl rfl)
theorem dX5_row_66 : decode cX5_row 66 = .ok (.iload_n 1, 1) := dk_27 (dk_at dksX5_row_2 18 rfl rfl)
theorem dX5_row_67 : decode cX5_row 67 = .ok (.iload_n 2, 1) := dk_28 (dk_at dksX5_row_2 19 rfl rfl)
theorem dX5_row_68 : decode cX5_row 68 = .ok (.iastore, 1) := dk_79 (dk_at dksX5_row_2 20 rfl rfl)
theorem dX5_row_69 : decode cX5_row 69 = .ok (.aload_n 0, 1) := dk_42 (dk_at dksX5_row_2 21 rfl rfl)
theorem dX5_row_70 : decode cX5_row 70 = .ok (.getfield 62, 3) := dk_180 0 62 (dk_at dksX5_row_3 0 rfl rfl)
theorem dX5_row_73 : decode cX5_row 73 = .ok (.iload_n 1, 1) := dk_27 (dk_at dksX5_row_3 3 rfl rfl)
theorem dX5_row_74 : decode cX5_row 74 = .ok (.iload_n 3, 1) := dk_29 (dk_at dksX5_row_3 4 rfl rfl)
theorem dX5_row_75 : decode cX5_row 75 = .ok (.iastore, 1) := dk_79 (dk_at dksX5_row_3 5 rfl rfl)
theorem dX5_row_76 : decode cX5_row 76 = .ok (.iconst 0, 1) := dk_3 (dk_at dksX5_row_3 6 rfl rfl)
theorem dX5_row_77 : decode cX5_row 77 = .ok (.istore 4, 2) := dk_54 4 (dk_at dksX5_row_3 7 rfl rfl)
theorem dX5_row_79 : decode cX5_row 79 = .ok (.iload 4, 2) := dk_21 4 (dk_at dksX5_row_3 9 rfl rfl)
theorem dX5_row_81 : decode cX5_row 81 = .ok (.sipush 160, 3) := dk_17 0 160 (dk_at dksX5_row_3 11 rfl rfl)
theorem dX5_row_84 : decode cX5_row 84 = .ok (.if_icmp .ge 23, 3) := dk_162 0 23 (dk_at dksX5_row_3 14 rfl rfl)
theorem dX5_row_87 : decode cX5_row 87 = .ok (.aload_n 0, 1) := dk_42 (dk_at dksX5_row_3 17 rfl rfl)
theorem dX5_row_88 : decode cX5_row 88 = .ok (.getfield 68, 3) := dk_180 0 68 (dk_at dksX5_row_3 18 rfl rfl)
theorem dX5_row_91 : decode cX5_row 91 = .ok (.sipush 160, 3) := dk_17 0 160 (dk_at dksX5_row_3 21 rfl rfl)
theorem dX5_row_94 : decode cX5_row 94 = .ok (.iload_n 1, 1) := dk_27 (dk_at dksX5_row_4 0 rfl rfl)
theorem dX5_row_95 : decode cX5_row 95 = .ok (.imul, 1) := dk_104 (dk_at dksX5_row_4 1 rfl rfl)
theorem dX5_row_96 : decode cX5_row 96 = .ok (.iload 4, 2) := dk_21 4 (dk_at dksX5_row_4 2 rfl rfl)
theorem dX5_row_98 : decode cX5_row 98 = .ok (.iadd, 1) := dk_96 (dk_at dksX5_row_4 4 rfl rfl)
theorem dX5_row_99 : decode cX5_row 99 = .ok (.lconst 0, 1) := dk_9 (dk_at dksX5_row_4 5 rfl rfl)
theorem dX5_row_100 : decode cX5_row 100 = .ok (.lastore, 1) := dk_80 (dk_at dksX5_row_4 6 rfl rfl)
theorem dX5_row_101 : decode cX5_row 101 = .ok (.iinc 4 1, 3) := dk_132 4 1 (dk_at dksX5_row_4 7 rfl rfl)
theorem dX5_row_104 : decode cX5_row 104 = .ok (.goto (-25), 3) := dk_167 255 231 (dk_at dksX5_row_4 10 rfl rfl)
theorem dX5_row_107 : decode cX5_row 107 = .ok (.iconst 1, 1) := dk_4 (dk_at dksX5_row_4 13 rfl rfl)
theorem dX5_row_108 : decode cX5_row 108 = .ok (.ireturn, 1) := dk_172 (dk_at dksX5_row_4 14 rfl rfl)
abbrev cX5_isShelf : ByteArray := prog_22_method_5_code
def yX5_isShelf : MethodName := ⟨RX5, "isShelf", "(I)Z"⟩
def dkwX5_isShelf_0 : List UInt8 := [27, 155, 0, 13, 27, 16, 8, 162, 0, 7, 4, 167, 0, 4, 3, 172]
abbrev dktX5_isShelf_0 : List UInt8 := dkwX5_isShelf_0 ++ []
theorem dksX5_isShelf_0 : cX5_isShelf.data.toList.drop 0 = dktX5_isShelf_0 := by decide +kernel
theorem dX5_isShelf_0 : decode cX5_isShelf 0 = .ok (.iload_n 1, 1) := dk_27 (dk_at dksX5_isShelf_0 0 rfl rfl)
theorem dX5_isShelf_1 : decode cX5_isShelf 1 = .ok (.ifCond .lt 13, 3) := dk_155 0 13 (dk_at dksX5_isShelf_0 1 rfl rfl)
theorem dX5_isShelf_4 : decode cX5_isShelf 4 = .ok (.iload_n 1, 1) := dk_27 (dk_at dksX5_isShelf_0 4 rfl rfl)
theorem dX5_isShelf_5 : decode cX5_isShelf 5 = .ok (.bipush 8, 2) := dk_16 8 (dk_at dksX5_isShelf_0 5 rfl rfl)
theorem dX5_isShelf_7 : decode cX5_isShelf 7 = .ok (.if_icmp .ge 7, 3) := dk_162 0 7 (dk_at dksX5_isShelf_0 7 rfl rfl)
theorem dX5_isShelf_10 : decode cX5_isShelf 10 = .ok (.iconst 1, 1) := dk_4 (dk_at dksX5_isShelf_0 10 rfl rfl)
theorem dX5_isShelf_11 : decode cX5_isShelf 11 = .ok (.goto 4, 3) := dk_167 0 4 (dk_at dksX5_isShelf_0 11 rfl rfl)
theorem dX5_isShelf_14 : decode cX5_isShelf 14 = .ok (.iconst 0, 1) := dk_3 (dk_at dksX5_isShelf_0 14 rfl rfl)
theorem dX5_isShelf_15 : decode cX5_isShelf 15 = .ok (.ireturn, 1) := dk_172 (dk_at dksX5_isShelf_0 15 rfl rfl)
abbrev cX5_no : ByteArray := prog_22_method_2_code
def yX5_no : MethodName := ⟨RX5, "no", "(I)I"⟩
def dkwX5_no_0 : List UInt8 := [42, 180, 0, 34, 27, 116, 92, 46, 4, 96, 79, 27, 172]
abbrev dktX5_no_0 : List UInt8 := dkwX5_no_0 ++ []
theorem dksX5_no_0 : cX5_no.data.toList.drop 0 = dktX5_no_0 := by decide +kernel
theorem dX5_no_0 : decode cX5_no 0 = .ok (.aload_n 0, 1) := dk_42 (dk_at dksX5_no_0 0 rfl rfl)
theorem dX5_no_1 : decode cX5_no 1 = .ok (.getfield 34, 3) := dk_180 0 34 (dk_at dksX5_no_0 1 rfl rfl)
theorem dX5_no_4 : decode cX5_no 4 = .ok (.iload_n 1, 1) := dk_27 (dk_at dksX5_no_0 4 rfl rfl)
theorem dX5_no_5 : decode cX5_no 5 = .ok (.ineg, 1) := dk_116 (dk_at dksX5_no_0 5 rfl rfl)
theorem dX5_no_6 : decode cX5_no 6 = .ok (.dup2, 1) := dk_92 (dk_at dksX5_no_0 6 rfl rfl)
theorem dX5_no_7 : decode cX5_no 7 = .ok (.iaload, 1) := dk_46 (dk_at dksX5_no_0 7 rfl rfl)
theorem dX5_no_8 : decode cX5_no 8 = .ok (.iconst 1, 1) := dk_4 (dk_at dksX5_no_0 8 rfl rfl)
theorem dX5_no_9 : decode cX5_no 9 = .ok (.iadd, 1) := dk_96 (dk_at dksX5_no_0 9 rfl rfl)
theorem dX5_no_10 : decode cX5_no 10 = .ok (.iastore, 1) := dk_79 (dk_at dksX5_no_0 10 rfl rfl)
theorem dX5_no_11 : decode cX5_no 11 = .ok (.iload_n 1, 1) := dk_27 (dk_at dksX5_no_0 11 rfl rfl)
theorem dX5_no_12 : decode cX5_no 12 = .ok (.ireturn, 1) := dk_172 (dk_at dksX5_no_0 12 rfl rfl)
abbrev cX5_set : ByteArray := prog_22_method_9_code
def yX5_set : MethodName := ⟨RX5, "set", "(IIJ)I"⟩
def dkwX5_set_5 : List UInt8 := [160, 0, 9, 33, 136, 133, 167, 0, 4, 33, 80, 4, 172]
abbrev dktX5_set_5 : List UInt8 := dkwX5_set_5 ++ []
def dkwX5_set_4 : List UInt8 := [180, 0, 59, 27, 46, 4, 160, 0, 10, 33, 136, 147, 133, 167, 0, 20, 42, 180, 0, 59, 27, 46, 5]
abbrev dktX5_set_4 : List UInt8 := dkwX5_set_4 ++ dktX5_set_5
def dkwX5_set_3 : List UInt8 := [17, 0, 160, 27, 104, 28, 96, 42, 180, 0, 59, 27, 46, 154, 0, 10, 33, 136, 145, 133, 167, 0, 37, 42]
abbrev dktX5_set_3 : List UInt8 := dkwX5_set_3 ++ dktX5_set_4
def dkwX5_set_2 : List UInt8 := [155, 0, 13, 28, 42, 180, 0, 62, 27, 46, 161, 0, 10, 42, 16, 251, 182, 0, 112, 172, 42, 180, 0, 68]
abbrev dktX5_set_2 : List UInt8 := dkwX5_set_2 ++ dktX5_set_3
def dkwX5_set_1 : List UInt8 := [42, 16, 254, 182, 0, 112, 172, 42, 180, 0, 56, 27, 46, 154, 0, 10, 42, 16, 253, 182, 0, 112, 172, 28]
abbrev dktX5_set_1 : List UInt8 := dkwX5_set_1 ++ dktX5_set_2
def dkwX5_set_0 : List UInt8 := [42, 27, 182, 0, 108, 154, 0, 9, 42, 2, 182, 0, 112, 172, 42, 180, 0, 56, 27, 46, 5, 160, 0, 10]
abbrev dktX5_set_0 : List UInt8 := dkwX5_set_0 ++ dktX5_set_1
theorem dksX5_set_0 : cX5_set.data.toList.drop 0 = dktX5_set_0 := by decide +kernel
theorem dksX5_set_1 : cX5_set.data.toList.drop 24 = dktX5_set_1 := dk_seg dksX5_set_0 24 rfl rfl
theorem dksX5_set_2 : cX5_set.data.toList.drop 48 = dktX5_set_2 := dk_seg dksX5_set_1 24 rfl rfl
theorem dksX5_set_3 : cX5_set.data.toList.drop 72 = dktX5_set_3 := dk_seg dksX5_set_2 24 rfl rfl
theorem dksX5_set_4 : cX5_set.data.toList.drop 96 = dktX5_set_4 := dk_seg dksX5_set_3 24 rfl rfl
theorem dksX5_set_5 : cX5_set.data.toList.drop 119 = dktX5_set_5 := dk_seg dksX5_set_4 23 rfl rfl
theorem dX5_set_0 : decode cX5_set 0 = .ok (.aload_n 0, 1) := dk_42 (dk_at dksX5_set_0 0 rfl rfl)
theorem dX5_set_1 : decode cX5_set 1 = .ok (.iload_n 1, 1) := dk_27 (dk_at dksX5_set_0 1 rfl rfl)
theorem dX5_set_2 : decode cX5_set 2 = .ok (.invokevirtual 108, 3) := dk_182 0 108 (dk_at dksX5_set_0 2 rfl rfl)
theorem dX5_set_5 : decode cX5_set 5 = .ok (.ifCond .ne 9, 3) := dk_154 0 9 (dk_at dksX5_set_0 5 rfl rfl)
theorem dX5_set_8 : decode cX5_set 8 = .ok (.aload_n 0, 1) := dk_42 (dk_at dksX5_set_0 8 rfl rfl)
theorem dX5_set_9 : decode cX5_set 9 = .ok (.iconst (-1), 1) := dk_2 (dk_at dksX5_set_0 9 rfl rfl)
theorem dX5_set_10 : decode cX5_set 10 = .ok (.invokevirtual 112, 3) := dk_182 0 112 (dk_at dksX5_set_0 10 rfl rfl)
theorem dX5_set_13 : decode cX5_set 13 = .ok (.ireturn, 1) := dk_172 (dk_at dksX5_set_0 13 rfl rfl)
theorem dX5_set_14 : decode cX5_set 14 = .ok (.aload_n 0, 1) := dk_42 (dk_at dksX5_set_0 14 rfl rfl)
theorem dX5_set_15 : decode cX5_set 15 = .ok (.getfield 56, 3) := dk_180 0 56 (dk_at dksX5_set_0 15 rfl rfl)
theorem dX5_set_18 : decode cX5_set 18 = .ok (.iload_n 1, 1) := dk_27 (dk_at dksX5_set_0 18 rfl rfl)
theorem dX5_set_19 : decode cX5_set 19 = .ok (.iaload, 1) := dk_46 (dk_at dksX5_set_0 19 rfl rfl)
theorem dX5_set_20 : decode cX5_set 20 = .ok (.iconst 2, 1) := dk_5 (dk_at dksX5_set_0 20 rfl rfl)
theorem dX5_set_21 : decode cX5_set 21 = .ok (.if_icmp .ne 10, 3) := dk_160 0 10 (dk_at dksX5_set_0 21 rfl rfl)
theorem dX5_set_24 : decode cX5_set 24 = .ok (.aload_n 0, 1) := dk_42 (dk_at dksX5_set_1 0 rfl rfl)
theorem dX5_set_25 : decode cX5_set 25 = .ok (.bipush (-2), 2) := dk_16 254 (dk_at dksX5_set_1 1 rfl rfl)
theorem dX5_set_27 : decode cX5_set 27 = .ok (.invokevirtual 112, 3) := dk_182 0 112 (dk_at dksX5_set_1 3 rfl rfl)
theorem dX5_set_30 : decode cX5_set 30 = .ok (.ireturn, 1) := dk_172 (dk_at dksX5_set_1 6 rfl rfl)
theorem dX5_set_31 : decode cX5_set 31 = .ok (.aload_n 0, 1) := dk_42 (dk_at dksX5_set_1 7 rfl rfl)
theorem dX5_set_32 : decode cX5_set 32 = .ok (.getfield 56, 3) := dk_180 0 56 (dk_at dksX5_set_1 8 rfl rfl)
theorem dX5_set_35 : decode cX5_set 35 = .ok (.iload_n 1, 1) := dk_27 (dk_at dksX5_set_1 11 rfl rfl)
theorem dX5_set_36 : decode cX5_set 36 = .ok (.iaload, 1) := dk_46 (dk_at dksX5_set_1 12 rfl rfl)
theorem dX5_set_37 : decode cX5_set 37 = .ok (.ifCond .ne 10, 3) := dk_154 0 10 (dk_at dksX5_set_1 13 rfl rfl)
theorem dX5_set_40 : decode cX5_set 40 = .ok (.aload_n 0, 1) := dk_42 (dk_at dksX5_set_1 16 rfl rfl)
theorem dX5_set_41 : decode cX5_set 41 = .ok (.bipush (-3), 2) := dk_16 253 (dk_at dksX5_set_1 17 rfl rfl)
theorem dX5_set_43 : decode cX5_set 43 = .ok (.invokevirtual 112, 3) := dk_182 0 112 (dk_at dksX5_set_1 19 rfl rfl)
theorem dX5_set_46 : decode cX5_set 46 = .ok (.ireturn, 1) := dk_172 (dk_at dksX5_set_1 22 rfl rfl)
theorem dX5_set_47 : decode cX5_set 47 = .ok (.iload_n 2, 1) := dk_28 (dk_at dksX5_set_1 23 rfl rfl)
theorem dX5_set_48 : decode cX5_set 48 = .ok (.ifCond .lt 13, 3) := dk_155 0 13 (dk_at dksX5_set_2 0 rfl rfl)
theorem dX5_set_51 : decode cX5_set 51 = .ok (.iload_n 2, 1) := dk_28 (dk_at dksX5_set_2 3 rfl rfl)
theorem dX5_set_52 : decode cX5_set 52 = .ok (.aload_n 0, 1) := dk_42 (dk_at dksX5_set_2 4 rfl rfl)
theorem dX5_set_53 : decode cX5_set 53 = .ok (.getfield 62, 3) := dk_180 0 62 (dk_at dksX5_set_2 5 rfl rfl)
theorem dX5_set_56 : decode cX5_set 56 = .ok (.iload_n 1, 1) := dk_27 (dk_at dksX5_set_2 8 rfl rfl)
theorem dX5_set_57 : decode cX5_set 57 = .ok (.iaload, 1) := dk_46 (dk_at dksX5_set_2 9 rfl rfl)
theorem dX5_set_58 : decode cX5_set 58 = .ok (.if_icmp .lt 10, 3) := dk_161 0 10 (dk_at dksX5_set_2 10 rfl rfl)
theorem dX5_set_61 : decode cX5_set 61 = .ok (.aload_n 0, 1) := dk_42 (dk_at dksX5_set_2 13 rfl rfl)
theorem dX5_set_62 : decode cX5_set 62 = .ok (.bipush (-5), 2) := dk_16 251 (dk_at dksX5_set_2 14 rfl rfl)
theorem dX5_set_64 : decode cX5_set 64 = .ok (.invokevirtual 112, 3) := dk_182 0 112 (dk_at dksX5_set_2 16 rfl rfl)
theorem dX5_set_67 : decode cX5_set 67 = .ok (.ireturn, 1) := dk_172 (dk_at dksX5_set_2 19 rfl rfl)
theorem dX5_set_68 : decode cX5_set 68 = .ok (.aload_n 0, 1) := dk_42 (dk_at dksX5_set_2 20 rfl rfl)
theorem dX5_set_69 : decode cX5_set 69 = .ok (.getfield 68, 3) := dk_180 0 68 (dk_at dksX5_set_2 21 rfl rfl)
theorem dX5_set_72 : decode cX5_set 72 = .ok (.sipush 160, 3) := dk_17 0 160 (dk_at dksX5_set_3 0 rfl rfl)
theorem dX5_set_75 : decode cX5_set 75 = .ok (.iload_n 1, 1) := dk_27 (dk_at dksX5_set_3 3 rfl rfl)
theorem dX5_set_76 : decode cX5_set 76 = .ok (.imul, 1) := dk_104 (dk_at dksX5_set_3 4 rfl rfl)
theorem dX5_set_77 : decode cX5_set 77 = .ok (.iload_n 2, 1) := dk_28 (dk_at dksX5_set_3 5 rfl rfl)
theorem dX5_set_78 : decode cX5_set 78 = .ok (.iadd, 1) := dk_96 (dk_at dksX5_set_3 6 rfl rfl)
theorem dX5_set_79 : decode cX5_set 79 = .ok (.aload_n 0, 1) := dk_42 (dk_at dksX5_set_3 7 rfl rfl)
theorem dX5_set_80 : decode cX5_set 80 = .ok (.getfield 59, 3) := dk_180 0 59 (dk_at dksX5_set_3 8 rfl rfl)
theorem dX5_set_83 : decode cX5_set 83 = .ok (.iload_n 1, 1) := dk_27 (dk_at dksX5_set_3 11 rfl rfl)
theorem dX5_set_84 : decode cX5_set 84 = .ok (.iaload, 1) := dk_46 (dk_at dksX5_set_3 12 rfl rfl)
theorem dX5_set_85 : decode cX5_set 85 = .ok (.ifCond .ne 10, 3) := dk_154 0 10 (dk_at dksX5_set_3 13 rfl rfl)
theorem dX5_set_88 : decode cX5_set 88 = .ok (.lload_n 3, 1) := dk_33 (dk_at dksX5_set_3 16 rfl rfl)
theorem dX5_set_89 : decode cX5_set 89 = .ok (.l2i, 1) := dk_136 (dk_at dksX5_set_3 17 rfl rfl)
theorem dX5_set_90 : decode cX5_set 90 = .ok (.i2b, 1) := dk_145 (dk_at dksX5_set_3 18 rfl rfl)
theorem dX5_set_91 : decode cX5_set 91 = .ok (.i2l, 1) := dk_133 (dk_at dksX5_set_3 19 rfl rfl)
theorem dX5_set_92 : decode cX5_set 92 = .ok (.goto 37, 3) := dk_167 0 37 (dk_at dksX5_set_3 20 rfl rfl)
theorem dX5_set_95 : decode cX5_set 95 = .ok (.aload_n 0, 1) := dk_42 (dk_at dksX5_set_3 23 rfl rfl)
theorem dX5_set_96 : decode cX5_set 96 = .ok (.getfield 59, 3) := dk_180 0 59 (dk_at dksX5_set_4 0 rfl rfl)
theorem dX5_set_99 : decode cX5_set 99 = .ok (.iload_n 1, 1) := dk_27 (dk_at dksX5_set_4 3 rfl rfl)
theorem dX5_set_100 : decode cX5_set 100 = .ok (.iaload, 1) := dk_46 (dk_at dksX5_set_4 4 rfl rfl)
theorem dX5_set_101 : decode cX5_set 101 = .ok (.iconst 1, 1) := dk_4 (dk_at dksX5_set_4 5 rfl rfl)
theorem dX5_set_102 : decode cX5_set 102 = .ok (.if_icmp .ne 10, 3) := dk_160 0 10 (dk_at dksX5_set_4 6 rfl rfl)
theorem dX5_set_105 : decode cX5_set 105 = .ok (.lload_n 3, 1) := dk_33 (dk_at dksX5_set_4 9 rfl rfl)
theorem dX5_set_106 : decode cX5_set 106 = .ok (.l2i, 1) := dk_136 (dk_at dksX5_set_4 10 rfl rfl)
theorem dX5_set_107 : decode cX5_set 107 = .ok (.i2s, 1) := dk_147 (dk_at dksX5_set_4 11 rfl rfl)
theorem dX5_set_108 : decode cX5_set 108 = .ok (.i2l, 1) := dk_133 (dk_at dksX5_set_4 12 rfl rfl)
theorem dX5_set_109 : decode cX5_set 109 = .ok (.goto 20, 3) := dk_167 0 20 (dk_at dksX5_set_4 13 rfl rfl)
theorem dX5_set_112 : decode cX5_set 112 = .ok (.aload_n 0, 1) := dk_42 (dk_at dksX5_set_4 16 rfl rfl)
theorem dX5_set_113 : decode cX5_set 113 = .ok (.getfield 59, 3) := dk_180 0 59 (dk_at dksX5_set_4 17 rfl rfl)
theorem dX5_set_116 : decode cX5_set 116 = .ok (.iload_n 1, 1) := dk_27 (dk_at dksX5_set_4 20 rfl rfl)
theorem dX5_set_117 : decode cX5_set 117 = .ok (.iaload, 1) := dk_46 (dk_at dksX5_set_4 21 rfl rfl)
theorem dX5_set_118 : decode cX5_set 118 = .ok (.iconst 2, 1) := dk_5 (dk_at dksX5_set_4 22 rfl rfl)
theorem dX5_set_119 : decode cX5_set 119 = .ok (.if_icmp .ne 9, 3) := dk_160 0 9 (dk_at dksX5_set_5 0 rfl rfl)
theorem dX5_set_122 : decode cX5_set 122 = .ok (.lload_n 3, 1) := dk_33 (dk_at dksX5_set_5 3 rfl rfl)
theorem dX5_set_123 : decode cX5_set 123 = .ok (.l2i, 1) := dk_136 (dk_at dksX5_set_5 4 rfl rfl)
theorem dX5_set_124 : decode cX5_set 124 = .ok (.i2l, 1) := dk_133 (dk_at dksX5_set_5 5 rfl rfl)
theorem dX5_set_125 : decode cX5_set 125 = .ok (.goto 4, 3) := dk_167 0 4 (dk_at dksX5_set_5 6 rfl rfl)
theorem dX5_set_128 : decode cX5_set 128 = .ok (.lload_n 3, 1) := dk_33 (dk_at dksX5_set_5 9 rfl rfl)
theorem dX5_set_129 : decode cX5_set 129 = .ok (.lastore, 1) := dk_80 (dk_at dksX5_set_5 10 rfl rfl)
theorem dX5_set_130 : decode cX5_set 130 = .ok (.iconst 1, 1) := dk_4 (dk_at dksX5_set_5 11 rfl rfl)
theorem dX5_set_131 : decode cX5_set 131 = .ok (.ireturn, 1) := dk_172 (dk_at dksX5_set_5 12 rfl rfl)
abbrev cX5_copy : ByteArray := prog_22_method_10_code
def yX5_copy : MethodName := ⟨RX5, "copy", "(IIIII)I"⟩
def dkwX5_copy_10 : List UInt8 := [132, 6, 1, 167, 255, 223, 4, 172]
abbrev dktX5_copy_10 : List UInt8 := dkwX5_copy_10 ++ []
def dkwX5_copy_9 : List UInt8 := [42, 180, 0, 68, 17, 0, 160, 28, 104, 21, 4, 96, 21, 6, 96, 42, 180, 0, 72, 21, 6, 47, 80]
abbrev dktX5_copy_9 : List UInt8 := dkwX5_copy_9 ++ dktX5_copy_10
def dkwX5_copy_8 : List UInt8 := [104, 29, 96, 21, 6, 96, 47, 80, 132, 6, 1, 167, 255, 224, 3, 54, 6, 21, 6, 21, 5, 162, 0, 32]
abbrev dktX5_copy_8 : List UInt8 := dkwX5_copy_8 ++ dktX5_copy_9
def dkwX5_copy_7 : List UInt8 := [3, 54, 6, 21, 6, 21, 5, 162, 0, 31, 42, 180, 0, 72, 21, 6, 42, 180, 0, 68, 17, 0, 160, 27]
abbrev dktX5_copy_7 : List UInt8 := dkwX5_copy_7 ++ dktX5_copy_8
def dkwX5_copy_6 : List UInt8 := [163, 0, 17, 21, 4, 42, 180, 0, 62, 28, 46, 21, 5, 100, 164, 0, 10, 42, 16, 251, 182, 0, 112, 172]
abbrev dktX5_copy_6 : List UInt8 := dkwX5_copy_6 ++ dktX5_copy_7
def dkwX5_copy_5 : List UInt8 := [182, 0, 112, 172, 29, 155, 0, 35, 21, 4, 155, 0, 30, 29, 42, 180, 0, 62, 27, 46, 21, 5, 100]
abbrev dktX5_copy_5 : List UInt8 := dkwX5_copy_5 ++ dktX5_copy_6
def dkwX5_copy_4 : List UInt8 := [42, 180, 0, 56, 28, 46, 154, 0, 10, 42, 16, 253, 182, 0, 112, 172, 21, 5, 156, 0, 10, 42, 16, 252]
abbrev dktX5_copy_4 : List UInt8 := dkwX5_copy_4 ++ dktX5_copy_5
def dkwX5_copy_3 : List UInt8 := [180, 0, 59, 28, 46, 159, 0, 10, 42, 16, 254, 182, 0, 112, 172, 42, 180, 0, 56, 27, 46, 153, 0, 12]
abbrev dktX5_copy_3 : List UInt8 := dkwX5_copy_3 ++ dktX5_copy_4
def dkwX5_copy_2 : List UInt8 := [46, 4, 160, 0, 35, 42, 180, 0, 56, 28, 46, 4, 160, 0, 25, 42, 180, 0, 59, 27, 46, 42]
abbrev dktX5_copy_2 : List UInt8 := dkwX5_copy_2 ++ dktX5_copy_3
def dkwX5_copy_1 : List UInt8 := [180, 0, 56, 27, 46, 5, 159, 0, 48, 42, 180, 0, 56, 28, 46, 5, 159, 0, 38, 42, 180, 0, 56, 27]
abbrev dktX5_copy_1 : List UInt8 := dkwX5_copy_1 ++ dktX5_copy_2
def dkwX5_copy_0 : List UInt8 := [42, 27, 182, 0, 108, 153, 0, 11, 42, 28, 182, 0, 108, 154, 0, 9, 42, 2, 182, 0, 112, 172, 42]
abbrev dktX5_copy_0 : List UInt8 := dkwX5_copy_0 ++ dktX5_copy_1
theorem dksX5_copy_0 : cX5_copy.data.toList.drop 0 = dktX5_copy_0 := by decide +kernel
theorem dksX5_copy_1 : cX5_copy.data.toList.drop 23 = dktX5_copy_1 := dk_seg dksX5_copy_0 23 rfl rfl
theorem dksX5_copy_2 : cX5_copy.data.toList.drop 47 = dktX5_copy_2 := dk_seg dksX5_copy_1 24 rfl rfl
theorem dksX5_copy_3 : cX5_copy.data.toList.drop 69 = dktX5_copy_3 := dk_seg dksX5_copy_2 22 rfl rfl
theorem dksX5_copy_4 : cX5_copy.data.toList.drop 93 = dktX5_copy_4 := dk_seg dksX5_copy_3 24 rfl rfl
theorem dksX5_copy_5 : cX5_copy.data.toList.drop 117 = dktX5_copy_5 := dk_seg dksX5_copy_4 24 rfl rfl
theorem dksX5_copy_6 : cX5_copy.data.toList.drop 140 = dktX5_copy_6 := dk_seg dksX5_copy_5 23 rfl rfl
theorem dksX5_copy_7 : cX5_copy.data.toList.drop 164 = dktX5_copy_7 := dk_seg dksX5_copy_6 24 rfl rfl
theorem dksX5_copy_8 : cX5_copy.data.toList.drop 188 = dktX5_copy_8 := dk_seg dksX5_copy_7 24 rfl rfl
theorem dksX5_copy_9 : cX5_copy.data.toList.drop 212 = dktX5_copy_9 := dk_seg dksX5_copy_8 24 rfl rfl
theorem dksX5_copy_10 : cX5_copy.data.toList.drop 235 = dktX5_copy_10 := dk_seg dksX5_copy_9 23 rfl rfl
theorem dX5_copy_0 : decode cX5_copy 0 = .ok (.aload_n 0, 1) := dk_42 (dk_at dksX5_copy_0 0 rfl rfl)
theorem dX5_copy_1 : decode cX5_copy 1 = .ok (.iload_n 1, 1) := dk_27 (dk_at dksX5_copy_0 1 rfl rfl)
theorem dX5_copy_2 : decode cX5_copy 2 = .ok (.invokevirtual 108, 3) := dk_182 0 108 (dk_at dksX5_copy_0 2 rfl rfl)
theorem dX5_copy_5 : decode cX5_copy 5 = .ok (.ifCond .eq 11, 3) := dk_153 0 11 (dk_at dksX5_copy_0 5 rfl rfl)
theorem dX5_copy_8 : decode cX5_copy 8 = .ok (.aload_n 0, 1) := dk_42 (dk_at dksX5_copy_0 8 rfl rfl)
theorem dX5_copy_9 : decode cX5_copy 9 = .ok (.iload_n 2, 1) := dk_28 (dk_at dksX5_copy_0 9 rfl rfl)
theorem dX5_copy_10 : decode cX5_copy 10 = .ok (.invokevirtual 108, 3) := dk_182 0 108 (dk_at dksX5_copy_0 10 rfl rfl)
theorem dX5_copy_13 : decode cX5_copy 13 = .ok (.ifCond .ne 9, 3) := dk_154 0 9 (dk_at dksX5_copy_0 13 rfl rfl)
theorem dX5_copy_16 : decode cX5_copy 16 = .ok (.aload_n 0, 1) := dk_42 (dk_at dksX5_copy_0 16 rfl rfl)
theorem dX5_copy_17 : decode cX5_copy 17 = .ok (.iconst (-1), 1) := dk_2 (dk_at dksX5_copy_0 17 rfl rfl)
theorem dX5_copy_18 : decode cX5_copy 18 = .ok (.invokevirtual 112, 3) := dk_182 0 112 (dk_at dksX5_copy_0 18 rfl rfl)
theorem dX5_copy_21 : decode cX5_copy 21 = .ok (.ireturn, 1) := dk_172 (dk_at dksX5_copy_0 21 rfl rfl)
theorem dX5_copy_22 : decode cX5_copy 22 = .ok (.aload_n 0, 1) := dk_42 (dk_at dksX5_copy_0 22 rfl rfl)
theorem dX5_copy_23 : decode cX5_copy 23 = .ok (.getfield 56, 3) := dk_180 0 56 (dk_at dksX5_copy_1 0 rfl rfl)
theorem dX5_copy_26 : decode cX5_copy 26 = .ok (.iload_n 1, 1) := dk_27 (dk_at dksX5_copy_1 3 rfl rfl)
theorem dX5_copy_27 : decode cX5_copy 27 = .ok (.iaload, 1) := dk_46 (dk_at dksX5_copy_1 4 rfl rfl)
theorem dX5_copy_28 : decode cX5_copy 28 = .ok (.iconst 2, 1) := dk_5 (dk_at dksX5_copy_1 5 rfl rfl)
theorem dX5_copy_29 : decode cX5_copy 29 = .ok (.if_icmp .eq 48, 3) := dk_159 0 48 (dk_at dksX5_copy_1 6 rfl rfl)
theorem dX5_copy_32 : decode cX5_copy 32 = .ok (.aload_n 0, 1) := dk_42 (dk_at dksX5_copy_1 9 rfl rfl)
theorem dX5_copy_33 : decode cX5_copy 33 = .ok (.getfield 56, 3) := dk_180 0 56 (dk_at dksX5_copy_1 10 rfl rfl)
theorem dX5_copy_36 : decode cX5_copy 36 = .ok (.iload_n 2, 1) := dk_28 (dk_at dksX5_copy_1 13 rfl rfl)
theorem dX5_copy_37 : decode cX5_copy 37 = .ok (.iaload, 1) := dk_46 (dk_at dksX5_copy_1 14 rfl rfl)
theorem dX5_copy_38 : decode cX5_copy 38 = .ok (.iconst 2, 1) := dk_5 (dk_at dksX5_copy_1 15 rfl rfl)
theorem dX5_copy_39 : decode cX5_copy 39 = .ok (.if_icmp .eq 38, 3) := dk_159 0 38 (dk_at dksX5_copy_1 16 rfl rfl)
theorem dX5_copy_42 : decode cX5_copy 42 = .ok (.aload_n 0, 1) := dk_42 (dk_at dksX5_copy_1 19 rfl rfl)
theorem dX5_copy_43 : decode cX5_copy 43 = .ok (.getfield 56, 3) := dk_180 0 56 (dk_at dksX5_copy_1 20 rfl rfl)
theorem dX5_copy_46 : decode cX5_copy 46 = .ok (.iload_n 1, 1) := dk_27 (dk_at dksX5_copy_1 23 rfl rfl)
theorem dX5_copy_47 : decode cX5_copy 47 = .ok (.iaload, 1) := dk_46 (dk_at dksX5_copy_2 0 rfl rfl)
theorem dX5_copy_48 : decode cX5_copy 48 = .ok (.iconst 1, 1) := dk_4 (dk_at dksX5_copy_2 1 rfl rfl)
theorem dX5_copy_49 : decode cX5_copy 49 = .ok (.if_icmp .ne 35, 3) := dk_160 0 35 (dk_at dksX5_copy_2 2 rfl rfl)
theorem dX5_copy_52 : decode cX5_copy 52 = .ok (.aload_n 0, 1) := dk_42 (dk_at dksX5_copy_2 5 rfl rfl)
theorem dX5_copy_53 : decode cX5_copy 53 = .ok (.getfield 56, 3) := dk_180 0 56 (dk_at dksX5_copy_2 6 rfl rfl)
theorem dX5_copy_56 : decode cX5_copy 56 = .ok (.iload_n 2, 1) := dk_28 (dk_at dksX5_copy_2 9 rfl rfl)
theorem dX5_copy_57 : decode cX5_copy 57 = .ok (.iaload, 1) := dk_46 (dk_at dksX5_copy_2 10 rfl rfl)
theorem dX5_copy_58 : decode cX5_copy 58 = .ok (.iconst 1, 1) := dk_4 (dk_at dksX5_copy_2 11 rfl rfl)
theorem dX5_copy_59 : decode cX5_copy 59 = .ok (.if_icmp .ne 25, 3) := dk_160 0 25 (dk_at dksX5_copy_2 12 rfl rfl)
theorem dX5_copy_62 : decode cX5_copy 62 = .ok (.aload_n 0, 1) := dk_42 (dk_at dksX5_copy_2 15 rfl rfl)
theorem dX5_copy_63 : decode cX5_copy 63 = .ok (.getfield 59, 3) := dk_180 0 59 (dk_at dksX5_copy_2 16 rfl rfl)
theorem dX5_copy_66 : decode cX5_copy 66 = .ok (.iload_n 1, 1) := dk_27 (dk_at dksX5_copy_2 19 rfl rfl)
theorem dX5_copy_67 : decode cX5_copy 67 = .ok (.iaload, 1) := dk_46 (dk_at dksX5_copy_2 20 rfl rfl)
theorem dX5_copy_68 : decode cX5_copy 68 = .ok (.aload_n 0, 1) := dk_42 (dk_at dksX5_copy_2 21 rfl rfl)
theorem dX5_copy_69 : decode cX5_copy 69 = .ok (.getfield 59, 3) := dk_180 0 59 (dk_at dksX5_copy_3 0 rfl rfl)
theorem dX5_copy_72 : decode cX5_copy 72 = .ok (.iload_n 2, 1) := dk_28 (dk_at dksX5_copy_3 3 rfl rfl)
theorem dX5_copy_73 : decode cX5_copy 73 = .ok (.iaload, 1) := dk_46 (dk_at dksX5_copy_3 4 rfl rfl)
theorem dX5_copy_74 : decode cX5_copy 74 = .ok (.if_icmp .eq 10, 3) := dk_159 0 10 (dk_at dksX5_copy_3 5 rfl rfl)
theorem dX5_copy_77 : decode cX5_copy 77 = .ok (.aload_n 0, 1) := dk_42 (dk_at dksX5_copy_3 8 rfl rfl)
theorem dX5_copy_78 : decode cX5_copy 78 = .ok (.bipush (-2), 2) := dk_16 254 (dk_at dksX5_copy_3 9 rfl rfl)
theorem dX5_copy_80 : decode cX5_copy 80 = .ok (.invokevirtual 112, 3) := dk_182 0 112 (dk_at dksX5_copy_3 11 rfl rfl)
theorem dX5_copy_83 : decode cX5_copy 83 = .ok (.ireturn, 1) := dk_172 (dk_at dksX5_copy_3 14 rfl rfl)
theorem dX5_copy_84 : decode cX5_copy 84 = .ok (.aload_n 0, 1) := dk_42 (dk_at dksX5_copy_3 15 rfl rfl)
theorem dX5_copy_85 : decode cX5_copy 85 = .ok (.getfield 56, 3) := dk_180 0 56 (dk_at dksX5_copy_3 16 rfl rfl)
theorem dX5_copy_88 : decode cX5_copy 88 = .ok (.iload_n 1, 1) := dk_27 (dk_at dksX5_copy_3 19 rfl rfl)
theorem dX5_copy_89 : decode cX5_copy 89 = .ok (.iaload, 1) := dk_46 (dk_at dksX5_copy_3 20 rfl rfl)
theorem dX5_copy_90 : decode cX5_copy 90 = .ok (.ifCond .eq 12, 3) := dk_153 0 12 (dk_at dksX5_copy_3 21 rfl rfl)
theorem dX5_copy_93 : decode cX5_copy 93 = .ok (.aload_n 0, 1) := dk_42 (dk_at dksX5_copy_4 0 rfl rfl)
theorem dX5_copy_94 : decode cX5_copy 94 = .ok (.getfield 56, 3) := dk_180 0 56 (dk_at dksX5_copy_4 1 rfl rfl)
theorem dX5_copy_97 : decode cX5_copy 97 = .ok (.iload_n 2, 1) := dk_28 (dk_at dksX5_copy_4 4 rfl rfl)
theorem dX5_copy_98 : decode cX5_copy 98 = .ok (.iaload, 1) := dk_46 (dk_at dksX5_copy_4 5 rfl rfl)
theorem dX5_copy_99 : decode cX5_copy 99 = .ok (.ifCond .ne 10, 3) := dk_154 0 10 (dk_at dksX5_copy_4 6 rfl rfl)
theorem dX5_copy_102 : decode cX5_copy 102 = .ok (.aload_n 0, 1) := dk_42 (dk_at dksX5_copy_4 9 rfl rfl)
theorem dX5_copy_103 : decode cX5_copy 103 = .ok (.bipush (-3), 2) := dk_16 253 (dk_at dksX5_copy_4 10 rfl rfl)
theorem dX5_copy_105 : decode cX5_copy 105 = .ok (.invokevirtual 112, 3) := dk_182 0 112 (dk_at dksX5_copy_4 12 rfl rfl)
theorem dX5_copy_108 : decode cX5_copy 108 = .ok (.ireturn, 1) := dk_172 (dk_at dksX5_copy_4 15 rfl rfl)
theorem dX5_copy_109 : decode cX5_copy 109 = .ok (.iload 5, 2) := dk_21 5 (dk_at dksX5_copy_4 16 rfl rfl)
theorem dX5_copy_111 : decode cX5_copy 111 = .ok (.ifCond .ge 10, 3) := dk_156 0 10 (dk_at dksX5_copy_4 18 rfl rfl)
theorem dX5_copy_114 : decode cX5_copy 114 = .ok (.aload_n 0, 1) := dk_42 (dk_at dksX5_copy_4 21 rfl rfl)
theorem dX5_copy_115 : decode cX5_copy 115 = .ok (.bipush (-4), 2) := dk_16 252 (dk_at dksX5_copy_4 22 rfl rfl)
theorem dX5_copy_117 : decode cX5_copy 117 = .ok (.invokevirtual 112, 3) := dk_182 0 112 (dk_at dksX5_copy_5 0 rfl rfl)
theorem dX5_copy_120 : decode cX5_copy 120 = .ok (.ireturn, 1) := dk_172 (dk_at dksX5_copy_5 3 rfl rfl)
theorem dX5_copy_121 : decode cX5_copy 121 = .ok (.iload_n 3, 1) := dk_29 (dk_at dksX5_copy_5 4 rfl rfl)
theorem dX5_copy_122 : decode cX5_copy 122 = .ok (.ifCond .lt 35, 3) := dk_155 0 35 (dk_at dksX5_copy_5 5 rfl rfl)
theorem dX5_copy_125 : decode cX5_copy 125 = .ok (.iload 4, 2) := dk_21 4 (dk_at dksX5_copy_5 8 rfl rfl)
theorem dX5_copy_127 : decode cX5_copy 127 = .ok (.ifCond .lt 30, 3) := dk_155 0 30 (dk_at dksX5_copy_5 10 rfl rfl)
theorem dX5_copy_130 : decode cX5_copy 130 = .ok (.iload_n 3, 1) := dk_29 (dk_at dksX5_copy_5 13 rfl rfl)
theorem dX5_copy_131 : decode cX5_copy 131 = .ok (.aload_n 0, 1) := dk_42 (dk_at dksX5_copy_5 14 rfl rfl)
theorem dX5_copy_132 : decode cX5_copy 132 = .ok (.getfield 62, 3) := dk_180 0 62 (dk_at dksX5_copy_5 15 rfl rfl)
theorem dX5_copy_135 : decode cX5_copy 135 = .ok (.iload_n 1, 1) := dk_27 (dk_at dksX5_copy_5 18 rfl rfl)
theorem dX5_copy_136 : decode cX5_copy 136 = .ok (.iaload, 1) := dk_46 (dk_at dksX5_copy_5 19 rfl rfl)
theorem dX5_copy_137 : decode cX5_copy 137 = .ok (.iload 5, 2) := dk_21 5 (dk_at dksX5_copy_5 20 rfl rfl)
theorem dX5_copy_139 : decode cX5_copy 139 = .ok (.isub, 1) := dk_100 (dk_at dksX5_copy_5 22 rfl rfl)
theorem dX5_copy_140 : decode cX5_copy 140 = .ok (.if_icmp .gt 17, 3) := dk_163 0 17 (dk_at dksX5_copy_6 0 rfl rfl)
theorem dX5_copy_143 : decode cX5_copy 143 = .ok (.iload 4, 2) := dk_21 4 (dk_at dksX5_copy_6 3 rfl rfl)
theorem dX5_copy_145 : decode cX5_copy 145 = .ok (.aload_n 0, 1) := dk_42 (dk_at dksX5_copy_6 5 rfl rfl)
theorem dX5_copy_146 : decode cX5_copy 146 = .ok (.getfield 62, 3) := dk_180 0 62 (dk_at dksX5_copy_6 6 rfl rfl)
theorem dX5_copy_149 : decode cX5_copy 149 = .ok (.iload_n 2, 1) := dk_28 (dk_at dksX5_copy_6 9 rfl rfl)
theorem dX5_copy_150 : decode cX5_copy 150 = .ok (.iaload, 1) := dk_46 (dk_at dksX5_copy_6 10 rfl rfl)
theorem dX5_copy_151 : decode cX5_copy 151 = .ok (.iload 5, 2) := dk_21 5 (dk_at dksX5_copy_6 11 rfl rfl)
theorem dX5_copy_153 : decode cX5_copy 153 = .ok (.isub, 1) := dk_100 (dk_at dksX5_copy_6 13 rfl rfl)
theorem dX5_copy_154 : decode cX5_copy 154 = .ok (.if_icmp .le 10, 3) := dk_164 0 10 (dk_at dksX5_copy_6 14 rfl rfl)
theorem dX5_copy_157 : decode cX5_copy 157 = .ok (.aload_n 0, 1) := dk_42 (dk_at dksX5_copy_6 17 rfl rfl)
theorem dX5_copy_158 : decode cX5_copy 158 = .ok (.bipush (-5), 2) := dk_16 251 (dk_at dksX5_copy_6 18 rfl rfl)
theorem dX5_copy_160 : decode cX5_copy 160 = .ok (.invokevirtual 112, 3) := dk_182 0 112 (dk_at dksX5_copy_6 20 rfl rfl)
theorem dX5_copy_163 : decode cX5_copy 163 = .ok (.ireturn, 1) := dk_172 (dk_at dksX5_copy_6 23 rfl rfl)
theorem dX5_copy_164 : decode cX5_copy 164 = .ok (.iconst 0, 1) := dk_3 (dk_at dksX5_copy_7 0 rfl rfl)
theorem dX5_copy_165 : decode cX5_copy 165 = .ok (.istore 6, 2) := dk_54 6 (dk_at dksX5_copy_7 1 rfl rfl)
theorem dX5_copy_167 : decode cX5_copy 167 = .ok (.iload 6, 2) := dk_21 6 (dk_at dksX5_copy_7 3 rfl rfl)
theorem dX5_copy_169 : decode cX5_copy 169 = .ok (.iload 5, 2) := dk_21 5 (dk_at dksX5_copy_7 5 rfl rfl)
theorem dX5_copy_171 : decode cX5_copy 171 = .ok (.if_icmp .ge 31, 3) := dk_162 0 31 (dk_at dksX5_copy_7 7 rfl rfl)
theorem dX5_copy_174 : decode cX5_copy 174 = .ok (.aload_n 0, 1) := dk_42 (dk_at dksX5_copy_7 10 rfl rfl)
theorem dX5_copy_175 : decode cX5_copy 175 = .ok (.getfield 72, 3) := dk_180 0 72 (dk_at dksX5_copy_7 11 rfl rfl)
theorem dX5_copy_178 : decode cX5_copy 178 = .ok (.iload 6, 2) := dk_21 6 (dk_at dksX5_copy_7 14 rfl rfl)
theorem dX5_copy_180 : decode cX5_copy 180 = .ok (.aload_n 0, 1) := dk_42 (dk_at dksX5_copy_7 16 rfl rfl)
theorem dX5_copy_181 : decode cX5_copy 181 = .ok (.getfield 68, 3) := dk_180 0 68 (dk_at dksX5_copy_7 17 rfl rfl)
theorem dX5_copy_184 : decode cX5_copy 184 = .ok (.sipush 160, 3) := dk_17 0 160 (dk_at dksX5_copy_7 20 rfl rfl)
theorem dX5_copy_187 : decode cX5_copy 187 = .ok (.iload_n 1, 1) := dk_27 (dk_at dksX5_copy_7 23 rfl rfl)
theorem dX5_copy_188 : decode cX5_copy 188 = .ok (.imul, 1) := dk_104 (dk_at dksX5_copy_8 0 rfl rfl)
theorem dX5_copy_189 : decode cX5_copy 189 = .ok (.iload_n 3, 1) := dk_29 (dk_at dksX5_copy_8 1 rfl rfl)
theorem dX5_copy_190 : decode cX5_copy 190 = .ok (.iadd, 1) := dk_96 (dk_at dksX5_copy_8 2 rfl rfl)
theorem dX5_copy_191 : decode cX5_copy 191 = .ok (.iload 6, 2) := dk_21 6 (dk_at dksX5_copy_8 3 rfl rfl)
theorem dX5_copy_193 : decode cX5_copy 193 = .ok (.iadd, 1) := dk_96 (dk_at dksX5_copy_8 5 rfl rfl)
theorem dX5_copy_194 : decode cX5_copy 194 = .ok (.laload, 1) := dk_47 (dk_at dksX5_copy_8 6 rfl rfl)
theorem dX5_copy_195 : decode cX5_copy 195 = .ok (.lastore, 1) := dk_80 (dk_at dksX5_copy_8 7 rfl rfl)
theorem dX5_copy_196 : decode cX5_copy 196 = .ok (.iinc 6 1, 3) := dk_132 6 1 (dk_at dksX5_copy_8 8 rfl rfl)
theorem dX5_copy_199 : decode cX5_copy 199 = .ok (.goto (-32), 3) := dk_167 255 224 (dk_at dksX5_copy_8 11 rfl rfl)
theorem dX5_copy_202 : decode cX5_copy 202 = .ok (.iconst 0, 1) := dk_3 (dk_at dksX5_copy_8 14 rfl rfl)
theorem dX5_copy_203 : decode cX5_copy 203 = .ok (.istore 6, 2) := dk_54 6 (dk_at dksX5_copy_8 15 rfl rfl)
theorem dX5_copy_205 : decode cX5_copy 205 = .ok (.iload 6, 2) := dk_21 6 (dk_at dksX5_copy_8 17 rfl rfl)
theorem dX5_copy_207 : decode cX5_copy 207 = .ok (.iload 5, 2) := dk_21 5 (dk_at dksX5_copy_8 19 rfl rfl)
theorem dX5_copy_209 : decode cX5_copy 209 = .ok (.if_icmp .ge 32, 3) := dk_162 0 32 (dk_at dksX5_copy_8 21 rfl rfl)
theorem dX5_copy_212 : decode cX5_copy 212 = .ok (.aload_n 0, 1) := dk_42 (dk_at dksX5_copy_9 0 rfl rfl)
theorem dX5_copy_213 : decode cX5_copy 213 = .ok (.getfield 68, 3) := dk_180 0 68 (dk_at dksX5_copy_9 1 rfl rfl)
theorem dX5_copy_216 : decode cX5_copy 216 = .ok (.sipush 160, 3) := dk_17 0 160 (dk_at dksX5_copy_9 4 rfl rfl)
theorem dX5_copy_219 : decode cX5_copy 219 = .ok (.iload_n 2, 1) := dk_28 (dk_at dksX5_copy_9 7 rfl rfl)
theorem dX5_copy_220 : decode cX5_copy 220 = .ok (.imul, 1) := dk_104 (dk_at dksX5_copy_9 8 rfl rfl)
theorem dX5_copy_221 : decode cX5_copy 221 = .ok (.iload 4, 2) := dk_21 4 (dk_at dksX5_copy_9 9 rfl rfl)
theorem dX5_copy_223 : decode cX5_copy 223 = .ok (.iadd, 1) := dk_96 (dk_at dksX5_copy_9 11 rfl rfl)
theorem dX5_copy_224 : decode cX5_copy 224 = .ok (.iload 6, 2) := dk_21 6 (dk_at dksX5_copy_9 12 rfl rfl)
theorem dX5_copy_226 : decode cX5_copy 226 = .ok (.iadd, 1) := dk_96 (dk_at dksX5_copy_9 14 rfl rfl)
theorem dX5_copy_227 : decode cX5_copy 227 = .ok (.aload_n 0, 1) := dk_42 (dk_at dksX5_copy_9 15 rfl rfl)
theorem dX5_copy_228 : decode cX5_copy 228 = .ok (.getfield 72, 3) := dk_180 0 72 (dk_at dksX5_copy_9 16 rfl rfl)
theorem dX5_copy_231 : decode cX5_copy 231 = .ok (.iload 6, 2) := dk_21 6 (dk_at dksX5_copy_9 19 rfl rfl)
theorem dX5_copy_233 : decode cX5_copy 233 = .ok (.laload, 1) := dk_47 (dk_at dksX5_copy_9 21 rfl rfl)
theorem dX5_copy_234 : decode cX5_copy 234 = .ok (.lastore, 1) := dk_80 (dk_at dksX5_copy_9 22 rfl rfl)
theorem dX5_copy_235 : decode cX5_copy 235 = .ok (.iinc 6 1, 3) := dk_132 6 1 (dk_at dksX5_copy_10 0 rfl rfl)
theorem dX5_copy_238 : decode cX5_copy 238 = .ok (.goto (-33), 3) := dk_167 255 223 (dk_at dksX5_copy_10 3 rfl rfl)
theorem dX5_copy_241 : decode cX5_copy 241 = .ok (.iconst 1, 1) := dk_4 (dk_at dksX5_copy_10 6 rfl rfl)
theorem dX5_copy_242 : decode cX5_copy 242 = .ok (.ireturn, 1) := dk_172 (dk_at dksX5_copy_10 7 rfl rfl)
abbrev cX5_element : ByteArray := prog_22_method_11_code
def yX5_element : MethodName := ⟨RX5, "element", "(II)J"⟩
def dkwX5_element_2 : List UInt8 := [173]
abbrev dktX5_element_2 : List UInt8 := dkwX5_element_2 ++ []
def dkwX5_element_1 : List UInt8 := [180, 0, 62, 27, 46, 162, 0, 18, 42, 180, 0, 68, 17, 0, 160, 27, 104, 28, 96, 47, 167, 0, 4, 9]
abbrev dktX5_element_1 : List UInt8 := dkwX5_element_1 ++ dktX5_element_2
def dkwX5_element_0 : List UInt8 := [42, 27, 182, 0, 108, 153, 0, 42, 42, 180, 0, 56, 27, 46, 4, 160, 0, 32, 28, 155, 0, 28, 28, 42]
abbrev dktX5_element_0 : List UInt8 := dkwX5_element_0 ++ dktX5_element_1
theorem dksX5_element_0 : cX5_element.data.toList.drop 0 = dktX5_element_0 := by decide +kernel
theorem dksX5_element_1 : cX5_element.data.toList.drop 24 = dktX5_element_1 := dk_seg dksX5_element_0 24 rfl rfl
theorem dksX5_element_2 : cX5_element.data.toList.drop 48 = dktX5_element_2 := dk_seg dksX5_element_1 24 rfl rfl
theorem dX5_element_0 : decode cX5_element 0 = .ok (.aload_n 0, 1) := dk_42 (dk_at dksX5_element_0 0 rfl rfl)
theorem dX5_element_1 : decode cX5_element 1 = .ok (.iload_n 1, 1) := dk_27 (dk_at dksX5_element_0 1 rfl rfl)
theorem dX5_element_2 : decode cX5_element 2 = .ok (.invokevirtual 108, 3) := dk_182 0 108 (dk_at dksX5_element_0 2 rfl rfl)
theorem dX5_element_5 : decode cX5_element 5 = .ok (.ifCond .eq 42, 3) := dk_153 0 42 (dk_at dksX5_element_0 5 rfl rfl)
theorem dX5_element_8 : decode cX5_element 8 = .ok (.aload_n 0, 1) := dk_42 (dk_at dksX5_element_0 8 rfl rfl)
theorem dX5_element_9 : decode cX5_element 9 = .ok (.getfield 56, 3) := dk_180 0 56 (dk_at dksX5_element_0 9 rfl rfl)
theorem dX5_element_12 : decode cX5_element 12 = .ok (.iload_n 1, 1) := dk_27 (dk_at dksX5_element_0 12 rfl rfl)
theorem dX5_element_13 : decode cX5_element 13 = .ok (.iaload, 1) := dk_46 (dk_at dksX5_element_0 13 rfl rfl)
theorem dX5_element_14 : decode cX5_element 14 = .ok (.iconst 1, 1) := dk_4 (dk_at dksX5_element_0 14 rfl rfl)
theorem dX5_element_15 : decode cX5_element 15 = .ok (.if_icmp .ne 32, 3) := dk_160 0 32 (dk_at dksX5_element_0 15 rfl rfl)
theorem dX5_element_18 : decode cX5_element 18 = .ok (.iload_n 2, 1) := dk_28 (dk_at dksX5_element_0 18 rfl rfl)
theorem dX5_element_19 : decode cX5_element 19 = .ok (.ifCond .lt 28, 3) := dk_155 0 28 (dk_at dksX5_element_0 19 rfl rfl)
theorem dX5_element_22 : decode cX5_element 22 = .ok (.iload_n 2, 1) := dk_28 (dk_at dksX5_element_0 22 rfl rfl)
theorem dX5_element_23 : decode cX5_element 23 = .ok (.aload_n 0, 1) := dk_42 (dk_at dksX5_element_0 23 rfl rfl)
theorem dX5_element_24 : decode cX5_element 24 = .ok (.getfield 62, 3) := dk_180 0 62 (dk_at dksX5_element_1 0 rfl rfl)
theorem dX5_element_27 : decode cX5_element 27 = .ok (.iload_n 1, 1) := dk_27 (dk_at dksX5_element_1 3 rfl rfl)
theorem dX5_element_28 : decode cX5_element 28 = .ok (.iaload, 1) := dk_46 (dk_at dksX5_element_1 4 rfl rfl)
theorem dX5_element_29 : decode cX5_element 29 = .ok (.if_icmp .ge 18, 3) := dk_162 0 18 (dk_at dksX5_element_1 5 rfl rfl)
theorem dX5_element_32 : decode cX5_element 32 = .ok (.aload_n 0, 1) := dk_42 (dk_at dksX5_element_1 8 rfl rfl)
theorem dX5_element_33 : decode cX5_element 33 = .ok (.getfield 68, 3) := dk_180 0 68 (dk_at dksX5_element_1 9 rfl rfl)
theorem dX5_element_36 : decode cX5_element 36 = .ok (.sipush 160, 3) := dk_17 0 160 (dk_at dksX5_element_1 12 rfl rfl)
theorem dX5_element_39 : decode cX5_element 39 = .ok (.iload_n 1, 1) := dk_27 (dk_at dksX5_element_1 15 rfl rfl)
theorem dX5_element_40 : decode cX5_element 40 = .ok (.imul, 1) := dk_104 (dk_at dksX5_element_1 16 rfl rfl)
theorem dX5_element_41 : decode cX5_element 41 = .ok (.iload_n 2, 1) := dk_28 (dk_at dksX5_element_1 17 rfl rfl)
theorem dX5_element_42 : decode cX5_element 42 = .ok (.iadd, 1) := dk_96 (dk_at dksX5_element_1 18 rfl rfl)
theorem dX5_element_43 : decode cX5_element 43 = .ok (.laload, 1) := dk_47 (dk_at dksX5_element_1 19 rfl rfl)
theorem dX5_element_44 : decode cX5_element 44 = .ok (.goto 4, 3) := dk_167 0 4 (dk_at dksX5_element_1 20 rfl rfl)
theorem dX5_element_47 : decode cX5_element 47 = .ok (.lconst 0, 1) := dk_9 (dk_at dksX5_element_1 23 rfl rfl)
theorem dX5_element_48 : decode cX5_element 48 = .ok (.lreturn, 1) := dk_173 (dk_at dksX5_element_2 0 rfl rfl)
abbrev cX5_show : ByteArray := prog_22_method_12_code
def yX5_show : MethodName := ⟨RX5, "show", "(II)I"⟩
def dkwX5_show_2 : List UInt8 := [27, 28, 79, 28, 2, 160, 0, 7, 3, 167, 0, 4, 4, 172]
abbrev dktX5_show_2 : List UInt8 := dkwX5_show_2 ++ []
def dkwX5_show_1 : List UInt8 := [182, 0, 112, 172, 42, 180, 0, 56, 27, 28, 2, 160, 0, 7, 3, 167, 0, 4, 5, 79, 42, 180, 0, 65]
abbrev dktX5_show_1 : List UInt8 := dkwX5_show_1 ++ dktX5_show_2
def dkwX5_show_0 : List UInt8 := [42, 27, 182, 0, 108, 153, 0, 16, 28, 2, 159, 0, 17, 42, 28, 182, 0, 116, 154, 0, 9, 42, 2]
abbrev dktX5_show_0 : List UInt8 := dkwX5_show_0 ++ dktX5_show_1
theorem dksX5_show_0 : cX5_show.data.toList.drop 0 = dktX5_show_0 := by decide +kernel
theorem dksX5_show_1 : cX5_show.data.toList.drop 23 = dktX5_show_1 := dk_seg dksX5_show_0 23 rfl rfl
theorem dksX5_show_2 : cX5_show.data.toList.drop 47 = dktX5_show_2 := dk_seg dksX5_show_1 24 rfl rfl
theorem dX5_show_0 : decode cX5_show 0 = .ok (.aload_n 0, 1) := dk_42 (dk_at dksX5_show_0 0 rfl rfl)
theorem dX5_show_1 : decode cX5_show 1 = .ok (.iload_n 1, 1) := dk_27 (dk_at dksX5_show_0 1 rfl rfl)
theorem dX5_show_2 : decode cX5_show 2 = .ok (.invokevirtual 108, 3) := dk_182 0 108 (dk_at dksX5_show_0 2 rfl rfl)
theorem dX5_show_5 : decode cX5_show 5 = .ok (.ifCond .eq 16, 3) := dk_153 0 16 (dk_at dksX5_show_0 5 rfl rfl)
theorem dX5_show_8 : decode cX5_show 8 = .ok (.iload_n 2, 1) := dk_28 (dk_at dksX5_show_0 8 rfl rfl)
theorem dX5_show_9 : decode cX5_show 9 = .ok (.iconst (-1), 1) := dk_2 (dk_at dksX5_show_0 9 rfl rfl)
theorem dX5_show_10 : decode cX5_show 10 = .ok (.if_icmp .eq 17, 3) := dk_159 0 17 (dk_at dksX5_show_0 10 rfl rfl)
theorem dX5_show_13 : decode cX5_show 13 = .ok (.aload_n 0, 1) := dk_42 (dk_at dksX5_show_0 13 rfl rfl)
theorem dX5_show_14 : decode cX5_show 14 = .ok (.iload_n 2, 1) := dk_28 (dk_at dksX5_show_0 14 rfl rfl)
theorem dX5_show_15 : decode cX5_show 15 = .ok (.invokevirtual 116, 3) := dk_182 0 116 (dk_at dksX5_show_0 15 rfl rfl)
theorem dX5_show_18 : decode cX5_show 18 = .ok (.ifCond .ne 9, 3) := dk_154 0 9 (dk_at dksX5_show_0 18 rfl rfl)
theorem dX5_show_21 : decode cX5_show 21 = .ok (.aload_n 0, 1) := dk_42 (dk_at dksX5_show_0 21 rfl rfl)
theorem dX5_show_22 : decode cX5_show 22 = .ok (.iconst (-1), 1) := dk_2 (dk_at dksX5_show_0 22 rfl rfl)
theorem dX5_show_23 : decode cX5_show 23 = .ok (.invokevirtual 112, 3) := dk_182 0 112 (dk_at dksX5_show_1 0 rfl rfl)
theorem dX5_show_26 : decode cX5_show 26 = .ok (.ireturn, 1) := dk_172 (dk_at dksX5_show_1 3 rfl rfl)
theorem dX5_show_27 : decode cX5_show 27 = .ok (.aload_n 0, 1) := dk_42 (dk_at dksX5_show_1 4 rfl rfl)
theorem dX5_show_28 : decode cX5_show 28 = .ok (.getfield 56, 3) := dk_180 0 56 (dk_at dksX5_show_1 5 rfl rfl)
theorem dX5_show_31 : decode cX5_show 31 = .ok (.iload_n 1, 1) := dk_27 (dk_at dksX5_show_1 8 rfl rfl)
theorem dX5_show_32 : decode cX5_show 32 = .ok (.iload_n 2, 1) := dk_28 (dk_at dksX5_show_1 9 rfl rfl)
theorem dX5_show_33 : decode cX5_show 33 = .ok (.iconst (-1), 1) := dk_2 (dk_at dksX5_show_1 10 rfl rfl)
theorem dX5_show_34 : decode cX5_show 34 = .ok (.if_icmp .ne 7, 3) := dk_160 0 7 (dk_at dksX5_show_1 11 rfl rfl)
theorem dX5_show_37 : decode cX5_show 37 = .ok (.iconst 0, 1) := dk_3 (dk_at dksX5_show_1 14 rfl rfl)
theorem dX5_show_38 : decode cX5_show 38 = .ok (.goto 4, 3) := dk_167 0 4 (dk_at dksX5_show_1 15 rfl rfl)
theorem dX5_show_41 : decode cX5_show 41 = .ok (.iconst 2, 1) := dk_5 (dk_at dksX5_show_1 18 rfl rfl)
theorem dX5_show_42 : decode cX5_show 42 = .ok (.iastore, 1) := dk_79 (dk_at dksX5_show_1 19 rfl rfl)
theorem dX5_show_43 : decode cX5_show 43 = .ok (.aload_n 0, 1) := dk_42 (dk_at dksX5_show_1 20 rfl rfl)
theorem dX5_show_44 : decode cX5_show 44 = .ok (.getfield 65, 3) := dk_180 0 65 (dk_at dksX5_show_1 21 rfl rfl)
theorem dX5_show_47 : decode cX5_show 47 = .ok (.iload_n 1, 1) := dk_27 (dk_at dksX5_show_2 0 rfl rfl)
theorem dX5_show_48 : decode cX5_show 48 = .ok (.iload_n 2, 1) := dk_28 (dk_at dksX5_show_2 1 rfl rfl)
theorem dX5_show_49 : decode cX5_show 49 = .ok (.iastore, 1) := dk_79 (dk_at dksX5_show_2 2 rfl rfl)
theorem dX5_show_50 : decode cX5_show 50 = .ok (.iload_n 2, 1) := dk_28 (dk_at dksX5_show_2 3 rfl rfl)
theorem dX5_show_51 : decode cX5_show 51 = .ok (.iconst (-1), 1) := dk_2 (dk_at dksX5_show_2 4 rfl rfl)
theorem dX5_show_52 : decode cX5_show 52 = .ok (.if_icmp .ne 7, 3) := dk_160 0 7 (dk_at dksX5_show_2 5 rfl rfl)
theorem dX5_show_55 : decode cX5_show 55 = .ok (.iconst 0, 1) := dk_3 (dk_at dksX5_show_2 8 rfl rfl)
theorem dX5_show_56 : decode cX5_show 56 = .ok (.goto 4, 3) := dk_167 0 4 (dk_at dksX5_show_2 9 rfl rfl)
theorem dX5_show_59 : decode cX5_show 59 = .ok (.iconst 1, 1) := dk_4 (dk_at dksX5_show_2 12 rfl rfl)
theorem dX5_show_60 : decode cX5_show 60 = .ok (.ireturn, 1) := dk_172 (dk_at dksX5_show_2 13 rfl rfl)
abbrev cX5_isHome : ByteArray := prog_22_method_6_code
def yX5_isHome : MethodName := ⟨RX5, "isHome", "(I)Z"⟩
def dkwX5_isHome_0 : List UInt8 := [27, 155, 0, 15, 27, 42, 180, 0, 105, 162, 0, 7, 4, 167, 0, 4, 3, 172]
abbrev dktX5_isHome_0 : List UInt8 := dkwX5_isHome_0 ++ []
theorem dksX5_isHome_0 : cX5_isHome.data.toList.drop 0 = dktX5_isHome_0 := by decide +kernel
theorem dX5_isHome_0 : decode cX5_isHome 0 = .ok (.iload_n 1, 1) := dk_27 (dk_at dksX5_isHome_0 0 rfl rfl)
theorem dX5_isHome_1 : decode cX5_isHome 1 = .ok (.ifCond .lt 15, 3) := dk_155 0 15 (dk_at dksX5_isHome_0 1 rfl rfl)
theorem dX5_isHome_4 : decode cX5_isHome 4 = .ok (.iload_n 1, 1) := dk_27 (dk_at dksX5_isHome_0 4 rfl rfl)
theorem dX5_isHome_5 : decode cX5_isHome 5 = .ok (.aload_n 0, 1) := dk_42 (dk_at dksX5_isHome_0 5 rfl rfl)
theorem dX5_isHome_6 : decode cX5_isHome 6 = .ok (.getfield 105, 3) := dk_180 0 105 (dk_at dksX5_isHome_0 6 rfl rfl)
theorem dX5_isHome_9 : decode cX5_isHome 9 = .ok (.if_icmp .ge 7, 3) := dk_162 0 7 (dk_at dksX5_isHome_0 9 rfl rfl)
theorem dX5_isHome_12 : decode cX5_isHome 12 = .ok (.iconst 1, 1) := dk_4 (dk_at dksX5_isHome_0 12 rfl rfl)
theorem dX5_isHome_13 : decode cX5_isHome 13 = .ok (.goto 4, 3) := dk_167 0 4 (dk_at dksX5_isHome_0 13 rfl rfl)
theorem dX5_isHome_16 : decode cX5_isHome 16 = .ok (.iconst 0, 1) := dk_3 (dk_at dksX5_isHome_0 16 rfl rfl)
theorem dX5_isHome_17 : decode cX5_isHome 17 = .ok (.ireturn, 1) := dk_172 (dk_at dksX5_isHome_0 17 rfl rfl)
abbrev cX5_holds : ByteArray := prog_22_method_13_code
def yX5_holds : MethodName := ⟨RX5, "holds", "(I)I"⟩
def dkwX5_holds_1 : List UInt8 := [46, 4, 160, 0, 15, 16, 100, 42, 180, 0, 59, 27, 46, 96, 167, 0, 9, 42, 180, 0, 65, 27, 46, 172]
abbrev dktX5_holds_1 : List UInt8 := dkwX5_holds_1 ++ []
def dkwX5_holds_0 : List UInt8 := [42, 27, 182, 0, 108, 153, 0, 12, 42, 180, 0, 56, 27, 46, 154, 0, 5, 2, 172, 42, 180, 0, 56, 27]
abbrev dktX5_holds_0 : List UInt8 := dkwX5_holds_0 ++ dktX5_holds_1
theorem dksX5_holds_0 : cX5_holds.data.toList.drop 0 = dktX5_holds_0 := by decide +kernel
theorem dksX5_holds_1 : cX5_holds.data.toList.drop 24 = dktX5_holds_1 := dk_seg dksX5_holds_0 24 rfl rfl
theorem dX5_holds_0 : decode cX5_holds 0 = .ok (.aload_n 0, 1) := dk_42 (dk_at dksX5_holds_0 0 rfl rfl)
theorem dX5_holds_1 : decode cX5_holds 1 = .ok (.iload_n 1, 1) := dk_27 (dk_at dksX5_holds_0 1 rfl rfl)
theorem dX5_holds_2 : decode cX5_holds 2 = .ok (.invokevirtual 108, 3) := dk_182 0 108 (dk_at dksX5_holds_0 2 rfl rfl)
theorem dX5_holds_5 : decode cX5_holds 5 = .ok (.ifCond .eq 12, 3) := dk_153 0 12 (dk_at dksX5_holds_0 5 rfl rfl)
theorem dX5_holds_8 : decode cX5_holds 8 = .ok (.aload_n 0, 1) := dk_42 (dk_at dksX5_holds_0 8 rfl rfl)
theorem dX5_holds_9 : decode cX5_holds 9 = .ok (.getfield 56, 3) := dk_180 0 56 (dk_at dksX5_holds_0 9 rfl rfl)
theorem dX5_holds_12 : decode cX5_holds 12 = .ok (.iload_n 1, 1) := dk_27 (dk_at dksX5_holds_0 12 rfl rfl)
theorem dX5_holds_13 : decode cX5_holds 13 = .ok (.iaload, 1) := dk_46 (dk_at dksX5_holds_0 13 rfl rfl)
theorem dX5_holds_14 : decode cX5_holds 14 = .ok (.ifCond .ne 5, 3) := dk_154 0 5 (dk_at dksX5_holds_0 14 rfl rfl)
theorem dX5_holds_17 : decode cX5_holds 17 = .ok (.iconst (-1), 1) := dk_2 (dk_at dksX5_holds_0 17 rfl rfl)
theorem dX5_holds_18 : decode cX5_holds 18 = .ok (.ireturn, 1) := dk_172 (dk_at dksX5_holds_0 18 rfl rfl)
theorem dX5_holds_19 : decode cX5_holds 19 = .ok (.aload_n 0, 1) := dk_42 (dk_at dksX5_holds_0 19 rfl rfl)
theorem dX5_holds_20 : decode cX5_holds 20 = .ok (.getfield 56, 3) := dk_180 0 56 (dk_at dksX5_holds_0 20 rfl rfl)
theorem dX5_holds_23 : decode cX5_holds 23 = .ok (.iload_n 1, 1) := dk_27 (dk_at dksX5_holds_0 23 rfl rfl)
theorem dX5_holds_24 : decode cX5_holds 24 = .ok (.iaload, 1) := dk_46 (dk_at dksX5_holds_1 0 rfl rfl)
theorem dX5_holds_25 : decode cX5_holds 25 = .ok (.iconst 1, 1) := dk_4 (dk_at dksX5_holds_1 1 rfl rfl)
theorem dX5_holds_26 : decode cX5_holds 26 = .ok (.if_icmp .ne 15, 3) := dk_160 0 15 (dk_at dksX5_holds_1 2 rfl rfl)
theorem dX5_holds_29 : decode cX5_holds 29 = .ok (.bipush 100, 2) := dk_16 100 (dk_at dksX5_holds_1 5 rfl rfl)
theorem dX5_holds_31 : decode cX5_holds 31 = .ok (.aload_n 0, 1) := dk_42 (dk_at dksX5_holds_1 7 rfl rfl)
theorem dX5_holds_32 : decode cX5_holds 32 = .ok (.getfield 59, 3) := dk_180 0 59 (dk_at dksX5_holds_1 8 rfl rfl)
theorem dX5_holds_35 : decode cX5_holds 35 = .ok (.iload_n 1, 1) := dk_27 (dk_at dksX5_holds_1 11 rfl rfl)
theorem dX5_holds_36 : decode cX5_holds 36 = .ok (.iaload, 1) := dk_46 (dk_at dksX5_holds_1 12 rfl rfl)
theorem dX5_holds_37 : decode cX5_holds 37 = .ok (.iadd, 1) := dk_96 (dk_at dksX5_holds_1 13 rfl rfl)
theorem dX5_holds_38 : decode cX5_holds 38 = .ok (.goto 9, 3) := dk_167 0 9 (dk_at dksX5_holds_1 14 rfl rfl)
theorem dX5_holds_41 : decode cX5_holds 41 = .ok (.aload_n 0, 1) := dk_42 (dk_at dksX5_holds_1 17 rfl rfl)
theorem dX5_holds_42 : decode cX5_holds 42 = .ok (.getfield 65, 3) := dk_180 0 65 (dk_at dksX5_holds_1 18 rfl rfl)
theorem dX5_holds_45 : decode cX5_holds 45 = .ok (.iload_n 1, 1) := dk_27 (dk_at dksX5_holds_1 21 rfl rfl)
theorem dX5_holds_46 : decode cX5_holds 46 = .ok (.iaload, 1) := dk_46 (dk_at dksX5_holds_1 22 rfl rfl)
theorem dX5_holds_47 : decode cX5_holds 47 = .ok (.ireturn, 1) := dk_172 (dk_at dksX5_holds_1 23 rfl rfl)
abbrev cX5_says : ByteArray := prog_22_method_14_code
def yX5_says : MethodName := ⟨RX5, "says", "(II)I"⟩
def dkwX5_says_10 : List UInt8 := [21, 4, 7, 160, 0, 10, 5, 21, 5, 104, 167, 0, 10, 5, 21, 5, 104, 16, 10, 96, 172]
abbrev dktX5_says_10 : List UInt8 := dkwX5_says_10 ++ []
def dkwX5_says_9 : List UInt8 := [172, 21, 4, 5, 160, 0, 11, 16, 20, 21, 5, 96, 167, 0, 10, 16, 40, 5, 21, 5, 104, 96, 172]
abbrev dktX5_says_9 : List UInt8 := dkwX5_says_9 ++ dktX5_says_10
def dkwX5_says_8 : List UInt8 := [42, 180, 0, 50, 29, 46, 172, 21, 4, 4, 160, 0, 8, 21, 5, 167, 0, 9, 5, 21, 5, 104, 6, 96]
abbrev dktX5_says_8 : List UInt8 := dkwX5_says_8 ++ dktX5_says_9
def dkwX5_says_7 : List UInt8 := [170, 0, 0, 0, 0, 0, 0, 87, 0, 0, 0, 0, 0, 0, 0, 5, 0, 0, 0, 40, 0, 0, 0, 47, 0, 0, 0, 65, 0, 0, 0, 47, 0, 0, 0, 87, 0, 0, 0, 65]
abbrev dktX5_says_7 : List UInt8 := dkwX5_says_7 ++ dktX5_says_8
def dkwX5_says_6 : List UInt8 := [182, 0, 112, 172, 28]
abbrev dktX5_says_6 : List UInt8 := dkwX5_says_6 ++ dktX5_says_7
def dkwX5_says_5 : List UInt8 := [167, 0, 4, 3, 54, 6, 28, 153, 0, 21, 28, 21, 4, 159, 0, 15, 21, 6, 154, 0, 10, 42, 16, 254]
abbrev dktX5_says_5 : List UInt8 := dkwX5_says_5 ++ dktX5_says_6
def dkwX5_says_4 : List UInt8 := [160, 0, 9, 21, 4, 8, 159, 0, 15, 28, 7, 160, 0, 14, 21, 4, 16, 6, 160, 0, 7, 4]
abbrev dktX5_says_4 : List UInt8 := dkwX5_says_4 ++ dktX5_says_5
def dkwX5_says_3 : List UInt8 := [54, 4, 42, 180, 0, 41, 29, 46, 54, 5, 28, 4, 160, 0, 9, 21, 4, 6, 159, 0, 26, 28, 5]
abbrev dktX5_says_3 : List UInt8 := dkwX5_says_3 ++ dktX5_says_4
def dkwX5_says_2 : List UInt8 := [154, 0, 10, 42, 16, 253, 182, 0, 112, 172, 42, 180, 0, 65, 27, 46, 62, 42, 180, 0, 38, 29, 46]
abbrev dktX5_says_2 : List UInt8 := dkwX5_says_2 ++ dktX5_says_3
def dkwX5_says_1 : List UInt8 := [42, 180, 0, 56, 27, 46, 4, 160, 0, 10, 42, 16, 254, 182, 0, 112, 172, 42, 180, 0, 56, 27, 46]
abbrev dktX5_says_1 : List UInt8 := dkwX5_says_1 ++ dktX5_says_2
def dkwX5_says_0 : List UInt8 := [42, 27, 182, 0, 108, 153, 0, 13, 28, 155, 0, 9, 28, 16, 6, 164, 0, 9, 42, 2, 182, 0, 112, 172]
abbrev dktX5_says_0 : List UInt8 := dkwX5_says_0 ++ dktX5_says_1
theorem dksX5_says_0 : cX5_says.data.toList.drop 0 = dktX5_says_0 := by decide +kernel
theorem dksX5_says_1 : cX5_says.data.toList.drop 24 = dktX5_says_1 := dk_seg dksX5_says_0 24 rfl rfl
theorem dksX5_says_2 : cX5_says.data.toList.drop 47 = dktX5_says_2 := dk_seg dksX5_says_1 23 rfl rfl
theorem dksX5_says_3 : cX5_says.data.toList.drop 70 = dktX5_says_3 := dk_seg dksX5_says_2 23 rfl rfl
theorem dksX5_says_4 : cX5_says.data.toList.drop 93 = dktX5_says_4 := dk_seg dksX5_says_3 23 rfl rfl
theorem dksX5_says_5 : cX5_says.data.toList.drop 115 = dktX5_says_5 := dk_seg dksX5_says_4 22 rfl rfl
theorem dksX5_says_6 : cX5_says.data.toList.drop 139 = dktX5_says_6 := dk_seg dksX5_says_5 24 rfl rfl
theorem dksX5_says_7 : cX5_says.data.toList.drop 144 = dktX5_says_7 := dk_seg dksX5_says_6 5 rfl rfl
theorem dksX5_says_8 : cX5_says.data.toList.drop 184 = dktX5_says_8 := dk_seg dksX5_says_7 40 rfl rfl
theorem dksX5_says_9 : cX5_says.data.toList.drop 208 = dktX5_says_9 := dk_seg dksX5_says_8 24 rfl rfl
theorem dksX5_says_10 : cX5_says.data.toList.drop 231 = dktX5_says_10 := dk_seg dksX5_says_9 23 rfl rfl
theorem dX5_says_0 : decode cX5_says 0 = .ok (.aload_n 0, 1) := dk_42 (dk_at dksX5_says_0 0 rfl rfl)
theorem dX5_says_1 : decode cX5_says 1 = .ok (.iload_n 1, 1) := dk_27 (dk_at dksX5_says_0 1 rfl rfl)
theorem dX5_says_2 : decode cX5_says 2 = .ok (.invokevirtual 108, 3) := dk_182 0 108 (dk_at dksX5_says_0 2 rfl rfl)
theorem dX5_says_5 : decode cX5_says 5 = .ok (.ifCond .eq 13, 3) := dk_153 0 13 (dk_at dksX5_says_0 5 rfl rfl)
theorem dX5_says_8 : decode cX5_says 8 = .ok (.iload_n 2, 1) := dk_28 (dk_at dksX5_says_0 8 rfl rfl)
theorem dX5_says_9 : decode cX5_says 9 = .ok (.ifCond .lt 9, 3) := dk_155 0 9 (dk_at dksX5_says_0 9 rfl rfl)
theorem dX5_says_12 : decode cX5_says 12 = .ok (.iload_n 2, 1) := dk_28 (dk_at dksX5_says_0 12 rfl rfl)
theorem dX5_says_13 : decode cX5_says 13 = .ok (.bipush 6, 2) := dk_16 6 (dk_at dksX5_says_0 13 rfl rfl)
theorem dX5_says_15 : decode cX5_says 15 = .ok (.if_icmp .le 9, 3) := dk_164 0 9 (dk_at dksX5_says_0 15 rfl rfl)
theorem dX5_says_18 : decode cX5_says 18 = .ok (.aload_n 0, 1) := dk_42 (dk_at dksX5_says_0 18 rfl rfl)
theorem dX5_says_19 : decode cX5_says 19 = .ok (.iconst (-1), 1) := dk_2 (dk_at dksX5_says_0 19 rfl rfl)
theorem dX5_says_20 : decode cX5_says 20 = .ok (.invokevirtual 112, 3) := dk_182 0 112 (dk_at dksX5_says_0 20 rfl rfl)
theorem dX5_says_23 : decode cX5_says 23 = .ok (.ireturn, 1) := dk_172 (dk_at dksX5_says_0 23 rfl rfl)
theorem dX5_says_24 : decode cX5_says 24 = .ok (.aload_n 0, 1) := dk_42 (dk_at dksX5_says_1 0 rfl rfl)
theorem dX5_says_25 : decode cX5_says 25 = .ok (.getfield 56, 3) := dk_180 0 56 (dk_at dksX5_says_1 1 rfl rfl)
theorem dX5_says_28 : decode cX5_says 28 = .ok (.iload_n 1, 1) := dk_27 (dk_at dksX5_says_1 4 rfl rfl)
theorem dX5_says_29 : decode cX5_says 29 = .ok (.iaload, 1) := dk_46 (dk_at dksX5_says_1 5 rfl rfl)
theorem dX5_says_30 : decode cX5_says 30 = .ok (.iconst 1, 1) := dk_4 (dk_at dksX5_says_1 6 rfl rfl)
theorem dX5_says_31 : decode cX5_says 31 = .ok (.if_icmp .ne 10, 3) := dk_160 0 10 (dk_at dksX5_says_1 7 rfl rfl)
theorem dX5_says_34 : decode cX5_says 34 = .ok (.aload_n 0, 1) := dk_42 (dk_at dksX5_says_1 10 rfl rfl)
theorem dX5_says_35 : decode cX5_says 35 = .ok (.bipush (-2), 2) := dk_16 254 (dk_at dksX5_says_1 11 rfl rfl)
theorem dX5_says_37 : decode cX5_says 37 = .ok (.invokevirtual 112, 3) := dk_182 0 112 (dk_at dksX5_says_1 13 rfl rfl)
theorem dX5_says_40 : decode cX5_says 40 = .ok (.ireturn, 1) := dk_172 (dk_at dksX5_says_1 16 rfl rfl)
theorem dX5_says_41 : decode cX5_says 41 = .ok (.aload_n 0, 1) := dk_42 (dk_at dksX5_says_1 17 rfl rfl)
theorem dX5_says_42 : decode cX5_says 42 = .ok (.getfield 56, 3) := dk_180 0 56 (dk_at dksX5_says_1 18 rfl rfl)
theorem dX5_says_45 : decode cX5_says 45 = .ok (.iload_n 1, 1) := dk_27 (dk_at dksX5_says_1 21 rfl rfl)
theorem dX5_says_46 : decode cX5_says 46 = .ok (.iaload, 1) := dk_46 (dk_at dksX5_says_1 22 rfl rfl)
theorem dX5_says_47 : decode cX5_says 47 = .ok (.ifCond .ne 10, 3) := dk_154 0 10 (dk_at dksX5_says_2 0 rfl rfl)
theorem dX5_says_50 : decode cX5_says 50 = .ok (.aload_n 0, 1) := dk_42 (dk_at dksX5_says_2 3 rfl rfl)
theorem dX5_says_51 : decode cX5_says 51 = .ok (.bipush (-3), 2) := dk_16 253 (dk_at dksX5_says_2 4 rfl rfl)
theorem dX5_says_53 : decode cX5_says 53 = .ok (.invokevirtual 112, 3) := dk_182 0 112 (dk_at dksX5_says_2 6 rfl rfl)
theorem dX5_says_56 : decode cX5_says 56 = .ok (.ireturn, 1) := dk_172 (dk_at dksX5_says_2 9 rfl rfl)
theorem dX5_says_57 : decode cX5_says 57 = .ok (.aload_n 0, 1) := dk_42 (dk_at dksX5_says_2 10 rfl rfl)
theorem dX5_says_58 : decode cX5_says 58 = .ok (.getfield 65, 3) := dk_180 0 65 (dk_at dksX5_says_2 11 rfl rfl)
theorem dX5_says_61 : decode cX5_says 61 = .ok (.iload_n 1, 1) := dk_27 (dk_at dksX5_says_2 14 rfl rfl)
theorem dX5_says_62 : decode cX5_says 62 = .ok (.iaload, 1) := dk_46 (dk_at dksX5_says_2 15 rfl rfl)
theorem dX5_says_63 : decode cX5_says 63 = .ok (.istore_n 3, 1) := dk_62 (dk_at dksX5_says_2 16 rfl rfl)
theorem dX5_says_64 : decode cX5_says 64 = .ok (.aload_n 0, 1) := dk_42 (dk_at dksX5_says_2 17 rfl rfl)
theorem dX5_says_65 : decode cX5_says 65 = .ok (.getfield 38, 3) := dk_180 0 38 (dk_at dksX5_says_2 18 rfl rfl)
theorem dX5_says_68 : decode cX5_says 68 = .ok (.iload_n 3, 1) := dk_29 (dk_at dksX5_says_2 21 rfl rfl)
theorem dX5_says_69 : decode cX5_says 69 = .ok (.iaload, 1) := dk_46 (dk_at dksX5_says_2 22 rfl rfl)
theorem dX5_says_70 : decode cX5_says 70 = .ok (.istore 4, 2) := dk_54 4 (dk_at dksX5_says_3 0 rfl rfl)
theorem dX5_says_72 : decode cX5_says 72 = .ok (.aload_n 0, 1) := dk_42 (dk_at dksX5_says_3 2 rfl rfl)
theorem dX5_says_73 : decode cX5_says 73 = .ok (.getfield 41, 3) := dk_180 0 41 (dk_at dksX5_says_3 3 rfl rfl)
theorem dX5_says_76 : decode cX5_says 76 = .ok (.iload_n 3, 1) := dk_29 (dk_at dksX5_says_3 6 rfl rfl)
theorem dX5_says_77 : decode cX5_says 77 = .ok (.iaload, 1) := dk_46 (dk_at dksX5_says_3 7 rfl rfl)
theorem dX5_says_78 : decode cX5_says 78 = .ok (.istore 5, 2) := dk_54 5 (dk_at dksX5_says_3 8 rfl rfl)
theorem dX5_says_80 : decode cX5_says 80 = .ok (.iload_n 2, 1) := dk_28 (dk_at dksX5_says_3 10 rfl rfl)
theorem dX5_says_81 : decode cX5_says 81 = .ok (.iconst 1, 1) := dk_4 (dk_at dksX5_says_3 11 rfl rfl)
theorem dX5_says_82 : decode cX5_says 82 = .ok (.if_icmp .ne 9, 3) := dk_160 0 9 (dk_at dksX5_says_3 12 rfl rfl)
theorem dX5_says_85 : decode cX5_says 85 = .ok (.iload 4, 2) := dk_21 4 (dk_at dksX5_says_3 15 rfl rfl)
theorem dX5_says_87 : decode cX5_says 87 = .ok (.iconst 3, 1) := dk_6 (dk_at dksX5_says_3 17 rfl rfl)
theorem dX5_says_88 : decode cX5_says 88 = .ok (.if_icmp .eq 26, 3) := dk_159 0 26 (dk_at dksX5_says_3 18 rfl rfl)
theorem dX5_says_91 : decode cX5_says 91 = .ok (.iload_n 2, 1) := dk_28 (dk_at dksX5_says_3 21 rfl rfl)
theorem dX5_says_92 : decode cX5_says 92 = .ok (.iconst 2, 1) := dk_5 (dk_at dksX5_says_3 22 rfl rfl)
theorem dX5_says_93 : decode cX5_says 93 = .ok (.if_icmp .ne 9, 3) := dk_160 0 9 (dk_at dksX5_says_4 0 rfl rfl)
theorem dX5_says_96 : decode cX5_says 96 = .ok (.iload 4, 2) := dk_21 4 (dk_at dksX5_says_4 3 rfl rfl)
theorem dX5_says_98 : decode cX5_says 98 = .ok (.iconst 5, 1) := dk_8 (dk_at dksX5_says_4 5 rfl rfl)
theorem dX5_says_99 : decode cX5_says 99 = .ok (.if_icmp .eq 15, 3) := dk_159 0 15 (dk_at dksX5_says_4 6 rfl rfl)
theorem dX5_says_102 : decode cX5_says 102 = .ok (.iload_n 2, 1) := dk_28 (dk_at dksX5_says_4 9 rfl rfl)
theorem dX5_says_103 : decode cX5_says 103 = .ok (.iconst 4, 1) := dk_7 (dk_at dksX5_says_4 10 rfl rfl)
theorem dX5_says_104 : decode cX5_says 104 = .ok (.if_icmp .ne 14, 3) := dk_160 0 14 (dk_at dksX5_says_4 11 rfl rfl)
theorem dX5_says_107 : decode cX5_says 107 = .ok (.iload 4, 2) := dk_21 4 (dk_at dksX5_says_4 14 rfl rfl)
theorem dX5_says_109 : decode cX5_says 109 = .ok (.bipush 6, 2) := dk_16 6 (dk_at dksX5_says_4 16 rfl rfl)
theorem dX5_says_111 : decode cX5_says 111 = .ok (.if_icmp .ne 7, 3) := dk_160 0 7 (dk_at dksX5_says_4 18 rfl rfl)
theorem dX5_says_114 : decode cX5_says 114 = .ok (.iconst 1, 1) := dk_4 (dk_at dksX5_says_4 21 rfl rfl)
theorem dX5_says_115 : decode cX5_says 115 = .ok (.goto 4, 3) := dk_167 0 4 (dk_at dksX5_says_5 0 rfl rfl)
theorem dX5_says_118 : decode cX5_says 118 = .ok (.iconst 0, 1) := dk_3 (dk_at dksX5_says_5 3 rfl rfl)
theorem dX5_says_119 : decode cX5_says 119 = .ok (.istore 6, 2) := dk_54 6 (dk_at dksX5_says_5 4 rfl rfl)
theorem dX5_says_121 : decode cX5_says 121 = .ok (.iload_n 2, 1) := dk_28 (dk_at dksX5_says_5 6 rfl rfl)
theorem dX5_says_122 : decode cX5_says 122 = .ok (.ifCond .eq 21, 3) := dk_153 0 21 (dk_at dksX5_says_5 7 rfl rfl)
theorem dX5_says_125 : decode cX5_says 125 = .ok (.iload_n 2, 1) := dk_28 (dk_at dksX5_says_5 10 rfl rfl)
theorem dX5_says_126 : decode cX5_says 126 = .ok (.iload 4, 2) := dk_21 4 (dk_at dksX5_says_5 11 rfl rfl)
theorem dX5_says_128 : decode cX5_says 128 = .ok (.if_icmp .eq 15, 3) := dk_159 0 15 (dk_at dksX5_says_5 13 rfl rfl)
theorem dX5_says_131 : decode cX5_says 131 = .ok (.iload 6, 2) := dk_21 6 (dk_at dksX5_says_5 16 rfl rfl)
theorem dX5_says_133 : decode cX5_says 133 = .ok (.ifCond .ne 10, 3) := dk_154 0 10 (dk_at dksX5_says_5 18 rfl rfl)
theorem dX5_says_136 : decode cX5_says 136 = .ok (.aload_n 0, 1) := dk_42 (dk_at dksX5_says_5 21 rfl rfl)
theorem dX5_says_137 : decode cX5_says 137 = .ok (.bipush (-2), 2) := dk_16 254 (dk_at dksX5_says_5 22 rfl rfl)
theorem dX5_says_139 : decode cX5_says 139 = .ok (.invokevirtual 112, 3) := dk_182 0 112 (dk_at dksX5_says_6 0 rfl rfl)
theorem dX5_says_142 : decode cX5_says 142 = .ok (.ireturn, 1) := dk_172 (dk_at dksX5_says_6 3 rfl rfl)
theorem dX5_says_143 : decode cX5_says 143 = .ok (.iload_n 2, 1) := dk_28 (dk_at dksX5_says_6 4 rfl rfl)
theorem dX5_says_144 : decode cX5_says 144 = .ok (.tableswitch 87 0 5 #[40, 47, 65, 47, 87, 65], 40) := by decide +kernel
theorem dX5_says_184 : decode cX5_says 184 = .ok (.aload_n 0, 1) := dk_42 (dk_at dksX5_says_8 0 rfl rfl)
theorem dX5_says_185 : decode cX5_says 185 = .ok (.getfield 50, 3) := dk_180 0 50 (dk_at dksX5_says_8 1 rfl rfl)
theorem dX5_says_188 : decode cX5_says 188 = .ok (.iload_n 3, 1) := dk_29 (dk_at dksX5_says_8 4 rfl rfl)
theorem dX5_says_189 : decode cX5_says 189 = .ok (.iaload, 1) := dk_46 (dk_at dksX5_says_8 5 rfl rfl)
theorem dX5_says_190 : decode cX5_says 190 = .ok (.ireturn, 1) := dk_172 (dk_at dksX5_says_8 6 rfl rfl)
theorem dX5_says_191 : decode cX5_says 191 = .ok (.iload 4, 2) := dk_21 4 (dk_at dksX5_says_8 7 rfl rfl)
theorem dX5_says_193 : decode cX5_says 193 = .ok (.iconst 1, 1) := dk_4 (dk_at dksX5_says_8 9 rfl rfl)
theorem dX5_says_194 : decode cX5_says 194 = .ok (.if_icmp .ne 8, 3) := dk_160 0 8 (dk_at dksX5_says_8 10 rfl rfl)
theorem dX5_says_197 : decode cX5_says 197 = .ok (.iload 5, 2) := dk_21 5 (dk_at dksX5_says_8 13 rfl rfl)
theorem dX5_says_199 : decode cX5_says 199 = .ok (.goto 9, 3) := dk_167 0 9 (dk_at dksX5_says_8 15 rfl rfl)
theorem dX5_says_202 : decode cX5_says 202 = .ok (.iconst 2, 1) := dk_5 (dk_at dksX5_says_8 18 rfl rfl)
theorem dX5_says_203 : decode cX5_says 203 = .ok (.iload 5, 2) := dk_21 5 (dk_at dksX5_says_8 19 rfl rfl)
theorem dX5_says_205 : decode cX5_says 205 = .ok (.imul, 1) := dk_104 (dk_at dksX5_says_8 21 rfl rfl)
theorem dX5_says_206 : decode cX5_says 206 = .ok (.iconst 3, 1) := dk_6 (dk_at dksX5_says_8 22 rfl rfl)
theorem dX5_says_207 : decode cX5_says 207 = .ok (.iadd, 1) := dk_96 (dk_at dksX5_says_8 23 rfl rfl)
theorem dX5_says_208 : decode cX5_says 208 = .ok (.ireturn, 1) := dk_172 (dk_at dksX5_says_9 0 rfl rfl)
theorem dX5_says_209 : decode cX5_says 209 = .ok (.iload 4, 2) := dk_21 4 (dk_at dksX5_says_9 1 rfl rfl)
theorem dX5_says_211 : decode cX5_says 211 = .ok (.iconst 2, 1) := dk_5 (dk_at dksX5_says_9 3 rfl rfl)
theorem dX5_says_212 : decode cX5_says 212 = .ok (.if_icmp .ne 11, 3) := dk_160 0 11 (dk_at dksX5_says_9 4 rfl rfl)
theorem dX5_says_215 : decode cX5_says 215 = .ok (.bipush 20, 2) := dk_16 20 (dk_at dksX5_says_9 7 rfl rfl)
theorem dX5_says_217 : decode cX5_says 217 = .ok (.iload 5, 2) := dk_21 5 (dk_at dksX5_says_9 9 rfl rfl)
theorem dX5_says_219 : decode cX5_says 219 = .ok (.iadd, 1) := dk_96 (dk_at dksX5_says_9 11 rfl rfl)
theorem dX5_says_220 : decode cX5_says 220 = .ok (.goto 10, 3) := dk_167 0 10 (dk_at dksX5_says_9 12 rfl rfl)
theorem dX5_says_223 : decode cX5_says 223 = .ok (.bipush 40, 2) := dk_16 40 (dk_at dksX5_says_9 15 rfl rfl)
theorem dX5_says_225 : decode cX5_says 225 = .ok (.iconst 2, 1) := dk_5 (dk_at dksX5_says_9 17 rfl rfl)
theorem dX5_says_226 : decode cX5_says 226 = .ok (.iload 5, 2) := dk_21 5 (dk_at dksX5_says_9 18 rfl rfl)
theorem dX5_says_228 : decode cX5_says 228 = .ok (.imul, 1) := dk_104 (dk_at dksX5_says_9 20 rfl rfl)
theorem dX5_says_229 : decode cX5_says 229 = .ok (.iadd, 1) := dk_96 (dk_at dksX5_says_9 21 rfl rfl)
theorem dX5_says_230 : decode cX5_says 230 = .ok (.ireturn, 1) := dk_172 (dk_at dksX5_says_9 22 rfl rfl)
theorem dX5_says_231 : decode cX5_says 231 = .ok (.iload 4, 2) := dk_21 4 (dk_at dksX5_says_10 0 rfl rfl)
theorem dX5_says_233 : decode cX5_says 233 = .ok (.iconst 4, 1) := dk_7 (dk_at dksX5_says_10 2 rfl rfl)
theorem dX5_says_234 : decode cX5_says 234 = .ok (.if_icmp .ne 10, 3) := dk_160 0 10 (dk_at dksX5_says_10 3 rfl rfl)
theorem dX5_says_237 : decode cX5_says 237 = .ok (.iconst 2, 1) := dk_5 (dk_at dksX5_says_10 6 rfl rfl)
theorem dX5_says_238 : decode cX5_says 238 = .ok (.iload 5, 2) := dk_21 5 (dk_at dksX5_says_10 7 rfl rfl)
theorem dX5_says_240 : decode cX5_says 240 = .ok (.imul, 1) := dk_104 (dk_at dksX5_says_10 9 rfl rfl)
theorem dX5_says_241 : decode cX5_says 241 = .ok (.goto 10, 3) := dk_167 0 10 (dk_at dksX5_says_10 10 rfl rfl)
theorem dX5_says_244 : decode cX5_says 244 = .ok (.iconst 2, 1) := dk_5 (dk_at dksX5_says_10 13 rfl rfl)
theorem dX5_says_245 : decode cX5_says 245 = .ok (.iload 5, 2) := dk_21 5 (dk_at dksX5_says_10 14 rfl rfl)
theorem dX5_says_247 : decode cX5_says 247 = .ok (.imul, 1) := dk_104 (dk_at dksX5_says_10 16 rfl rfl)
theorem dX5_says_248 : decode cX5_says 248 = .ok (.bipush 10, 2) := dk_16 10 (dk_at dksX5_says_10 17 rfl rfl)
theorem dX5_says_250 : decode cX5_says 250 = .ok (.iadd, 1) := dk_96 (dk_at dksX5_says_10 19 rfl rfl)
theorem dX5_says_251 : decode cX5_says 251 = .ok (.ireturn, 1) := dk_172 (dk_at dksX5_says_10 20 rfl rfl)
abbrev cX5_home : ByteArray := prog_22_method_19_code
def yX5_home : MethodName := ⟨RX5, "home", "(II)I"⟩
def dkwX5_home_2 : List UInt8 := [182, 0, 112, 167, 0, 9, 42, 27, 28, 182, 0, 122, 172]
abbrev dktX5_home_2 : List UInt8 := dkwX5_home_2 ++ []
def dkwX5_home_1 : List UInt8 := [164, 0, 10, 42, 16, 250, 182, 0, 112, 172, 42, 180, 0, 105, 16, 8, 160, 0, 12, 42, 16, 249]
abbrev dktX5_home_1 : List UInt8 := dkwX5_home_1 ++ dktX5_home_2
def dkwX5_home_0 : List UInt8 := [27, 155, 0, 9, 27, 16, 6, 164, 0, 9, 42, 2, 182, 0, 112, 172, 28, 155, 0, 9, 28, 16, 9]
abbrev dktX5_home_0 : List UInt8 := dkwX5_home_0 ++ dktX5_home_1
theorem dksX5_home_0 : cX5_home.data.toList.drop 0 = dktX5_home_0 := by decide +kernel
theorem dksX5_home_1 : cX5_home.data.toList.drop 23 = dktX5_home_1 := dk_seg dksX5_home_0 23 rfl rfl
theorem dksX5_home_2 : cX5_home.data.toList.drop 45 = dktX5_home_2 := dk_seg dksX5_home_1 22 rfl rfl
theorem dX5_home_0 : decode cX5_home 0 = .ok (.iload_n 1, 1) := dk_27 (dk_at dksX5_home_0 0 rfl rfl)
theorem dX5_home_1 : decode cX5_home 1 = .ok (.ifCond .lt 9, 3) := dk_155 0 9 (dk_at dksX5_home_0 1 rfl rfl)
theorem dX5_home_4 : decode cX5_home 4 = .ok (.iload_n 1, 1) := dk_27 (dk_at dksX5_home_0 4 rfl rfl)
theorem dX5_home_5 : decode cX5_home 5 = .ok (.bipush 6, 2) := dk_16 6 (dk_at dksX5_home_0 5 rfl rfl)
theorem dX5_home_7 : decode cX5_home 7 = .ok (.if_icmp .le 9, 3) := dk_164 0 9 (dk_at dksX5_home_0 7 rfl rfl)
theorem dX5_home_10 : decode cX5_home 10 = .ok (.aload_n 0, 1) := dk_42 (dk_at dksX5_home_0 10 rfl rfl)
theorem dX5_home_11 : decode cX5_home 11 = .ok (.iconst (-1), 1) := dk_2 (dk_at dksX5_home_0 11 rfl rfl)
theorem dX5_home_12 : decode cX5_home 12 = .ok (.invokevirtual 112, 3) := dk_182 0 112 (dk_at dksX5_home_0 12 rfl rfl)
theorem dX5_home_15 : decode cX5_home 15 = .ok (.ireturn, 1) := dk_172 (dk_at dksX5_home_0 15 rfl rfl)
theorem dX5_home_16 : decode cX5_home 16 = .ok (.iload_n 2, 1) := dk_28 (dk_at dksX5_home_0 16 rfl rfl)
theorem dX5_home_17 : decode cX5_home 17 = .ok (.ifCond .lt 9, 3) := dk_155 0 9 (dk_at dksX5_home_0 17 rfl rfl)
theorem dX5_home_20 : decode cX5_home 20 = .ok (.iload_n 2, 1) := dk_28 (dk_at dksX5_home_0 20 rfl rfl)
theorem dX5_home_21 : decode cX5_home 21 = .ok (.bipush 9, 2) := dk_16 9 (dk_at dksX5_home_0 21 rfl rfl)
theorem dX5_home_23 : decode cX5_home 23 = .ok (.if_icmp .le 10, 3) := dk_164 0 10 (dk_at dksX5_home_1 0 rfl rfl)
theorem dX5_home_26 : decode cX5_home 26 = .ok (.aload_n 0, 1) := dk_42 (dk_at dksX5_home_1 3 rfl rfl)
theorem dX5_home_27 : decode cX5_home 27 = .ok (.bipush (-6), 2) := dk_16 250 (dk_at dksX5_home_1 4 rfl rfl)
theorem dX5_home_29 : decode cX5_home 29 = .ok (.invokevirtual 112, 3) := dk_182 0 112 (dk_at dksX5_home_1 6 rfl rfl)
theorem dX5_home_32 : decode cX5_home 32 = .ok (.ireturn, 1) := dk_172 (dk_at dksX5_home_1 9 rfl rfl)
theorem dX5_home_33 : decode cX5_home 33 = .ok (.aload_n 0, 1) := dk_42 (dk_at dksX5_home_1 10 rfl rfl)
theorem dX5_home_34 : decode cX5_home 34 = .ok (.getfield 105, 3) := dk_180 0 105 (dk_at dksX5_home_1 11 rfl rfl)
theorem dX5_home_37 : decode cX5_home 37 = .ok (.bipush 8, 2) := dk_16 8 (dk_at dksX5_home_1 14 rfl rfl)
theorem dX5_home_39 : decode cX5_home 39 = .ok (.if_icmp .ne 12, 3) := dk_160 0 12 (dk_at dksX5_home_1 16 rfl rfl)
theorem dX5_home_42 : decode cX5_home 42 = .ok (.aload_n 0, 1) := dk_42 (dk_at dksX5_home_1 19 rfl rfl)
theorem dX5_home_43 : decode cX5_home 43 = .ok (.bipush (-7), 2) := dk_16 249 (dk_at dksX5_home_1 20 rfl rfl)
theorem dX5_home_45 : decode cX5_home 45 = .ok (.invokevirtual 112, 3) := dk_182 0 112 (dk_at dksX5_home_2 0 rfl rfl)
theorem dX5_home_48 : decode cX5_home 48 = .ok (.goto 9, 3) := dk_167 0 9 (dk_at dksX5_home_2 3 rfl rfl)
theorem dX5_home_51 : decode cX5_home 51 = .ok (.aload_n 0, 1) := dk_42 (dk_at dksX5_home_2 6 rfl rfl)
theorem dX5_home_52 : decode cX5_home 52 = .ok (.iload_n 1, 1) := dk_27 (dk_at dksX5_home_2 7 rfl rfl)
theorem dX5_home_53 : decode cX5_home 53 = .ok (.iload_n 2, 1) := dk_28 (dk_at dksX5_home_2 8 rfl rfl)
theorem dX5_home_54 : decode cX5_home 54 = .ok (.invokevirtual 122, 3) := dk_182 0 122 (dk_at dksX5_home_2 9 rfl rfl)
theorem dX5_home_57 : decode cX5_home 57 = .ok (.ireturn, 1) := dk_172 (dk_at dksX5_home_2 12 rfl rfl)
abbrev cX5_adds : ByteArray := prog_22_method_18_code
def yX5_adds : MethodName := ⟨RX5, "adds", "(II)I"⟩
def dkwX5_adds_2 : List UInt8 := [3, 79, 42, 89, 180, 0, 105, 90, 4, 96, 181, 0, 105, 172]
abbrev dktX5_adds_2 : List UInt8 := dkwX5_adds_2 ++ []
def dkwX5_adds_1 : List UInt8 := [42, 180, 0, 105, 3, 79, 42, 180, 0, 47, 42, 180, 0, 105, 3, 79, 42, 180, 0, 50, 42, 180, 0, 105]
abbrev dktX5_adds_1 : List UInt8 := dkwX5_adds_1 ++ dktX5_adds_2
def dkwX5_adds_0 : List UInt8 := [42, 180, 0, 38, 42, 180, 0, 105, 27, 79, 42, 180, 0, 41, 42, 180, 0, 105, 28, 79, 42, 180, 0, 44]
abbrev dktX5_adds_0 : List UInt8 := dkwX5_adds_0 ++ dktX5_adds_1
theorem dksX5_adds_0 : cX5_adds.data.toList.drop 0 = dktX5_adds_0 := by decide +kernel
theorem dksX5_adds_1 : cX5_adds.data.toList.drop 24 = dktX5_adds_1 := dk_seg dksX5_adds_0 24 rfl rfl
theorem dksX5_adds_2 : cX5_adds.data.toList.drop 48 = dktX5_adds_2 := dk_seg dksX5_adds_1 24 rfl rfl
theorem dX5_adds_0 : decode cX5_adds 0 = .ok (.aload_n 0, 1) := dk_42 (dk_at dksX5_adds_0 0 rfl rfl)
theorem dX5_adds_1 : decode cX5_adds 1 = .ok (.getfield 38, 3) := dk_180 0 38 (dk_at dksX5_adds_0 1 rfl rfl)
theorem dX5_adds_4 : decode cX5_adds 4 = .ok (.aload_n 0, 1) := dk_42 (dk_at dksX5_adds_0 4 rfl rfl)
theorem dX5_adds_5 : decode cX5_adds 5 = .ok (.getfield 105, 3) := dk_180 0 105 (dk_at dksX5_adds_0 5 rfl rfl)
theorem dX5_adds_8 : decode cX5_adds 8 = .ok (.iload_n 1, 1) := dk_27 (dk_at dksX5_adds_0 8 rfl rfl)
theorem dX5_adds_9 : decode cX5_adds 9 = .ok (.iastore, 1) := dk_79 (dk_at dksX5_adds_0 9 rfl rfl)
theorem dX5_adds_10 : decode cX5_adds 10 = .ok (.aload_n 0, 1) := dk_42 (dk_at dksX5_adds_0 10 rfl rfl)
theorem dX5_adds_11 : decode cX5_adds 11 = .ok (.getfield 41, 3) := dk_180 0 41 (dk_at dksX5_adds_0 11 rfl rfl)
theorem dX5_adds_14 : decode cX5_adds 14 = .ok (.aload_n 0, 1) := dk_42 (dk_at dksX5_adds_0 14 rfl rfl)
theorem dX5_adds_15 : decode cX5_adds 15 = .ok (.getfield 105, 3) := dk_180 0 105 (dk_at dksX5_adds_0 15 rfl rfl)
theorem dX5_adds_18 : decode cX5_adds 18 = .ok (.iload_n 2, 1) := dk_28 (dk_at dksX5_adds_0 18 rfl rfl)
theorem dX5_adds_19 : decode cX5_adds 19 = .ok (.iastore, 1) := dk_79 (dk_at dksX5_adds_0 19 rfl rfl)
theorem dX5_adds_20 : decode cX5_adds 20 = .ok (.aload_n 0, 1) := dk_42 (dk_at dksX5_adds_0 20 rfl rfl)
theorem dX5_adds_21 : decode cX5_adds 21 = .ok (.getfield 44, 3) := dk_180 0 44 (dk_at dksX5_adds_0 21 rfl rfl)
theorem dX5_adds_24 : decode cX5_adds 24 = .ok (.aload_n 0, 1) := dk_42 (dk_at dksX5_adds_1 0 rfl rfl)
theorem dX5_adds_25 : decode cX5_adds 25 = .ok (.getfield 105, 3) := dk_180 0 105 (dk_at dksX5_adds_1 1 rfl rfl)
theorem dX5_adds_28 : decode cX5_adds 28 = .ok (.iconst 0, 1) := dk_3 (dk_at dksX5_adds_1 4 rfl rfl)
theorem dX5_adds_29 : decode cX5_adds 29 = .ok (.iastore, 1) := dk_79 (dk_at dksX5_adds_1 5 rfl rfl)
theorem dX5_adds_30 : decode cX5_adds 30 = .ok (.aload_n 0, 1) := dk_42 (dk_at dksX5_adds_1 6 rfl rfl)
theorem dX5_adds_31 : decode cX5_adds 31 = .ok (.getfield 47, 3) := dk_180 0 47 (dk_at dksX5_adds_1 7 rfl rfl)
theorem dX5_adds_34 : decode cX5_adds 34 = .ok (.aload_n 0, 1) := dk_42 (dk_at dksX5_adds_1 10 rfl rfl)
theorem dX5_adds_35 : decode cX5_adds 35 = .ok (.getfield 105, 3) := dk_180 0 105 (dk_at dksX5_adds_1 11 rfl rfl)
theorem dX5_adds_38 : decode cX5_adds 38 = .ok (.iconst 0, 1) := dk_3 (dk_at dksX5_adds_1 14 rfl rfl)
theorem dX5_adds_39 : decode cX5_adds 39 = .ok (.iastore, 1) := dk_79 (dk_at dksX5_adds_1 15 rfl rfl)
theorem dX5_adds_40 : decode cX5_adds 40 = .ok (.aload_n 0, 1) := dk_42 (dk_at dksX5_adds_1 16 rfl rfl)
theorem dX5_adds_41 : decode cX5_adds 41 = .ok (.getfield 50, 3) := dk_180 0 50 (dk_at dksX5_adds_1 17 rfl rfl)
theorem dX5_adds_44 : decode cX5_adds 44 = .ok (.aload_n 0, 1) := dk_42 (dk_at dksX5_adds_1 20 rfl rfl)
theorem dX5_adds_45 : decode cX5_adds 45 = .ok (.getfield 105, 3) := dk_180 0 105 (dk_at dksX5_adds_1 21 rfl rfl)
theorem dX5_adds_48 : decode cX5_adds 48 = .ok (.iconst 0, 1) := dk_3 (dk_at dksX5_adds_2 0 rfl rfl)
theorem dX5_adds_49 : decode cX5_adds 49 = .ok (.iastore, 1) := dk_79 (dk_at dksX5_adds_2 1 rfl rfl)
theorem dX5_adds_50 : decode cX5_adds 50 = .ok (.aload_n 0, 1) := dk_42 (dk_at dksX5_adds_2 2 rfl rfl)
theorem dX5_adds_51 : decode cX5_adds 51 = .ok (.dup, 1) := dk_89 (dk_at dksX5_adds_2 3 rfl rfl)
theorem dX5_adds_52 : decode cX5_adds 52 = .ok (.getfield 105, 3) := dk_180 0 105 (dk_at dksX5_adds_2 4 rfl rfl)
theorem dX5_adds_55 : decode cX5_adds 55 = .ok (.dup_x1, 1) := dk_90 (dk_at dksX5_adds_2 7 rfl rfl)
theorem dX5_adds_56 : decode cX5_adds 56 = .ok (.iconst 1, 1) := dk_4 (dk_at dksX5_adds_2 8 rfl rfl)
theorem dX5_adds_57 : decode cX5_adds 57 = .ok (.iadd, 1) := dk_96 (dk_at dksX5_adds_2 9 rfl rfl)
theorem dX5_adds_58 : decode cX5_adds 58 = .ok (.putfield 105, 3) := dk_181 0 105 (dk_at dksX5_adds_2 10 rfl rfl)
theorem dX5_adds_61 : decode cX5_adds 61 = .ok (.ireturn, 1) := dk_172 (dk_at dksX5_adds_2 13 rfl rfl)
abbrev cX5_homeOf : ByteArray := prog_22_method_20_code
def yX5_homeOf : MethodName := ⟨RX5, "homeOf", "(II)I"⟩
def dkwX5_homeOf_3 : List UInt8 := [180, 0, 47, 27, 46, 172, 42, 180, 0, 50, 27, 46, 172, 42, 16, 251, 182, 0, 112, 172]
abbrev dktX5_homeOf_3 : List UInt8 := dkwX5_homeOf_3 ++ []
def dkwX5_homeOf_2 : List UInt8 := [42, 180, 0, 38, 27, 46, 172, 42, 180, 0, 41, 27, 46, 172, 42, 180, 0, 44, 27, 46, 172, 42]
abbrev dktX5_homeOf_2 : List UInt8 := dkwX5_homeOf_2 ++ dktX5_homeOf_3
def dkwX5_homeOf_1 : List UInt8 := [170, 0, 0, 0, 0, 0, 0, 71, 0, 0, 0, 0, 0, 0, 0, 4, 0, 0, 0, 36, 0, 0, 0, 43, 0, 0, 0, 50, 0, 0, 0, 57, 0, 0, 0, 64]
abbrev dktX5_homeOf_1 : List UInt8 := dkwX5_homeOf_1 ++ dktX5_homeOf_2
def dkwX5_homeOf_0 : List UInt8 := [42, 27, 182, 0, 116, 154, 0, 10, 42, 16, 251, 182, 0, 112, 172, 28]
abbrev dktX5_homeOf_0 : List UInt8 := dkwX5_homeOf_0 ++ dktX5_homeOf_1
theorem dksX5_homeOf_0 : cX5_homeOf.data.toList.drop 0 = dktX5_homeOf_0 := by decide +kernel
theorem dksX5_homeOf_1 : cX5_homeOf.data.toList.drop 16 = dktX5_homeOf_1 := dk_seg dksX5_homeOf_0 16 rfl rfl
theorem dksX5_homeOf_2 : cX5_homeOf.data.toList.drop 52 = dktX5_homeOf_2 := dk_seg dksX5_homeOf_1 36 rfl rfl
theorem dksX5_homeOf_3 : cX5_homeOf.data.toList.drop 74 = dktX5_homeOf_3 := dk_seg dksX5_homeOf_2 22 rfl rfl
theorem dX5_homeOf_0 : decode cX5_homeOf 0 = .ok (.aload_n 0, 1) := dk_42 (dk_at dksX5_homeOf_0 0 rfl rfl)
theorem dX5_homeOf_1 : decode cX5_homeOf 1 = .ok (.iload_n 1, 1) := dk_27 (dk_at dksX5_homeOf_0 1 rfl rfl)
theorem dX5_homeOf_2 : decode cX5_homeOf 2 = .ok (.invokevirtual 116, 3) := dk_182 0 116 (dk_at dksX5_homeOf_0 2 rfl rfl)
theorem dX5_homeOf_5 : decode cX5_homeOf 5 = .ok (.ifCond .ne 10, 3) := dk_154 0 10 (dk_at dksX5_homeOf_0 5 rfl rfl)
theorem dX5_homeOf_8 : decode cX5_homeOf 8 = .ok (.aload_n 0, 1) := dk_42 (dk_at dksX5_homeOf_0 8 rfl rfl)
theorem dX5_homeOf_9 : decode cX5_homeOf 9 = .ok (.bipush (-5), 2) := dk_16 251 (dk_at dksX5_homeOf_0 9 rfl rfl)
theorem dX5_homeOf_11 : decode cX5_homeOf 11 = .ok (.invokevirtual 112, 3) := dk_182 0 112 (dk_at dksX5_homeOf_0 11 rfl rfl)
theorem dX5_homeOf_14 : decode cX5_homeOf 14 = .ok (.ireturn, 1) := dk_172 (dk_at dksX5_homeOf_0 14 rfl rfl)
theorem dX5_homeOf_15 : decode cX5_homeOf 15 = .ok (.iload_n 2, 1) := dk_28 (dk_at dksX5_homeOf_0 15 rfl rfl)
theorem dX5_homeOf_16 : decode cX5_homeOf 16 = .ok (.tableswitch 71 0 4 #[36, 43, 50, 57, 64], 36) := by decide +kernel
theorem dX5_homeOf_52 : decode cX5_homeOf 52 = .ok (.aload_n 0, 1) := dk_42 (dk_at dksX5_homeOf_2 0 rfl rfl)
theorem dX5_homeOf_53 : decode cX5_homeOf 53 = .ok (.getfield 38, 3) := dk_180 0 38 (dk_at dksX5_homeOf_2 1 rfl rfl)
theorem dX5_homeOf_56 : decode cX5_homeOf 56 = .ok (.iload_n 1, 1) := dk_27 (dk_at dksX5_homeOf_2 4 rfl rfl)
theorem dX5_homeOf_57 : decode cX5_homeOf 57 = .ok (.iaload, 1) := dk_46 (dk_at dksX5_homeOf_2 5 rfl rfl)
theorem dX5_homeOf_58 : decode cX5_homeOf 58 = .ok (.ireturn, 1) := dk_172 (dk_at dksX5_homeOf_2 6 rfl rfl)
theorem dX5_homeOf_59 : decode cX5_homeOf 59 = .ok (.aload_n 0, 1) := dk_42 (dk_at dksX5_homeOf_2 7 rfl rfl)
theorem dX5_homeOf_60 : decode cX5_homeOf 60 = .ok (.getfield 41, 3) := dk_180 0 41 (dk_at dksX5_homeOf_2 8 rfl rfl)
theorem dX5_homeOf_63 : decode cX5_homeOf 63 = .ok (.iload_n 1, 1) := dk_27 (dk_at dksX5_homeOf_2 11 rfl rfl)
theorem dX5_homeOf_64 : decode cX5_homeOf 64 = .ok (.iaload, 1) := dk_46 (dk_at dksX5_homeOf_2 12 rfl rfl)
theorem dX5_homeOf_65 : decode cX5_homeOf 65 = .ok (.ireturn, 1) := dk_172 (dk_at dksX5_homeOf_2 13 rfl rfl)
theorem dX5_homeOf_66 : decode cX5_homeOf 66 = .ok (.aload_n 0, 1) := dk_42 (dk_at dksX5_homeOf_2 14 rfl rfl)
theorem dX5_homeOf_67 : decode cX5_homeOf 67 = .ok (.getfield 44, 3) := dk_180 0 44 (dk_at dksX5_homeOf_2 15 rfl rfl)
theorem dX5_homeOf_70 : decode cX5_homeOf 70 = .ok (.iload_n 1, 1) := dk_27 (dk_at dksX5_homeOf_2 18 rfl rfl)
theorem dX5_homeOf_71 : decode cX5_homeOf 71 = .ok (.iaload, 1) := dk_46 (dk_at dksX5_homeOf_2 19 rfl rfl)
theorem dX5_homeOf_72 : decode cX5_homeOf 72 = .ok (.ireturn, 1) := dk_172 (dk_at dksX5_homeOf_2 20 rfl rfl)
theorem dX5_homeOf_73 : decode cX5_homeOf 73 = .ok (.aload_n 0, 1) := dk_42 (dk_at dksX5_homeOf_2 21 rfl rfl)
theorem dX5_homeOf_74 : decode cX5_homeOf 74 = .ok (.getfield 47, 3) := dk_180 0 47 (dk_at dksX5_homeOf_3 0 rfl rfl)
theorem dX5_homeOf_77 : decode cX5_homeOf 77 = .ok (.iload_n 1, 1) := dk_27 (dk_at dksX5_homeOf_3 3 rfl rfl)
theorem dX5_homeOf_78 : decode cX5_homeOf 78 = .ok (.iaload, 1) := dk_46 (dk_at dksX5_homeOf_3 4 rfl rfl)
theorem dX5_homeOf_79 : decode cX5_homeOf 79 = .ok (.ireturn, 1) := dk_172 (dk_at dksX5_homeOf_3 5 rfl rfl)
theorem dX5_homeOf_80 : decode cX5_homeOf 80 = .ok (.aload_n 0, 1) := dk_42 (dk_at dksX5_homeOf_3 6 rfl rfl)
theorem dX5_homeOf_81 : decode cX5_homeOf 81 = .ok (.getfield 50, 3) := dk_180 0 50 (dk_at dksX5_homeOf_3 7 rfl rfl)
theorem dX5_homeOf_84 : decode cX5_homeOf 84 = .ok (.iload_n 1, 1) := dk_27 (dk_at dksX5_homeOf_3 10 rfl rfl)
theorem dX5_homeOf_85 : decode cX5_homeOf 85 = .ok (.iaload, 1) := dk_46 (dk_at dksX5_homeOf_3 11 rfl rfl)
theorem dX5_homeOf_86 : decode cX5_homeOf 86 = .ok (.ireturn, 1) := dk_172 (dk_at dksX5_homeOf_3 12 rfl rfl)
theorem dX5_homeOf_87 : decode cX5_homeOf 87 = .ok (.aload_n 0, 1) := dk_42 (dk_at dksX5_homeOf_3 13 rfl rfl)
theorem dX5_homeOf_88 : decode cX5_homeOf 88 = .ok (.bipush (-5), 2) := dk_16 251 (dk_at dksX5_homeOf_3 14 rfl rfl)
theorem dX5_homeOf_90 : decode cX5_homeOf 90 = .ok (.invokevirtual 112, 3) := dk_182 0 112 (dk_at dksX5_homeOf_3 16 rfl rfl)
theorem dX5_homeOf_93 : decode cX5_homeOf 93 = .ok (.ireturn, 1) := dk_172 (dk_at dksX5_homeOf_3 19 rfl rfl)
abbrev cX5_marks : ByteArray := prog_22_method_21_code
def yX5_marks : MethodName := ⟨RX5, "marks", "(II)I"⟩
def dkwX5_marks_1 : List UInt8 := [42, 16, 250, 182, 0, 112, 172, 42, 180, 0, 44, 27, 46, 62, 42, 180, 0, 44, 27, 28, 79, 29, 172]
abbrev dktX5_marks_1 : List UInt8 := dkwX5_marks_1 ++ []
def dkwX5_marks_0 : List UInt8 := [42, 27, 182, 0, 116, 154, 0, 9, 42, 2, 182, 0, 112, 172, 28, 155, 0, 9, 28, 16, 9, 164, 0, 10]
abbrev dktX5_marks_0 : List UInt8 := dkwX5_marks_0 ++ dktX5_marks_1
theorem dksX5_marks_0 : cX5_marks.data.toList.drop 0 = dktX5_marks_0 := by decide +kernel
theorem dksX5_marks_1 : cX5_marks.data.toList.drop 24 = dktX5_marks_1 := dk_seg dksX5_marks_0 24 rfl rfl
theorem dX5_marks_0 : decode cX5_marks 0 = .ok (.aload_n 0, 1) := dk_42 (dk_at dksX5_marks_0 0 rfl rfl)
theorem dX5_marks_1 : decode cX5_marks 1 = .ok (.iload_n 1, 1) := dk_27 (dk_at dksX5_marks_0 1 rfl rfl)
theorem dX5_marks_2 : decode cX5_marks 2 = .ok (.invokevirtual 116, 3) := dk_182 0 116 (dk_at dksX5_marks_0 2 rfl rfl)
theorem dX5_marks_5 : decode cX5_marks 5 = .ok (.ifCond .ne 9, 3) := dk_154 0 9 (dk_at dksX5_marks_0 5 rfl rfl)
theorem dX5_marks_8 : decode cX5_marks 8 = .ok (.aload_n 0, 1) := dk_42 (dk_at dksX5_marks_0 8 rfl rfl)
theorem dX5_marks_9 : decode cX5_marks 9 = .ok (.iconst (-1), 1) := dk_2 (dk_at dksX5_marks_0 9 rfl rfl)
theorem dX5_marks_10 : decode cX5_marks 10 = .ok (.invokevirtual 112, 3) := dk_182 0 112 (dk_at dksX5_marks_0 10 rfl rfl)
theorem dX5_marks_13 : decode cX5_marks 13 = .ok (.ireturn, 1) := dk_172 (dk_at dksX5_marks_0 13 rfl rfl)
theorem dX5_marks_14 : decode cX5_marks 14 = .ok (.iload_n 2, 1) := dk_28 (dk_at dksX5_marks_0 14 rfl rfl)
theorem dX5_marks_15 : decode cX5_marks 15 = .ok (.ifCond .lt 9, 3) := dk_155 0 9 (dk_at dksX5_marks_0 15 rfl rfl)
theorem dX5_marks_18 : decode cX5_marks 18 = .ok (.iload_n 2, 1) := dk_28 (dk_at dksX5_marks_0 18 rfl rfl)
theorem dX5_marks_19 : decode cX5_marks 19 = .ok (.bipush 9, 2) := dk_16 9 (dk_at dksX5_marks_0 19 rfl rfl)
theorem dX5_marks_21 : decode cX5_marks 21 = .ok (.if_icmp .le 10, 3) := dk_164 0 10 (dk_at dksX5_marks_0 21 rfl rfl)
theorem dX5_marks_24 : decode cX5_marks 24 = .ok (.aload_n 0, 1) := dk_42 (dk_at dksX5_marks_1 0 rfl rfl)
theorem dX5_marks_25 : decode cX5_marks 25 = .ok (.bipush (-6), 2) := dk_16 250 (dk_at dksX5_marks_1 1 rfl rfl)
theorem dX5_marks_27 : decode cX5_marks 27 = .ok (.invokevirtual 112, 3) := dk_182 0 112 (dk_at dksX5_marks_1 3 rfl rfl)
theorem dX5_marks_30 : decode cX5_marks 30 = .ok (.ireturn, 1) := dk_172 (dk_at dksX5_marks_1 6 rfl rfl)
theorem dX5_marks_31 : decode cX5_marks 31 = .ok (.aload_n 0, 1) := dk_42 (dk_at dksX5_marks_1 7 rfl rfl)
theorem dX5_marks_32 : decode cX5_marks 32 = .ok (.getfield 44, 3) := dk_180 0 44 (dk_at dksX5_marks_1 8 rfl rfl)
theorem dX5_marks_35 : decode cX5_marks 35 = .ok (.iload_n 1, 1) := dk_27 (dk_at dksX5_marks_1 11 rfl rfl)
theorem dX5_marks_36 : decode cX5_marks 36 = .ok (.iaload, 1) := dk_46 (dk_at dksX5_marks_1 12 rfl rfl)
theorem dX5_marks_37 : decode cX5_marks 37 = .ok (.istore_n 3, 1) := dk_62 (dk_at dksX5_marks_1 13 rfl rfl)
theorem dX5_marks_38 : decode cX5_marks 38 = .ok (.aload_n 0, 1) := dk_42 (dk_at dksX5_marks_1 14 rfl rfl)
theorem dX5_marks_39 : decode cX5_marks 39 = .ok (.getfield 44, 3) := dk_180 0 44 (dk_at dksX5_marks_1 15 rfl rfl)
theorem dX5_marks_42 : decode cX5_marks 42 = .ok (.iload_n 1, 1) := dk_27 (dk_at dksX5_marks_1 18 rfl rfl)
theorem dX5_marks_43 : decode cX5_marks 43 = .ok (.iload_n 2, 1) := dk_28 (dk_at dksX5_marks_1 19 rfl rfl)
theorem dX5_marks_44 : decode cX5_marks 44 = .ok (.iastore, 1) := dk_79 (dk_at dksX5_marks_1 20 rfl rfl)
theorem dX5_marks_45 : decode cX5_marks 45 = .ok (.iload_n 3, 1) := dk_29 (dk_at dksX5_marks_1 21 rfl rfl)
theorem dX5_marks_46 : decode cX5_marks 46 = .ok (.ireturn, 1) := dk_172 (dk_at dksX5_marks_1 22 rfl rfl)
abbrev cX5_allergic : ByteArray := prog_22_method_22_code
def yX5_allergic : MethodName := ⟨RX5, "allergic", "(IZ)I"⟩
def dkwX5_allergic_1 : List UInt8 := [42, 180, 0, 47, 27, 46, 29, 160, 0, 5, 3, 172, 42, 180, 0, 47, 27, 29, 79, 4, 172]
abbrev dktX5_allergic_1 : List UInt8 := dkwX5_allergic_1 ++ []
def dkwX5_allergic_0 : List UInt8 := [42, 27, 182, 0, 116, 154, 0, 9, 42, 2, 182, 0, 112, 172, 28, 153, 0, 7, 4, 167, 0, 4, 3, 62]
abbrev dktX5_allergic_0 : List UInt8 := dkwX5_allergic_0 ++ dktX5_allergic_1
theorem dksX5_allergic_0 : cX5_allergic.data.toList.drop 0 = dktX5_allergic_0 := by decide +kernel
theorem dksX5_allergic_1 : cX5_allergic.data.toList.drop 24 = dktX5_allergic_1 := dk_seg dksX5_allergic_0 24 rfl rfl
theorem dX5_allergic_0 : decode cX5_allergic 0 = .ok (.aload_n 0, 1) := dk_42 (dk_at dksX5_allergic_0 0 rfl rfl)
theorem dX5_allergic_1 : decode cX5_allergic 1 = .ok (.iload_n 1, 1) := dk_27 (dk_at dksX5_allergic_0 1 rfl rfl)
theorem dX5_allergic_2 : decode cX5_allergic 2 = .ok (.invokevirtual 116, 3) := dk_182 0 116 (dk_at dksX5_allergic_0 2 rfl rfl)
theorem dX5_allergic_5 : decode cX5_allergic 5 = .ok (.ifCond .ne 9, 3) := dk_154 0 9 (dk_at dksX5_allergic_0 5 rfl rfl)
theorem dX5_allergic_8 : decode cX5_allergic 8 = .ok (.aload_n 0, 1) := dk_42 (dk_at dksX5_allergic_0 8 rfl rfl)
theorem dX5_allergic_9 : decode cX5_allergic 9 = .ok (.iconst (-1), 1) := dk_2 (dk_at dksX5_allergic_0 9 rfl rfl)
theorem dX5_allergic_10 : decode cX5_allergic 10 = .ok (.invokevirtual 112, 3) := dk_182 0 112 (dk_at dksX5_allergic_0 10 rfl rfl)
theorem dX5_allergic_13 : decode cX5_allergic 13 = .ok (.ireturn, 1) := dk_172 (dk_at dksX5_allergic_0 13 rfl rfl)
theorem dX5_allergic_14 : decode cX5_allergic 14 = .ok (.iload_n 2, 1) := dk_28 (dk_at dksX5_allergic_0 14 rfl rfl)
theorem dX5_allergic_15 : decode cX5_allergic 15 = .ok (.ifCond .eq 7, 3) := dk_153 0 7 (dk_at dksX5_allergic_0 15 rfl rfl)
theorem dX5_allergic_18 : decode cX5_allergic 18 = .ok (.iconst 1, 1) := dk_4 (dk_at dksX5_allergic_0 18 rfl rfl)
theorem dX5_allergic_19 : decode cX5_allergic 19 = .ok (.goto 4, 3) := dk_167 0 4 (dk_at dksX5_allergic_0 19 rfl rfl)
theorem dX5_allergic_22 : decode cX5_allergic 22 = .ok (.iconst 0, 1) := dk_3 (dk_at dksX5_allergic_0 22 rfl rfl)
theorem dX5_allergic_23 : decode cX5_allergic 23 = .ok (.istore_n 3, 1) := dk_62 (dk_at dksX5_allergic_0 23 rfl rfl)
theorem dX5_allergic_24 : decode cX5_allergic 24 = .ok (.aload_n 0, 1) := dk_42 (dk_at dksX5_allergic_1 0 rfl rfl)
theorem dX5_allergic_25 : decode cX5_allergic 25 = .ok (.getfield 47, 3) := dk_180 0 47 (dk_at dksX5_allergic_1 1 rfl rfl)
theorem dX5_allergic_28 : decode cX5_allergic 28 = .ok (.iload_n 1, 1) := dk_27 (dk_at dksX5_allergic_1 4 rfl rfl)
theorem dX5_allergic_29 : decode cX5_allergic 29 = .ok (.iaload, 1) := dk_46 (dk_at dksX5_allergic_1 5 rfl rfl)
theorem dX5_allergic_30 : decode cX5_allergic 30 = .ok (.iload_n 3, 1) := dk_29 (dk_at dksX5_allergic_1 6 rfl rfl)
theorem dX5_allergic_31 : decode cX5_allergic 31 = .ok (.if_icmp .ne 5, 3) := dk_160 0 5 (dk_at dksX5_allergic_1 7 rfl rfl)
theorem dX5_allergic_34 : decode cX5_allergic 34 = .ok (.iconst 0, 1) := dk_3 (dk_at dksX5_allergic_1 10 rfl rfl)
theorem dX5_allergic_35 : decode cX5_allergic 35 = .ok (.ireturn, 1) := dk_172 (dk_at dksX5_allergic_1 11 rfl rfl)
theorem dX5_allergic_36 : decode cX5_allergic 36 = .ok (.aload_n 0, 1) := dk_42 (dk_at dksX5_allergic_1 12 rfl rfl)
theorem dX5_allergic_37 : decode cX5_allergic 37 = .ok (.getfield 47, 3) := dk_180 0 47 (dk_at dksX5_allergic_1 13 rfl rfl)
theorem dX5_allergic_40 : decode cX5_allergic 40 = .ok (.iload_n 1, 1) := dk_27 (dk_at dksX5_allergic_1 16 rfl rfl)
theorem dX5_allergic_41 : decode cX5_allergic 41 = .ok (.iload_n 3, 1) := dk_29 (dk_at dksX5_allergic_1 17 rfl rfl)
theorem dX5_allergic_42 : decode cX5_allergic 42 = .ok (.iastore, 1) := dk_79 (dk_at dksX5_allergic_1 18 rfl rfl)
theorem dX5_allergic_43 : decode cX5_allergic 43 = .ok (.iconst 1, 1) := dk_4 (dk_at dksX5_allergic_1 19 rfl rfl)
theorem dX5_allergic_44 : decode cX5_allergic 44 = .ok (.ireturn, 1) := dk_172 (dk_at dksX5_allergic_1 20 rfl rfl)
abbrev cX5_ask : ByteArray := prog_22_method_26_code
def yX5_ask : MethodName := ⟨RX5, "ask", "(II)I"⟩
def dkwX5_ask_1 : List UInt8 := [172, 42, 27, 182, 0, 136, 62, 42, 27, 28, 182, 0, 139, 29, 172]
abbrev dktX5_ask_1 : List UInt8 := dkwX5_ask_1 ++ []
def dkwX5_ask_0 : List UInt8 := [27, 155, 0, 17, 27, 8, 163, 0, 12, 42, 27, 28, 182, 0, 132, 154, 0, 10, 42, 16, 250, 182, 0, 112]
abbrev dktX5_ask_0 : List UInt8 := dkwX5_ask_0 ++ dktX5_ask_1
theorem dksX5_ask_0 : cX5_ask.data.toList.drop 0 = dktX5_ask_0 := by decide +kernel
theorem dksX5_ask_1 : cX5_ask.data.toList.drop 24 = dktX5_ask_1 := dk_seg dksX5_ask_0 24 rfl rfl
theorem dX5_ask_0 : decode cX5_ask 0 = .ok (.iload_n 1, 1) := dk_27 (dk_at dksX5_ask_0 0 rfl rfl)
theorem dX5_ask_1 : decode cX5_ask 1 = .ok (.ifCond .lt 17, 3) := dk_155 0 17 (dk_at dksX5_ask_0 1 rfl rfl)
theorem dX5_ask_4 : decode cX5_ask 4 = .ok (.iload_n 1, 1) := dk_27 (dk_at dksX5_ask_0 4 rfl rfl)
theorem dX5_ask_5 : decode cX5_ask 5 = .ok (.iconst 5, 1) := dk_8 (dk_at dksX5_ask_0 5 rfl rfl)
theorem dX5_ask_6 : decode cX5_ask 6 = .ok (.if_icmp .gt 12, 3) := dk_163 0 12 (dk_at dksX5_ask_0 6 rfl rfl)
theorem dX5_ask_9 : decode cX5_ask 9 = .ok (.aload_n 0, 1) := dk_42 (dk_at dksX5_ask_0 9 rfl rfl)
theorem dX5_ask_10 : decode cX5_ask 10 = .ok (.iload_n 1, 1) := dk_27 (dk_at dksX5_ask_0 10 rfl rfl)
theorem dX5_ask_11 : decode cX5_ask 11 = .ok (.iload_n 2, 1) := dk_28 (dk_at dksX5_ask_0 11 rfl rfl)
theorem dX5_ask_12 : decode cX5_ask 12 = .ok (.invokevirtual 132, 3) := dk_182 0 132 (dk_at dksX5_ask_0 12 rfl rfl)
theorem dX5_ask_15 : decode cX5_ask 15 = .ok (.ifCond .ne 10, 3) := dk_154 0 10 (dk_at dksX5_ask_0 15 rfl rfl)
theorem dX5_ask_18 : decode cX5_ask 18 = .ok (.aload_n 0, 1) := dk_42 (dk_at dksX5_ask_0 18 rfl rfl)
theorem dX5_ask_19 : decode cX5_ask 19 = .ok (.bipush (-6), 2) := dk_16 250 (dk_at dksX5_ask_0 19 rfl rfl)
theorem dX5_ask_21 : decode cX5_ask 21 = .ok (.invokevirtual 112, 3) := dk_182 0 112 (dk_at dksX5_ask_0 21 rfl rfl)
theorem dX5_ask_24 : decode cX5_ask 24 = .ok (.ireturn, 1) := dk_172 (dk_at dksX5_ask_1 0 rfl rfl)
theorem dX5_ask_25 : decode cX5_ask 25 = .ok (.aload_n 0, 1) := dk_42 (dk_at dksX5_ask_1 1 rfl rfl)
theorem dX5_ask_26 : decode cX5_ask 26 = .ok (.iload_n 1, 1) := dk_27 (dk_at dksX5_ask_1 2 rfl rfl)
theorem dX5_ask_27 : decode cX5_ask 27 = .ok (.invokevirtual 136, 3) := dk_182 0 136 (dk_at dksX5_ask_1 3 rfl rfl)
theorem dX5_ask_30 : decode cX5_ask 30 = .ok (.istore_n 3, 1) := dk_62 (dk_at dksX5_ask_1 6 rfl rfl)
theorem dX5_ask_31 : decode cX5_ask 31 = .ok (.aload_n 0, 1) := dk_42 (dk_at dksX5_ask_1 7 rfl rfl)
theorem dX5_ask_32 : decode cX5_ask 32 = .ok (.iload_n 1, 1) := dk_27 (dk_at dksX5_ask_1 8 rfl rfl)
theorem dX5_ask_33 : decode cX5_ask 33 = .ok (.iload_n 2, 1) := dk_28 (dk_at dksX5_ask_1 9 rfl rfl)
theorem dX5_ask_34 : decode cX5_ask 34 = .ok (.invokevirtual 139, 3) := dk_182 0 139 (dk_at dksX5_ask_1 10 rfl rfl)
theorem dX5_ask_37 : decode cX5_ask 37 = .ok (.iload_n 3, 1) := dk_29 (dk_at dksX5_ask_1 13 rfl rfl)
theorem dX5_ask_38 : decode cX5_ask 38 = .ok (.ireturn, 1) := dk_172 (dk_at dksX5_ask_1 14 rfl rfl)
abbrev cX5_isAsked : ByteArray := prog_22_method_23_code
def yX5_isAsked : MethodName := ⟨RX5, "isAsked", "(II)Z"⟩
def dkwX5_isAsked_1 : List UInt8 := [3, 172]
abbrev dktX5_isAsked_1 : List UInt8 := dkwX5_isAsked_1 ++ []
def dkwX5_isAsked_0 : List UInt8 := [28, 42, 180, 0, 75, 27, 46, 161, 0, 17, 28, 42, 180, 0, 78, 27, 46, 163, 0, 7, 4, 167, 0, 4]
abbrev dktX5_isAsked_0 : List UInt8 := dkwX5_isAsked_0 ++ dktX5_isAsked_1
theorem dksX5_isAsked_0 : cX5_isAsked.data.toList.drop 0 = dktX5_isAsked_0 := by decide +kernel
theorem dksX5_isAsked_1 : cX5_isAsked.data.toList.drop 24 = dktX5_isAsked_1 := dk_seg dksX5_isAsked_0 24 rfl rfl
theorem dX5_isAsked_0 : decode cX5_isAsked 0 = .ok (.iload_n 2, 1) := dk_28 (dk_at dksX5_isAsked_0 0 rfl rfl)
theorem dX5_isAsked_1 : decode cX5_isAsked 1 = .ok (.aload_n 0, 1) := dk_42 (dk_at dksX5_isAsked_0 1 rfl rfl)
theorem dX5_isAsked_2 : decode cX5_isAsked 2 = .ok (.getfield 75, 3) := dk_180 0 75 (dk_at dksX5_isAsked_0 2 rfl rfl)
theorem dX5_isAsked_5 : decode cX5_isAsked 5 = .ok (.iload_n 1, 1) := dk_27 (dk_at dksX5_isAsked_0 5 rfl rfl)
theorem dX5_isAsked_6 : decode cX5_isAsked 6 = .ok (.iaload, 1) := dk_46 (dk_at dksX5_isAsked_0 6 rfl rfl)
theorem dX5_isAsked_7 : decode cX5_isAsked 7 = .ok (.if_icmp .lt 17, 3) := dk_161 0 17 (dk_at dksX5_isAsked_0 7 rfl rfl)
theorem dX5_isAsked_10 : decode cX5_isAsked 10 = .ok (.iload_n 2, 1) := dk_28 (dk_at dksX5_isAsked_0 10 rfl rfl)
theorem dX5_isAsked_11 : decode cX5_isAsked 11 = .ok (.aload_n 0, 1) := dk_42 (dk_at dksX5_isAsked_0 11 rfl rfl)
theorem dX5_isAsked_12 : decode cX5_isAsked 12 = .ok (.getfield 78, 3) := dk_180 0 78 (dk_at dksX5_isAsked_0 12 rfl rfl)
theorem dX5_isAsked_15 : decode cX5_isAsked 15 = .ok (.iload_n 1, 1) := dk_27 (dk_at dksX5_isAsked_0 15 rfl rfl)
theorem dX5_isAsked_16 : decode cX5_isAsked 16 = .ok (.iaload, 1) := dk_46 (dk_at dksX5_isAsked_0 16 rfl rfl)
theorem dX5_isAsked_17 : decode cX5_isAsked 17 = .ok (.if_icmp .gt 7, 3) := dk_163 0 7 (dk_at dksX5_isAsked_0 17 rfl rfl)
theorem dX5_isAsked_20 : decode cX5_isAsked 20 = .ok (.iconst 1, 1) := dk_4 (dk_at dksX5_isAsked_0 20 rfl rfl)
theorem dX5_isAsked_21 : decode cX5_isAsked 21 = .ok (.goto 4, 3) := dk_167 0 4 (dk_at dksX5_isAsked_0 21 rfl rfl)
theorem dX5_isAsked_24 : decode cX5_isAsked 24 = .ok (.iconst 0, 1) := dk_3 (dk_at dksX5_isAsked_1 0 rfl rfl)
theorem dX5_isAsked_25 : decode cX5_isAsked 25 = .ok (.ireturn, 1) := dk_172 (dk_at dksX5_isAsked_1 1 rfl rfl)
abbrev cX5_told : ByteArray := prog_22_method_24_code
def yX5_told : MethodName := ⟨RX5, "told", "(I)I"⟩
def dkwX5_told_3 : List UInt8 := [172, 42, 180, 0, 22, 172]
abbrev dktX5_told_3 : List UInt8 := dkwX5_told_3 ++ []
def dkwX5_told_2 : List UInt8 := [42, 180, 0, 7, 172, 42, 180, 0, 126, 172, 42, 180, 0, 129, 172, 42, 180, 0, 16, 172, 42, 180, 0, 19]
abbrev dktX5_told_2 : List UInt8 := dkwX5_told_2 ++ dktX5_told_3
def dkwX5_told_1 : List UInt8 := [170, 0, 0, 0, 0, 0, 60, 0, 0, 0, 0, 0, 0, 0, 4, 0, 0, 0, 35, 0, 0, 0, 40, 0, 0, 0, 45, 0, 0, 0, 50, 0, 0, 0, 55]
abbrev dktX5_told_1 : List UInt8 := dkwX5_told_1 ++ dktX5_told_2
def dkwX5_told_0 : List UInt8 := [27]
abbrev dktX5_told_0 : List UInt8 := dkwX5_told_0 ++ dktX5_told_1
theorem dksX5_told_0 : cX5_told.data.toList.drop 0 = dktX5_told_0 := by decide +kernel
theorem dksX5_told_1 : cX5_told.data.toList.drop 1 = dktX5_told_1 := dk_seg dksX5_told_0 1 rfl rfl
theorem dksX5_told_2 : cX5_told.data.toList.drop 36 = dktX5_told_2 := dk_seg dksX5_told_1 35 rfl rfl
theorem dksX5_told_3 : cX5_told.data.toList.drop 60 = dktX5_told_3 := dk_seg dksX5_told_2 24 rfl rfl
theorem dX5_told_0 : decode cX5_told 0 = .ok (.iload_n 1, 1) := dk_27 (dk_at dksX5_told_0 0 rfl rfl)
theorem dX5_told_1 : decode cX5_told 1 = .ok (.tableswitch 60 0 4 #[35, 40, 45, 50, 55], 35) := by decide +kernel
theorem dX5_told_36 : decode cX5_told 36 = .ok (.aload_n 0, 1) := dk_42 (dk_at dksX5_told_2 0 rfl rfl)
theorem dX5_told_37 : decode cX5_told 37 = .ok (.getfield 7, 3) := dk_180 0 7 (dk_at dksX5_told_2 1 rfl rfl)
theorem dX5_told_40 : decode cX5_told 40 = .ok (.ireturn, 1) := dk_172 (dk_at dksX5_told_2 4 rfl rfl)
theorem dX5_told_41 : decode cX5_told 41 = .ok (.aload_n 0, 1) := dk_42 (dk_at dksX5_told_2 5 rfl rfl)
theorem dX5_told_42 : decode cX5_told 42 = .ok (.getfield 126, 3) := dk_180 0 126 (dk_at dksX5_told_2 6 rfl rfl)
theorem dX5_told_45 : decode cX5_told 45 = .ok (.ireturn, 1) := dk_172 (dk_at dksX5_told_2 9 rfl rfl)
theorem dX5_told_46 : decode cX5_told 46 = .ok (.aload_n 0, 1) := dk_42 (dk_at dksX5_told_2 10 rfl rfl)
theorem dX5_told_47 : decode cX5_told 47 = .ok (.getfield 129, 3) := dk_180 0 129 (dk_at dksX5_told_2 11 rfl rfl)
theorem dX5_told_50 : decode cX5_told 50 = .ok (.ireturn, 1) := dk_172 (dk_at dksX5_told_2 14 rfl rfl)
theorem dX5_told_51 : decode cX5_told 51 = .ok (.aload_n 0, 1) := dk_42 (dk_at dksX5_told_2 15 rfl rfl)
theorem dX5_told_52 : decode cX5_told 52 = .ok (.getfield 16, 3) := dk_180 0 16 (dk_at dksX5_told_2 16 rfl rfl)
theorem dX5_told_55 : decode cX5_told 55 = .ok (.ireturn, 1) := dk_172 (dk_at dksX5_told_2 19 rfl rfl)
theorem dX5_told_56 : decode cX5_told 56 = .ok (.aload_n 0, 1) := dk_42 (dk_at dksX5_told_2 20 rfl rfl)
theorem dX5_told_57 : decode cX5_told 57 = .ok (.getfield 19, 3) := dk_180 0 19 (dk_at dksX5_told_2 21 rfl rfl)
theorem dX5_told_60 : decode cX5_told 60 = .ok (.ireturn, 1) := dk_172 (dk_at dksX5_told_3 0 rfl rfl)
theorem dX5_told_61 : decode cX5_told 61 = .ok (.aload_n 0, 1) := dk_42 (dk_at dksX5_told_3 1 rfl rfl)
theorem dX5_told_62 : decode cX5_told 62 = .ok (.getfield 22, 3) := dk_180 0 22 (dk_at dksX5_told_3 2 rfl rfl)
theorem dX5_told_65 : decode cX5_told 65 = .ok (.ireturn, 1) := dk_172 (dk_at dksX5_told_3 5 rfl rfl)
abbrev cX5_tells : ByteArray := prog_22_method_25_code
def yX5_tells : MethodName := ⟨RX5, "tells", "(II)V"⟩
def dkwX5_tells_3 : List UInt8 := [42, 28, 181, 0, 16, 167, 0, 16, 42, 28, 181, 0, 19, 167, 0, 8, 42, 28, 181, 0, 22, 177]
abbrev dktX5_tells_3 : List UInt8 := dkwX5_tells_3 ++ []
def dkwX5_tells_2 : List UInt8 := [42, 28, 181, 0, 7, 167, 0, 40, 42, 28, 181, 0, 126, 167, 0, 32, 42, 28, 181, 0, 129, 167, 0, 24]
abbrev dktX5_tells_2 : List UInt8 := dkwX5_tells_2 ++ dktX5_tells_3
def dkwX5_tells_1 : List UInt8 := [170, 0, 0, 0, 0, 0, 75, 0, 0, 0, 0, 0, 0, 0, 4, 0, 0, 0, 35, 0, 0, 0, 43, 0, 0, 0, 51, 0, 0, 0, 59, 0, 0, 0, 67]
abbrev dktX5_tells_1 : List UInt8 := dkwX5_tells_1 ++ dktX5_tells_2
def dkwX5_tells_0 : List UInt8 := [27]
abbrev dktX5_tells_0 : List UInt8 := dkwX5_tells_0 ++ dktX5_tells_1
theorem dksX5_tells_0 : cX5_tells.data.toList.drop 0 = dktX5_tells_0 := by decide +kernel
theorem dksX5_tells_1 : cX5_tells.data.toList.drop 1 = dktX5_tells_1 := dk_seg dksX5_tells_0 1 rfl rfl
theorem dksX5_tells_2 : cX5_tells.data.toList.drop 36 = dktX5_tells_2 := dk_seg dksX5_tells_1 35 rfl rfl
theorem dksX5_tells_3 : cX5_tells.data.toList.drop 60 = dktX5_tells_3 := dk_seg dksX5_tells_2 24 rfl rfl
theorem dX5_tells_0 : decode cX5_tells 0 = .ok (.iload_n 1, 1) := dk_27 (dk_at dksX5_tells_0 0 rfl rfl)
theorem dX5_tells_1 : decode cX5_tells 1 = .ok (.tableswitch 75 0 4 #[35, 43, 51, 59, 67], 35) := by decide +kernel
theorem dX5_tells_36 : decode cX5_tells 36 = .ok (.aload_n 0, 1) := dk_42 (dk_at dksX5_tells_2 0 rfl rfl)
theorem dX5_tells_37 : decode cX5_tells 37 = .ok (.iload_n 2, 1) := dk_28 (dk_at dksX5_tells_2 1 rfl rfl)
theorem dX5_tells_38 : decode cX5_tells 38 = .ok (.putfield 7, 3) := dk_181 0 7 (dk_at dksX5_tells_2 2 rfl rfl)
theorem dX5_tells_41 : decode cX5_tells 41 = .ok (.goto 40, 3) := dk_167 0 40 (dk_at dksX5_tells_2 5 rfl rfl)
theorem dX5_tells_44 : decode cX5_tells 44 = .ok (.aload_n 0, 1) := dk_42 (dk_at dksX5_tells_2 8 rfl rfl)
theorem dX5_tells_45 : decode cX5_tells 45 = .ok (.iload_n 2, 1) := dk_28 (dk_at dksX5_tells_2 9 rfl rfl)
theorem dX5_tells_46 : decode cX5_tells 46 = .ok (.putfield 126, 3) := dk_181 0 126 (dk_at dksX5_tells_2 10 rfl rfl)
theorem dX5_tells_49 : decode cX5_tells 49 = .ok (.goto 32, 3) := dk_167 0 32 (dk_at dksX5_tells_2 13 rfl rfl)
theorem dX5_tells_52 : decode cX5_tells 52 = .ok (.aload_n 0, 1) := dk_42 (dk_at dksX5_tells_2 16 rfl rfl)
theorem dX5_tells_53 : decode cX5_tells 53 = .ok (.iload_n 2, 1) := dk_28 (dk_at dksX5_tells_2 17 rfl rfl)
theorem dX5_tells_54 : decode cX5_tells 54 = .ok (.putfield 129, 3) := dk_181 0 129 (dk_at dksX5_tells_2 18 rfl rfl)
theorem dX5_tells_57 : decode cX5_tells 57 = .ok (.goto 24, 3) := dk_167 0 24 (dk_at dksX5_tells_2 21 rfl rfl)
theorem dX5_tells_60 : decode cX5_tells 60 = .ok (.aload_n 0, 1) := dk_42 (dk_at dksX5_tells_3 0 rfl rfl)
theorem dX5_tells_61 : decode cX5_tells 61 = .ok (.iload_n 2, 1) := dk_28 (dk_at dksX5_tells_3 1 rfl rfl)
theorem dX5_tells_62 : decode cX5_tells 62 = .ok (.putfield 16, 3) := dk_181 0 16 (dk_at dksX5_tells_3 2 rfl rfl)
theorem dX5_tells_65 : decode cX5_tells 65 = .ok (.goto 16, 3) := dk_167 0 16 (dk_at dksX5_tells_3 5 rfl rfl)
theorem dX5_tells_68 : decode cX5_tells 68 = .ok (.aload_n 0, 1) := dk_42 (dk_at dksX5_tells_3 8 rfl rfl)
theorem dX5_tells_69 : decode cX5_tells 69 = .ok (.iload_n 2, 1) := dk_28 (dk_at dksX5_tells_3 9 rfl rfl)
theorem dX5_tells_70 : decode cX5_tells 70 = .ok (.putfield 19, 3) := dk_181 0 19 (dk_at dksX5_tells_3 10 rfl rfl)
theorem dX5_tells_73 : decode cX5_tells 73 = .ok (.goto 8, 3) := dk_167 0 8 (dk_at dksX5_tells_3 13 rfl rfl)
theorem dX5_tells_76 : decode cX5_tells 76 = .ok (.aload_n 0, 1) := dk_42 (dk_at dksX5_tells_3 16 rfl rfl)
theorem dX5_tells_77 : decode cX5_tells 77 = .ok (.iload_n 2, 1) := dk_28 (dk_at dksX5_tells_3 17 rfl rfl)
theorem dX5_tells_78 : decode cX5_tells 78 = .ok (.putfield 22, 3) := dk_181 0 22 (dk_at dksX5_tells_3 18 rfl rfl)
theorem dX5_tells_81 : decode cX5_tells 81 = .ok (.return_, 1) := dk_177 (dk_at dksX5_tells_3 21 rfl rfl)
abbrev cX5_classOf : ByteArray := prog_22_method_36_code
def yX5_classOf : MethodName := ⟨RX5, "classOf", "(I)I"⟩
def dkwX5_classOf_6 : List UInt8 := [42, 42, 180, 0, 87, 4, 182, 0, 188, 42, 42, 180, 0, 143, 181, 0, 31, 42, 16, 250, 182, 0, 112, 172]
abbrev dktX5_classOf_6 : List UInt8 := dkwX5_classOf_6 ++ []
def dkwX5_classOf_5 : List UInt8 := [4, 96, 181, 0, 146, 132, 3, 1, 42, 182, 0, 192, 54, 4, 167, 255, 188, 21, 4, 153, 0, 5, 29, 172]
abbrev dktX5_classOf_5 : List UInt8 := dkwX5_classOf_5 ++ dktX5_classOf_6
def dkwX5_classOf_4 : List UInt8 := [136, 16, 59, 159, 0, 16, 42, 42, 180, 0, 146, 182, 0, 162, 54, 4, 167, 255, 210, 42, 89, 180, 0, 146]
abbrev dktX5_classOf_4 : List UInt8 := dkwX5_classOf_4 ++ dktX5_classOf_5
def dkwX5_classOf_3 : List UInt8 := [180, 0, 146, 42, 180, 0, 149, 162, 0, 58, 42, 180, 0, 68, 42, 180, 0, 152, 42, 180, 0, 146, 96, 47]
abbrev dktX5_classOf_3 : List UInt8 := dkwX5_classOf_3 ++ dktX5_classOf_4
def dkwX5_classOf_2 : List UInt8 := [181, 0, 149, 42, 2, 181, 0, 31, 4, 62, 42, 182, 0, 192, 54, 4, 21, 4, 153, 0, 69, 42]
abbrev dktX5_classOf_2 : List UInt8 := dkwX5_classOf_2 ++ dktX5_classOf_3
def dkwX5_classOf_1 : List UInt8 := [182, 0, 188, 42, 17, 0, 160, 27, 104, 181, 0, 152, 42, 3, 181, 0, 146, 42, 42, 180, 0, 62, 27, 46]
abbrev dktX5_classOf_1 : List UInt8 := dkwX5_classOf_1 ++ dktX5_classOf_2
def dkwX5_classOf_0 : List UInt8 := [42, 27, 182, 0, 119, 61, 28, 153, 0, 9, 42, 28, 182, 0, 112, 172, 42, 42, 180, 0, 87, 3]
abbrev dktX5_classOf_0 : List UInt8 := dkwX5_classOf_0 ++ dktX5_classOf_1
theorem dksX5_classOf_0 : cX5_classOf.data.toList.drop 0 = dktX5_classOf_0 := by decide +kernel
theorem dksX5_classOf_1 : cX5_classOf.data.toList.drop 22 = dktX5_classOf_1 := dk_seg dksX5_classOf_0 22 rfl rfl
theorem dksX5_classOf_2 : cX5_classOf.data.toList.drop 46 = dktX5_classOf_2 := dk_seg dksX5_classOf_1 24 rfl rfl
theorem dksX5_classOf_3 : cX5_classOf.data.toList.drop 68 = dktX5_classOf_3 := dk_seg dksX5_classOf_2 22 rfl rfl
theorem dksX5_classOf_4 : cX5_classOf.data.toList.drop 92 = dktX5_classOf_4 := dk_seg dksX5_classOf_3 24 rfl rfl
theorem dksX5_classOf_5 : cX5_classOf.data.toList.drop 116 = dktX5_classOf_5 := dk_seg dksX5_classOf_4 24 rfl rfl
theorem dksX5_classOf_6 : cX5_classOf.data.toList.drop 140 = dktX5_classOf_6 := dk_seg dksX5_classOf_5 24 rfl rfl
theorem dX5_classOf_0 : decode cX5_classOf 0 = .ok (.aload_n 0, 1) := dk_42 (dk_at dksX5_classOf_0 0 rfl rfl)
theorem dX5_classOf_1 : decode cX5_classOf 1 = .ok (.iload_n 1, 1) := dk_27 (dk_at dksX5_classOf_0 1 rfl rfl)
theorem dX5_classOf_2 : decode cX5_classOf 2 = .ok (.invokevirtual 119, 3) := dk_182 0 119 (dk_at dksX5_classOf_0 2 rfl rfl)
theorem dX5_classOf_5 : decode cX5_classOf 5 = .ok (.istore_n 2, 1) := dk_61 (dk_at dksX5_classOf_0 5 rfl rfl)
theorem dX5_classOf_6 : decode cX5_classOf 6 = .ok (.iload_n 2, 1) := dk_28 (dk_at dksX5_classOf_0 6 rfl rfl)
theorem dX5_classOf_7 : decode cX5_classOf 7 = .ok (.ifCond .eq 9, 3) := dk_153 0 9 (dk_at dksX5_classOf_0 7 rfl rfl)
theorem dX5_classOf_10 : decode cX5_classOf 10 = .ok (.aload_n 0, 1) := dk_42 (dk_at dksX5_classOf_0 10 rfl rfl)
theorem dX5_classOf_11 : decode cX5_classOf 11 = .ok (.iload_n 2, 1) := dk_28 (dk_at dksX5_classOf_0 11 rfl rfl)
theorem dX5_classOf_12 : decode cX5_classOf 12 = .ok (.invokevirtual 112, 3) := dk_182 0 112 (dk_at dksX5_classOf_0 12 rfl rfl)
theorem dX5_classOf_15 : decode cX5_classOf 15 = .ok (.ireturn, 1) := dk_172 (dk_at dksX5_classOf_0 15 rfl rfl)
theorem dX5_classOf_16 : decode cX5_classOf 16 = .ok (.aload_n 0, 1) := dk_42 (dk_at dksX5_classOf_0 16 rfl rfl)
theorem dX5_classOf_17 : decode cX5_classOf 17 = .ok (.aload_n 0, 1) := dk_42 (dk_at dksX5_classOf_0 17 rfl rfl)
theorem dX5_classOf_18 : decode cX5_classOf 18 = .ok (.getfield 87, 3) := dk_180 0 87 (dk_at dksX5_classOf_0 18 rfl rfl)
theorem dX5_classOf_21 : decode cX5_classOf 21 = .ok (.iconst 0, 1) := dk_3 (dk_at dksX5_classOf_0 21 rfl rfl)
theorem dX5_classOf_22 : decode cX5_classOf 22 = .ok (.invokevirtual 188, 3) := dk_182 0 188 (dk_at dksX5_classOf_1 0 rfl rfl)
theorem dX5_classOf_25 : decode cX5_classOf 25 = .ok (.aload_n 0, 1) := dk_42 (dk_at dksX5_classOf_1 3 rfl rfl)
theorem dX5_classOf_26 : decode cX5_classOf 26 = .ok (.sipush 160, 3) := dk_17 0 160 (dk_at dksX5_classOf_1 4 rfl rfl)
theorem dX5_classOf_29 : decode cX5_classOf 29 = .ok (.iload_n 1, 1) := dk_27 (dk_at dksX5_classOf_1 7 rfl rfl)
theorem dX5_classOf_30 : decode cX5_classOf 30 = .ok (.imul, 1) := dk_104 (dk_at dksX5_classOf_1 8 rfl rfl)
theorem dX5_classOf_31 : decode cX5_classOf 31 = .ok (.putfield 152, 3) := dk_181 0 152 (dk_at dksX5_classOf_1 9 rfl rfl)
theorem dX5_classOf_34 : decode cX5_classOf 34 = .ok (.aload_n 0, 1) := dk_42 (dk_at dksX5_classOf_1 12 rfl rfl)
theorem dX5_classOf_35 : decode cX5_classOf 35 = .ok (.iconst 0, 1) := dk_3 (dk_at dksX5_classOf_1 13 rfl rfl)
theorem dX5_classOf_36 : decode cX5_classOf 36 = .ok (.putfield 146, 3) := dk_181 0 146 (dk_at dksX5_classOf_1 14 rfl rfl)
theorem dX5_classOf_39 : decode cX5_classOf 39 = .ok (.aload_n 0, 1) := dk_42 (dk_at dksX5_classOf_1 17 rfl rfl)
theorem dX5_classOf_40 : decode cX5_classOf 40 = .ok (.aload_n 0, 1) := dk_42 (dk_at dksX5_classOf_1 18 rfl rfl)
theorem dX5_classOf_41 : decode cX5_classOf 41 = .ok (.getfield 62, 3) := dk_180 0 62 (dk_at dksX5_classOf_1 19 rfl rfl)
theorem dX5_classOf_44 : decode cX5_classOf 44 = .ok (.iload_n 1, 1) := dk_27 (dk_at dksX5_classOf_1 22 rfl rfl)
theorem dX5_classOf_45 : decode cX5_classOf 45 = .ok (.iaload, 1) := dk_46 (dk_at dksX5_classOf_1 23 rfl rfl)
theorem dX5_classOf_46 : decode cX5_classOf 46 = .ok (.putfield 149, 3) := dk_181 0 149 (dk_at dksX5_classOf_2 0 rfl rfl)
theorem dX5_classOf_49 : decode cX5_classOf 49 = .ok (.aload_n 0, 1) := dk_42 (dk_at dksX5_classOf_2 3 rfl rfl)
theorem dX5_classOf_50 : decode cX5_classOf 50 = .ok (.iconst (-1), 1) := dk_2 (dk_at dksX5_classOf_2 4 rfl rfl)
theorem dX5_classOf_51 : decode cX5_classOf 51 = .ok (.putfield 31, 3) := dk_181 0 31 (dk_at dksX5_classOf_2 5 rfl rfl)
theorem dX5_classOf_54 : decode cX5_classOf 54 = .ok (.iconst 1, 1) := dk_4 (dk_at dksX5_classOf_2 8 rfl rfl)
theorem dX5_classOf_55 : decode cX5_classOf 55 = .ok (.istore_n 3, 1) := dk_62 (dk_at dksX5_classOf_2 9 rfl rfl)
theorem dX5_classOf_56 : decode cX5_classOf 56 = .ok (.aload_n 0, 1) := dk_42 (dk_at dksX5_classOf_2 10 rfl rfl)
theorem dX5_classOf_57 : decode cX5_classOf 57 = .ok (.invokevirtual 192, 3) := dk_182 0 192 (dk_at dksX5_classOf_2 11 rfl rfl)
theorem dX5_classOf_60 : decode cX5_classOf 60 = .ok (.istore 4, 2) := dk_54 4 (dk_at dksX5_classOf_2 14 rfl rfl)
theorem dX5_classOf_62 : decode cX5_classOf 62 = .ok (.iload 4, 2) := dk_21 4 (dk_at dksX5_classOf_2 16 rfl rfl)
theorem dX5_classOf_64 : decode cX5_classOf 64 = .ok (.ifCond .eq 69, 3) := dk_153 0 69 (dk_at dksX5_classOf_2 18 rfl rfl)
theorem dX5_classOf_67 : decode cX5_classOf 67 = .ok (.aload_n 0, 1) := dk_42 (dk_at dksX5_classOf_2 21 rfl rfl)
theorem dX5_classOf_68 : decode cX5_classOf 68 = .ok (.getfield 146, 3) := dk_180 0 146 (dk_at dksX5_classOf_3 0 rfl rfl)
theorem dX5_classOf_71 : decode cX5_classOf 71 = .ok (.aload_n 0, 1) := dk_42 (dk_at dksX5_classOf_3 3 rfl rfl)
theorem dX5_classOf_72 : decode cX5_classOf 72 = .ok (.getfield 149, 3) := dk_180 0 149 (dk_at dksX5_classOf_3 4 rfl rfl)
theorem dX5_classOf_75 : decode cX5_classOf 75 = .ok (.if_icmp .ge 58, 3) := dk_162 0 58 (dk_at dksX5_classOf_3 7 rfl rfl)
theorem dX5_classOf_78 : decode cX5_classOf 78 = .ok (.aload_n 0, 1) := dk_42 (dk_at dksX5_classOf_3 10 rfl rfl)
theorem dX5_classOf_79 : decode cX5_classOf 79 = .ok (.getfield 68, 3) := dk_180 0 68 (dk_at dksX5_classOf_3 11 rfl rfl)
theorem dX5_classOf_82 : decode cX5_classOf 82 = .ok (.aload_n 0, 1) := dk_42 (dk_at dksX5_classOf_3 14 rfl rfl)
theorem dX5_classOf_83 : decode cX5_classOf 83 = .ok (.getfield 152, 3) := dk_180 0 152 (dk_at dksX5_classOf_3 15 rfl rfl)
theorem dX5_classOf_86 : decode cX5_classOf 86 = .ok (.aload_n 0, 1) := dk_42 (dk_at dksX5_classOf_3 18 rfl rfl)
theorem dX5_classOf_87 : decode cX5_classOf 87 = .ok (.getfield 146, 3) := dk_180 0 146 (dk_at dksX5_classOf_3 19 rfl rfl)
theorem dX5_classOf_90 : decode cX5_classOf 90 = .ok (.iadd, 1) := dk_96 (dk_at dksX5_classOf_3 22 rfl rfl)
theorem dX5_classOf_91 : decode cX5_classOf 91 = .ok (.laload, 1) := dk_47 (dk_at dksX5_classOf_3 23 rfl rfl)
theorem dX5_classOf_92 : decode cX5_classOf 92 = .ok (.l2i, 1) := dk_136 (dk_at dksX5_classOf_4 0 rfl rfl)
theorem dX5_classOf_93 : decode cX5_classOf 93 = .ok (.bipush 59, 2) := dk_16 59 (dk_at dksX5_classOf_4 1 rfl rfl)
theorem dX5_classOf_95 : decode cX5_classOf 95 = .ok (.if_icmp .eq 16, 3) := dk_159 0 16 (dk_at dksX5_classOf_4 3 rfl rfl)
theorem dX5_classOf_98 : decode cX5_classOf 98 = .ok (.aload_n 0, 1) := dk_42 (dk_at dksX5_classOf_4 6 rfl rfl)
theorem dX5_classOf_99 : decode cX5_classOf 99 = .ok (.aload_n 0, 1) := dk_42 (dk_at dksX5_classOf_4 7 rfl rfl)
theorem dX5_classOf_100 : decode cX5_classOf 100 = .ok (.getfield 146, 3) := dk_180 0 146 (dk_at dksX5_classOf_4 8 rfl rfl)
theorem dX5_classOf_103 : decode cX5_classOf 103 = .ok (.invokevirtual 162, 3) := dk_182 0 162 (dk_at dksX5_classOf_4 11 rfl rfl)
theorem dX5_classOf_106 : decode cX5_classOf 106 = .ok (.istore 4, 2) := dk_54 4 (dk_at dksX5_classOf_4 14 rfl rfl)
theorem dX5_classOf_108 : decode cX5_classOf 108 = .ok (.goto (-46), 3) := dk_167 255 210 (dk_at dksX5_classOf_4 16 rfl rfl)
theorem dX5_classOf_111 : decode cX5_classOf 111 = .ok (.aload_n 0, 1) := dk_42 (dk_at dksX5_classOf_4 19 rfl rfl)
theorem dX5_classOf_112 : decode cX5_classOf 112 = .ok (.dup, 1) := dk_89 (dk_at dksX5_classOf_4 20 rfl rfl)
theorem dX5_classOf_113 : decode cX5_classOf 113 = .ok (.getfield 146, 3) := dk_180 0 146 (dk_at dksX5_classOf_4 21 rfl rfl)
theorem dX5_classOf_116 : decode cX5_classOf 116 = .ok (.iconst 1, 1) := dk_4 (dk_at dksX5_classOf_5 0 rfl rfl)
theorem dX5_classOf_117 : decode cX5_classOf 117 = .ok (.iadd, 1) := dk_96 (dk_at dksX5_classOf_5 1 rfl rfl)
theorem dX5_classOf_118 : decode cX5_classOf 118 = .ok (.putfield 146, 3) := dk_181 0 146 (dk_at dksX5_classOf_5 2 rfl rfl)
theorem dX5_classOf_121 : decode cX5_classOf 121 = .ok (.iinc 3 1, 3) := dk_132 3 1 (dk_at dksX5_classOf_5 5 rfl rfl)
theorem dX5_classOf_124 : decode cX5_classOf 124 = .ok (.aload_n 0, 1) := dk_42 (dk_at dksX5_classOf_5 8 rfl rfl)
theorem dX5_classOf_125 : decode cX5_classOf 125 = .ok (.invokevirtual 192, 3) := dk_182 0 192 (dk_at dksX5_classOf_5 9 rfl rfl)
theorem dX5_classOf_128 : decode cX5_classOf 128 = .ok (.istore 4, 2) := dk_54 4 (dk_at dksX5_classOf_5 12 rfl rfl)
theorem dX5_classOf_130 : decode cX5_classOf 130 = .ok (.goto (-68), 3) := dk_167 255 188 (dk_at dksX5_classOf_5 14 rfl rfl)
theorem dX5_classOf_133 : decode cX5_classOf 133 = .ok (.iload 4, 2) := dk_21 4 (dk_at dksX5_classOf_5 17 rfl rfl)
theorem dX5_classOf_135 : decode cX5_classOf 135 = .ok (.ifCond .eq 5, 3) := dk_153 0 5 (dk_at dksX5_classOf_5 19 rfl rfl)
theorem dX5_classOf_138 : decode cX5_classOf 138 = .ok (.iload_n 3, 1) := dk_29 (dk_at dksX5_classOf_5 22 rfl rfl)
theorem dX5_classOf_139 : decode cX5_classOf 139 = .ok (.ireturn, 1) := dk_172 (dk_at dksX5_classOf_5 23 rfl rfl)
theorem dX5_classOf_140 : decode cX5_classOf 140 = .ok (.aload_n 0, 1) := dk_42 (dk_at dksX5_classOf_6 0 rfl rfl)
theorem dX5_classOf_141 : decode cX5_classOf 141 = .ok (.aload_n 0, 1) := dk_42 (dk_at dksX5_classOf_6 1 rfl rfl)
theorem dX5_classOf_142 : decode cX5_classOf 142 = .ok (.getfield 87, 3) := dk_180 0 87 (dk_at dksX5_classOf_6 2 rfl rfl)
theorem dX5_classOf_145 : decode cX5_classOf 145 = .ok (.iconst 1, 1) := dk_4 (dk_at dksX5_classOf_6 5 rfl rfl)
theorem dX5_classOf_146 : decode cX5_classOf 146 = .ok (.invokevirtual 188, 3) := dk_182 0 188 (dk_at dksX5_classOf_6 6 rfl rfl)
theorem dX5_classOf_149 : decode cX5_classOf 149 = .ok (.aload_n 0, 1) := dk_42 (dk_at dksX5_classOf_6 9 rfl rfl)
theorem dX5_classOf_150 : decode cX5_classOf 150 = .ok (.aload_n 0, 1) := dk_42 (dk_at dksX5_classOf_6 10 rfl rfl)
theorem dX5_classOf_151 : decode cX5_classOf 151 = .ok (.getfield 143, 3) := dk_180 0 143 (dk_at dksX5_classOf_6 11 rfl rfl)
theorem dX5_classOf_154 : decode cX5_classOf 154 = .ok (.putfield 31, 3) := dk_181 0 31 (dk_at dksX5_classOf_6 14 rfl rfl)
theorem dX5_classOf_157 : decode cX5_classOf 157 = .ok (.aload_n 0, 1) := dk_42 (dk_at dksX5_classOf_6 17 rfl rfl)
theorem dX5_classOf_158 : decode cX5_classOf 158 = .ok (.bipush (-6), 2) := dk_16 250 (dk_at dksX5_classOf_6 18 rfl rfl)
theorem dX5_classOf_160 : decode cX5_classOf 160 = .ok (.invokevirtual 112, 3) := dk_182 0 112 (dk_at dksX5_classOf_6 20 rfl rfl)
theorem dX5_classOf_163 : decode cX5_classOf 163 = .ok (.ireturn, 1) := dk_172 (dk_at dksX5_classOf_6 23 rfl rfl)
abbrev cX5_wanted : ByteArray := prog_22_method_15_code
def yX5_wanted : MethodName := ⟨RX5, "wanted", "(I)I"⟩
def dkwX5_wanted_1 : List UInt8 := [167, 0, 18, 42, 180, 0, 56, 27, 46, 154, 0, 8, 16, 253, 167, 0, 4, 3, 172]
abbrev dktX5_wanted_1 : List UInt8 := dkwX5_wanted_1 ++ []
def dkwX5_wanted_0 : List UInt8 := [42, 27, 182, 0, 108, 154, 0, 7, 2, 167, 0, 33, 42, 180, 0, 56, 27, 46, 5, 160, 0, 8, 16, 254]
abbrev dktX5_wanted_0 : List UInt8 := dkwX5_wanted_0 ++ dktX5_wanted_1
theorem dksX5_wanted_0 : cX5_wanted.data.toList.drop 0 = dktX5_wanted_0 := by decide +kernel
theorem dksX5_wanted_1 : cX5_wanted.data.toList.drop 24 = dktX5_wanted_1 := dk_seg dksX5_wanted_0 24 rfl rfl
theorem dX5_wanted_0 : decode cX5_wanted 0 = .ok (.aload_n 0, 1) := dk_42 (dk_at dksX5_wanted_0 0 rfl rfl)
theorem dX5_wanted_1 : decode cX5_wanted 1 = .ok (.iload_n 1, 1) := dk_27 (dk_at dksX5_wanted_0 1 rfl rfl)
theorem dX5_wanted_2 : decode cX5_wanted 2 = .ok (.invokevirtual 108, 3) := dk_182 0 108 (dk_at dksX5_wanted_0 2 rfl rfl)
theorem dX5_wanted_5 : decode cX5_wanted 5 = .ok (.ifCond .ne 7, 3) := dk_154 0 7 (dk_at dksX5_wanted_0 5 rfl rfl)
theorem dX5_wanted_8 : decode cX5_wanted 8 = .ok (.iconst (-1), 1) := dk_2 (dk_at dksX5_wanted_0 8 rfl rfl)
theorem dX5_wanted_9 : decode cX5_wanted 9 = .ok (.goto 33, 3) := dk_167 0 33 (dk_at dksX5_wanted_0 9 rfl rfl)
theorem dX5_wanted_12 : decode cX5_wanted 12 = .ok (.aload_n 0, 1) := dk_42 (dk_at dksX5_wanted_0 12 rfl rfl)
theorem dX5_wanted_13 : decode cX5_wanted 13 = .ok (.getfield 56, 3) := dk_180 0 56 (dk_at dksX5_wanted_0 13 rfl rfl)
theorem dX5_wanted_16 : decode cX5_wanted 16 = .ok (.iload_n 1, 1) := dk_27 (dk_at dksX5_wanted_0 16 rfl rfl)
theorem dX5_wanted_17 : decode cX5_wanted 17 = .ok (.iaload, 1) := dk_46 (dk_at dksX5_wanted_0 17 rfl rfl)
theorem dX5_wanted_18 : decode cX5_wanted 18 = .ok (.iconst 2, 1) := dk_5 (dk_at dksX5_wanted_0 18 rfl rfl)
theorem dX5_wanted_19 : decode cX5_wanted 19 = .ok (.if_icmp .ne 8, 3) := dk_160 0 8 (dk_at dksX5_wanted_0 19 rfl rfl)
theorem dX5_wanted_22 : decode cX5_wanted 22 = .ok (.bipush (-2), 2) := dk_16 254 (dk_at dksX5_wanted_0 22 rfl rfl)
theorem dX5_wanted_24 : decode cX5_wanted 24 = .ok (.goto 18, 3) := dk_167 0 18 (dk_at dksX5_wanted_1 0 rfl rfl)
theorem dX5_wanted_27 : decode cX5_wanted 27 = .ok (.aload_n 0, 1) := dk_42 (dk_at dksX5_wanted_1 3 rfl rfl)
theorem dX5_wanted_28 : decode cX5_wanted 28 = .ok (.getfield 56, 3) := dk_180 0 56 (dk_at dksX5_wanted_1 4 rfl rfl)
theorem dX5_wanted_31 : decode cX5_wanted 31 = .ok (.iload_n 1, 1) := dk_27 (dk_at dksX5_wanted_1 7 rfl rfl)
theorem dX5_wanted_32 : decode cX5_wanted 32 = .ok (.iaload, 1) := dk_46 (dk_at dksX5_wanted_1 8 rfl rfl)
theorem dX5_wanted_33 : decode cX5_wanted 33 = .ok (.ifCond .ne 8, 3) := dk_154 0 8 (dk_at dksX5_wanted_1 9 rfl rfl)
theorem dX5_wanted_36 : decode cX5_wanted 36 = .ok (.bipush (-3), 2) := dk_16 253 (dk_at dksX5_wanted_1 12 rfl rfl)
theorem dX5_wanted_38 : decode cX5_wanted 38 = .ok (.goto 4, 3) := dk_167 0 4 (dk_at dksX5_wanted_1 14 rfl rfl)
theorem dX5_wanted_41 : decode cX5_wanted 41 = .ok (.iconst 0, 1) := dk_3 (dk_at dksX5_wanted_1 17 rfl rfl)
theorem dX5_wanted_42 : decode cX5_wanted 42 = .ok (.ireturn, 1) := dk_172 (dk_at dksX5_wanted_1 18 rfl rfl)
abbrev cX5_all : ByteArray := prog_22_method_35_code
def yX5_all : MethodName := ⟨RX5, "all", "([IZ)V"⟩
def dkwX5_all_8 : List UInt8 := [79, 43, 29, 5, 96, 42, 180, 0, 25, 79, 43, 29, 6, 96, 42, 180, 0, 28, 79, 177]
abbrev dktX5_all_8 : List UInt8 := dkwX5_all_8 ++ []
def dkwX5_all_7 : List UInt8 := [6, 96, 46, 181, 0, 28, 167, 0, 37, 43, 29, 42, 180, 0, 105, 79, 43, 29, 4, 96, 42, 180, 0, 13]
abbrev dktX5_all_7 : List UInt8 := dkwX5_all_7 ++ dktX5_all_8
def dkwX5_all_6 : List UInt8 := [181, 0, 105, 42, 43, 29, 4, 96, 46, 181, 0, 13, 42, 43, 29, 5, 96, 46, 181, 0, 25, 42, 43, 29]
abbrev dktX5_all_6 : List UInt8 := dkwX5_all_6 ++ dktX5_all_7
def dkwX5_all_5 : List UInt8 := [21, 4, 182, 0, 136, 79, 132, 4, 1, 167, 255, 215, 132, 3, 6, 28, 153, 0, 40, 42, 43, 29, 46]
abbrev dktX5_all_5 : List UInt8 := dkwX5_all_5 ++ dktX5_all_6
def dkwX5_all_4 : List UInt8 := [153, 0, 18, 42, 21, 4, 43, 29, 21, 4, 96, 46, 182, 0, 139, 167, 0, 15, 43, 29, 21, 4, 96, 42]
abbrev dktX5_all_4 : List UInt8 := dkwX5_all_4 ++ dktX5_all_5
def dkwX5_all_3 : List UInt8 := [42, 180, 0, 53, 6, 43, 29, 28, 182, 0, 184, 62, 3, 54, 4, 21, 4, 16, 6, 162, 0, 40, 28]
abbrev dktX5_all_3 : List UInt8 := dkwX5_all_3 ++ dktX5_all_4
def dkwX5_all_2 : List UInt8 := [16, 8, 43, 29, 28, 182, 0, 184, 62, 42, 42, 180, 0, 50, 16, 8, 43, 29, 28, 182, 0, 184, 62, 42]
abbrev dktX5_all_2 : List UInt8 := dkwX5_all_2 ++ dktX5_all_3
def dkwX5_all_1 : List UInt8 := [182, 0, 184, 62, 42, 42, 180, 0, 44, 16, 8, 43, 29, 28, 182, 0, 184, 62, 42, 42, 180, 0, 47]
abbrev dktX5_all_1 : List UInt8 := dkwX5_all_1 ++ dktX5_all_2
def dkwX5_all_0 : List UInt8 := [42, 42, 180, 0, 38, 16, 8, 43, 3, 28, 182, 0, 184, 62, 42, 42, 180, 0, 41, 16, 8, 43, 29, 28]
abbrev dktX5_all_0 : List UInt8 := dkwX5_all_0 ++ dktX5_all_1
theorem dksX5_all_0 : cX5_all.data.toList.drop 0 = dktX5_all_0 := by decide +kernel
theorem dksX5_all_1 : cX5_all.data.toList.drop 24 = dktX5_all_1 := dk_seg dksX5_all_0 24 rfl rfl
theorem dksX5_all_2 : cX5_all.data.toList.drop 47 = dktX5_all_2 := dk_seg dksX5_all_1 23 rfl rfl
theorem dksX5_all_3 : cX5_all.data.toList.drop 71 = dktX5_all_3 := dk_seg dksX5_all_2 24 rfl rfl
theorem dksX5_all_4 : cX5_all.data.toList.drop 94 = dktX5_all_4 := dk_seg dksX5_all_3 23 rfl rfl
theorem dksX5_all_5 : cX5_all.data.toList.drop 118 = dktX5_all_5 := dk_seg dksX5_all_4 24 rfl rfl
theorem dksX5_all_6 : cX5_all.data.toList.drop 141 = dktX5_all_6 := dk_seg dksX5_all_5 23 rfl rfl
theorem dksX5_all_7 : cX5_all.data.toList.drop 165 = dktX5_all_7 := dk_seg dksX5_all_6 24 rfl rfl
theorem dksX5_all_8 : cX5_all.data.toList.drop 189 = dktX5_all_8 := dk_seg dksX5_all_7 24 rfl rfl
theorem dX5_all_0 : decode cX5_all 0 = .ok (.aload_n 0, 1) := dk_42 (dk_at dksX5_all_0 0 rfl rfl)
theorem dX5_all_1 : decode cX5_all 1 = .ok (.aload_n 0, 1) := dk_42 (dk_at dksX5_all_0 1 rfl rfl)
theorem dX5_all_2 : decode cX5_all 2 = .ok (.getfield 38, 3) := dk_180 0 38 (dk_at dksX5_all_0 2 rfl rfl)
theorem dX5_all_5 : decode cX5_all 5 = .ok (.bipush 8, 2) := dk_16 8 (dk_at dksX5_all_0 5 rfl rfl)
theorem dX5_all_7 : decode cX5_all 7 = .ok (.aload_n 1, 1) := dk_43 (dk_at dksX5_all_0 7 rfl rfl)
theorem dX5_all_8 : decode cX5_all 8 = .ok (.iconst 0, 1) := dk_3 (dk_at dksX5_all_0 8 rfl rfl)
theorem dX5_all_9 : decode cX5_all 9 = .ok (.iload_n 2, 1) := dk_28 (dk_at dksX5_all_0 9 rfl rfl)
theorem dX5_all_10 : decode cX5_all 10 = .ok (.invokevirtual 184, 3) := dk_182 0 184 (dk_at dksX5_all_0 10 rfl rfl)
theorem dX5_all_13 : decode cX5_all 13 = .ok (.istore_n 3, 1) := dk_62 (dk_at dksX5_all_0 13 rfl rfl)
theorem dX5_all_14 : decode cX5_all 14 = .ok (.aload_n 0, 1) := dk_42 (dk_at dksX5_all_0 14 rfl rfl)
theorem dX5_all_15 : decode cX5_all 15 = .ok (.aload_n 0, 1) := dk_42 (dk_at dksX5_all_0 15 rfl rfl)
theorem dX5_all_16 : decode cX5_all 16 = .ok (.getfield 41, 3) := dk_180 0 41 (dk_at dksX5_all_0 16 rfl rfl)
theorem dX5_all_19 : decode cX5_all 19 = .ok (.bipush 8, 2) := dk_16 8 (dk_at dksX5_all_0 19 rfl rfl)
theorem dX5_all_21 : decode cX5_all 21 = .ok (.aload_n 1, 1) := dk_43 (dk_at dksX5_all_0 21 rfl rfl)
theorem dX5_all_22 : decode cX5_all 22 = .ok (.iload_n 3, 1) := dk_29 (dk_at dksX5_all_0 22 rfl rfl)
theorem dX5_all_23 : decode cX5_all 23 = .ok (.iload_n 2, 1) := dk_28 (dk_at dksX5_all_0 23 rfl rfl)
theorem dX5_all_24 : decode cX5_all 24 = .ok (.invokevirtual 184, 3) := dk_182 0 184 (dk_at dksX5_all_1 0 rfl rfl)
theorem dX5_all_27 : decode cX5_all 27 = .ok (.istore_n 3, 1) := dk_62 (dk_at dksX5_all_1 3 rfl rfl)
theorem dX5_all_28 : decode cX5_all 28 = .ok (.aload_n 0, 1) := dk_42 (dk_at dksX5_all_1 4 rfl rfl)
theorem dX5_all_29 : decode cX5_all 29 = .ok (.aload_n 0, 1) := dk_42 (dk_at dksX5_all_1 5 rfl rfl)
theorem dX5_all_30 : decode cX5_all 30 = .ok (.getfield 44, 3) := dk_180 0 44 (dk_at dksX5_all_1 6 rfl rfl)
theorem dX5_all_33 : decode cX5_all 33 = .ok (.bipush 8, 2) := dk_16 8 (dk_at dksX5_all_1 9 rfl rfl)
theorem dX5_all_35 : decode cX5_all 35 = .ok (.aload_n 1, 1) := dk_43 (dk_at dksX5_all_1 11 rfl rfl)
theorem dX5_all_36 : decode cX5_all 36 = .ok (.iload_n 3, 1) := dk_29 (dk_at dksX5_all_1 12 rfl rfl)
theorem dX5_all_37 : decode cX5_all 37 = .ok (.iload_n 2, 1) := dk_28 (dk_at dksX5_all_1 13 rfl rfl)
theorem dX5_all_38 : decode cX5_all 38 = .ok (.invokevirtual 184, 3) := dk_182 0 184 (dk_at dksX5_all_1 14 rfl rfl)
theorem dX5_all_41 : decode cX5_all 41 = .ok (.istore_n 3, 1) := dk_62 (dk_at dksX5_all_1 17 rfl rfl)
theorem dX5_all_42 : decode cX5_all 42 = .ok (.aload_n 0, 1) := dk_42 (dk_at dksX5_all_1 18 rfl rfl)
theorem dX5_all_43 : decode cX5_all 43 = .ok (.aload_n 0, 1) := dk_42 (dk_at dksX5_all_1 19 rfl rfl)
theorem dX5_all_44 : decode cX5_all 44 = .ok (.getfield 47, 3) := dk_180 0 47 (dk_at dksX5_all_1 20 rfl rfl)
theorem dX5_all_47 : decode cX5_all 47 = .ok (.bipush 8, 2) := dk_16 8 (dk_at dksX5_all_2 0 rfl rfl)
theorem dX5_all_49 : decode cX5_all 49 = .ok (.aload_n 1, 1) := dk_43 (dk_at dksX5_all_2 2 rfl rfl)
theorem dX5_all_50 : decode cX5_all 50 = .ok (.iload_n 3, 1) := dk_29 (dk_at dksX5_all_2 3 rfl rfl)
theorem dX5_all_51 : decode cX5_all 51 = .ok (.iload_n 2, 1) := dk_28 (dk_at dksX5_all_2 4 rfl rfl)
theorem dX5_all_52 : decode cX5_all 52 = .ok (.invokevirtual 184, 3) := dk_182 0 184 (dk_at dksX5_all_2 5 rfl rfl)
theorem dX5_all_55 : decode cX5_all 55 = .ok (.istore_n 3, 1) := dk_62 (dk_at dksX5_all_2 8 rfl rfl)
theorem dX5_all_56 : decode cX5_all 56 = .ok (.aload_n 0, 1) := dk_42 (dk_at dksX5_all_2 9 rfl rfl)
theorem dX5_all_57 : decode cX5_all 57 = .ok (.aload_n 0, 1) := dk_42 (dk_at dksX5_all_2 10 rfl rfl)
theorem dX5_all_58 : decode cX5_all 58 = .ok (.getfield 50, 3) := dk_180 0 50 (dk_at dksX5_all_2 11 rfl rfl)
theorem dX5_all_61 : decode cX5_all 61 = .ok (.bipush 8, 2) := dk_16 8 (dk_at dksX5_all_2 14 rfl rfl)
theorem dX5_all_63 : decode cX5_all 63 = .ok (.aload_n 1, 1) := dk_43 (dk_at dksX5_all_2 16 rfl rfl)
theorem dX5_all_64 : decode cX5_all 64 = .ok (.iload_n 3, 1) := dk_29 (dk_at dksX5_all_2 17 rfl rfl)
theorem dX5_all_65 : decode cX5_all 65 = .ok (.iload_n 2, 1) := dk_28 (dk_at dksX5_all_2 18 rfl rfl)
theorem dX5_all_66 : decode cX5_all 66 = .ok (.invokevirtual 184, 3) := dk_182 0 184 (dk_at dksX5_all_2 19 rfl rfl)
theorem dX5_all_69 : decode cX5_all 69 = .ok (.istore_n 3, 1) := dk_62 (dk_at dksX5_all_2 22 rfl rfl)
theorem dX5_all_70 : decode cX5_all 70 = .ok (.aload_n 0, 1) := dk_42 (dk_at dksX5_all_2 23 rfl rfl)
theorem dX5_all_71 : decode cX5_all 71 = .ok (.aload_n 0, 1) := dk_42 (dk_at dksX5_all_3 0 rfl rfl)
theorem dX5_all_72 : decode cX5_all 72 = .ok (.getfield 53, 3) := dk_180 0 53 (dk_at dksX5_all_3 1 rfl rfl)
theorem dX5_all_75 : decode cX5_all 75 = .ok (.iconst 3, 1) := dk_6 (dk_at dksX5_all_3 4 rfl rfl)
theorem dX5_all_76 : decode cX5_all 76 = .ok (.aload_n 1, 1) := dk_43 (dk_at dksX5_all_3 5 rfl rfl)
theorem dX5_all_77 : decode cX5_all 77 = .ok (.iload_n 3, 1) := dk_29 (dk_at dksX5_all_3 6 rfl rfl)
theorem dX5_all_78 : decode cX5_all 78 = .ok (.iload_n 2, 1) := dk_28 (dk_at dksX5_all_3 7 rfl rfl)
theorem dX5_all_79 : decode cX5_all 79 = .ok (.invokevirtual 184, 3) := dk_182 0 184 (dk_at dksX5_all_3 8 rfl rfl)
theorem dX5_all_82 : decode cX5_all 82 = .ok (.istore_n 3, 1) := dk_62 (dk_at dksX5_all_3 11 rfl rfl)
theorem dX5_all_83 : decode cX5_all 83 = .ok (.iconst 0, 1) := dk_3 (dk_at dksX5_all_3 12 rfl rfl)
theorem dX5_all_84 : decode cX5_all 84 = .ok (.istore 4, 2) := dk_54 4 (dk_at dksX5_all_3 13 rfl rfl)
theorem dX5_all_86 : decode cX5_all 86 = .ok (.iload 4, 2) := dk_21 4 (dk_at dksX5_all_3 15 rfl rfl)
theorem dX5_all_88 : decode cX5_all 88 = .ok (.bipush 6, 2) := dk_16 6 (dk_at dksX5_all_3 17 rfl rfl)
theorem dX5_all_90 : decode cX5_all 90 = .ok (.if_icmp .ge 40, 3) := dk_162 0 40 (dk_at dksX5_all_3 19 rfl rfl)
theorem dX5_all_93 : decode cX5_all 93 = .ok (.iload_n 2, 1) := dk_28 (dk_at dksX5_all_3 22 rfl rfl)
theorem dX5_all_94 : decode cX5_all 94 = .ok (.ifCond .eq 18, 3) := dk_153 0 18 (dk_at dksX5_all_4 0 rfl rfl)
theorem dX5_all_97 : decode cX5_all 97 = .ok (.aload_n 0, 1) := dk_42 (dk_at dksX5_all_4 3 rfl rfl)
theorem dX5_all_98 : decode cX5_all 98 = .ok (.iload 4, 2) := dk_21 4 (dk_at dksX5_all_4 4 rfl rfl)
theorem dX5_all_100 : decode cX5_all 100 = .ok (.aload_n 1, 1) := dk_43 (dk_at dksX5_all_4 6 rfl rfl)
theorem dX5_all_101 : decode cX5_all 101 = .ok (.iload_n 3, 1) := dk_29 (dk_at dksX5_all_4 7 rfl rfl)
theorem dX5_all_102 : decode cX5_all 102 = .ok (.iload 4, 2) := dk_21 4 (dk_at dksX5_all_4 8 rfl rfl)
theorem dX5_all_104 : decode cX5_all 104 = .ok (.iadd, 1) := dk_96 (dk_at dksX5_all_4 10 rfl rfl)
theorem dX5_all_105 : decode cX5_all 105 = .ok (.iaload, 1) := dk_46 (dk_at dksX5_all_4 11 rfl rfl)
theorem dX5_all_106 : decode cX5_all 106 = .ok (.invokevirtual 139, 3) := dk_182 0 139 (dk_at dksX5_all_4 12 rfl rfl)
theorem dX5_all_109 : decode cX5_all 109 = .ok (.goto 15, 3) := dk_167 0 15 (dk_at dksX5_all_4 15 rfl rfl)
theorem dX5_all_112 : decode cX5_all 112 = .ok (.aload_n 1, 1) := dk_43 (dk_at dksX5_all_4 18 rfl rfl)
theorem dX5_all_113 : decode cX5_all 113 = .ok (.iload_n 3, 1) := dk_29 (dk_at dksX5_all_4 19 rfl rfl)
theorem dX5_all_114 : decode cX5_all 114 = .ok (.iload 4, 2) := dk_21 4 (dk_at dksX5_all_4 20 rfl rfl)
theorem dX5_all_116 : decode cX5_all 116 = .ok (.iadd, 1) := dk_96 (dk_at dksX5_all_4 22 rfl rfl)
theorem dX5_all_117 : decode cX5_all 117 = .ok (.aload_n 0, 1) := dk_42 (dk_at dksX5_all_4 23 rfl rfl)
theorem dX5_all_118 : decode cX5_all 118 = .ok (.iload 4, 2) := dk_21 4 (dk_at dksX5_all_5 0 rfl rfl)
theorem dX5_all_120 : decode cX5_all 120 = .ok (.invokevirtual 136, 3) := dk_182 0 136 (dk_at dksX5_all_5 2 rfl rfl)
theorem dX5_all_123 : decode cX5_all 123 = .ok (.iastore, 1) := dk_79 (dk_at dksX5_all_5 5 rfl rfl)
theorem dX5_all_124 : decode cX5_all 124 = .ok (.iinc 4 1, 3) := dk_132 4 1 (dk_at dksX5_all_5 6 rfl rfl)
theorem dX5_all_127 : decode cX5_all 127 = .ok (.goto (-41), 3) := dk_167 255 215 (dk_at dksX5_all_5 9 rfl rfl)
theorem dX5_all_130 : decode cX5_all 130 = .ok (.iinc 3 6, 3) := dk_132 3 6 (dk_at dksX5_all_5 12 rfl rfl)
theorem dX5_all_133 : decode cX5_all 133 = .ok (.iload_n 2, 1) := dk_28 (dk_at dksX5_all_5 15 rfl rfl)
theorem dX5_all_134 : decode cX5_all 134 = .ok (.ifCond .eq 40, 3) := dk_153 0 40 (dk_at dksX5_all_5 16 rfl rfl)
theorem dX5_all_137 : decode cX5_all 137 = .ok (.aload_n 0, 1) := dk_42 (dk_at dksX5_all_5 19 rfl rfl)
theorem dX5_all_138 : decode cX5_all 138 = .ok (.aload_n 1, 1) := dk_43 (dk_at dksX5_all_5 20 rfl rfl)
theorem dX5_all_139 : decode cX5_all 139 = .ok (.iload_n 3, 1) := dk_29 (dk_at dksX5_all_5 21 rfl rfl)
theorem dX5_all_140 : decode cX5_all 140 = .ok (.iaload, 1) := dk_46 (dk_at dksX5_all_5 22 rfl rfl)
theorem dX5_all_141 : decode cX5_all 141 = .ok (.putfield 105, 3) := dk_181 0 105 (dk_at dksX5_all_6 0 rfl rfl)
theorem dX5_all_144 : decode cX5_all 144 = .ok (.aload_n 0, 1) := dk_42 (dk_at dksX5_all_6 3 rfl rfl)
theorem dX5_all_145 : decode cX5_all 145 = .ok (.aload_n 1, 1) := dk_43 (dk_at dksX5_all_6 4 rfl rfl)
theorem dX5_all_146 : decode cX5_all 146 = .ok (.iload_n 3, 1) := dk_29 (dk_at dksX5_all_6 5 rfl rfl)
theorem dX5_all_147 : decode cX5_all 147 = .ok (.iconst 1, 1) := dk_4 (dk_at dksX5_all_6 6 rfl rfl)
theorem dX5_all_148 : decode cX5_all 148 = .ok (.iadd, 1) := dk_96 (dk_at dksX5_all_6 7 rfl rfl)
theorem dX5_all_149 : decode cX5_all 149 = .ok (.iaload, 1) := dk_46 (dk_at dksX5_all_6 8 rfl rfl)
theorem dX5_all_150 : decode cX5_all 150 = .ok (.putfield 13, 3) := dk_181 0 13 (dk_at dksX5_all_6 9 rfl rfl)
theorem dX5_all_153 : decode cX5_all 153 = .ok (.aload_n 0, 1) := dk_42 (dk_at dksX5_all_6 12 rfl rfl)
theorem dX5_all_154 : decode cX5_all 154 = .ok (.aload_n 1, 1) := dk_43 (dk_at dksX5_all_6 13 rfl rfl)
theorem dX5_all_155 : decode cX5_all 155 = .ok (.iload_n 3, 1) := dk_29 (dk_at dksX5_all_6 14 rfl rfl)
theorem dX5_all_156 : decode cX5_all 156 = .ok (.iconst 2, 1) := dk_5 (dk_at dksX5_all_6 15 rfl rfl)
theorem dX5_all_157 : decode cX5_all 157 = .ok (.iadd, 1) := dk_96 (dk_at dksX5_all_6 16 rfl rfl)
theorem dX5_all_158 : decode cX5_all 158 = .ok (.iaload, 1) := dk_46 (dk_at dksX5_all_6 17 rfl rfl)
theorem dX5_all_159 : decode cX5_all 159 = .ok (.putfield 25, 3) := dk_181 0 25 (dk_at dksX5_all_6 18 rfl rfl)
theorem dX5_all_162 : decode cX5_all 162 = .ok (.aload_n 0, 1) := dk_42 (dk_at dksX5_all_6 21 rfl rfl)
theorem dX5_all_163 : decode cX5_all 163 = .ok (.aload_n 1, 1) := dk_43 (dk_at dksX5_all_6 22 rfl rfl)
theorem dX5_all_164 : decode cX5_all 164 = .ok (.iload_n 3, 1) := dk_29 (dk_at dksX5_all_6 23 rfl rfl)
theorem dX5_all_165 : decode cX5_all 165 = .ok (.iconst 3, 1) := dk_6 (dk_at dksX5_all_7 0 rfl rfl)
theorem dX5_all_166 : decode cX5_all 166 = .ok (.iadd, 1) := dk_96 (dk_at dksX5_all_7 1 rfl rfl)
theorem dX5_all_167 : decode cX5_all 167 = .ok (.iaload, 1) := dk_46 (dk_at dksX5_all_7 2 rfl rfl)
theorem dX5_all_168 : decode cX5_all 168 = .ok (.putfield 28, 3) := dk_181 0 28 (dk_at dksX5_all_7 3 rfl rfl)
theorem dX5_all_171 : decode cX5_all 171 = .ok (.goto 37, 3) := dk_167 0 37 (dk_at dksX5_all_7 6 rfl rfl)
theorem dX5_all_174 : decode cX5_all 174 = .ok (.aload_n 1, 1) := dk_43 (dk_at dksX5_all_7 9 rfl rfl)
theorem dX5_all_175 : decode cX5_all 175 = .ok (.iload_n 3, 1) := dk_29 (dk_at dksX5_all_7 10 rfl rfl)
theorem dX5_all_176 : decode cX5_all 176 = .ok (.aload_n 0, 1) := dk_42 (dk_at dksX5_all_7 11 rfl rfl)
theorem dX5_all_177 : decode cX5_all 177 = .ok (.getfield 105, 3) := dk_180 0 105 (dk_at dksX5_all_7 12 rfl rfl)
theorem dX5_all_180 : decode cX5_all 180 = .ok (.iastore, 1) := dk_79 (dk_at dksX5_all_7 15 rfl rfl)
theorem dX5_all_181 : decode cX5_all 181 = .ok (.aload_n 1, 1) := dk_43 (dk_at dksX5_all_7 16 rfl rfl)
theorem dX5_all_182 : decode cX5_all 182 = .ok (.iload_n 3, 1) := dk_29 (dk_at dksX5_all_7 17 rfl rfl)
theorem dX5_all_183 : decode cX5_all 183 = .ok (.iconst 1, 1) := dk_4 (dk_at dksX5_all_7 18 rfl rfl)
theorem dX5_all_184 : decode cX5_all 184 = .ok (.iadd, 1) := dk_96 (dk_at dksX5_all_7 19 rfl rfl)
theorem dX5_all_185 : decode cX5_all 185 = .ok (.aload_n 0, 1) := dk_42 (dk_at dksX5_all_7 20 rfl rfl)
theorem dX5_all_186 : decode cX5_all 186 = .ok (.getfield 13, 3) := dk_180 0 13 (dk_at dksX5_all_7 21 rfl rfl)
theorem dX5_all_189 : decode cX5_all 189 = .ok (.iastore, 1) := dk_79 (dk_at dksX5_all_8 0 rfl rfl)
theorem dX5_all_190 : decode cX5_all 190 = .ok (.aload_n 1, 1) := dk_43 (dk_at dksX5_all_8 1 rfl rfl)
theorem dX5_all_191 : decode cX5_all 191 = .ok (.iload_n 3, 1) := dk_29 (dk_at dksX5_all_8 2 rfl rfl)
theorem dX5_all_192 : decode cX5_all 192 = .ok (.iconst 2, 1) := dk_5 (dk_at dksX5_all_8 3 rfl rfl)
theorem dX5_all_193 : decode cX5_all 193 = .ok (.iadd, 1) := dk_96 (dk_at dksX5_all_8 4 rfl rfl)
theorem dX5_all_194 : decode cX5_all 194 = .ok (.aload_n 0, 1) := dk_42 (dk_at dksX5_all_8 5 rfl rfl)
theorem dX5_all_195 : decode cX5_all 195 = .ok (.getfield 25, 3) := dk_180 0 25 (dk_at dksX5_all_8 6 rfl rfl)
theorem dX5_all_198 : decode cX5_all 198 = .ok (.iastore, 1) := dk_79 (dk_at dksX5_all_8 9 rfl rfl)
theorem dX5_all_199 : decode cX5_all 199 = .ok (.aload_n 1, 1) := dk_43 (dk_at dksX5_all_8 10 rfl rfl)
theorem dX5_all_200 : decode cX5_all 200 = .ok (.iload_n 3, 1) := dk_29 (dk_at dksX5_all_8 11 rfl rfl)
theorem dX5_all_201 : decode cX5_all 201 = .ok (.iconst 3, 1) := dk_6 (dk_at dksX5_all_8 12 rfl rfl)
theorem dX5_all_202 : decode cX5_all 202 = .ok (.iadd, 1) := dk_96 (dk_at dksX5_all_8 13 rfl rfl)
theorem dX5_all_203 : decode cX5_all 203 = .ok (.aload_n 0, 1) := dk_42 (dk_at dksX5_all_8 14 rfl rfl)
theorem dX5_all_204 : decode cX5_all 204 = .ok (.getfield 28, 3) := dk_180 0 28 (dk_at dksX5_all_8 15 rfl rfl)
theorem dX5_all_207 : decode cX5_all 207 = .ok (.iastore, 1) := dk_79 (dk_at dksX5_all_8 18 rfl rfl)
theorem dX5_all_208 : decode cX5_all 208 = .ok (.return_, 1) := dk_177 (dk_at dksX5_all_8 19 rfl rfl)
abbrev cX5_carries : ByteArray := prog_22_method_34_code
def yX5_carries : MethodName := ⟨RX5, "carries", "([II[IIZ)I"⟩
def dkwX5_carries_2 : List UInt8 := [96, 172]
abbrev dktX5_carries_2 : List UInt8 := dkwX5_carries_2 ++ []
def dkwX5_carries_1 : List UInt8 := [79, 167, 0, 14, 45, 21, 4, 21, 6, 96, 43, 21, 6, 46, 79, 132, 6, 1, 167, 255, 217, 21, 4, 28]
abbrev dktX5_carries_1 : List UInt8 := dkwX5_carries_1 ++ dktX5_carries_2
def dkwX5_carries_0 : List UInt8 := [3, 54, 6, 21, 6, 28, 162, 0, 39, 21, 5, 153, 0, 17, 43, 21, 6, 45, 21, 4, 21, 6, 96, 46]
abbrev dktX5_carries_0 : List UInt8 := dkwX5_carries_0 ++ dktX5_carries_1
theorem dksX5_carries_0 : cX5_carries.data.toList.drop 0 = dktX5_carries_0 := by decide +kernel
theorem dksX5_carries_1 : cX5_carries.data.toList.drop 24 = dktX5_carries_1 := dk_seg dksX5_carries_0 24 rfl rfl
theorem dksX5_carries_2 : cX5_carries.data.toList.drop 48 = dktX5_carries_2 := dk_seg dksX5_carries_1 24 rfl rfl
theorem dX5_carries_0 : decode cX5_carries 0 = .ok (.iconst 0, 1) := dk_3 (dk_at dksX5_carries_0 0 rfl rfl)
theorem dX5_carries_1 : decode cX5_carries 1 = .ok (.istore 6, 2) := dk_54 6 (dk_at dksX5_carries_0 1 rfl rfl)
theorem dX5_carries_3 : decode cX5_carries 3 = .ok (.iload 6, 2) := dk_21 6 (dk_at dksX5_carries_0 3 rfl rfl)
theorem dX5_carries_5 : decode cX5_carries 5 = .ok (.iload_n 2, 1) := dk_28 (dk_at dksX5_carries_0 5 rfl rfl)
theorem dX5_carries_6 : decode cX5_carries 6 = .ok (.if_icmp .ge 39, 3) := dk_162 0 39 (dk_at dksX5_carries_0 6 rfl rfl)
theorem dX5_carries_9 : decode cX5_carries 9 = .ok (.iload 5, 2) := dk_21 5 (dk_at dksX5_carries_0 9 rfl rfl)
theorem dX5_carries_11 : decode cX5_carries 11 = .ok (.ifCond .eq 17, 3) := dk_153 0 17 (dk_at dksX5_carries_0 11 rfl rfl)
theorem dX5_carries_14 : decode cX5_carries 14 = .ok (.aload_n 1, 1) := dk_43 (dk_at dksX5_carries_0 14 rfl rfl)
theorem dX5_carries_15 : decode cX5_carries 15 = .ok (.iload 6, 2) := dk_21 6 (dk_at dksX5_carries_0 15 rfl rfl)
theorem dX5_carries_17 : decode cX5_carries 17 = .ok (.aload_n 3, 1) := dk_45 (dk_at dksX5_carries_0 17 rfl rfl)
theorem dX5_carries_18 : decode cX5_carries 18 = .ok (.iload 4, 2) := dk_21 4 (dk_at dksX5_carries_0 18 rfl rfl)
theorem dX5_carries_20 : decode cX5_carries 20 = .ok (.iload 6, 2) := dk_21 6 (dk_at dksX5_carries_0 20 rfl rfl)
theorem dX5_carries_22 : decode cX5_carries 22 = .ok (.iadd, 1) := dk_96 (dk_at dksX5_carries_0 22 rfl rfl)
theorem dX5_carries_23 : decode cX5_carries 23 = .ok (.iaload, 1) := dk_46 (dk_at dksX5_carries_0 23 rfl rfl)
theorem dX5_carries_24 : decode cX5_carries 24 = .ok (.iastore, 1) := dk_79 (dk_at dksX5_carries_1 0 rfl rfl)
theorem dX5_carries_25 : decode cX5_carries 25 = .ok (.goto 14, 3) := dk_167 0 14 (dk_at dksX5_carries_1 1 rfl rfl)
theorem dX5_carries_28 : decode cX5_carries 28 = .ok (.aload_n 3, 1) := dk_45 (dk_at dksX5_carries_1 4 rfl rfl)
theorem dX5_carries_29 : decode cX5_carries 29 = .ok (.iload 4, 2) := dk_21 4 (dk_at dksX5_carries_1 5 rfl rfl)
theorem dX5_carries_31 : decode cX5_carries 31 = .ok (.iload 6, 2) := dk_21 6 (dk_at dksX5_carries_1 7 rfl rfl)
theorem dX5_carries_33 : decode cX5_carries 33 = .ok (.iadd, 1) := dk_96 (dk_at dksX5_carries_1 9 rfl rfl)
theorem dX5_carries_34 : decode cX5_carries 34 = .ok (.aload_n 1, 1) := dk_43 (dk_at dksX5_carries_1 10 rfl rfl)
theorem dX5_carries_35 : decode cX5_carries 35 = .ok (.iload 6, 2) := dk_21 6 (dk_at dksX5_carries_1 11 rfl rfl)
theorem dX5_carries_37 : decode cX5_carries 37 = .ok (.iaload, 1) := dk_46 (dk_at dksX5_carries_1 13 rfl rfl)
theorem dX5_carries_38 : decode cX5_carries 38 = .ok (.iastore, 1) := dk_79 (dk_at dksX5_carries_1 14 rfl rfl)
theorem dX5_carries_39 : decode cX5_carries 39 = .ok (.iinc 6 1, 3) := dk_132 6 1 (dk_at dksX5_carries_1 15 rfl rfl)
theorem dX5_carries_42 : decode cX5_carries 42 = .ok (.goto (-39), 3) := dk_167 255 217 (dk_at dksX5_carries_1 18 rfl rfl)
theorem dX5_carries_45 : decode cX5_carries 45 = .ok (.iload 4, 2) := dk_21 4 (dk_at dksX5_carries_1 21 rfl rfl)
theorem dX5_carries_47 : decode cX5_carries 47 = .ok (.iload_n 2, 1) := dk_28 (dk_at dksX5_carries_1 23 rfl rfl)
theorem dX5_carries_48 : decode cX5_carries 48 = .ok (.iadd, 1) := dk_96 (dk_at dksX5_carries_2 0 rfl rfl)
theorem dX5_carries_49 : decode cX5_carries 49 = .ok (.ireturn, 1) := dk_172 (dk_at dksX5_carries_2 1 rfl rfl)
abbrev cX5_item : ByteArray := prog_22_method_33_code
def yX5_item : MethodName := ⟨RX5, "item", "()Z"⟩
def dkwX5_item_11 : List UInt8 := [100, 42, 180, 0, 84, 3, 46, 182, 0, 139, 4, 172]
abbrev dktX5_item_11 : List UInt8 := dkwX5_item_11 ++ []
def dkwX5_item_10 : List UInt8 := [3, 46, 4, 79, 167, 0, 30, 42, 42, 180, 0, 84, 3, 46, 182, 0, 181, 87, 167, 0, 16, 42, 27, 6]
abbrev dktX5_item_10 : List UInt8 := dkwX5_item_10 ++ dktX5_item_11
def dkwX5_item_9 : List UInt8 := [42, 180, 0, 84, 3, 46, 42, 180, 0, 84, 4, 46, 79, 167, 0, 45, 42, 180, 0, 47, 42, 180, 0, 84]
abbrev dktX5_item_9 : List UInt8 := dkwX5_item_9 ++ dktX5_item_10
def dkwX5_item_8 : List UInt8 := [42, 42, 180, 0, 84, 3, 46, 42, 180, 0, 84, 4, 46, 182, 0, 122, 87, 167, 0, 65, 42, 180, 0, 44]
abbrev dktX5_item_8 : List UInt8 := dkwX5_item_8 ++ dktX5_item_9
def dkwX5_item_7 : List UInt8 := [170, 0, 0, 0, 0, 123, 0, 0, 0, 0, 0, 0, 0, 9, 0, 0, 0, 54, 0, 0, 0, 74, 0, 0, 0, 94, 0, 0, 0, 123, 0, 0, 0, 123, 0, 0, 0, 123, 0, 0, 0, 123, 0, 0, 0, 123, 0, 0, 0, 123, 0, 0, 0, 109]
abbrev dktX5_item_7 : List UInt8 := dkwX5_item_7 ++ dktX5_item_8
def dkwX5_item_6 : List UInt8 := [28, 42, 180, 0, 155, 79, 132, 2, 1, 167, 255, 146, 27]
abbrev dktX5_item_6 : List UInt8 := dkwX5_item_6 ++ dktX5_item_7
def dkwX5_item_5 : List UInt8 := [154, 0, 5, 3, 172, 42, 27, 28, 182, 0, 178, 154, 0, 9, 42, 29, 182, 0, 162, 172, 42, 180, 0, 84]
abbrev dktX5_item_5 : List UInt8 := dkwX5_item_5 ++ dktX5_item_6
def dkwX5_item_4 : List UInt8 := [182, 0, 162, 172, 42, 89, 180, 0, 146, 4, 96, 181, 0, 146, 42, 180, 0, 146, 62, 42, 182, 0, 175]
abbrev dktX5_item_4 : List UInt8 := dkwX5_item_4 ++ dktX5_item_5
def dkwX5_item_3 : List UInt8 := [180, 0, 68, 42, 180, 0, 152, 42, 180, 0, 146, 96, 47, 136, 16, 32, 159, 0, 12, 42, 42, 180, 0, 146]
abbrev dktX5_item_3 : List UInt8 := dkwX5_item_3 ++ dktX5_item_4
def dkwX5_item_2 : List UInt8 := [5, 167, 0, 4, 4, 162, 0, 102, 28, 158, 0, 53, 42, 180, 0, 146, 42, 180, 0, 149, 162, 0, 23, 42]
abbrev dktX5_item_2 : List UInt8 := dkwX5_item_2 ++ dktX5_item_3
def dkwX5_item_1 : List UInt8 := [182, 0, 162, 172, 42, 182, 0, 171, 60, 27, 2, 160, 0, 5, 3, 172, 3, 61, 28, 27, 5, 162, 0, 7]
abbrev dktX5_item_1 : List UInt8 := dkwX5_item_1 ++ dktX5_item_2
def dkwX5_item_0 : List UInt8 := [42, 3, 182, 0, 168, 153, 0, 21, 42, 180, 0, 105, 16, 8, 160, 0, 12, 42, 42, 180, 0, 146]
abbrev dktX5_item_0 : List UInt8 := dkwX5_item_0 ++ dktX5_item_1
theorem dksX5_item_0 : cX5_item.data.toList.drop 0 = dktX5_item_0 := by decide +kernel
theorem dksX5_item_1 : cX5_item.data.toList.drop 22 = dktX5_item_1 := dk_seg dksX5_item_0 22 rfl rfl
theorem dksX5_item_2 : cX5_item.data.toList.drop 46 = dktX5_item_2 := dk_seg dksX5_item_1 24 rfl rfl
theorem dksX5_item_3 : cX5_item.data.toList.drop 70 = dktX5_item_3 := dk_seg dksX5_item_2 24 rfl rfl
theorem dksX5_item_4 : cX5_item.data.toList.drop 94 = dktX5_item_4 := dk_seg dksX5_item_3 24 rfl rfl
theorem dksX5_item_5 : cX5_item.data.toList.drop 117 = dktX5_item_5 := dk_seg dksX5_item_4 23 rfl rfl
theorem dksX5_item_6 : cX5_item.data.toList.drop 141 = dktX5_item_6 := dk_seg dksX5_item_5 24 rfl rfl
theorem dksX5_item_7 : cX5_item.data.toList.drop 154 = dktX5_item_7 := dk_seg dksX5_item_6 13 rfl rfl
theorem dksX5_item_8 : cX5_item.data.toList.drop 208 = dktX5_item_8 := dk_seg dksX5_item_7 54 rfl rfl
theorem dksX5_item_9 : cX5_item.data.toList.drop 232 = dktX5_item_9 := dk_seg dksX5_item_8 24 rfl rfl
theorem dksX5_item_10 : cX5_item.data.toList.drop 256 = dktX5_item_10 := dk_seg dksX5_item_9 24 rfl rfl
theorem dksX5_item_11 : cX5_item.data.toList.drop 280 = dktX5_item_11 := dk_seg dksX5_item_10 24 rfl rfl
theorem dX5_item_0 : decode cX5_item 0 = .ok (.aload_n 0, 1) := dk_42 (dk_at dksX5_item_0 0 rfl rfl)
theorem dX5_item_1 : decode cX5_item 1 = .ok (.iconst 0, 1) := dk_3 (dk_at dksX5_item_0 1 rfl rfl)
theorem dX5_item_2 : decode cX5_item 2 = .ok (.invokevirtual 168, 3) := dk_182 0 168 (dk_at dksX5_item_0 2 rfl rfl)
theorem dX5_item_5 : decode cX5_item 5 = .ok (.ifCond .eq 21, 3) := dk_153 0 21 (dk_at dksX5_item_0 5 rfl rfl)
theorem dX5_item_8 : decode cX5_item 8 = .ok (.aload_n 0, 1) := dk_42 (dk_at dksX5_item_0 8 rfl rfl)
theorem dX5_item_9 : decode cX5_item 9 = .ok (.getfield 105, 3) := dk_180 0 105 (dk_at dksX5_item_0 9 rfl rfl)
theorem dX5_item_12 : decode cX5_item 12 = .ok (.bipush 8, 2) := dk_16 8 (dk_at dksX5_item_0 12 rfl rfl)
theorem dX5_item_14 : decode cX5_item 14 = .ok (.if_icmp .ne 12, 3) := dk_160 0 12 (dk_at dksX5_item_0 14 rfl rfl)
theorem dX5_item_17 : decode cX5_item 17 = .ok (.aload_n 0, 1) := dk_42 (dk_at dksX5_item_0 17 rfl rfl)
theorem dX5_item_18 : decode cX5_item 18 = .ok (.aload_n 0, 1) := dk_42 (dk_at dksX5_item_0 18 rfl rfl)
theorem dX5_item_19 : decode cX5_item 19 = .ok (.getfield 146, 3) := dk_180 0 146 (dk_at dksX5_item_0 19 rfl rfl)
theorem dX5_item_22 : decode cX5_item 22 = .ok (.invokevirtual 162, 3) := dk_182 0 162 (dk_at dksX5_item_1 0 rfl rfl)
theorem dX5_item_25 : decode cX5_item 25 = .ok (.ireturn, 1) := dk_172 (dk_at dksX5_item_1 3 rfl rfl)
theorem dX5_item_26 : decode cX5_item 26 = .ok (.aload_n 0, 1) := dk_42 (dk_at dksX5_item_1 4 rfl rfl)
theorem dX5_item_27 : decode cX5_item 27 = .ok (.invokevirtual 171, 3) := dk_182 0 171 (dk_at dksX5_item_1 5 rfl rfl)
theorem dX5_item_30 : decode cX5_item 30 = .ok (.istore_n 1, 1) := dk_60 (dk_at dksX5_item_1 8 rfl rfl)
theorem dX5_item_31 : decode cX5_item 31 = .ok (.iload_n 1, 1) := dk_27 (dk_at dksX5_item_1 9 rfl rfl)
theorem dX5_item_32 : decode cX5_item 32 = .ok (.iconst (-1), 1) := dk_2 (dk_at dksX5_item_1 10 rfl rfl)
theorem dX5_item_33 : decode cX5_item 33 = .ok (.if_icmp .ne 5, 3) := dk_160 0 5 (dk_at dksX5_item_1 11 rfl rfl)
theorem dX5_item_36 : decode cX5_item 36 = .ok (.iconst 0, 1) := dk_3 (dk_at dksX5_item_1 14 rfl rfl)
theorem dX5_item_37 : decode cX5_item 37 = .ok (.ireturn, 1) := dk_172 (dk_at dksX5_item_1 15 rfl rfl)
theorem dX5_item_38 : decode cX5_item 38 = .ok (.iconst 0, 1) := dk_3 (dk_at dksX5_item_1 16 rfl rfl)
theorem dX5_item_39 : decode cX5_item 39 = .ok (.istore_n 2, 1) := dk_61 (dk_at dksX5_item_1 17 rfl rfl)
theorem dX5_item_40 : decode cX5_item 40 = .ok (.iload_n 2, 1) := dk_28 (dk_at dksX5_item_1 18 rfl rfl)
theorem dX5_item_41 : decode cX5_item 41 = .ok (.iload_n 1, 1) := dk_27 (dk_at dksX5_item_1 19 rfl rfl)
theorem dX5_item_42 : decode cX5_item 42 = .ok (.iconst 2, 1) := dk_5 (dk_at dksX5_item_1 20 rfl rfl)
theorem dX5_item_43 : decode cX5_item 43 = .ok (.if_icmp .ge 7, 3) := dk_162 0 7 (dk_at dksX5_item_1 21 rfl rfl)
theorem dX5_item_46 : decode cX5_item 46 = .ok (.iconst 2, 1) := dk_5 (dk_at dksX5_item_2 0 rfl rfl)
theorem dX5_item_47 : decode cX5_item 47 = .ok (.goto 4, 3) := dk_167 0 4 (dk_at dksX5_item_2 1 rfl rfl)
theorem dX5_item_50 : decode cX5_item 50 = .ok (.iconst 1, 1) := dk_4 (dk_at dksX5_item_2 4 rfl rfl)
theorem dX5_item_51 : decode cX5_item 51 = .ok (.if_icmp .ge 102, 3) := dk_162 0 102 (dk_at dksX5_item_2 5 rfl rfl)
theorem dX5_item_54 : decode cX5_item 54 = .ok (.iload_n 2, 1) := dk_28 (dk_at dksX5_item_2 8 rfl rfl)
theorem dX5_item_55 : decode cX5_item 55 = .ok (.ifCond .le 53, 3) := dk_158 0 53 (dk_at dksX5_item_2 9 rfl rfl)
theorem dX5_item_58 : decode cX5_item 58 = .ok (.aload_n 0, 1) := dk_42 (dk_at dksX5_item_2 12 rfl rfl)
theorem dX5_item_59 : decode cX5_item 59 = .ok (.getfield 146, 3) := dk_180 0 146 (dk_at dksX5_item_2 13 rfl rfl)
theorem dX5_item_62 : decode cX5_item 62 = .ok (.aload_n 0, 1) := dk_42 (dk_at dksX5_item_2 16 rfl rfl)
theorem dX5_item_63 : decode cX5_item 63 = .ok (.getfield 149, 3) := dk_180 0 149 (dk_at dksX5_item_2 17 rfl rfl)
theorem dX5_item_66 : decode cX5_item 66 = .ok (.if_icmp .ge 23, 3) := dk_162 0 23 (dk_at dksX5_item_2 20 rfl rfl)
theorem dX5_item_69 : decode cX5_item 69 = .ok (.aload_n 0, 1) := dk_42 (dk_at dksX5_item_2 23 rfl rfl)
theorem dX5_item_70 : decode cX5_item 70 = .ok (.getfield 68, 3) := dk_180 0 68 (dk_at dksX5_item_3 0 rfl rfl)
theorem dX5_item_73 : decode cX5_item 73 = .ok (.aload_n 0, 1) := dk_42 (dk_at dksX5_item_3 3 rfl rfl)
theorem dX5_item_74 : decode cX5_item 74 = .ok (.getfield 152, 3) := dk_180 0 152 (dk_at dksX5_item_3 4 rfl rfl)
theorem dX5_item_77 : decode cX5_item 77 = .ok (.aload_n 0, 1) := dk_42 (dk_at dksX5_item_3 7 rfl rfl)
theorem dX5_item_78 : decode cX5_item 78 = .ok (.getfield 146, 3) := dk_180 0 146 (dk_at dksX5_item_3 8 rfl rfl)
theorem dX5_item_81 : decode cX5_item 81 = .ok (.iadd, 1) := dk_96 (dk_at dksX5_item_3 11 rfl rfl)
theorem dX5_item_82 : decode cX5_item 82 = .ok (.laload, 1) := dk_47 (dk_at dksX5_item_3 12 rfl rfl)
theorem dX5_item_83 : decode cX5_item 83 = .ok (.l2i, 1) := dk_136 (dk_at dksX5_item_3 13 rfl rfl)
theorem dX5_item_84 : decode cX5_item 84 = .ok (.bipush 32, 2) := dk_16 32 (dk_at dksX5_item_3 14 rfl rfl)
theorem dX5_item_86 : decode cX5_item 86 = .ok (.if_icmp .eq 12, 3) := dk_159 0 12 (dk_at dksX5_item_3 16 rfl rfl)
theorem dX5_item_89 : decode cX5_item 89 = .ok (.aload_n 0, 1) := dk_42 (dk_at dksX5_item_3 19 rfl rfl)
theorem dX5_item_90 : decode cX5_item 90 = .ok (.aload_n 0, 1) := dk_42 (dk_at dksX5_item_3 20 rfl rfl)
theorem dX5_item_91 : decode cX5_item 91 = .ok (.getfield 146, 3) := dk_180 0 146 (dk_at dksX5_item_3 21 rfl rfl)
theorem dX5_item_94 : decode cX5_item 94 = .ok (.invokevirtual 162, 3) := dk_182 0 162 (dk_at dksX5_item_4 0 rfl rfl)
theorem dX5_item_97 : decode cX5_item 97 = .ok (.ireturn, 1) := dk_172 (dk_at dksX5_item_4 3 rfl rfl)
theorem dX5_item_98 : decode cX5_item 98 = .ok (.aload_n 0, 1) := dk_42 (dk_at dksX5_item_4 4 rfl rfl)
theorem dX5_item_99 : decode cX5_item 99 = .ok (.dup, 1) := dk_89 (dk_at dksX5_item_4 5 rfl rfl)
theorem dX5_item_100 : decode cX5_item 100 = .ok (.getfield 146, 3) := dk_180 0 146 (dk_at dksX5_item_4 6 rfl rfl)
theorem dX5_item_103 : decode cX5_item 103 = .ok (.iconst 1, 1) := dk_4 (dk_at dksX5_item_4 9 rfl rfl)
theorem dX5_item_104 : decode cX5_item 104 = .ok (.iadd, 1) := dk_96 (dk_at dksX5_item_4 10 rfl rfl)
theorem dX5_item_105 : decode cX5_item 105 = .ok (.putfield 146, 3) := dk_181 0 146 (dk_at dksX5_item_4 11 rfl rfl)
theorem dX5_item_108 : decode cX5_item 108 = .ok (.aload_n 0, 1) := dk_42 (dk_at dksX5_item_4 14 rfl rfl)
theorem dX5_item_109 : decode cX5_item 109 = .ok (.getfield 146, 3) := dk_180 0 146 (dk_at dksX5_item_4 15 rfl rfl)
theorem dX5_item_112 : decode cX5_item 112 = .ok (.istore_n 3, 1) := dk_62 (dk_at dksX5_item_4 18 rfl rfl)
theorem dX5_item_113 : decode cX5_item 113 = .ok (.aload_n 0, 1) := dk_42 (dk_at dksX5_item_4 19 rfl rfl)
theorem dX5_item_114 : decode cX5_item 114 = .ok (.invokevirtual 175, 3) := dk_182 0 175 (dk_at dksX5_item_4 20 rfl rfl)
theorem dX5_item_117 : decode cX5_item 117 = .ok (.ifCond .ne 5, 3) := dk_154 0 5 (dk_at dksX5_item_5 0 rfl rfl)
theorem dX5_item_120 : decode cX5_item 120 = .ok (.iconst 0, 1) := dk_3 (dk_at dksX5_item_5 3 rfl rfl)
theorem dX5_item_121 : decode cX5_item 121 = .ok (.ireturn, 1) := dk_172 (dk_at dksX5_item_5 4 rfl rfl)
theorem dX5_item_122 : decode cX5_item 122 = .ok (.aload_n 0, 1) := dk_42 (dk_at dksX5_item_5 5 rfl rfl)
theorem dX5_item_123 : decode cX5_item 123 = .ok (.iload_n 1, 1) := dk_27 (dk_at dksX5_item_5 6 rfl rfl)
theorem dX5_item_124 : decode cX5_item 124 = .ok (.iload_n 2, 1) := dk_28 (dk_at dksX5_item_5 7 rfl rfl)
theorem dX5_item_125 : decode cX5_item 125 = .ok (.invokevirtual 178, 3) := dk_182 0 178 (dk_at dksX5_item_5 8 rfl rfl)
theorem dX5_item_128 : decode cX5_item 128 = .ok (.ifCond .ne 9, 3) := dk_154 0 9 (dk_at dksX5_item_5 11 rfl rfl)
theorem dX5_item_131 : decode cX5_item 131 = .ok (.aload_n 0, 1) := dk_42 (dk_at dksX5_item_5 14 rfl rfl)
theorem dX5_item_132 : decode cX5_item 132 = .ok (.iload_n 3, 1) := dk_29 (dk_at dksX5_item_5 15 rfl rfl)
theorem dX5_item_133 : decode cX5_item 133 = .ok (.invokevirtual 162, 3) := dk_182 0 162 (dk_at dksX5_item_5 16 rfl rfl)
theorem dX5_item_136 : decode cX5_item 136 = .ok (.ireturn, 1) := dk_172 (dk_at dksX5_item_5 19 rfl rfl)
theorem dX5_item_137 : decode cX5_item 137 = .ok (.aload_n 0, 1) := dk_42 (dk_at dksX5_item_5 20 rfl rfl)
theorem dX5_item_138 : decode cX5_item 138 = .ok (.getfield 84, 3) := dk_180 0 84 (dk_at dksX5_item_5 21 rfl rfl)
theorem dX5_item_141 : decode cX5_item 141 = .ok (.iload_n 2, 1) := dk_28 (dk_at dksX5_item_6 0 rfl rfl)
theorem dX5_item_142 : decode cX5_item 142 = .ok (.aload_n 0, 1) := dk_42 (dk_at dksX5_item_6 1 rfl rfl)
theorem dX5_item_143 : decode cX5_item 143 = .ok (.getfield 155, 3) := dk_180 0 155 (dk_at dksX5_item_6 2 rfl rfl)
theorem dX5_item_146 : decode cX5_item 146 = .ok (.iastore, 1) := dk_79 (dk_at dksX5_item_6 5 rfl rfl)
theorem dX5_item_147 : decode cX5_item 147 = .ok (.iinc 2 1, 3) := dk_132 2 1 (dk_at dksX5_item_6 6 rfl rfl)
theorem dX5_item_150 : decode cX5_item 150 = .ok (.goto (-110), 3) := dk_167 255 146 (dk_at dksX5_item_6 9 rfl rfl)
theorem dX5_item_153 : decode cX5_item 153 = .ok (.iload_n 1, 1) := dk_27 (dk_at dksX5_item_6 12 rfl rfl)
theorem dX5_item_154 : decode cX5_item 154 = .ok (.tableswitch 123 0 9 #[54, 74, 94, 123, 123, 123, 123, 123, 123, 109], 54) := by decide +kernel
theorem dX5_item_208 : decode cX5_item 208 = .ok (.aload_n 0, 1) := dk_42 (dk_at dksX5_item_8 0 rfl rfl)
theorem dX5_item_209 : decode cX5_item 209 = .ok (.aload_n 0, 1) := dk_42 (dk_at dksX5_item_8 1 rfl rfl)
theorem dX5_item_210 : decode cX5_item 210 = .ok (.getfield 84, 3) := dk_180 0 84 (dk_at dksX5_item_8 2 rfl rfl)
theorem dX5_item_213 : decode cX5_item 213 = .ok (.iconst 0, 1) := dk_3 (dk_at dksX5_item_8 5 rfl rfl)
theorem dX5_item_214 : decode cX5_item 214 = .ok (.iaload, 1) := dk_46 (dk_at dksX5_item_8 6 rfl rfl)
theorem dX5_item_215 : decode cX5_item 215 = .ok (.aload_n 0, 1) := dk_42 (dk_at dksX5_item_8 7 rfl rfl)
theorem dX5_item_216 : decode cX5_item 216 = .ok (.getfield 84, 3) := dk_180 0 84 (dk_at dksX5_item_8 8 rfl rfl)
theorem dX5_item_219 : decode cX5_item 219 = .ok (.iconst 1, 1) := dk_4 (dk_at dksX5_item_8 11 rfl rfl)
theorem dX5_item_220 : decode cX5_item 220 = .ok (.iaload, 1) := dk_46 (dk_at dksX5_item_8 12 rfl rfl)
theorem dX5_item_221 : decode cX5_item 221 = .ok (.invokevirtual 122, 3) := dk_182 0 122 (dk_at dksX5_item_8 13 rfl rfl)
theorem dX5_item_224 : decode cX5_item 224 = .ok (.pop, 1) := dk_87 (dk_at dksX5_item_8 16 rfl rfl)
theorem dX5_item_225 : decode cX5_item 225 = .ok (.goto 65, 3) := dk_167 0 65 (dk_at dksX5_item_8 17 rfl rfl)
theorem dX5_item_228 : decode cX5_item 228 = .ok (.aload_n 0, 1) := dk_42 (dk_at dksX5_item_8 20 rfl rfl)
theorem dX5_item_229 : decode cX5_item 229 = .ok (.getfield 44, 3) := dk_180 0 44 (dk_at dksX5_item_8 21 rfl rfl)
theorem dX5_item_232 : decode cX5_item 232 = .ok (.aload_n 0, 1) := dk_42 (dk_at dksX5_item_9 0 rfl rfl)
theorem dX5_item_233 : decode cX5_item 233 = .ok (.getfield 84, 3) := dk_180 0 84 (dk_at dksX5_item_9 1 rfl rfl)
theorem dX5_item_236 : decode cX5_item 236 = .ok (.iconst 0, 1) := dk_3 (dk_at dksX5_item_9 4 rfl rfl)
theorem dX5_item_237 : decode cX5_item 237 = .ok (.iaload, 1) := dk_46 (dk_at dksX5_item_9 5 rfl rfl)
theorem dX5_item_238 : decode cX5_item 238 = .ok (.aload_n 0, 1) := dk_42 (dk_at dksX5_item_9 6 rfl rfl)
theorem dX5_item_239 : decode cX5_item 239 = .ok (.getfield 84, 3) := dk_180 0 84 (dk_at dksX5_item_9 7 rfl rfl)
theorem dX5_item_242 : decode cX5_item 242 = .ok (.iconst 1, 1) := dk_4 (dk_at dksX5_item_9 10 rfl rfl)
theorem dX5_item_243 : decode cX5_item 243 = .ok (.iaload, 1) := dk_46 (dk_at dksX5_item_9 11 rfl rfl)
theorem dX5_item_244 : decode cX5_item 244 = .ok (.iastore, 1) := dk_79 (dk_at dksX5_item_9 12 rfl rfl)
theorem dX5_item_245 : decode cX5_item 245 = .ok (.goto 45, 3) := dk_167 0 45 (dk_at dksX5_item_9 13 rfl rfl)
theorem dX5_item_248 : decode cX5_item 248 = .ok (.aload_n 0, 1) := dk_42 (dk_at dksX5_item_9 16 rfl rfl)
theorem dX5_item_249 : decode cX5_item 249 = .ok (.getfield 47, 3) := dk_180 0 47 (dk_at dksX5_item_9 17 rfl rfl)
theorem dX5_item_252 : decode cX5_item 252 = .ok (.aload_n 0, 1) := dk_42 (dk_at dksX5_item_9 20 rfl rfl)
theorem dX5_item_253 : decode cX5_item 253 = .ok (.getfield 84, 3) := dk_180 0 84 (dk_at dksX5_item_9 21 rfl rfl)
theorem dX5_item_256 : decode cX5_item 256 = .ok (.iconst 0, 1) := dk_3 (dk_at dksX5_item_10 0 rfl rfl)
theorem dX5_item_257 : decode cX5_item 257 = .ok (.iaload, 1) := dk_46 (dk_at dksX5_item_10 1 rfl rfl)
theorem dX5_item_258 : decode cX5_item 258 = .ok (.iconst 1, 1) := dk_4 (dk_at dksX5_item_10 2 rfl rfl)
theorem dX5_item_259 : decode cX5_item 259 = .ok (.iastore, 1) := dk_79 (dk_at dksX5_item_10 3 rfl rfl)
theorem dX5_item_260 : decode cX5_item 260 = .ok (.goto 30, 3) := dk_167 0 30 (dk_at dksX5_item_10 4 rfl rfl)
theorem dX5_item_263 : decode cX5_item 263 = .ok (.aload_n 0, 1) := dk_42 (dk_at dksX5_item_10 7 rfl rfl)
theorem dX5_item_264 : decode cX5_item 264 = .ok (.aload_n 0, 1) := dk_42 (dk_at dksX5_item_10 8 rfl rfl)
theorem dX5_item_265 : decode cX5_item 265 = .ok (.getfield 84, 3) := dk_180 0 84 (dk_at dksX5_item_10 9 rfl rfl)
theorem dX5_item_268 : decode cX5_item 268 = .ok (.iconst 0, 1) := dk_3 (dk_at dksX5_item_10 12 rfl rfl)
theorem dX5_item_269 : decode cX5_item 269 = .ok (.iaload, 1) := dk_46 (dk_at dksX5_item_10 13 rfl rfl)
theorem dX5_item_270 : decode cX5_item 270 = .ok (.invokevirtual 181, 3) := dk_182 0 181 (dk_at dksX5_item_10 14 rfl rfl)
theorem dX5_item_273 : decode cX5_item 273 = .ok (.pop, 1) := dk_87 (dk_at dksX5_item_10 17 rfl rfl)
theorem dX5_item_274 : decode cX5_item 274 = .ok (.goto 16, 3) := dk_167 0 16 (dk_at dksX5_item_10 18 rfl rfl)
theorem dX5_item_277 : decode cX5_item 277 = .ok (.aload_n 0, 1) := dk_42 (dk_at dksX5_item_10 21 rfl rfl)
theorem dX5_item_278 : decode cX5_item 278 = .ok (.iload_n 1, 1) := dk_27 (dk_at dksX5_item_10 22 rfl rfl)
theorem dX5_item_279 : decode cX5_item 279 = .ok (.iconst 3, 1) := dk_6 (dk_at dksX5_item_10 23 rfl rfl)
theorem dX5_item_280 : decode cX5_item 280 = .ok (.isub, 1) := dk_100 (dk_at dksX5_item_11 0 rfl rfl)
theorem dX5_item_281 : decode cX5_item 281 = .ok (.aload_n 0, 1) := dk_42 (dk_at dksX5_item_11 1 rfl rfl)
theorem dX5_item_282 : decode cX5_item 282 = .ok (.getfield 84, 3) := dk_180 0 84 (dk_at dksX5_item_11 2 rfl rfl)
theorem dX5_item_285 : decode cX5_item 285 = .ok (.iconst 0, 1) := dk_3 (dk_at dksX5_item_11 5 rfl rfl)
theorem dX5_item_286 : decode cX5_item 286 = .ok (.iaload, 1) := dk_46 (dk_at dksX5_item_11 6 rfl rfl)
theorem dX5_item_287 : decode cX5_item 287 = .ok (.invokevirtual 139, 3) := dk_182 0 139 (dk_at dksX5_item_11 7 rfl rfl)
theorem dX5_item_290 : decode cX5_item 290 = .ok (.iconst 1, 1) := dk_4 (dk_at dksX5_item_11 10 rfl rfl)
theorem dX5_item_291 : decode cX5_item 291 = .ok (.ireturn, 1) := dk_172 (dk_at dksX5_item_11 11 rfl rfl)
abbrev cX5_isWordAt : ByteArray := prog_22_method_28_code
def yX5_isWordAt : MethodName := ⟨RX5, "isWordAt", "(I)Z"⟩
def dkwX5_isWordAt_4 : List UInt8 := [163, 0, 7, 4, 167, 0, 4, 3, 172]
abbrev dktX5_isWordAt_4 : List UInt8 := dkwX5_isWordAt_4 ++ []
def dkwX5_isWordAt_3 : List UInt8 := [28, 46, 160, 0, 12, 132, 3, 1, 132, 2, 1, 167, 255, 210, 42, 180, 0, 81, 28, 46, 16, 32]
abbrev dktX5_isWordAt_3 : List UInt8 := dkwX5_isWordAt_3 ++ dktX5_isWordAt_4
def dkwX5_isWordAt_2 : List UInt8 := [29, 42, 180, 0, 149, 162, 0, 33, 42, 180, 0, 68, 42, 180, 0, 152, 29, 96, 47, 136, 42, 180, 0, 81]
abbrev dktX5_isWordAt_2 : List UInt8 := dkwX5_isWordAt_2 ++ dktX5_isWordAt_3
def dkwX5_isWordAt_1 : List UInt8 := [96, 62, 132, 2, 1, 167, 255, 231, 42, 180, 0, 146, 62, 42, 180, 0, 81, 28, 46, 16, 32, 164, 0, 41]
abbrev dktX5_isWordAt_1 : List UInt8 := dkwX5_isWordAt_1 ++ dktX5_isWordAt_2
def dkwX5_isWordAt_0 : List UInt8 := [3, 61, 3, 62, 29, 27, 162, 0, 26, 29, 42, 180, 0, 81, 28, 46, 154, 0, 7, 4, 167, 0, 4, 3]
abbrev dktX5_isWordAt_0 : List UInt8 := dkwX5_isWordAt_0 ++ dktX5_isWordAt_1
theorem dksX5_isWordAt_0 : cX5_isWordAt.data.toList.drop 0 = dktX5_isWordAt_0 := by decide +kernel
theorem dksX5_isWordAt_1 : cX5_isWordAt.data.toList.drop 24 = dktX5_isWordAt_1 := dk_seg dksX5_isWordAt_0 24 rfl rfl
theorem dksX5_isWordAt_2 : cX5_isWordAt.data.toList.drop 48 = dktX5_isWordAt_2 := dk_seg dksX5_isWordAt_1 24 rfl rfl
theorem dksX5_isWordAt_3 : cX5_isWordAt.data.toList.drop 72 = dktX5_isWordAt_3 := dk_seg dksX5_isWordAt_2 24 rfl rfl
theorem dksX5_isWordAt_4 : cX5_isWordAt.data.toList.drop 94 = dktX5_isWordAt_4 := dk_seg dksX5_isWordAt_3 22 rfl rfl
theorem dX5_isWordAt_0 : decode cX5_isWordAt 0 = .ok (.iconst 0, 1) := dk_3 (dk_at dksX5_isWordAt_0 0 rfl rfl)
theorem dX5_isWordAt_1 : decode cX5_isWordAt 1 = .ok (.istore_n 2, 1) := dk_61 (dk_at dksX5_isWordAt_0 1 rfl rfl)
theorem dX5_isWordAt_2 : decode cX5_isWordAt 2 = .ok (.iconst 0, 1) := dk_3 (dk_at dksX5_isWordAt_0 2 rfl rfl)
theorem dX5_isWordAt_3 : decode cX5_isWordAt 3 = .ok (.istore_n 3, 1) := dk_62 (dk_at dksX5_isWordAt_0 3 rfl rfl)
theorem dX5_isWordAt_4 : decode cX5_isWordAt 4 = .ok (.iload_n 3, 1) := dk_29 (dk_at dksX5_isWordAt_0 4 rfl rfl)
theorem dX5_isWordAt_5 : decode cX5_isWordAt 5 = .ok (.iload_n 1, 1) := dk_27 (dk_at dksX5_isWordAt_0 5 rfl rfl)
theorem dX5_isWordAt_6 : decode cX5_isWordAt 6 = .ok (.if_icmp .ge 26, 3) := dk_162 0 26 (dk_at dksX5_isWordAt_0 6 rfl rfl)
theorem dX5_isWordAt_9 : decode cX5_isWordAt 9 = .ok (.iload_n 3, 1) := dk_29 (dk_at dksX5_isWordAt_0 9 rfl rfl)
theorem dX5_isWordAt_10 : decode cX5_isWordAt 10 = .ok (.aload_n 0, 1) := dk_42 (dk_at dksX5_isWordAt_0 10 rfl rfl)
theorem dX5_isWordAt_11 : decode cX5_isWordAt 11 = .ok (.getfield 81, 3) := dk_180 0 81 (dk_at dksX5_isWordAt_0 11 rfl rfl)
theorem dX5_isWordAt_14 : decode cX5_isWordAt 14 = .ok (.iload_n 2, 1) := dk_28 (dk_at dksX5_isWordAt_0 14 rfl rfl)
theorem dX5_isWordAt_15 : decode cX5_isWordAt 15 = .ok (.iaload, 1) := dk_46 (dk_at dksX5_isWordAt_0 15 rfl rfl)
theorem dX5_isWordAt_16 : decode cX5_isWordAt 16 = .ok (.ifCond .ne 7, 3) := dk_154 0 7 (dk_at dksX5_isWordAt_0 16 rfl rfl)
theorem dX5_isWordAt_19 : decode cX5_isWordAt 19 = .ok (.iconst 1, 1) := dk_4 (dk_at dksX5_isWordAt_0 19 rfl rfl)
theorem dX5_isWordAt_20 : decode cX5_isWordAt 20 = .ok (.goto 4, 3) := dk_167 0 4 (dk_at dksX5_isWordAt_0 20 rfl rfl)
theorem dX5_isWordAt_23 : decode cX5_isWordAt 23 = .ok (.iconst 0, 1) := dk_3 (dk_at dksX5_isWordAt_0 23 rfl rfl)
theorem dX5_isWordAt_24 : decode cX5_isWordAt 24 = .ok (.iadd, 1) := dk_96 (dk_at dksX5_isWordAt_1 0 rfl rfl)
theorem dX5_isWordAt_25 : decode cX5_isWordAt 25 = .ok (.istore_n 3, 1) := dk_62 (dk_at dksX5_isWordAt_1 1 rfl rfl)
theorem dX5_isWordAt_26 : decode cX5_isWordAt 26 = .ok (.iinc 2 1, 3) := dk_132 2 1 (dk_at dksX5_isWordAt_1 2 rfl rfl)
theorem dX5_isWordAt_29 : decode cX5_isWordAt 29 = .ok (.goto (-25), 3) := dk_167 255 231 (dk_at dksX5_isWordAt_1 5 rfl rfl)
theorem dX5_isWordAt_32 : decode cX5_isWordAt 32 = .ok (.aload_n 0, 1) := dk_42 (dk_at dksX5_isWordAt_1 8 rfl rfl)
theorem dX5_isWordAt_33 : decode cX5_isWordAt 33 = .ok (.getfield 146, 3) := dk_180 0 146 (dk_at dksX5_isWordAt_1 9 rfl rfl)
theorem dX5_isWordAt_36 : decode cX5_isWordAt 36 = .ok (.istore_n 3, 1) := dk_62 (dk_at dksX5_isWordAt_1 12 rfl rfl)
theorem dX5_isWordAt_37 : decode cX5_isWordAt 37 = .ok (.aload_n 0, 1) := dk_42 (dk_at dksX5_isWordAt_1 13 rfl rfl)
theorem dX5_isWordAt_38 : decode cX5_isWordAt 38 = .ok (.getfield 81, 3) := dk_180 0 81 (dk_at dksX5_isWordAt_1 14 rfl rfl)
theorem dX5_isWordAt_41 : decode cX5_isWordAt 41 = .ok (.iload_n 2, 1) := dk_28 (dk_at dksX5_isWordAt_1 17 rfl rfl)
theorem dX5_isWordAt_42 : decode cX5_isWordAt 42 = .ok (.iaload, 1) := dk_46 (dk_at dksX5_isWordAt_1 18 rfl rfl)
theorem dX5_isWordAt_43 : decode cX5_isWordAt 43 = .ok (.bipush 32, 2) := dk_16 32 (dk_at dksX5_isWordAt_1 19 rfl rfl)
theorem dX5_isWordAt_45 : decode cX5_isWordAt 45 = .ok (.if_icmp .le 41, 3) := dk_164 0 41 (dk_at dksX5_isWordAt_1 21 rfl rfl)
theorem dX5_isWordAt_48 : decode cX5_isWordAt 48 = .ok (.iload_n 3, 1) := dk_29 (dk_at dksX5_isWordAt_2 0 rfl rfl)
theorem dX5_isWordAt_49 : decode cX5_isWordAt 49 = .ok (.aload_n 0, 1) := dk_42 (dk_at dksX5_isWordAt_2 1 rfl rfl)
theorem dX5_isWordAt_50 : decode cX5_isWordAt 50 = .ok (.getfield 149, 3) := dk_180 0 149 (dk_at dksX5_isWordAt_2 2 rfl rfl)
theorem dX5_isWordAt_53 : decode cX5_isWordAt 53 = .ok (.if_icmp .ge 33, 3) := dk_162 0 33 (dk_at dksX5_isWordAt_2 5 rfl rfl)
theorem dX5_isWordAt_56 : decode cX5_isWordAt 56 = .ok (.aload_n 0, 1) := dk_42 (dk_at dksX5_isWordAt_2 8 rfl rfl)
theorem dX5_isWordAt_57 : decode cX5_isWordAt 57 = .ok (.getfield 68, 3) := dk_180 0 68 (dk_at dksX5_isWordAt_2 9 rfl rfl)
theorem dX5_isWordAt_60 : decode cX5_isWordAt 60 = .ok (.aload_n 0, 1) := dk_42 (dk_at dksX5_isWordAt_2 12 rfl rfl)
theorem dX5_isWordAt_61 : decode cX5_isWordAt 61 = .ok (.getfield 152, 3) := dk_180 0 152 (dk_at dksX5_isWordAt_2 13 rfl rfl)
theorem dX5_isWordAt_64 : decode cX5_isWordAt 64 = .ok (.iload_n 3, 1) := dk_29 (dk_at dksX5_isWordAt_2 16 rfl rfl)
theorem dX5_isWordAt_65 : decode cX5_isWordAt 65 = .ok (.iadd, 1) := dk_96 (dk_at dksX5_isWordAt_2 17 rfl rfl)
theorem dX5_isWordAt_66 : decode cX5_isWordAt 66 = .ok (.laload, 1) := dk_47 (dk_at dksX5_isWordAt_2 18 rfl rfl)
theorem dX5_isWordAt_67 : decode cX5_isWordAt 67 = .ok (.l2i, 1) := dk_136 (dk_at dksX5_isWordAt_2 19 rfl rfl)
theorem dX5_isWordAt_68 : decode cX5_isWordAt 68 = .ok (.aload_n 0, 1) := dk_42 (dk_at dksX5_isWordAt_2 20 rfl rfl)
theorem dX5_isWordAt_69 : decode cX5_isWordAt 69 = .ok (.getfield 81, 3) := dk_180 0 81 (dk_at dksX5_isWordAt_2 21 rfl rfl)
theorem dX5_isWordAt_72 : decode cX5_isWordAt 72 = .ok (.iload_n 2, 1) := dk_28 (dk_at dksX5_isWordAt_3 0 rfl rfl)
theorem dX5_isWordAt_73 : decode cX5_isWordAt 73 = .ok (.iaload, 1) := dk_46 (dk_at dksX5_isWordAt_3 1 rfl rfl)
theorem dX5_isWordAt_74 : decode cX5_isWordAt 74 = .ok (.if_icmp .ne 12, 3) := dk_160 0 12 (dk_at dksX5_isWordAt_3 2 rfl rfl)
theorem dX5_isWordAt_77 : decode cX5_isWordAt 77 = .ok (.iinc 3 1, 3) := dk_132 3 1 (dk_at dksX5_isWordAt_3 5 rfl rfl)
theorem dX5_isWordAt_80 : decode cX5_isWordAt 80 = .ok (.iinc 2 1, 3) := dk_132 2 1 (dk_at dksX5_isWordAt_3 8 rfl rfl)
theorem dX5_isWordAt_83 : decode cX5_isWordAt 83 = .ok (.goto (-46), 3) := dk_167 255 210 (dk_at dksX5_isWordAt_3 11 rfl rfl)
theorem dX5_isWordAt_86 : decode cX5_isWordAt 86 = .ok (.aload_n 0, 1) := dk_42 (dk_at dksX5_isWordAt_3 14 rfl rfl)
theorem dX5_isWordAt_87 : decode cX5_isWordAt 87 = .ok (.getfield 81, 3) := dk_180 0 81 (dk_at dksX5_isWordAt_3 15 rfl rfl)
theorem dX5_isWordAt_90 : decode cX5_isWordAt 90 = .ok (.iload_n 2, 1) := dk_28 (dk_at dksX5_isWordAt_3 18 rfl rfl)
theorem dX5_isWordAt_91 : decode cX5_isWordAt 91 = .ok (.iaload, 1) := dk_46 (dk_at dksX5_isWordAt_3 19 rfl rfl)
theorem dX5_isWordAt_92 : decode cX5_isWordAt 92 = .ok (.bipush 32, 2) := dk_16 32 (dk_at dksX5_isWordAt_3 20 rfl rfl)
theorem dX5_isWordAt_94 : decode cX5_isWordAt 94 = .ok (.if_icmp .gt 7, 3) := dk_163 0 7 (dk_at dksX5_isWordAt_4 0 rfl rfl)
theorem dX5_isWordAt_97 : decode cX5_isWordAt 97 = .ok (.iconst 1, 1) := dk_4 (dk_at dksX5_isWordAt_4 3 rfl rfl)
theorem dX5_isWordAt_98 : decode cX5_isWordAt 98 = .ok (.goto 4, 3) := dk_167 0 4 (dk_at dksX5_isWordAt_4 4 rfl rfl)
theorem dX5_isWordAt_101 : decode cX5_isWordAt 101 = .ok (.iconst 0, 1) := dk_3 (dk_at dksX5_isWordAt_4 7 rfl rfl)
theorem dX5_isWordAt_102 : decode cX5_isWordAt 102 = .ok (.ireturn, 1) := dk_172 (dk_at dksX5_isWordAt_4 8 rfl rfl)
abbrev cX5_wrong : ByteArray := prog_22_method_27_code
def yX5_wrong : MethodName := ⟨RX5, "wrong", "(I)Z"⟩
def dkwX5_wrong_0 : List UInt8 := [42, 27, 181, 0, 143, 3, 172]
abbrev dktX5_wrong_0 : List UInt8 := dkwX5_wrong_0 ++ []
theorem dksX5_wrong_0 : cX5_wrong.data.toList.drop 0 = dktX5_wrong_0 := by decide +kernel
theorem dX5_wrong_0 : decode cX5_wrong 0 = .ok (.aload_n 0, 1) := dk_42 (dk_at dksX5_wrong_0 0 rfl rfl)
theorem dX5_wrong_1 : decode cX5_wrong 1 = .ok (.iload_n 1, 1) := dk_27 (dk_at dksX5_wrong_0 1 rfl rfl)
theorem dX5_wrong_2 : decode cX5_wrong 2 = .ok (.putfield 143, 3) := dk_181 0 143 (dk_at dksX5_wrong_0 2 rfl rfl)
theorem dX5_wrong_5 : decode cX5_wrong 5 = .ok (.iconst 0, 1) := dk_3 (dk_at dksX5_wrong_0 5 rfl rfl)
theorem dX5_wrong_6 : decode cX5_wrong 6 = .ok (.ireturn, 1) := dk_172 (dk_at dksX5_wrong_0 6 rfl rfl)
abbrev cX5_word : ByteArray := prog_22_method_29_code
def yX5_word : MethodName := ⟨RX5, "word", "()I"⟩
def dkwX5_word_5 : List UInt8 := [167, 255, 244, 132, 1, 1, 132, 3, 1, 167, 255, 138, 42, 28, 181, 0, 143, 2, 172]
abbrev dktX5_word_5 : List UInt8 := dkwX5_word_5 ++ []
def dkwX5_word_4 : List UInt8 := [164, 0, 8, 21, 4, 167, 0, 4, 28, 61, 42, 180, 0, 81, 27, 46, 153, 0, 9, 132, 1, 1]
abbrev dktX5_word_4 : List UInt8 := dkwX5_word_4 ++ dktX5_word_5
def dkwX5_word_3 : List UInt8 := [167, 255, 208, 42, 180, 0, 81, 21, 5, 46, 154, 0, 11, 42, 21, 4, 181, 0, 146, 29, 172, 21, 4, 28]
abbrev dktX5_word_3 : List UInt8 := dkwX5_word_3 ++ dktX5_word_4
def dkwX5_word_2 : List UInt8 := [180, 0, 152, 21, 4, 96, 47, 136, 42, 180, 0, 81, 21, 5, 46, 160, 0, 12, 132, 4, 1, 132, 5, 1]
abbrev dktX5_word_2 : List UInt8 := dkwX5_word_2 ++ dktX5_word_3
def dkwX5_word_1 : List UInt8 := [42, 180, 0, 81, 21, 5, 46, 153, 0, 44, 21, 4, 42, 180, 0, 149, 162, 0, 35, 42, 180, 0, 68, 42]
abbrev dktX5_word_1 : List UInt8 := dkwX5_word_1 ++ dktX5_word_2
def dkwX5_word_0 : List UInt8 := [3, 60, 42, 180, 0, 146, 61, 3, 62, 29, 16, 10, 162, 0, 118, 42, 180, 0, 146, 54, 4, 27, 54, 5]
abbrev dktX5_word_0 : List UInt8 := dkwX5_word_0 ++ dktX5_word_1
theorem dksX5_word_0 : cX5_word.data.toList.drop 0 = dktX5_word_0 := by decide +kernel
theorem dksX5_word_1 : cX5_word.data.toList.drop 24 = dktX5_word_1 := dk_seg dksX5_word_0 24 rfl rfl
theorem dksX5_word_2 : cX5_word.data.toList.drop 48 = dktX5_word_2 := dk_seg dksX5_word_1 24 rfl rfl
theorem dksX5_word_3 : cX5_word.data.toList.drop 72 = dktX5_word_3 := dk_seg dksX5_word_2 24 rfl rfl
theorem dksX5_word_4 : cX5_word.data.toList.drop 96 = dktX5_word_4 := dk_seg dksX5_word_3 24 rfl rfl
theorem dksX5_word_5 : cX5_word.data.toList.drop 118 = dktX5_word_5 := dk_seg dksX5_word_4 22 rfl rfl
theorem dX5_word_0 : decode cX5_word 0 = .ok (.iconst 0, 1) := dk_3 (dk_at dksX5_word_0 0 rfl rfl)
theorem dX5_word_1 : decode cX5_word 1 = .ok (.istore_n 1, 1) := dk_60 (dk_at dksX5_word_0 1 rfl rfl)
theorem dX5_word_2 : decode cX5_word 2 = .ok (.aload_n 0, 1) := dk_42 (dk_at dksX5_word_0 2 rfl rfl)
theorem dX5_word_3 : decode cX5_word 3 = .ok (.getfield 146, 3) := dk_180 0 146 (dk_at dksX5_word_0 3 rfl rfl)
theorem dX5_word_6 : decode cX5_word 6 = .ok (.istore_n 2, 1) := dk_61 (dk_at dksX5_word_0 6 rfl rfl)
theorem dX5_word_7 : decode cX5_word 7 = .ok (.iconst 0, 1) := dk_3 (dk_at dksX5_word_0 7 rfl rfl)
theorem dX5_word_8 : decode cX5_word 8 = .ok (.istore_n 3, 1) := dk_62 (dk_at dksX5_word_0 8 rfl rfl)
theorem dX5_word_9 : decode cX5_word 9 = .ok (.iload_n 3, 1) := dk_29 (dk_at dksX5_word_0 9 rfl rfl)
theorem dX5_word_10 : decode cX5_word 10 = .ok (.bipush 10, 2) := dk_16 10 (dk_at dksX5_word_0 10 rfl rfl)
theorem dX5_word_12 : decode cX5_word 12 = .ok (.if_icmp .ge 118, 3) := dk_162 0 118 (dk_at dksX5_word_0 12 rfl rfl)
theorem dX5_word_15 : decode cX5_word 15 = .ok (.aload_n 0, 1) := dk_42 (dk_at dksX5_word_0 15 rfl rfl)
theorem dX5_word_16 : decode cX5_word 16 = .ok (.getfield 146, 3) := dk_180 0 146 (dk_at dksX5_word_0 16 rfl rfl)
theorem dX5_word_19 : decode cX5_word 19 = .ok (.istore 4, 2) := dk_54 4 (dk_at dksX5_word_0 19 rfl rfl)
theorem dX5_word_21 : decode cX5_word 21 = .ok (.iload_n 1, 1) := dk_27 (dk_at dksX5_word_0 21 rfl rfl)
theorem dX5_word_22 : decode cX5_word 22 = .ok (.istore 5, 2) := dk_54 5 (dk_at dksX5_word_0 22 rfl rfl)
theorem dX5_word_24 : decode cX5_word 24 = .ok (.aload_n 0, 1) := dk_42 (dk_at dksX5_word_1 0 rfl rfl)
theorem dX5_word_25 : decode cX5_word 25 = .ok (.getfield 81, 3) := dk_180 0 81 (dk_at dksX5_word_1 1 rfl rfl)
theorem dX5_word_28 : decode cX5_word 28 = .ok (.iload 5, 2) := dk_21 5 (dk_at dksX5_word_1 4 rfl rfl)
theorem dX5_word_30 : decode cX5_word 30 = .ok (.iaload, 1) := dk_46 (dk_at dksX5_word_1 6 rfl rfl)
theorem dX5_word_31 : decode cX5_word 31 = .ok (.ifCond .eq 44, 3) := dk_153 0 44 (dk_at dksX5_word_1 7 rfl rfl)
theorem dX5_word_34 : decode cX5_word 34 = .ok (.iload 4, 2) := dk_21 4 (dk_at dksX5_word_1 10 rfl rfl)
theorem dX5_word_36 : decode cX5_word 36 = .ok (.aload_n 0, 1) := dk_42 (dk_at dksX5_word_1 12 rfl rfl)
theorem dX5_word_37 : decode cX5_word 37 = .ok (.getfield 149, 3) := dk_180 0 149 (dk_at dksX5_word_1 13 rfl rfl)
theorem dX5_word_40 : decode cX5_word 40 = .ok (.if_icmp .ge 35, 3) := dk_162 0 35 (dk_at dksX5_word_1 16 rfl rfl)
theorem dX5_word_43 : decode cX5_word 43 = .ok (.aload_n 0, 1) := dk_42 (dk_at dksX5_word_1 19 rfl rfl)
theorem dX5_word_44 : decode cX5_word 44 = .ok (.getfield 68, 3) := dk_180 0 68 (dk_at dksX5_word_1 20 rfl rfl)
theorem dX5_word_47 : decode cX5_word 47 = .ok (.aload_n 0, 1) := dk_42 (dk_at dksX5_word_1 23 rfl rfl)
theorem dX5_word_48 : decode cX5_word 48 = .ok (.getfield 152, 3) := dk_180 0 152 (dk_at dksX5_word_2 0 rfl rfl)
theorem dX5_word_51 : decode cX5_word 51 = .ok (.iload 4, 2) := dk_21 4 (dk_at dksX5_word_2 3 rfl rfl)
theorem dX5_word_53 : decode cX5_word 53 = .ok (.iadd, 1) := dk_96 (dk_at dksX5_word_2 5 rfl rfl)
theorem dX5_word_54 : decode cX5_word 54 = .ok (.laload, 1) := dk_47 (dk_at dksX5_word_2 6 rfl rfl)
theorem dX5_word_55 : decode cX5_word 55 = .ok (.l2i, 1) := dk_136 (dk_at dksX5_word_2 7 rfl rfl)
theorem dX5_word_56 : decode cX5_word 56 = .ok (.aload_n 0, 1) := dk_42 (dk_at dksX5_word_2 8 rfl rfl)
theorem dX5_word_57 : decode cX5_word 57 = .ok (.getfield 81, 3) := dk_180 0 81 (dk_at dksX5_word_2 9 rfl rfl)
theorem dX5_word_60 : decode cX5_word 60 = .ok (.iload 5, 2) := dk_21 5 (dk_at dksX5_word_2 12 rfl rfl)
theorem dX5_word_62 : decode cX5_word 62 = .ok (.iaload, 1) := dk_46 (dk_at dksX5_word_2 14 rfl rfl)
theorem dX5_word_63 : decode cX5_word 63 = .ok (.if_icmp .ne 12, 3) := dk_160 0 12 (dk_at dksX5_word_2 15 rfl rfl)
theorem dX5_word_66 : decode cX5_word 66 = .ok (.iinc 4 1, 3) := dk_132 4 1 (dk_at dksX5_word_2 18 rfl rfl)
theorem dX5_word_69 : decode cX5_word 69 = .ok (.iinc 5 1, 3) := dk_132 5 1 (dk_at dksX5_word_2 21 rfl rfl)
theorem dX5_word_72 : decode cX5_word 72 = .ok (.goto (-48), 3) := dk_167 255 208 (dk_at dksX5_word_3 0 rfl rfl)
theorem dX5_word_75 : decode cX5_word 75 = .ok (.aload_n 0, 1) := dk_42 (dk_at dksX5_word_3 3 rfl rfl)
theorem dX5_word_76 : decode cX5_word 76 = .ok (.getfield 81, 3) := dk_180 0 81 (dk_at dksX5_word_3 4 rfl rfl)
theorem dX5_word_79 : decode cX5_word 79 = .ok (.iload 5, 2) := dk_21 5 (dk_at dksX5_word_3 7 rfl rfl)
theorem dX5_word_81 : decode cX5_word 81 = .ok (.iaload, 1) := dk_46 (dk_at dksX5_word_3 9 rfl rfl)
theorem dX5_word_82 : decode cX5_word 82 = .ok (.ifCond .ne 11, 3) := dk_154 0 11 (dk_at dksX5_word_3 10 rfl rfl)
theorem dX5_word_85 : decode cX5_word 85 = .ok (.aload_n 0, 1) := dk_42 (dk_at dksX5_word_3 13 rfl rfl)
theorem dX5_word_86 : decode cX5_word 86 = .ok (.iload 4, 2) := dk_21 4 (dk_at dksX5_word_3 14 rfl rfl)
theorem dX5_word_88 : decode cX5_word 88 = .ok (.putfield 146, 3) := dk_181 0 146 (dk_at dksX5_word_3 16 rfl rfl)
theorem dX5_word_91 : decode cX5_word 91 = .ok (.iload_n 3, 1) := dk_29 (dk_at dksX5_word_3 19 rfl rfl)
theorem dX5_word_92 : decode cX5_word 92 = .ok (.ireturn, 1) := dk_172 (dk_at dksX5_word_3 20 rfl rfl)
theorem dX5_word_93 : decode cX5_word 93 = .ok (.iload 4, 2) := dk_21 4 (dk_at dksX5_word_3 21 rfl rfl)
theorem dX5_word_95 : decode cX5_word 95 = .ok (.iload_n 2, 1) := dk_28 (dk_at dksX5_word_3 23 rfl rfl)
theorem dX5_word_96 : decode cX5_word 96 = .ok (.if_icmp .le 8, 3) := dk_164 0 8 (dk_at dksX5_word_4 0 rfl rfl)
theorem dX5_word_99 : decode cX5_word 99 = .ok (.iload 4, 2) := dk_21 4 (dk_at dksX5_word_4 3 rfl rfl)
theorem dX5_word_101 : decode cX5_word 101 = .ok (.goto 4, 3) := dk_167 0 4 (dk_at dksX5_word_4 5 rfl rfl)
theorem dX5_word_104 : decode cX5_word 104 = .ok (.iload_n 2, 1) := dk_28 (dk_at dksX5_word_4 8 rfl rfl)
theorem dX5_word_105 : decode cX5_word 105 = .ok (.istore_n 2, 1) := dk_61 (dk_at dksX5_word_4 9 rfl rfl)
theorem dX5_word_106 : decode cX5_word 106 = .ok (.aload_n 0, 1) := dk_42 (dk_at dksX5_word_4 10 rfl rfl)
theorem dX5_word_107 : decode cX5_word 107 = .ok (.getfield 81, 3) := dk_180 0 81 (dk_at dksX5_word_4 11 rfl rfl)
theorem dX5_word_110 : decode cX5_word 110 = .ok (.iload_n 1, 1) := dk_27 (dk_at dksX5_word_4 14 rfl rfl)
theorem dX5_word_111 : decode cX5_word 111 = .ok (.iaload, 1) := dk_46 (dk_at dksX5_word_4 15 rfl rfl)
theorem dX5_word_112 : decode cX5_word 112 = .ok (.ifCond .eq 9, 3) := dk_153 0 9 (dk_at dksX5_word_4 16 rfl rfl)
theorem dX5_word_115 : decode cX5_word 115 = .ok (.iinc 1 1, 3) := dk_132 1 1 (dk_at dksX5_word_4 19 rfl rfl)
theorem dX5_word_118 : decode cX5_word 118 = .ok (.goto (-12), 3) := dk_167 255 244 (dk_at dksX5_word_5 0 rfl rfl)
theorem dX5_word_121 : decode cX5_word 121 = .ok (.iinc 1 1, 3) := dk_132 1 1 (dk_at dksX5_word_5 3 rfl rfl)
theorem dX5_word_124 : decode cX5_word 124 = .ok (.iinc 3 1, 3) := dk_132 3 1 (dk_at dksX5_word_5 6 rfl rfl)
theorem dX5_word_127 : decode cX5_word 127 = .ok (.goto (-118), 3) := dk_167 255 138 (dk_at dksX5_word_5 9 rfl rfl)
theorem dX5_word_130 : decode cX5_word 130 = .ok (.aload_n 0, 1) := dk_42 (dk_at dksX5_word_5 12 rfl rfl)
theorem dX5_word_131 : decode cX5_word 131 = .ok (.iload_n 2, 1) := dk_28 (dk_at dksX5_word_5 13 rfl rfl)
theorem dX5_word_132 : decode cX5_word 132 = .ok (.putfield 143, 3) := dk_181 0 143 (dk_at dksX5_word_5 14 rfl rfl)
theorem dX5_word_135 : decode cX5_word 135 = .ok (.iconst (-1), 1) := dk_2 (dk_at dksX5_word_5 17 rfl rfl)
theorem dX5_word_136 : decode cX5_word 136 = .ok (.ireturn, 1) := dk_172 (dk_at dksX5_word_5 18 rfl rfl)
abbrev cX5_reads : ByteArray := prog_22_method_31_code
def yX5_reads : MethodName := ⟨RX5, "reads", "()Z"⟩
def dkwX5_reads_3 : List UInt8 := [181, 0, 146, 132, 1, 1, 167, 255, 201, 4, 172]
abbrev dktX5_reads_3 : List UInt8 := dkwX5_reads_3 ++ []
def dkwX5_reads_2 : List UInt8 := [180, 0, 152, 42, 180, 0, 146, 96, 47, 136, 96, 16, 48, 100, 181, 0, 155, 42, 89, 180, 0, 146, 4, 96]
abbrev dktX5_reads_2 : List UInt8 := dkwX5_reads_2 ++ dktX5_reads_3
def dkwX5_reads_1 : List UInt8 := [6, 162, 0, 56, 42, 182, 0, 158, 153, 0, 49, 42, 16, 10, 42, 180, 0, 155, 104, 42, 180, 0, 68, 42]
abbrev dktX5_reads_1 : List UInt8 := dkwX5_reads_1 ++ dktX5_reads_2
def dkwX5_reads_0 : List UInt8 := [42, 3, 181, 0, 155, 42, 182, 0, 158, 154, 0, 12, 42, 42, 180, 0, 146, 182, 0, 162, 172, 3, 60, 27]
abbrev dktX5_reads_0 : List UInt8 := dkwX5_reads_0 ++ dktX5_reads_1
theorem dksX5_reads_0 : cX5_reads.data.toList.drop 0 = dktX5_reads_0 := by decide +kernel
theorem dksX5_reads_1 : cX5_reads.data.toList.drop 24 = dktX5_reads_1 := dk_seg dksX5_reads_0 24 rfl rfl
theorem dksX5_reads_2 : cX5_reads.data.toList.drop 48 = dktX5_reads_2 := dk_seg dksX5_reads_1 24 rfl rfl
theorem dksX5_reads_3 : cX5_reads.data.toList.drop 72 = dktX5_reads_3 := dk_seg dksX5_reads_2 24 rfl rfl
theorem dX5_reads_0 : decode cX5_reads 0 = .ok (.aload_n 0, 1) := dk_42 (dk_at dksX5_reads_0 0 rfl rfl)
theorem dX5_reads_1 : decode cX5_reads 1 = .ok (.iconst 0, 1) := dk_3 (dk_at dksX5_reads_0 1 rfl rfl)
theorem dX5_reads_2 : decode cX5_reads 2 = .ok (.putfield 155, 3) := dk_181 0 155 (dk_at dksX5_reads_0 2 rfl rfl)
theorem dX5_reads_5 : decode cX5_reads 5 = .ok (.aload_n 0, 1) := dk_42 (dk_at dksX5_reads_0 5 rfl rfl)
theorem dX5_reads_6 : decode cX5_reads 6 = .ok (.invokevirtual 158, 3) := dk_182 0 158 (dk_at dksX5_reads_0 6 rfl rfl)
theorem dX5_reads_9 : decode cX5_reads 9 = .ok (.ifCond .ne 12, 3) := dk_154 0 12 (dk_at dksX5_reads_0 9 rfl rfl)
theorem dX5_reads_12 : decode cX5_reads 12 = .ok (.aload_n 0, 1) := dk_42 (dk_at dksX5_reads_0 12 rfl rfl)
theorem dX5_reads_13 : decode cX5_reads 13 = .ok (.aload_n 0, 1) := dk_42 (dk_at dksX5_reads_0 13 rfl rfl)
theorem dX5_reads_14 : decode cX5_reads 14 = .ok (.getfield 146, 3) := dk_180 0 146 (dk_at dksX5_reads_0 14 rfl rfl)
theorem dX5_reads_17 : decode cX5_reads 17 = .ok (.invokevirtual 162, 3) := dk_182 0 162 (dk_at dksX5_reads_0 17 rfl rfl)
theorem dX5_reads_20 : decode cX5_reads 20 = .ok (.ireturn, 1) := dk_172 (dk_at dksX5_reads_0 20 rfl rfl)
theorem dX5_reads_21 : decode cX5_reads 21 = .ok (.iconst 0, 1) := dk_3 (dk_at dksX5_reads_0 21 rfl rfl)
theorem dX5_reads_22 : decode cX5_reads 22 = .ok (.istore_n 1, 1) := dk_60 (dk_at dksX5_reads_0 22 rfl rfl)
theorem dX5_reads_23 : decode cX5_reads 23 = .ok (.iload_n 1, 1) := dk_27 (dk_at dksX5_reads_0 23 rfl rfl)
theorem dX5_reads_24 : decode cX5_reads 24 = .ok (.iconst 3, 1) := dk_6 (dk_at dksX5_reads_1 0 rfl rfl)
theorem dX5_reads_25 : decode cX5_reads 25 = .ok (.if_icmp .ge 56, 3) := dk_162 0 56 (dk_at dksX5_reads_1 1 rfl rfl)
theorem dX5_reads_28 : decode cX5_reads 28 = .ok (.aload_n 0, 1) := dk_42 (dk_at dksX5_reads_1 4 rfl rfl)
theorem dX5_reads_29 : decode cX5_reads 29 = .ok (.invokevirtual 158, 3) := dk_182 0 158 (dk_at dksX5_reads_1 5 rfl rfl)
theorem dX5_reads_32 : decode cX5_reads 32 = .ok (.ifCond .eq 49, 3) := dk_153 0 49 (dk_at dksX5_reads_1 8 rfl rfl)
theorem dX5_reads_35 : decode cX5_reads 35 = .ok (.aload_n 0, 1) := dk_42 (dk_at dksX5_reads_1 11 rfl rfl)
theorem dX5_reads_36 : decode cX5_reads 36 = .ok (.bipush 10, 2) := dk_16 10 (dk_at dksX5_reads_1 12 rfl rfl)
theorem dX5_reads_38 : decode cX5_reads 38 = .ok (.aload_n 0, 1) := dk_42 (dk_at dksX5_reads_1 14 rfl rfl)
theorem dX5_reads_39 : decode cX5_reads 39 = .ok (.getfield 155, 3) := dk_180 0 155 (dk_at dksX5_reads_1 15 rfl rfl)
theorem dX5_reads_42 : decode cX5_reads 42 = .ok (.imul, 1) := dk_104 (dk_at dksX5_reads_1 18 rfl rfl)
theorem dX5_reads_43 : decode cX5_reads 43 = .ok (.aload_n 0, 1) := dk_42 (dk_at dksX5_reads_1 19 rfl rfl)
theorem dX5_reads_44 : decode cX5_reads 44 = .ok (.getfield 68, 3) := dk_180 0 68 (dk_at dksX5_reads_1 20 rfl rfl)
theorem dX5_reads_47 : decode cX5_reads 47 = .ok (.aload_n 0, 1) := dk_42 (dk_at dksX5_reads_1 23 rfl rfl)
theorem dX5_reads_48 : decode cX5_reads 48 = .ok (.getfield 152, 3) := dk_180 0 152 (dk_at dksX5_reads_2 0 rfl rfl)
theorem dX5_reads_51 : decode cX5_reads 51 = .ok (.aload_n 0, 1) := dk_42 (dk_at dksX5_reads_2 3 rfl rfl)
theorem dX5_reads_52 : decode cX5_reads 52 = .ok (.getfield 146, 3) := dk_180 0 146 (dk_at dksX5_reads_2 4 rfl rfl)
theorem dX5_reads_55 : decode cX5_reads 55 = .ok (.iadd, 1) := dk_96 (dk_at dksX5_reads_2 7 rfl rfl)
theorem dX5_reads_56 : decode cX5_reads 56 = .ok (.laload, 1) := dk_47 (dk_at dksX5_reads_2 8 rfl rfl)
theorem dX5_reads_57 : decode cX5_reads 57 = .ok (.l2i, 1) := dk_136 (dk_at dksX5_reads_2 9 rfl rfl)
theorem dX5_reads_58 : decode cX5_reads 58 = .ok (.iadd, 1) := dk_96 (dk_at dksX5_reads_2 10 rfl rfl)
theorem dX5_reads_59 : decode cX5_reads 59 = .ok (.bipush 48, 2) := dk_16 48 (dk_at dksX5_reads_2 11 rfl rfl)
theorem dX5_reads_61 : decode cX5_reads 61 = .ok (.isub, 1) := dk_100 (dk_at dksX5_reads_2 13 rfl rfl)
theorem dX5_reads_62 : decode cX5_reads 62 = .ok (.putfield 155, 3) := dk_181 0 155 (dk_at dksX5_reads_2 14 rfl rfl)
theorem dX5_reads_65 : decode cX5_reads 65 = .ok (.aload_n 0, 1) := dk_42 (dk_at dksX5_reads_2 17 rfl rfl)
theorem dX5_reads_66 : decode cX5_reads 66 = .ok (.dup, 1) := dk_89 (dk_at dksX5_reads_2 18 rfl rfl)
theorem dX5_reads_67 : decode cX5_reads 67 = .ok (.getfield 146, 3) := dk_180 0 146 (dk_at dksX5_reads_2 19 rfl rfl)
theorem dX5_reads_70 : decode cX5_reads 70 = .ok (.iconst 1, 1) := dk_4 (dk_at dksX5_reads_2 22 rfl rfl)
theorem dX5_reads_71 : decode cX5_reads 71 = .ok (.iadd, 1) := dk_96 (dk_at dksX5_reads_2 23 rfl rfl)
theorem dX5_reads_72 : decode cX5_reads 72 = .ok (.putfield 146, 3) := dk_181 0 146 (dk_at dksX5_reads_3 0 rfl rfl)
theorem dX5_reads_75 : decode cX5_reads 75 = .ok (.iinc 1 1, 3) := dk_132 1 1 (dk_at dksX5_reads_3 3 rfl rfl)
theorem dX5_reads_78 : decode cX5_reads 78 = .ok (.goto (-55), 3) := dk_167 255 201 (dk_at dksX5_reads_3 6 rfl rfl)
theorem dX5_reads_81 : decode cX5_reads 81 = .ok (.iconst 1, 1) := dk_4 (dk_at dksX5_reads_3 9 rfl rfl)
theorem dX5_reads_82 : decode cX5_reads 82 = .ok (.ireturn, 1) := dk_172 (dk_at dksX5_reads_3 10 rfl rfl)
abbrev cX5_isDigit : ByteArray := prog_22_method_30_code
def yX5_isDigit : MethodName := ⟨RX5, "isDigit", "()Z"⟩
def dkwX5_isDigit_2 : List UInt8 := [163, 0, 7, 4, 167, 0, 4, 3, 172]
abbrev dktX5_isDigit_2 : List UInt8 := dkwX5_isDigit_2 ++ []
def dkwX5_isDigit_1 : List UInt8 := [47, 136, 16, 48, 161, 0, 27, 42, 180, 0, 68, 42, 180, 0, 152, 42, 180, 0, 146, 96, 47, 136, 16, 57]
abbrev dktX5_isDigit_1 : List UInt8 := dkwX5_isDigit_1 ++ dktX5_isDigit_2
def dkwX5_isDigit_0 : List UInt8 := [42, 180, 0, 146, 42, 180, 0, 149, 162, 0, 47, 42, 180, 0, 68, 42, 180, 0, 152, 42, 180, 0, 146, 96]
abbrev dktX5_isDigit_0 : List UInt8 := dkwX5_isDigit_0 ++ dktX5_isDigit_1
theorem dksX5_isDigit_0 : cX5_isDigit.data.toList.drop 0 = dktX5_isDigit_0 := by decide +kernel
theorem dksX5_isDigit_1 : cX5_isDigit.data.toList.drop 24 = dktX5_isDigit_1 := dk_seg dksX5_isDigit_0 24 rfl rfl
theorem dksX5_isDigit_2 : cX5_isDigit.data.toList.drop 48 = dktX5_isDigit_2 := dk_seg dksX5_isDigit_1 24 rfl rfl
theorem dX5_isDigit_0 : decode cX5_isDigit 0 = .ok (.aload_n 0, 1) := dk_42 (dk_at dksX5_isDigit_0 0 rfl rfl)
theorem dX5_isDigit_1 : decode cX5_isDigit 1 = .ok (.getfield 146, 3) := dk_180 0 146 (dk_at dksX5_isDigit_0 1 rfl rfl)
theorem dX5_isDigit_4 : decode cX5_isDigit 4 = .ok (.aload_n 0, 1) := dk_42 (dk_at dksX5_isDigit_0 4 rfl rfl)
theorem dX5_isDigit_5 : decode cX5_isDigit 5 = .ok (.getfield 149, 3) := dk_180 0 149 (dk_at dksX5_isDigit_0 5 rfl rfl)
theorem dX5_isDigit_8 : decode cX5_isDigit 8 = .ok (.if_icmp .ge 47, 3) := dk_162 0 47 (dk_at dksX5_isDigit_0 8 rfl rfl)
theorem dX5_isDigit_11 : decode cX5_isDigit 11 = .ok (.aload_n 0, 1) := dk_42 (dk_at dksX5_isDigit_0 11 rfl rfl)
theorem dX5_isDigit_12 : decode cX5_isDigit 12 = .ok (.getfield 68, 3) := dk_180 0 68 (dk_at dksX5_isDigit_0 12 rfl rfl)
theorem dX5_isDigit_15 : decode cX5_isDigit 15 = .ok (.aload_n 0, 1) := dk_42 (dk_at dksX5_isDigit_0 15 rfl rfl)
theorem dX5_isDigit_16 : decode cX5_isDigit 16 = .ok (.getfield 152, 3) := dk_180 0 152 (dk_at dksX5_isDigit_0 16 rfl rfl)
theorem dX5_isDigit_19 : decode cX5_isDigit 19 = .ok (.aload_n 0, 1) := dk_42 (dk_at dksX5_isDigit_0 19 rfl rfl)
theorem dX5_isDigit_20 : decode cX5_isDigit 20 = .ok (.getfield 146, 3) := dk_180 0 146 (dk_at dksX5_isDigit_0 20 rfl rfl)
theorem dX5_isDigit_23 : decode cX5_isDigit 23 = .ok (.iadd, 1) := dk_96 (dk_at dksX5_isDigit_0 23 rfl rfl)
theorem dX5_isDigit_24 : decode cX5_isDigit 24 = .ok (.laload, 1) := dk_47 (dk_at dksX5_isDigit_1 0 rfl rfl)
theorem dX5_isDigit_25 : decode cX5_isDigit 25 = .ok (.l2i, 1) := dk_136 (dk_at dksX5_isDigit_1 1 rfl rfl)
theorem dX5_isDigit_26 : decode cX5_isDigit 26 = .ok (.bipush 48, 2) := dk_16 48 (dk_at dksX5_isDigit_1 2 rfl rfl)
theorem dX5_isDigit_28 : decode cX5_isDigit 28 = .ok (.if_icmp .lt 27, 3) := dk_161 0 27 (dk_at dksX5_isDigit_1 4 rfl rfl)
theorem dX5_isDigit_31 : decode cX5_isDigit 31 = .ok (.aload_n 0, 1) := dk_42 (dk_at dksX5_isDigit_1 7 rfl rfl)
theorem dX5_isDigit_32 : decode cX5_isDigit 32 = .ok (.getfield 68, 3) := dk_180 0 68 (dk_at dksX5_isDigit_1 8 rfl rfl)
theorem dX5_isDigit_35 : decode cX5_isDigit 35 = .ok (.aload_n 0, 1) := dk_42 (dk_at dksX5_isDigit_1 11 rfl rfl)
theorem dX5_isDigit_36 : decode cX5_isDigit 36 = .ok (.getfield 152, 3) := dk_180 0 152 (dk_at dksX5_isDigit_1 12 rfl rfl)
theorem dX5_isDigit_39 : decode cX5_isDigit 39 = .ok (.aload_n 0, 1) := dk_42 (dk_at dksX5_isDigit_1 15 rfl rfl)
theorem dX5_isDigit_40 : decode cX5_isDigit 40 = .ok (.getfield 146, 3) := dk_180 0 146 (dk_at dksX5_isDigit_1 16 rfl rfl)
theorem dX5_isDigit_43 : decode cX5_isDigit 43 = .ok (.iadd, 1) := dk_96 (dk_at dksX5_isDigit_1 19 rfl rfl)
theorem dX5_isDigit_44 : decode cX5_isDigit 44 = .ok (.laload, 1) := dk_47 (dk_at dksX5_isDigit_1 20 rfl rfl)
theorem dX5_isDigit_45 : decode cX5_isDigit 45 = .ok (.l2i, 1) := dk_136 (dk_at dksX5_isDigit_1 21 rfl rfl)
theorem dX5_isDigit_46 : decode cX5_isDigit 46 = .ok (.bipush 57, 2) := dk_16 57 (dk_at dksX5_isDigit_1 22 rfl rfl)
theorem dX5_isDigit_48 : decode cX5_isDigit 48 = .ok (.if_icmp .gt 7, 3) := dk_163 0 7 (dk_at dksX5_isDigit_2 0 rfl rfl)
theorem dX5_isDigit_51 : decode cX5_isDigit 51 = .ok (.iconst 1, 1) := dk_4 (dk_at dksX5_isDigit_2 3 rfl rfl)
theorem dX5_isDigit_52 : decode cX5_isDigit 52 = .ok (.goto 4, 3) := dk_167 0 4 (dk_at dksX5_isDigit_2 4 rfl rfl)
theorem dX5_isDigit_55 : decode cX5_isDigit 55 = .ok (.iconst 0, 1) := dk_3 (dk_at dksX5_isDigit_2 7 rfl rfl)
theorem dX5_isDigit_56 : decode cX5_isDigit 56 = .ok (.ireturn, 1) := dk_172 (dk_at dksX5_isDigit_2 8 rfl rfl)
abbrev cX5_isSo : ByteArray := prog_22_method_32_code
def yX5_isSo : MethodName := ⟨RX5, "isSo", "(II)Z"⟩
def dkwX5_isSo_6 : List UInt8 := [180, 0, 155, 182, 0, 132, 172]
abbrev dktX5_isSo_6 : List UInt8 := dkwX5_isSo_6 ++ []
def dkwX5_isSo_5 : List UInt8 := [162, 0, 7, 4, 167, 0, 4, 3, 172, 42, 42, 180, 0, 155, 182, 0, 165, 172, 42, 27, 6, 100, 42]
abbrev dktX5_isSo_5 : List UInt8 := dkwX5_isSo_5 ++ dktX5_isSo_6
def dkwX5_isSo_4 : List UInt8 := [180, 0, 155, 16, 9, 163, 0, 7, 4, 167, 0, 4, 3, 172, 42, 180, 0, 155, 42, 180, 0, 105]
abbrev dktX5_isSo_4 : List UInt8 := dkwX5_isSo_4 ++ dktX5_isSo_5
def dkwX5_isSo_3 : List UInt8 := [28, 154, 0, 22, 42, 180, 0, 155, 42, 180, 0, 105, 162, 0, 7, 4, 167, 0, 21, 3, 167, 0, 17, 42]
abbrev dktX5_isSo_3 : List UInt8 := dkwX5_isSo_3 ++ dktX5_isSo_4
def dkwX5_isSo_2 : List UInt8 := [42, 180, 0, 155, 28, 154, 0, 8, 16, 6, 167, 0, 5, 16, 9, 163, 0, 7, 4, 167, 0, 4, 3, 172]
abbrev dktX5_isSo_2 : List UInt8 := dkwX5_isSo_2 ++ dktX5_isSo_3
def dkwX5_isSo_1 : List UInt8 := [170, 0, 0, 0, 0, 0, 143, 0, 0, 0, 0, 0, 0, 0, 9, 0, 0, 0, 55, 0, 0, 0, 79, 0, 0, 0, 117, 0, 0, 0, 143, 0, 0, 0, 143, 0, 0, 0, 143, 0, 0, 0, 143, 0, 0, 0, 143, 0, 0, 0, 143, 0, 0, 0, 134]
abbrev dktX5_isSo_1 : List UInt8 := dkwX5_isSo_1 ++ dktX5_isSo_2
def dkwX5_isSo_0 : List UInt8 := [27]
abbrev dktX5_isSo_0 : List UInt8 := dkwX5_isSo_0 ++ dktX5_isSo_1
theorem dksX5_isSo_0 : cX5_isSo.data.toList.drop 0 = dktX5_isSo_0 := by decide +kernel
theorem dksX5_isSo_1 : cX5_isSo.data.toList.drop 1 = dktX5_isSo_1 := dk_seg dksX5_isSo_0 1 rfl rfl
theorem dksX5_isSo_2 : cX5_isSo.data.toList.drop 56 = dktX5_isSo_2 := dk_seg dksX5_isSo_1 55 rfl rfl
theorem dksX5_isSo_3 : cX5_isSo.data.toList.drop 80 = dktX5_isSo_3 := dk_seg dksX5_isSo_2 24 rfl rfl
theorem dksX5_isSo_4 : cX5_isSo.data.toList.drop 104 = dktX5_isSo_4 := dk_seg dksX5_isSo_3 24 rfl rfl
theorem dksX5_isSo_5 : cX5_isSo.data.toList.drop 126 = dktX5_isSo_5 := dk_seg dksX5_isSo_4 22 rfl rfl
theorem dksX5_isSo_6 : cX5_isSo.data.toList.drop 149 = dktX5_isSo_6 := dk_seg dksX5_isSo_5 23 rfl rfl
theorem dX5_isSo_0 : decode cX5_isSo 0 = .ok (.iload_n 1, 1) := dk_27 (dk_at dksX5_isSo_0 0 rfl rfl)
theorem dX5_isSo_1 : decode cX5_isSo 1 = .ok (.tableswitch 143 0 9 #[55, 79, 117, 143, 143, 143, 143, 143, 143, 134], 55) := by decide +kernel
theorem dX5_isSo_56 : decode cX5_isSo 56 = .ok (.aload_n 0, 1) := dk_42 (dk_at dksX5_isSo_2 0 rfl rfl)
theorem dX5_isSo_57 : decode cX5_isSo 57 = .ok (.getfield 155, 3) := dk_180 0 155 (dk_at dksX5_isSo_2 1 rfl rfl)
theorem dX5_isSo_60 : decode cX5_isSo 60 = .ok (.iload_n 2, 1) := dk_28 (dk_at dksX5_isSo_2 4 rfl rfl)
theorem dX5_isSo_61 : decode cX5_isSo 61 = .ok (.ifCond .ne 8, 3) := dk_154 0 8 (dk_at dksX5_isSo_2 5 rfl rfl)
theorem dX5_isSo_64 : decode cX5_isSo 64 = .ok (.bipush 6, 2) := dk_16 6 (dk_at dksX5_isSo_2 8 rfl rfl)
theorem dX5_isSo_66 : decode cX5_isSo 66 = .ok (.goto 5, 3) := dk_167 0 5 (dk_at dksX5_isSo_2 10 rfl rfl)
theorem dX5_isSo_69 : decode cX5_isSo 69 = .ok (.bipush 9, 2) := dk_16 9 (dk_at dksX5_isSo_2 13 rfl rfl)
theorem dX5_isSo_71 : decode cX5_isSo 71 = .ok (.if_icmp .gt 7, 3) := dk_163 0 7 (dk_at dksX5_isSo_2 15 rfl rfl)
theorem dX5_isSo_74 : decode cX5_isSo 74 = .ok (.iconst 1, 1) := dk_4 (dk_at dksX5_isSo_2 18 rfl rfl)
theorem dX5_isSo_75 : decode cX5_isSo 75 = .ok (.goto 4, 3) := dk_167 0 4 (dk_at dksX5_isSo_2 19 rfl rfl)
theorem dX5_isSo_78 : decode cX5_isSo 78 = .ok (.iconst 0, 1) := dk_3 (dk_at dksX5_isSo_2 22 rfl rfl)
theorem dX5_isSo_79 : decode cX5_isSo 79 = .ok (.ireturn, 1) := dk_172 (dk_at dksX5_isSo_2 23 rfl rfl)
theorem dX5_isSo_80 : decode cX5_isSo 80 = .ok (.iload_n 2, 1) := dk_28 (dk_at dksX5_isSo_3 0 rfl rfl)
theorem dX5_isSo_81 : decode cX5_isSo 81 = .ok (.ifCond .ne 22, 3) := dk_154 0 22 (dk_at dksX5_isSo_3 1 rfl rfl)
theorem dX5_isSo_84 : decode cX5_isSo 84 = .ok (.aload_n 0, 1) := dk_42 (dk_at dksX5_isSo_3 4 rfl rfl)
theorem dX5_isSo_85 : decode cX5_isSo 85 = .ok (.getfield 155, 3) := dk_180 0 155 (dk_at dksX5_isSo_3 5 rfl rfl)
theorem dX5_isSo_88 : decode cX5_isSo 88 = .ok (.aload_n 0, 1) := dk_42 (dk_at dksX5_isSo_3 8 rfl rfl)
theorem dX5_isSo_89 : decode cX5_isSo 89 = .ok (.getfield 105, 3) := dk_180 0 105 (dk_at dksX5_isSo_3 9 rfl rfl)
theorem dX5_isSo_92 : decode cX5_isSo 92 = .ok (.if_icmp .ge 7, 3) := dk_162 0 7 (dk_at dksX5_isSo_3 12 rfl rfl)
theorem dX5_isSo_95 : decode cX5_isSo 95 = .ok (.iconst 1, 1) := dk_4 (dk_at dksX5_isSo_3 15 rfl rfl)
theorem dX5_isSo_96 : decode cX5_isSo 96 = .ok (.goto 21, 3) := dk_167 0 21 (dk_at dksX5_isSo_3 16 rfl rfl)
theorem dX5_isSo_99 : decode cX5_isSo 99 = .ok (.iconst 0, 1) := dk_3 (dk_at dksX5_isSo_3 19 rfl rfl)
theorem dX5_isSo_100 : decode cX5_isSo 100 = .ok (.goto 17, 3) := dk_167 0 17 (dk_at dksX5_isSo_3 20 rfl rfl)
theorem dX5_isSo_103 : decode cX5_isSo 103 = .ok (.aload_n 0, 1) := dk_42 (dk_at dksX5_isSo_3 23 rfl rfl)
theorem dX5_isSo_104 : decode cX5_isSo 104 = .ok (.getfield 155, 3) := dk_180 0 155 (dk_at dksX5_isSo_4 0 rfl rfl)
theorem dX5_isSo_107 : decode cX5_isSo 107 = .ok (.bipush 9, 2) := dk_16 9 (dk_at dksX5_isSo_4 3 rfl rfl)
theorem dX5_isSo_109 : decode cX5_isSo 109 = .ok (.if_icmp .gt 7, 3) := dk_163 0 7 (dk_at dksX5_isSo_4 5 rfl rfl)
theorem dX5_isSo_112 : decode cX5_isSo 112 = .ok (.iconst 1, 1) := dk_4 (dk_at dksX5_isSo_4 8 rfl rfl)
theorem dX5_isSo_113 : decode cX5_isSo 113 = .ok (.goto 4, 3) := dk_167 0 4 (dk_at dksX5_isSo_4 9 rfl rfl)
theorem dX5_isSo_116 : decode cX5_isSo 116 = .ok (.iconst 0, 1) := dk_3 (dk_at dksX5_isSo_4 12 rfl rfl)
theorem dX5_isSo_117 : decode cX5_isSo 117 = .ok (.ireturn, 1) := dk_172 (dk_at dksX5_isSo_4 13 rfl rfl)
theorem dX5_isSo_118 : decode cX5_isSo 118 = .ok (.aload_n 0, 1) := dk_42 (dk_at dksX5_isSo_4 14 rfl rfl)
theorem dX5_isSo_119 : decode cX5_isSo 119 = .ok (.getfield 155, 3) := dk_180 0 155 (dk_at dksX5_isSo_4 15 rfl rfl)
theorem dX5_isSo_122 : decode cX5_isSo 122 = .ok (.aload_n 0, 1) := dk_42 (dk_at dksX5_isSo_4 18 rfl rfl)
theorem dX5_isSo_123 : decode cX5_isSo 123 = .ok (.getfield 105, 3) := dk_180 0 105 (dk_at dksX5_isSo_4 19 rfl rfl)
theorem dX5_isSo_126 : decode cX5_isSo 126 = .ok (.if_icmp .ge 7, 3) := dk_162 0 7 (dk_at dksX5_isSo_5 0 rfl rfl)
theorem dX5_isSo_129 : decode cX5_isSo 129 = .ok (.iconst 1, 1) := dk_4 (dk_at dksX5_isSo_5 3 rfl rfl)
theorem dX5_isSo_130 : decode cX5_isSo 130 = .ok (.goto 4, 3) := dk_167 0 4 (dk_at dksX5_isSo_5 4 rfl rfl)
theorem dX5_isSo_133 : decode cX5_isSo 133 = .ok (.iconst 0, 1) := dk_3 (dk_at dksX5_isSo_5 7 rfl rfl)
theorem dX5_isSo_134 : decode cX5_isSo 134 = .ok (.ireturn, 1) := dk_172 (dk_at dksX5_isSo_5 8 rfl rfl)
theorem dX5_isSo_135 : decode cX5_isSo 135 = .ok (.aload_n 0, 1) := dk_42 (dk_at dksX5_isSo_5 9 rfl rfl)
theorem dX5_isSo_136 : decode cX5_isSo 136 = .ok (.aload_n 0, 1) := dk_42 (dk_at dksX5_isSo_5 10 rfl rfl)
theorem dX5_isSo_137 : decode cX5_isSo 137 = .ok (.getfield 155, 3) := dk_180 0 155 (dk_at dksX5_isSo_5 11 rfl rfl)
theorem dX5_isSo_140 : decode cX5_isSo 140 = .ok (.invokevirtual 165, 3) := dk_182 0 165 (dk_at dksX5_isSo_5 14 rfl rfl)
theorem dX5_isSo_143 : decode cX5_isSo 143 = .ok (.ireturn, 1) := dk_172 (dk_at dksX5_isSo_5 17 rfl rfl)
theorem dX5_isSo_144 : decode cX5_isSo 144 = .ok (.aload_n 0, 1) := dk_42 (dk_at dksX5_isSo_5 18 rfl rfl)
theorem dX5_isSo_145 : decode cX5_isSo 145 = .ok (.iload_n 1, 1) := dk_27 (dk_at dksX5_isSo_5 19 rfl rfl)
theorem dX5_isSo_146 : decode cX5_isSo 146 = .ok (.iconst 3, 1) := dk_6 (dk_at dksX5_isSo_5 20 rfl rfl)
theorem dX5_isSo_147 : decode cX5_isSo 147 = .ok (.isub, 1) := dk_100 (dk_at dksX5_isSo_5 21 rfl rfl)
theorem dX5_isSo_148 : decode cX5_isSo 148 = .ok (.aload_n 0, 1) := dk_42 (dk_at dksX5_isSo_5 22 rfl rfl)
theorem dX5_isSo_149 : decode cX5_isSo 149 = .ok (.getfield 155, 3) := dk_180 0 155 (dk_at dksX5_isSo_6 0 rfl rfl)
theorem dX5_isSo_152 : decode cX5_isSo 152 = .ok (.invokevirtual 132, 3) := dk_182 0 132 (dk_at dksX5_isSo_6 3 rfl rfl)
theorem dX5_isSo_155 : decode cX5_isSo 155 = .ok (.ireturn, 1) := dk_172 (dk_at dksX5_isSo_6 6 rfl rfl)
abbrev cX5_may : ByteArray := prog_22_method_44_code
def yX5_may : MethodName := ⟨RX5, "may", "(I)Z"⟩
def dkwX5_may_0 : List UInt8 := [42, 27, 182, 0, 116, 153, 0, 16, 42, 180, 0, 47, 27, 46, 154, 0, 7, 4, 167, 0, 4, 3, 172]
abbrev dktX5_may_0 : List UInt8 := dkwX5_may_0 ++ []
theorem dksX5_may_0 : cX5_may.data.toList.drop 0 = dktX5_may_0 := by decide +kernel
theorem dX5_may_0 : decode cX5_may 0 = .ok (.aload_n 0, 1) := dk_42 (dk_at dksX5_may_0 0 rfl rfl)
theorem dX5_may_1 : decode cX5_may 1 = .ok (.iload_n 1, 1) := dk_27 (dk_at dksX5_may_0 1 rfl rfl)
theorem dX5_may_2 : decode cX5_may 2 = .ok (.invokevirtual 116, 3) := dk_182 0 116 (dk_at dksX5_may_0 2 rfl rfl)
theorem dX5_may_5 : decode cX5_may 5 = .ok (.ifCond .eq 16, 3) := dk_153 0 16 (dk_at dksX5_may_0 5 rfl rfl)
theorem dX5_may_8 : decode cX5_may 8 = .ok (.aload_n 0, 1) := dk_42 (dk_at dksX5_may_0 8 rfl rfl)
theorem dX5_may_9 : decode cX5_may 9 = .ok (.getfield 47, 3) := dk_180 0 47 (dk_at dksX5_may_0 9 rfl rfl)
theorem dX5_may_12 : decode cX5_may 12 = .ok (.iload_n 1, 1) := dk_27 (dk_at dksX5_may_0 12 rfl rfl)
theorem dX5_may_13 : decode cX5_may 13 = .ok (.iaload, 1) := dk_46 (dk_at dksX5_may_0 13 rfl rfl)
theorem dX5_may_14 : decode cX5_may 14 = .ok (.ifCond .ne 7, 3) := dk_154 0 7 (dk_at dksX5_may_0 14 rfl rfl)
theorem dX5_may_17 : decode cX5_may 17 = .ok (.iconst 1, 1) := dk_4 (dk_at dksX5_may_0 17 rfl rfl)
theorem dX5_may_18 : decode cX5_may 18 = .ok (.goto 4, 3) := dk_167 0 4 (dk_at dksX5_may_0 18 rfl rfl)
theorem dX5_may_21 : decode cX5_may 21 = .ok (.iconst 0, 1) := dk_3 (dk_at dksX5_may_0 21 rfl rfl)
theorem dX5_may_22 : decode cX5_may 22 = .ok (.ireturn, 1) := dk_172 (dk_at dksX5_may_0 22 rfl rfl)
abbrev cX5_weekInTruth : ByteArray := prog_22_method_73_code
def yX5_weekInTruth : MethodName := ⟨RX5, "weekInTruth", "(I)Z"⟩
def dkwX5_weekInTruth_3 : List UInt8 := [92, 46, 4, 96, 79, 42, 27, 181, 0, 25, 28, 172]
abbrev dktX5_weekInTruth_3 : List UInt8 := dkwX5_weekInTruth_3 ++ []
def dkwX5_weekInTruth_2 : List UInt8 := [46, 4, 96, 79, 42, 89, 180, 0, 13, 4, 96, 181, 0, 13, 27, 2, 159, 0, 18, 42, 180, 0, 50, 27]
abbrev dktX5_weekInTruth_2 : List UInt8 := dkwX5_weekInTruth_2 ++ dktX5_weekInTruth_3
def dkwX5_weekInTruth_1 : List UInt8 := [181, 0, 126, 42, 42, 180, 0, 201, 181, 0, 129, 28, 153, 0, 26, 42, 180, 0, 53, 42, 180, 0, 207, 92]
abbrev dktX5_weekInTruth_1 : List UInt8 := dkwX5_weekInTruth_1 ++ dktX5_weekInTruth_2
def dkwX5_weekInTruth_0 : List UInt8 := [42, 182, 0, 243, 42, 27, 182, 0, 246, 61, 42, 42, 180, 0, 195, 181, 0, 7, 42, 42, 180, 0, 198]
abbrev dktX5_weekInTruth_0 : List UInt8 := dkwX5_weekInTruth_0 ++ dktX5_weekInTruth_1
theorem dksX5_weekInTruth_0 : cX5_weekInTruth.data.toList.drop 0 = dktX5_weekInTruth_0 := by decide +kernel
theorem dksX5_weekInTruth_1 : cX5_weekInTruth.data.toList.drop 23 = dktX5_weekInTruth_1 := dk_seg dksX5_weekInTruth_0 23 rfl rfl
theorem dksX5_weekInTruth_2 : cX5_weekInTruth.data.toList.drop 47 = dktX5_weekInTruth_2 := dk_seg dksX5_weekInTruth_1 24 rfl rfl
theorem dksX5_weekInTruth_3 : cX5_weekInTruth.data.toList.drop 71 = dktX5_weekInTruth_3 := dk_seg dksX5_weekInTruth_2 24 rfl rfl
theorem dX5_weekInTruth_0 : decode cX5_weekInTruth 0 = .ok (.aload_n 0, 1) := dk_42 (dk_at dksX5_weekInTruth_0 0 rfl rfl)
theorem dX5_weekInTruth_1 : decode cX5_weekInTruth 1 = .ok (.invokevirtual 243, 3) := dk_182 0 243 (dk_at dksX5_weekInTruth_0 1 rfl rfl)
theorem dX5_weekInTruth_4 : decode cX5_weekInTruth 4 = .ok (.aload_n 0, 1) := dk_42 (dk_at dksX5_weekInTruth_0 4 rfl rfl)
theorem dX5_weekInTruth_5 : decode cX5_weekInTruth 5 = .ok (.iload_n 1, 1) := dk_27 (dk_at dksX5_weekInTruth_0 5 rfl rfl)
theorem dX5_weekInTruth_6 : decode cX5_weekInTruth 6 = .ok (.invokevirtual 246, 3) := dk_182 0 246 (dk_at dksX5_weekInTruth_0 6 rfl rfl)
theorem dX5_weekInTruth_9 : decode cX5_weekInTruth 9 = .ok (.istore_n 2, 1) := dk_61 (dk_at dksX5_weekInTruth_0 9 rfl rfl)
theorem dX5_weekInTruth_10 : decode cX5_weekInTruth 10 = .ok (.aload_n 0, 1) := dk_42 (dk_at dksX5_weekInTruth_0 10 rfl rfl)
theorem dX5_weekInTruth_11 : decode cX5_weekInTruth 11 = .ok (.aload_n 0, 1) := dk_42 (dk_at dksX5_weekInTruth_0 11 rfl rfl)
theorem dX5_weekInTruth_12 : decode cX5_weekInTruth 12 = .ok (.getfield 195, 3) := dk_180 0 195 (dk_at dksX5_weekInTruth_0 12 rfl rfl)
theorem dX5_weekInTruth_15 : decode cX5_weekInTruth 15 = .ok (.putfield 7, 3) := dk_181 0 7 (dk_at dksX5_weekInTruth_0 15 rfl rfl)
theorem dX5_weekInTruth_18 : decode cX5_weekInTruth 18 = .ok (.aload_n 0, 1) := dk_42 (dk_at dksX5_weekInTruth_0 18 rfl rfl)
theorem dX5_weekInTruth_19 : decode cX5_weekInTruth 19 = .ok (.aload_n 0, 1) := dk_42 (dk_at dksX5_weekInTruth_0 19 rfl rfl)
theorem dX5_weekInTruth_20 : decode cX5_weekInTruth 20 = .ok (.getfield 198, 3) := dk_180 0 198 (dk_at dksX5_weekInTruth_0 20 rfl rfl)
theorem dX5_weekInTruth_23 : decode cX5_weekInTruth 23 = .ok (.putfield 126, 3) := dk_181 0 126 (dk_at dksX5_weekInTruth_1 0 rfl rfl)
theorem dX5_weekInTruth_26 : decode cX5_weekInTruth 26 = .ok (.aload_n 0, 1) := dk_42 (dk_at dksX5_weekInTruth_1 3 rfl rfl)
theorem dX5_weekInTruth_27 : decode cX5_weekInTruth 27 = .ok (.aload_n 0, 1) := dk_42 (dk_at dksX5_weekInTruth_1 4 rfl rfl)
theorem dX5_weekInTruth_28 : decode cX5_weekInTruth 28 = .ok (.getfield 201, 3) := dk_180 0 201 (dk_at dksX5_weekInTruth_1 5 rfl rfl)
theorem dX5_weekInTruth_31 : decode cX5_weekInTruth 31 = .ok (.putfield 129, 3) := dk_181 0 129 (dk_at dksX5_weekInTruth_1 8 rfl rfl)
theorem dX5_weekInTruth_34 : decode cX5_weekInTruth 34 = .ok (.iload_n 2, 1) := dk_28 (dk_at dksX5_weekInTruth_1 11 rfl rfl)
theorem dX5_weekInTruth_35 : decode cX5_weekInTruth 35 = .ok (.ifCond .eq 26, 3) := dk_153 0 26 (dk_at dksX5_weekInTruth_1 12 rfl rfl)
theorem dX5_weekInTruth_38 : decode cX5_weekInTruth 38 = .ok (.aload_n 0, 1) := dk_42 (dk_at dksX5_weekInTruth_1 15 rfl rfl)
theorem dX5_weekInTruth_39 : decode cX5_weekInTruth 39 = .ok (.getfield 53, 3) := dk_180 0 53 (dk_at dksX5_weekInTruth_1 16 rfl rfl)
theorem dX5_weekInTruth_42 : decode cX5_weekInTruth 42 = .ok (.aload_n 0, 1) := dk_42 (dk_at dksX5_weekInTruth_1 19 rfl rfl)
theorem dX5_weekInTruth_43 : decode cX5_weekInTruth 43 = .ok (.getfield 207, 3) := dk_180 0 207 (dk_at dksX5_weekInTruth_1 20 rfl rfl)
theorem dX5_weekInTruth_46 : decode cX5_weekInTruth 46 = .ok (.dup2, 1) := dk_92 (dk_at dksX5_weekInTruth_1 23 rfl rfl)
theorem dX5_weekInTruth_47 : decode cX5_weekInTruth 47 = .ok (.iaload, 1) := dk_46 (dk_at dksX5_weekInTruth_2 0 rfl rfl)
theorem dX5_weekInTruth_48 : decode cX5_weekInTruth 48 = .ok (.iconst 1, 1) := dk_4 (dk_at dksX5_weekInTruth_2 1 rfl rfl)
theorem dX5_weekInTruth_49 : decode cX5_weekInTruth 49 = .ok (.iadd, 1) := dk_96 (dk_at dksX5_weekInTruth_2 2 rfl rfl)
theorem dX5_weekInTruth_50 : decode cX5_weekInTruth 50 = .ok (.iastore, 1) := dk_79 (dk_at dksX5_weekInTruth_2 3 rfl rfl)
theorem dX5_weekInTruth_51 : decode cX5_weekInTruth 51 = .ok (.aload_n 0, 1) := dk_42 (dk_at dksX5_weekInTruth_2 4 rfl rfl)
theorem dX5_weekInTruth_52 : decode cX5_weekInTruth 52 = .ok (.dup, 1) := dk_89 (dk_at dksX5_weekInTruth_2 5 rfl rfl)
theorem dX5_weekInTruth_53 : decode cX5_weekInTruth 53 = .ok (.getfield 13, 3) := dk_180 0 13 (dk_at dksX5_weekInTruth_2 6 rfl rfl)
theorem dX5_weekInTruth_56 : decode cX5_weekInTruth 56 = .ok (.iconst 1, 1) := dk_4 (dk_at dksX5_weekInTruth_2 9 rfl rfl)
theorem dX5_weekInTruth_57 : decode cX5_weekInTruth 57 = .ok (.iadd, 1) := dk_96 (dk_at dksX5_weekInTruth_2 10 rfl rfl)
theorem dX5_weekInTruth_58 : decode cX5_weekInTruth 58 = .ok (.putfield 13, 3) := dk_181 0 13 (dk_at dksX5_weekInTruth_2 11 rfl rfl)
theorem dX5_weekInTruth_61 : decode cX5_weekInTruth 61 = .ok (.iload_n 1, 1) := dk_27 (dk_at dksX5_weekInTruth_2 14 rfl rfl)
theorem dX5_weekInTruth_62 : decode cX5_weekInTruth 62 = .ok (.iconst (-1), 1) := dk_2 (dk_at dksX5_weekInTruth_2 15 rfl rfl)
theorem dX5_weekInTruth_63 : decode cX5_weekInTruth 63 = .ok (.if_icmp .eq 18, 3) := dk_159 0 18 (dk_at dksX5_weekInTruth_2 16 rfl rfl)
theorem dX5_weekInTruth_66 : decode cX5_weekInTruth 66 = .ok (.aload_n 0, 1) := dk_42 (dk_at dksX5_weekInTruth_2 19 rfl rfl)
theorem dX5_weekInTruth_67 : decode cX5_weekInTruth 67 = .ok (.getfield 50, 3) := dk_180 0 50 (dk_at dksX5_weekInTruth_2 20 rfl rfl)
theorem dX5_weekInTruth_70 : decode cX5_weekInTruth 70 = .ok (.iload_n 1, 1) := dk_27 (dk_at dksX5_weekInTruth_2 23 rfl rfl)
theorem dX5_weekInTruth_71 : decode cX5_weekInTruth 71 = .ok (.dup2, 1) := dk_92 (dk_at dksX5_weekInTruth_3 0 rfl rfl)
theorem dX5_weekInTruth_72 : decode cX5_weekInTruth 72 = .ok (.iaload, 1) := dk_46 (dk_at dksX5_weekInTruth_3 1 rfl rfl)
theorem dX5_weekInTruth_73 : decode cX5_weekInTruth 73 = .ok (.iconst 1, 1) := dk_4 (dk_at dksX5_weekInTruth_3 2 rfl rfl)
theorem dX5_weekInTruth_74 : decode cX5_weekInTruth 74 = .ok (.iadd, 1) := dk_96 (dk_at dksX5_weekInTruth_3 3 rfl rfl)
theorem dX5_weekInTruth_75 : decode cX5_weekInTruth 75 = .ok (.iastore, 1) := dk_79 (dk_at dksX5_weekInTruth_3 4 rfl rfl)
theorem dX5_weekInTruth_76 : decode cX5_weekInTruth 76 = .ok (.aload_n 0, 1) := dk_42 (dk_at dksX5_weekInTruth_3 5 rfl rfl)
theorem dX5_weekInTruth_77 : decode cX5_weekInTruth 77 = .ok (.iload_n 1, 1) := dk_27 (dk_at dksX5_weekInTruth_3 6 rfl rfl)
theorem dX5_weekInTruth_78 : decode cX5_weekInTruth 78 = .ok (.putfield 25, 3) := dk_181 0 25 (dk_at dksX5_weekInTruth_3 7 rfl rfl)
theorem dX5_weekInTruth_81 : decode cX5_weekInTruth 81 = .ok (.iload_n 2, 1) := dk_28 (dk_at dksX5_weekInTruth_3 10 rfl rfl)
theorem dX5_weekInTruth_82 : decode cX5_weekInTruth 82 = .ok (.ireturn, 1) := dk_172 (dk_at dksX5_weekInTruth_3 11 rfl rfl)
abbrev cX5_begins : ByteArray := prog_22_method_38_code
def yX5_begins : MethodName := ⟨RX5, "begins", "()V"⟩
def dkwX5_begins_1 : List UInt8 := [42, 3, 181, 0, 204, 42, 2, 181, 0, 207, 42, 3, 181, 0, 210, 177]
abbrev dktX5_begins_1 : List UInt8 := dkwX5_begins_1 ++ []
def dkwX5_begins_0 : List UInt8 := [42, 42, 180, 0, 7, 181, 0, 195, 42, 42, 180, 0, 126, 181, 0, 198, 42, 42, 180, 0, 129, 181, 0, 201]
abbrev dktX5_begins_0 : List UInt8 := dkwX5_begins_0 ++ dktX5_begins_1
theorem dksX5_begins_0 : cX5_begins.data.toList.drop 0 = dktX5_begins_0 := by decide +kernel
theorem dksX5_begins_1 : cX5_begins.data.toList.drop 24 = dktX5_begins_1 := dk_seg dksX5_begins_0 24 rfl rfl
theorem dX5_begins_0 : decode cX5_begins 0 = .ok (.aload_n 0, 1) := dk_42 (dk_at dksX5_begins_0 0 rfl rfl)
theorem dX5_begins_1 : decode cX5_begins 1 = .ok (.aload_n 0, 1) := dk_42 (dk_at dksX5_begins_0 1 rfl rfl)
theorem dX5_begins_2 : decode cX5_begins 2 = .ok (.getfield 7, 3) := dk_180 0 7 (dk_at dksX5_begins_0 2 rfl rfl)
theorem dX5_begins_5 : decode cX5_begins 5 = .ok (.putfield 195, 3) := dk_181 0 195 (dk_at dksX5_begins_0 5 rfl rfl)
theorem dX5_begins_8 : decode cX5_begins 8 = .ok (.aload_n 0, 1) := dk_42 (dk_at dksX5_begins_0 8 rfl rfl)
theorem dX5_begins_9 : decode cX5_begins 9 = .ok (.aload_n 0, 1) := dk_42 (dk_at dksX5_begins_0 9 rfl rfl)
theorem dX5_begins_10 : decode cX5_begins 10 = .ok (.getfield 126, 3) := dk_180 0 126 (dk_at dksX5_begins_0 10 rfl rfl)
theorem dX5_begins_13 : decode cX5_begins 13 = .ok (.putfield 198, 3) := dk_181 0 198 (dk_at dksX5_begins_0 13 rfl rfl)
theorem dX5_begins_16 : decode cX5_begins 16 = .ok (.aload_n 0, 1) := dk_42 (dk_at dksX5_begins_0 16 rfl rfl)
theorem dX5_begins_17 : decode cX5_begins 17 = .ok (.aload_n 0, 1) := dk_42 (dk_at dksX5_begins_0 17 rfl rfl)
theorem dX5_begins_18 : decode cX5_begins 18 = .ok (.getfield 129, 3) := dk_180 0 129 (dk_at dksX5_begins_0 18 rfl rfl)
theorem dX5_begins_21 : decode cX5_begins 21 = .ok (.putfield 201, 3) := dk_181 0 201 (dk_at dksX5_begins_0 21 rfl rfl)
theorem dX5_begins_24 : decode cX5_begins 24 = .ok (.aload_n 0, 1) := dk_42 (dk_at dksX5_begins_1 0 rfl rfl)
theorem dX5_begins_25 : decode cX5_begins 25 = .ok (.iconst 0, 1) := dk_3 (dk_at dksX5_begins_1 1 rfl rfl)
theorem dX5_begins_26 : decode cX5_begins 26 = .ok (.putfield 204, 3) := dk_181 0 204 (dk_at dksX5_begins_1 2 rfl rfl)
theorem dX5_begins_29 : decode cX5_begins 29 = .ok (.aload_n 0, 1) := dk_42 (dk_at dksX5_begins_1 5 rfl rfl)
theorem dX5_begins_30 : decode cX5_begins 30 = .ok (.iconst (-1), 1) := dk_2 (dk_at dksX5_begins_1 6 rfl rfl)
theorem dX5_begins_31 : decode cX5_begins 31 = .ok (.putfield 207, 3) := dk_181 0 207 (dk_at dksX5_begins_1 7 rfl rfl)
theorem dX5_begins_34 : decode cX5_begins 34 = .ok (.aload_n 0, 1) := dk_42 (dk_at dksX5_begins_1 10 rfl rfl)
theorem dX5_begins_35 : decode cX5_begins 35 = .ok (.iconst 0, 1) := dk_3 (dk_at dksX5_begins_1 11 rfl rfl)
theorem dX5_begins_36 : decode cX5_begins 36 = .ok (.putfield 210, 3) := dk_181 0 210 (dk_at dksX5_begins_1 12 rfl rfl)
theorem dX5_begins_39 : decode cX5_begins 39 = .ok (.return_, 1) := dk_177 (dk_at dksX5_begins_1 15 rfl rfl)
abbrev cX5_goes : ByteArray := prog_22_method_43_code
def yX5_goes : MethodName := ⟨RX5, "goes", "(I)Z"⟩
def dkwX5_goes_5 : List UInt8 := [4, 172]
abbrev dktX5_goes_5 : List UInt8 := dkwX5_goes_5 ++ []
def dkwX5_goes_4 : List UInt8 := [42, 42, 180, 0, 195, 181, 0, 210, 42, 16, 80, 181, 0, 195, 42, 3, 181, 0, 198, 42, 3, 181, 0, 201]
abbrev dktX5_goes_4 : List UInt8 := dkwX5_goes_4 ++ dktX5_goes_5
def dkwX5_goes_3 : List UInt8 := [2, 181, 0, 207, 42, 180, 0, 207, 2, 160, 0, 5, 3, 172, 42, 89, 180, 0, 204, 4, 96, 181, 0, 204]
abbrev dktX5_goes_3 : List UInt8 := dkwX5_goes_3 ++ dktX5_goes_4
def dkwX5_goes_2 : List UInt8 := [16, 60, 164, 0, 7, 4, 167, 0, 19, 42, 180, 0, 201, 42, 180, 0, 19, 164, 0, 7, 5, 167, 0, 4]
abbrev dktX5_goes_2 : List UInt8 := dkwX5_goes_2 ++ dktX5_goes_3
def dkwX5_goes_1 : List UInt8 := [182, 0, 222, 42, 42, 180, 0, 195, 42, 180, 0, 22, 162, 0, 7, 3, 167, 0, 32, 42, 180, 0, 198]
abbrev dktX5_goes_1 : List UInt8 := dkwX5_goes_1 ++ dktX5_goes_2
def dkwX5_goes_0 : List UInt8 := [42, 182, 0, 219, 27, 2, 159, 0, 19, 42, 42, 180, 0, 38, 27, 46, 42, 180, 0, 41, 27, 46]
abbrev dktX5_goes_0 : List UInt8 := dkwX5_goes_0 ++ dktX5_goes_1
theorem dksX5_goes_0 : cX5_goes.data.toList.drop 0 = dktX5_goes_0 := by decide +kernel
theorem dksX5_goes_1 : cX5_goes.data.toList.drop 22 = dktX5_goes_1 := dk_seg dksX5_goes_0 22 rfl rfl
theorem dksX5_goes_2 : cX5_goes.data.toList.drop 45 = dktX5_goes_2 := dk_seg dksX5_goes_1 23 rfl rfl
theorem dksX5_goes_3 : cX5_goes.data.toList.drop 69 = dktX5_goes_3 := dk_seg dksX5_goes_2 24 rfl rfl
theorem dksX5_goes_4 : cX5_goes.data.toList.drop 93 = dktX5_goes_4 := dk_seg dksX5_goes_3 24 rfl rfl
theorem dksX5_goes_5 : cX5_goes.data.toList.drop 117 = dktX5_goes_5 := dk_seg dksX5_goes_4 24 rfl rfl
theorem dX5_goes_0 : decode cX5_goes 0 = .ok (.aload_n 0, 1) := dk_42 (dk_at dksX5_goes_0 0 rfl rfl)
theorem dX5_goes_1 : decode cX5_goes 1 = .ok (.invokevirtual 219, 3) := dk_182 0 219 (dk_at dksX5_goes_0 1 rfl rfl)
theorem dX5_goes_4 : decode cX5_goes 4 = .ok (.iload_n 1, 1) := dk_27 (dk_at dksX5_goes_0 4 rfl rfl)
theorem dX5_goes_5 : decode cX5_goes 5 = .ok (.iconst (-1), 1) := dk_2 (dk_at dksX5_goes_0 5 rfl rfl)
theorem dX5_goes_6 : decode cX5_goes 6 = .ok (.if_icmp .eq 19, 3) := dk_159 0 19 (dk_at dksX5_goes_0 6 rfl rfl)
theorem dX5_goes_9 : decode cX5_goes 9 = .ok (.aload_n 0, 1) := dk_42 (dk_at dksX5_goes_0 9 rfl rfl)
theorem dX5_goes_10 : decode cX5_goes 10 = .ok (.aload_n 0, 1) := dk_42 (dk_at dksX5_goes_0 10 rfl rfl)
theorem dX5_goes_11 : decode cX5_goes 11 = .ok (.getfield 38, 3) := dk_180 0 38 (dk_at dksX5_goes_0 11 rfl rfl)
theorem dX5_goes_14 : decode cX5_goes 14 = .ok (.iload_n 1, 1) := dk_27 (dk_at dksX5_goes_0 14 rfl rfl)
theorem dX5_goes_15 : decode cX5_goes 15 = .ok (.iaload, 1) := dk_46 (dk_at dksX5_goes_0 15 rfl rfl)
theorem dX5_goes_16 : decode cX5_goes 16 = .ok (.aload_n 0, 1) := dk_42 (dk_at dksX5_goes_0 16 rfl rfl)
theorem dX5_goes_17 : decode cX5_goes 17 = .ok (.getfield 41, 3) := dk_180 0 41 (dk_at dksX5_goes_0 17 rfl rfl)
theorem dX5_goes_20 : decode cX5_goes 20 = .ok (.iload_n 1, 1) := dk_27 (dk_at dksX5_goes_0 20 rfl rfl)
theorem dX5_goes_21 : decode cX5_goes 21 = .ok (.iaload, 1) := dk_46 (dk_at dksX5_goes_0 21 rfl rfl)
theorem dX5_goes_22 : decode cX5_goes 22 = .ok (.invokevirtual 222, 3) := dk_182 0 222 (dk_at dksX5_goes_1 0 rfl rfl)
theorem dX5_goes_25 : decode cX5_goes 25 = .ok (.aload_n 0, 1) := dk_42 (dk_at dksX5_goes_1 3 rfl rfl)
theorem dX5_goes_26 : decode cX5_goes 26 = .ok (.aload_n 0, 1) := dk_42 (dk_at dksX5_goes_1 4 rfl rfl)
theorem dX5_goes_27 : decode cX5_goes 27 = .ok (.getfield 195, 3) := dk_180 0 195 (dk_at dksX5_goes_1 5 rfl rfl)
theorem dX5_goes_30 : decode cX5_goes 30 = .ok (.aload_n 0, 1) := dk_42 (dk_at dksX5_goes_1 8 rfl rfl)
theorem dX5_goes_31 : decode cX5_goes 31 = .ok (.getfield 22, 3) := dk_180 0 22 (dk_at dksX5_goes_1 9 rfl rfl)
theorem dX5_goes_34 : decode cX5_goes 34 = .ok (.if_icmp .ge 7, 3) := dk_162 0 7 (dk_at dksX5_goes_1 12 rfl rfl)
theorem dX5_goes_37 : decode cX5_goes 37 = .ok (.iconst 0, 1) := dk_3 (dk_at dksX5_goes_1 15 rfl rfl)
theorem dX5_goes_38 : decode cX5_goes 38 = .ok (.goto 32, 3) := dk_167 0 32 (dk_at dksX5_goes_1 16 rfl rfl)
theorem dX5_goes_41 : decode cX5_goes 41 = .ok (.aload_n 0, 1) := dk_42 (dk_at dksX5_goes_1 19 rfl rfl)
theorem dX5_goes_42 : decode cX5_goes 42 = .ok (.getfield 198, 3) := dk_180 0 198 (dk_at dksX5_goes_1 20 rfl rfl)
theorem dX5_goes_45 : decode cX5_goes 45 = .ok (.bipush 60, 2) := dk_16 60 (dk_at dksX5_goes_2 0 rfl rfl)
theorem dX5_goes_47 : decode cX5_goes 47 = .ok (.if_icmp .le 7, 3) := dk_164 0 7 (dk_at dksX5_goes_2 2 rfl rfl)
theorem dX5_goes_50 : decode cX5_goes 50 = .ok (.iconst 1, 1) := dk_4 (dk_at dksX5_goes_2 5 rfl rfl)
theorem dX5_goes_51 : decode cX5_goes 51 = .ok (.goto 19, 3) := dk_167 0 19 (dk_at dksX5_goes_2 6 rfl rfl)
theorem dX5_goes_54 : decode cX5_goes 54 = .ok (.aload_n 0, 1) := dk_42 (dk_at dksX5_goes_2 9 rfl rfl)
theorem dX5_goes_55 : decode cX5_goes 55 = .ok (.getfield 201, 3) := dk_180 0 201 (dk_at dksX5_goes_2 10 rfl rfl)
theorem dX5_goes_58 : decode cX5_goes 58 = .ok (.aload_n 0, 1) := dk_42 (dk_at dksX5_goes_2 13 rfl rfl)
theorem dX5_goes_59 : decode cX5_goes 59 = .ok (.getfield 19, 3) := dk_180 0 19 (dk_at dksX5_goes_2 14 rfl rfl)
theorem dX5_goes_62 : decode cX5_goes 62 = .ok (.if_icmp .le 7, 3) := dk_164 0 7 (dk_at dksX5_goes_2 17 rfl rfl)
theorem dX5_goes_65 : decode cX5_goes 65 = .ok (.iconst 2, 1) := dk_5 (dk_at dksX5_goes_2 20 rfl rfl)
theorem dX5_goes_66 : decode cX5_goes 66 = .ok (.goto 4, 3) := dk_167 0 4 (dk_at dksX5_goes_2 21 rfl rfl)
theorem dX5_goes_69 : decode cX5_goes 69 = .ok (.iconst (-1), 1) := dk_2 (dk_at dksX5_goes_3 0 rfl rfl)
theorem dX5_goes_70 : decode cX5_goes 70 = .ok (.putfield 207, 3) := dk_181 0 207 (dk_at dksX5_goes_3 1 rfl rfl)
theorem dX5_goes_73 : decode cX5_goes 73 = .ok (.aload_n 0, 1) := dk_42 (dk_at dksX5_goes_3 4 rfl rfl)
theorem dX5_goes_74 : decode cX5_goes 74 = .ok (.getfield 207, 3) := dk_180 0 207 (dk_at dksX5_goes_3 5 rfl rfl)
theorem dX5_goes_77 : decode cX5_goes 77 = .ok (.iconst (-1), 1) := dk_2 (dk_at dksX5_goes_3 8 rfl rfl)
theorem dX5_goes_78 : decode cX5_goes 78 = .ok (.if_icmp .ne 5, 3) := dk_160 0 5 (dk_at dksX5_goes_3 9 rfl rfl)
theorem dX5_goes_81 : decode cX5_goes 81 = .ok (.iconst 0, 1) := dk_3 (dk_at dksX5_goes_3 12 rfl rfl)
theorem dX5_goes_82 : decode cX5_goes 82 = .ok (.ireturn, 1) := dk_172 (dk_at dksX5_goes_3 13 rfl rfl)
theorem dX5_goes_83 : decode cX5_goes 83 = .ok (.aload_n 0, 1) := dk_42 (dk_at dksX5_goes_3 14 rfl rfl)
theorem dX5_goes_84 : decode cX5_goes 84 = .ok (.dup, 1) := dk_89 (dk_at dksX5_goes_3 15 rfl rfl)
theorem dX5_goes_85 : decode cX5_goes 85 = .ok (.getfield 204, 3) := dk_180 0 204 (dk_at dksX5_goes_3 16 rfl rfl)
theorem dX5_goes_88 : decode cX5_goes 88 = .ok (.iconst 1, 1) := dk_4 (dk_at dksX5_goes_3 19 rfl rfl)
theorem dX5_goes_89 : decode cX5_goes 89 = .ok (.iadd, 1) := dk_96 (dk_at dksX5_goes_3 20 rfl rfl)
theorem dX5_goes_90 : decode cX5_goes 90 = .ok (.putfield 204, 3) := dk_181 0 204 (dk_at dksX5_goes_3 21 rfl rfl)
theorem dX5_goes_93 : decode cX5_goes 93 = .ok (.aload_n 0, 1) := dk_42 (dk_at dksX5_goes_4 0 rfl rfl)
theorem dX5_goes_94 : decode cX5_goes 94 = .ok (.aload_n 0, 1) := dk_42 (dk_at dksX5_goes_4 1 rfl rfl)
theorem dX5_goes_95 : decode cX5_goes 95 = .ok (.getfield 195, 3) := dk_180 0 195 (dk_at dksX5_goes_4 2 rfl rfl)
theorem dX5_goes_98 : decode cX5_goes 98 = .ok (.putfield 210, 3) := dk_181 0 210 (dk_at dksX5_goes_4 5 rfl rfl)
theorem dX5_goes_101 : decode cX5_goes 101 = .ok (.aload_n 0, 1) := dk_42 (dk_at dksX5_goes_4 8 rfl rfl)
theorem dX5_goes_102 : decode cX5_goes 102 = .ok (.bipush 80, 2) := dk_16 80 (dk_at dksX5_goes_4 9 rfl rfl)
theorem dX5_goes_104 : decode cX5_goes 104 = .ok (.putfield 195, 3) := dk_181 0 195 (dk_at dksX5_goes_4 11 rfl rfl)
theorem dX5_goes_107 : decode cX5_goes 107 = .ok (.aload_n 0, 1) := dk_42 (dk_at dksX5_goes_4 14 rfl rfl)
theorem dX5_goes_108 : decode cX5_goes 108 = .ok (.iconst 0, 1) := dk_3 (dk_at dksX5_goes_4 15 rfl rfl)
theorem dX5_goes_109 : decode cX5_goes 109 = .ok (.putfield 198, 3) := dk_181 0 198 (dk_at dksX5_goes_4 16 rfl rfl)
theorem dX5_goes_112 : decode cX5_goes 112 = .ok (.aload_n 0, 1) := dk_42 (dk_at dksX5_goes_4 19 rfl rfl)
theorem dX5_goes_113 : decode cX5_goes 113 = .ok (.iconst 0, 1) := dk_3 (dk_at dksX5_goes_4 20 rfl rfl)
theorem dX5_goes_114 : decode cX5_goes 114 = .ok (.putfield 201, 3) := dk_181 0 201 (dk_at dksX5_goes_4 21 rfl rfl)
theorem dX5_goes_117 : decode cX5_goes 117 = .ok (.iconst 1, 1) := dk_4 (dk_at dksX5_goes_5 0 rfl rfl)
theorem dX5_goes_118 : decode cX5_goes 118 = .ok (.ireturn, 1) := dk_172 (dk_at dksX5_goes_5 1 rfl rfl)
abbrev cX5_school : ByteArray := prog_22_method_41_code
def yX5_school : MethodName := ⟨RX5, "school", "()V"⟩
def dkwX5_school_4 : List UInt8 := [180, 0, 198, 5, 108, 181, 0, 198, 177]
abbrev dktX5_school_4 : List UInt8 := dkwX5_school_4 ++ []
def dkwX5_school_3 : List UInt8 := [27, 162, 0, 7, 27, 167, 0, 12, 42, 180, 0, 195, 42, 180, 0, 16, 100, 181, 0, 195, 42, 89]
abbrev dktX5_school_3 : List UInt8 := dkwX5_school_3 ++ dktX5_school_4
def dkwX5_school_2 : List UInt8 := [180, 0, 195, 42, 180, 0, 16, 96, 181, 0, 195, 167, 0, 33, 42, 42, 180, 0, 195, 42, 180, 0, 16, 100]
abbrev dktX5_school_2 : List UInt8 := dkwX5_school_2 ++ dktX5_school_3
def dkwX5_school_1 : List UInt8 := [162, 0, 36, 42, 42, 180, 0, 195, 42, 180, 0, 16, 96, 27, 164, 0, 7, 27, 167, 0, 12, 42]
abbrev dktX5_school_1 : List UInt8 := dkwX5_school_1 ++ dktX5_school_2
def dkwX5_school_0 : List UInt8 := [42, 42, 180, 0, 201, 182, 0, 213, 60, 42, 89, 180, 0, 201, 4, 96, 181, 0, 201, 42, 180, 0, 195, 27]
abbrev dktX5_school_0 : List UInt8 := dkwX5_school_0 ++ dktX5_school_1
theorem dksX5_school_0 : cX5_school.data.toList.drop 0 = dktX5_school_0 := by decide +kernel
theorem dksX5_school_1 : cX5_school.data.toList.drop 24 = dktX5_school_1 := dk_seg dksX5_school_0 24 rfl rfl
theorem dksX5_school_2 : cX5_school.data.toList.drop 46 = dktX5_school_2 := dk_seg dksX5_school_1 22 rfl rfl
theorem dksX5_school_3 : cX5_school.data.toList.drop 70 = dktX5_school_3 := dk_seg dksX5_school_2 24 rfl rfl
theorem dksX5_school_4 : cX5_school.data.toList.drop 92 = dktX5_school_4 := dk_seg dksX5_school_3 22 rfl rfl
theorem dX5_school_0 : decode cX5_school 0 = .ok (.aload_n 0, 1) := dk_42 (dk_at dksX5_school_0 0 rfl rfl)
theorem dX5_school_1 : decode cX5_school 1 = .ok (.aload_n 0, 1) := dk_42 (dk_at dksX5_school_0 1 rfl rfl)
theorem dX5_school_2 : decode cX5_school 2 = .ok (.getfield 201, 3) := dk_180 0 201 (dk_at dksX5_school_0 2 rfl rfl)
theorem dX5_school_5 : decode cX5_school 5 = .ok (.invokevirtual 213, 3) := dk_182 0 213 (dk_at dksX5_school_0 5 rfl rfl)
theorem dX5_school_8 : decode cX5_school 8 = .ok (.istore_n 1, 1) := dk_60 (dk_at dksX5_school_0 8 rfl rfl)
theorem dX5_school_9 : decode cX5_school 9 = .ok (.aload_n 0, 1) := dk_42 (dk_at dksX5_school_0 9 rfl rfl)
theorem dX5_school_10 : decode cX5_school 10 = .ok (.dup, 1) := dk_89 (dk_at dksX5_school_0 10 rfl rfl)
theorem dX5_school_11 : decode cX5_school 11 = .ok (.getfield 201, 3) := dk_180 0 201 (dk_at dksX5_school_0 11 rfl rfl)
theorem dX5_school_14 : decode cX5_school 14 = .ok (.iconst 1, 1) := dk_4 (dk_at dksX5_school_0 14 rfl rfl)
theorem dX5_school_15 : decode cX5_school 15 = .ok (.iadd, 1) := dk_96 (dk_at dksX5_school_0 15 rfl rfl)
theorem dX5_school_16 : decode cX5_school 16 = .ok (.putfield 201, 3) := dk_181 0 201 (dk_at dksX5_school_0 16 rfl rfl)
theorem dX5_school_19 : decode cX5_school 19 = .ok (.aload_n 0, 1) := dk_42 (dk_at dksX5_school_0 19 rfl rfl)
theorem dX5_school_20 : decode cX5_school 20 = .ok (.getfield 195, 3) := dk_180 0 195 (dk_at dksX5_school_0 20 rfl rfl)
theorem dX5_school_23 : decode cX5_school 23 = .ok (.iload_n 1, 1) := dk_27 (dk_at dksX5_school_0 23 rfl rfl)
theorem dX5_school_24 : decode cX5_school 24 = .ok (.if_icmp .ge 36, 3) := dk_162 0 36 (dk_at dksX5_school_1 0 rfl rfl)
theorem dX5_school_27 : decode cX5_school 27 = .ok (.aload_n 0, 1) := dk_42 (dk_at dksX5_school_1 3 rfl rfl)
theorem dX5_school_28 : decode cX5_school 28 = .ok (.aload_n 0, 1) := dk_42 (dk_at dksX5_school_1 4 rfl rfl)
theorem dX5_school_29 : decode cX5_school 29 = .ok (.getfield 195, 3) := dk_180 0 195 (dk_at dksX5_school_1 5 rfl rfl)
theorem dX5_school_32 : decode cX5_school 32 = .ok (.aload_n 0, 1) := dk_42 (dk_at dksX5_school_1 8 rfl rfl)
theorem dX5_school_33 : decode cX5_school 33 = .ok (.getfield 16, 3) := dk_180 0 16 (dk_at dksX5_school_1 9 rfl rfl)
theorem dX5_school_36 : decode cX5_school 36 = .ok (.iadd, 1) := dk_96 (dk_at dksX5_school_1 12 rfl rfl)
theorem dX5_school_37 : decode cX5_school 37 = .ok (.iload_n 1, 1) := dk_27 (dk_at dksX5_school_1 13 rfl rfl)
theorem dX5_school_38 : decode cX5_school 38 = .ok (.if_icmp .le 7, 3) := dk_164 0 7 (dk_at dksX5_school_1 14 rfl rfl)
theorem dX5_school_41 : decode cX5_school 41 = .ok (.iload_n 1, 1) := dk_27 (dk_at dksX5_school_1 17 rfl rfl)
theorem dX5_school_42 : decode cX5_school 42 = .ok (.goto 12, 3) := dk_167 0 12 (dk_at dksX5_school_1 18 rfl rfl)
theorem dX5_school_45 : decode cX5_school 45 = .ok (.aload_n 0, 1) := dk_42 (dk_at dksX5_school_1 21 rfl rfl)
theorem dX5_school_46 : decode cX5_school 46 = .ok (.getfield 195, 3) := dk_180 0 195 (dk_at dksX5_school_2 0 rfl rfl)
theorem dX5_school_49 : decode cX5_school 49 = .ok (.aload_n 0, 1) := dk_42 (dk_at dksX5_school_2 3 rfl rfl)
theorem dX5_school_50 : decode cX5_school 50 = .ok (.getfield 16, 3) := dk_180 0 16 (dk_at dksX5_school_2 4 rfl rfl)
theorem dX5_school_53 : decode cX5_school 53 = .ok (.iadd, 1) := dk_96 (dk_at dksX5_school_2 7 rfl rfl)
theorem dX5_school_54 : decode cX5_school 54 = .ok (.putfield 195, 3) := dk_181 0 195 (dk_at dksX5_school_2 8 rfl rfl)
theorem dX5_school_57 : decode cX5_school 57 = .ok (.goto 33, 3) := dk_167 0 33 (dk_at dksX5_school_2 11 rfl rfl)
theorem dX5_school_60 : decode cX5_school 60 = .ok (.aload_n 0, 1) := dk_42 (dk_at dksX5_school_2 14 rfl rfl)
theorem dX5_school_61 : decode cX5_school 61 = .ok (.aload_n 0, 1) := dk_42 (dk_at dksX5_school_2 15 rfl rfl)
theorem dX5_school_62 : decode cX5_school 62 = .ok (.getfield 195, 3) := dk_180 0 195 (dk_at dksX5_school_2 16 rfl rfl)
theorem dX5_school_65 : decode cX5_school 65 = .ok (.aload_n 0, 1) := dk_42 (dk_at dksX5_school_2 19 rfl rfl)
theorem dX5_school_66 : decode cX5_school 66 = .ok (.getfield 16, 3) := dk_180 0 16 (dk_at dksX5_school_2 20 rfl rfl)
theorem dX5_school_69 : decode cX5_school 69 = .ok (.isub, 1) := dk_100 (dk_at dksX5_school_2 23 rfl rfl)
theorem dX5_school_70 : decode cX5_school 70 = .ok (.iload_n 1, 1) := dk_27 (dk_at dksX5_school_3 0 rfl rfl)
theorem dX5_school_71 : decode cX5_school 71 = .ok (.if_icmp .ge 7, 3) := dk_162 0 7 (dk_at dksX5_school_3 1 rfl rfl)
theorem dX5_school_74 : decode cX5_school 74 = .ok (.iload_n 1, 1) := dk_27 (dk_at dksX5_school_3 4 rfl rfl)
theorem dX5_school_75 : decode cX5_school 75 = .ok (.goto 12, 3) := dk_167 0 12 (dk_at dksX5_school_3 5 rfl rfl)
theorem dX5_school_78 : decode cX5_school 78 = .ok (.aload_n 0, 1) := dk_42 (dk_at dksX5_school_3 8 rfl rfl)
theorem dX5_school_79 : decode cX5_school 79 = .ok (.getfield 195, 3) := dk_180 0 195 (dk_at dksX5_school_3 9 rfl rfl)
theorem dX5_school_82 : decode cX5_school 82 = .ok (.aload_n 0, 1) := dk_42 (dk_at dksX5_school_3 12 rfl rfl)
theorem dX5_school_83 : decode cX5_school 83 = .ok (.getfield 16, 3) := dk_180 0 16 (dk_at dksX5_school_3 13 rfl rfl)
theorem dX5_school_86 : decode cX5_school 86 = .ok (.isub, 1) := dk_100 (dk_at dksX5_school_3 16 rfl rfl)
theorem dX5_school_87 : decode cX5_school 87 = .ok (.putfield 195, 3) := dk_181 0 195 (dk_at dksX5_school_3 17 rfl rfl)
theorem dX5_school_90 : decode cX5_school 90 = .ok (.aload_n 0, 1) := dk_42 (dk_at dksX5_school_3 20 rfl rfl)
theorem dX5_school_91 : decode cX5_school 91 = .ok (.dup, 1) := dk_89 (dk_at dksX5_school_3 21 rfl rfl)
theorem dX5_school_92 : decode cX5_school 92 = .ok (.getfield 198, 3) := dk_180 0 198 (dk_at dksX5_school_4 0 rfl rfl)
theorem dX5_school_95 : decode cX5_school 95 = .ok (.iconst 2, 1) := dk_5 (dk_at dksX5_school_4 3 rfl rfl)
theorem dX5_school_96 : decode cX5_school 96 = .ok (.idiv, 1) := dk_108 (dk_at dksX5_school_4 4 rfl rfl)
theorem dX5_school_97 : decode cX5_school 97 = .ok (.putfield 198, 3) := dk_181 0 198 (dk_at dksX5_school_4 5 rfl rfl)
theorem dX5_school_100 : decode cX5_school 100 = .ok (.return_, 1) := dk_177 (dk_at dksX5_school_4 8 rfl rfl)
abbrev cX5_normOf : ByteArray := prog_22_method_39_code
def yX5_normOf : MethodName := ⟨RX5, "normOf", "(I)I"⟩
def dkwX5_normOf_1 : List UInt8 := [61, 28, 156, 0, 7, 3, 167, 0, 4, 28, 172]
abbrev dktX5_normOf_1 : List UInt8 := dkwX5_normOf_1 ++ []
def dkwX5_normOf_0 : List UInt8 := [16, 100, 8, 42, 180, 0, 16, 104, 96, 61, 27, 16, 51, 164, 0, 12, 28, 27, 16, 51, 100, 5, 108, 100]
abbrev dktX5_normOf_0 : List UInt8 := dkwX5_normOf_0 ++ dktX5_normOf_1
theorem dksX5_normOf_0 : cX5_normOf.data.toList.drop 0 = dktX5_normOf_0 := by decide +kernel
theorem dksX5_normOf_1 : cX5_normOf.data.toList.drop 24 = dktX5_normOf_1 := dk_seg dksX5_normOf_0 24 rfl rfl
theorem dX5_normOf_0 : decode cX5_normOf 0 = .ok (.bipush 100, 2) := dk_16 100 (dk_at dksX5_normOf_0 0 rfl rfl)
theorem dX5_normOf_2 : decode cX5_normOf 2 = .ok (.iconst 5, 1) := dk_8 (dk_at dksX5_normOf_0 2 rfl rfl)
theorem dX5_normOf_3 : decode cX5_normOf 3 = .ok (.aload_n 0, 1) := dk_42 (dk_at dksX5_normOf_0 3 rfl rfl)
theorem dX5_normOf_4 : decode cX5_normOf 4 = .ok (.getfield 16, 3) := dk_180 0 16 (dk_at dksX5_normOf_0 4 rfl rfl)
theorem dX5_normOf_7 : decode cX5_normOf 7 = .ok (.imul, 1) := dk_104 (dk_at dksX5_normOf_0 7 rfl rfl)
theorem dX5_normOf_8 : decode cX5_normOf 8 = .ok (.iadd, 1) := dk_96 (dk_at dksX5_normOf_0 8 rfl rfl)
theorem dX5_normOf_9 : decode cX5_normOf 9 = .ok (.istore_n 2, 1) := dk_61 (dk_at dksX5_normOf_0 9 rfl rfl)
theorem dX5_normOf_10 : decode cX5_normOf 10 = .ok (.iload_n 1, 1) := dk_27 (dk_at dksX5_normOf_0 10 rfl rfl)
theorem dX5_normOf_11 : decode cX5_normOf 11 = .ok (.bipush 51, 2) := dk_16 51 (dk_at dksX5_normOf_0 11 rfl rfl)
theorem dX5_normOf_13 : decode cX5_normOf 13 = .ok (.if_icmp .le 12, 3) := dk_164 0 12 (dk_at dksX5_normOf_0 13 rfl rfl)
theorem dX5_normOf_16 : decode cX5_normOf 16 = .ok (.iload_n 2, 1) := dk_28 (dk_at dksX5_normOf_0 16 rfl rfl)
theorem dX5_normOf_17 : decode cX5_normOf 17 = .ok (.iload_n 1, 1) := dk_27 (dk_at dksX5_normOf_0 17 rfl rfl)
theorem dX5_normOf_18 : decode cX5_normOf 18 = .ok (.bipush 51, 2) := dk_16 51 (dk_at dksX5_normOf_0 18 rfl rfl)
theorem dX5_normOf_20 : decode cX5_normOf 20 = .ok (.isub, 1) := dk_100 (dk_at dksX5_normOf_0 20 rfl rfl)
theorem dX5_normOf_21 : decode cX5_normOf 21 = .ok (.iconst 2, 1) := dk_5 (dk_at dksX5_normOf_0 21 rfl rfl)
theorem dX5_normOf_22 : decode cX5_normOf 22 = .ok (.idiv, 1) := dk_108 (dk_at dksX5_normOf_0 22 rfl rfl)
theorem dX5_normOf_23 : decode cX5_normOf 23 = .ok (.isub, 1) := dk_100 (dk_at dksX5_normOf_0 23 rfl rfl)
theorem dX5_normOf_24 : decode cX5_normOf 24 = .ok (.istore_n 2, 1) := dk_61 (dk_at dksX5_normOf_1 0 rfl rfl)
theorem dX5_normOf_25 : decode cX5_normOf 25 = .ok (.iload_n 2, 1) := dk_28 (dk_at dksX5_normOf_1 1 rfl rfl)
theorem dX5_normOf_26 : decode cX5_normOf 26 = .ok (.ifCond .ge 7, 3) := dk_156 0 7 (dk_at dksX5_normOf_1 2 rfl rfl)
theorem dX5_normOf_29 : decode cX5_normOf 29 = .ok (.iconst 0, 1) := dk_3 (dk_at dksX5_normOf_1 5 rfl rfl)
theorem dX5_normOf_30 : decode cX5_normOf 30 = .ok (.goto 4, 3) := dk_167 0 4 (dk_at dksX5_normOf_1 6 rfl rfl)
theorem dX5_normOf_33 : decode cX5_normOf 33 = .ok (.iload_n 2, 1) := dk_28 (dk_at dksX5_normOf_1 9 rfl rfl)
theorem dX5_normOf_34 : decode cX5_normOf 34 = .ok (.ireturn, 1) := dk_172 (dk_at dksX5_normOf_1 10 rfl rfl)
abbrev cX5_weekend : ByteArray := prog_22_method_42_code
def yX5_weekend : MethodName := ⟨RX5, "weekend", "(II)V"⟩
def dkwX5_weekend_9 : List UInt8 := [181, 0, 198, 177]
abbrev dktX5_weekend_9 : List UInt8 := dkwX5_weekend_9 ++ []
def dkwX5_weekend_8 : List UInt8 := [180, 0, 195, 17, 1, 144, 182, 0, 216, 181, 0, 195, 42, 42, 42, 180, 0, 198, 16, 99, 182, 0, 216]
abbrev dktX5_weekend_8 : List UInt8 := dkwX5_weekend_8 ++ dktX5_weekend_9
def dkwX5_weekend_7 : List UInt8 := [16, 10, 100, 181, 0, 195, 167, 0, 13, 42, 89, 180, 0, 195, 28, 100, 181, 0, 195, 42, 42, 42]
abbrev dktX5_weekend_7 : List UInt8 := dkwX5_weekend_7 ++ dktX5_weekend_8
def dkwX5_weekend_6 : List UInt8 := [181, 0, 195, 27, 16, 6, 160, 0, 36, 42, 180, 0, 198, 16, 20, 164, 0, 27, 42, 89, 180, 0, 195]
abbrev dktX5_weekend_6 : List UInt8 := dkwX5_weekend_6 ++ dktX5_weekend_7
def dkwX5_weekend_5 : List UInt8 := [181, 0, 198, 167, 0, 61, 42, 42, 42, 180, 0, 195, 5, 28, 104, 100, 17, 1, 144, 182, 0, 216]
abbrev dktX5_weekend_5 : List UInt8 := dkwX5_weekend_5 ++ dktX5_weekend_6
def dkwX5_weekend_4 : List UInt8 := [96, 28, 96, 16, 99, 182, 0, 216, 181, 0, 198, 27, 8, 160, 0, 74, 42, 89, 180, 0, 198, 5, 104]
abbrev dktX5_weekend_4 : List UInt8 := dkwX5_weekend_4 ++ dktX5_weekend_5
def dkwX5_weekend_3 : List UInt8 := [181, 0, 195, 167, 0, 108, 42, 89, 180, 0, 195, 28, 100, 181, 0, 195, 42, 42, 42, 180, 0, 198, 16, 10]
abbrev dktX5_weekend_3 : List UInt8 := dkwX5_weekend_3 ++ dktX5_weekend_4
def dkwX5_weekend_2 : List UInt8 := [42, 89, 180, 0, 195, 28, 96, 181, 0, 195, 167, 0, 125, 42, 89, 180, 0, 195, 5, 28, 104, 6, 96, 96]
abbrev dktX5_weekend_2 : List UInt8 := dkwX5_weekend_2 ++ dktX5_weekend_3
def dkwX5_weekend_1 : List UInt8 := [170, 0, 0, 0, 0, 0, 164, 0, 0, 0, 1, 0, 0, 0, 6, 0, 0, 0, 39, 0, 0, 0, 69, 0, 0, 0, 52, 0, 0, 0, 116, 0, 0, 0, 69, 0, 0, 0, 116]
abbrev dktX5_weekend_1 : List UInt8 := dkwX5_weekend_1 ++ dktX5_weekend_2
def dkwX5_weekend_0 : List UInt8 := [27]
abbrev dktX5_weekend_0 : List UInt8 := dkwX5_weekend_0 ++ dktX5_weekend_1
theorem dksX5_weekend_0 : cX5_weekend.data.toList.drop 0 = dktX5_weekend_0 := by decide +kernel
theorem dksX5_weekend_1 : cX5_weekend.data.toList.drop 1 = dktX5_weekend_1 := dk_seg dksX5_weekend_0 1 rfl rfl
theorem dksX5_weekend_2 : cX5_weekend.data.toList.drop 40 = dktX5_weekend_2 := dk_seg dksX5_weekend_1 39 rfl rfl
theorem dksX5_weekend_3 : cX5_weekend.data.toList.drop 64 = dktX5_weekend_3 := dk_seg dksX5_weekend_2 24 rfl rfl
theorem dksX5_weekend_4 : cX5_weekend.data.toList.drop 88 = dktX5_weekend_4 := dk_seg dksX5_weekend_3 24 rfl rfl
theorem dksX5_weekend_5 : cX5_weekend.data.toList.drop 111 = dktX5_weekend_5 := dk_seg dksX5_weekend_4 23 rfl rfl
theorem dksX5_weekend_6 : cX5_weekend.data.toList.drop 133 = dktX5_weekend_6 := dk_seg dksX5_weekend_5 22 rfl rfl
theorem dksX5_weekend_7 : cX5_weekend.data.toList.drop 156 = dktX5_weekend_7 := dk_seg dksX5_weekend_6 23 rfl rfl
theorem dksX5_weekend_8 : cX5_weekend.data.toList.drop 178 = dktX5_weekend_8 := dk_seg dksX5_weekend_7 22 rfl rfl
theorem dksX5_weekend_9 : cX5_weekend.data.toList.drop 201 = dktX5_weekend_9 := dk_seg dksX5_weekend_8 23 rfl rfl
theorem dX5_weekend_0 : decode cX5_weekend 0 = .ok (.iload_n 1, 1) := dk_27 (dk_at dksX5_weekend_0 0 rfl rfl)
theorem dX5_weekend_1 : decode cX5_weekend 1 = .ok (.tableswitch 164 1 6 #[39, 69, 52, 116, 69, 116], 39) := by decide +kernel
theorem dX5_weekend_40 : decode cX5_weekend 40 = .ok (.aload_n 0, 1) := dk_42 (dk_at dksX5_weekend_2 0 rfl rfl)
theorem dX5_weekend_41 : decode cX5_weekend 41 = .ok (.dup, 1) := dk_89 (dk_at dksX5_weekend_2 1 rfl rfl)
theorem dX5_weekend_42 : decode cX5_weekend 42 = .ok (.getfield 195, 3) := dk_180 0 195 (dk_at dksX5_weekend_2 2 rfl rfl)
theorem dX5_weekend_45 : decode cX5_weekend 45 = .ok (.iload_n 2, 1) := dk_28 (dk_at dksX5_weekend_2 5 rfl rfl)
theorem dX5_weekend_46 : decode cX5_weekend 46 = .ok (.iadd, 1) := dk_96 (dk_at dksX5_weekend_2 6 rfl rfl)
theorem dX5_weekend_47 : decode cX5_weekend 47 = .ok (.putfield 195, 3) := dk_181 0 195 (dk_at dksX5_weekend_2 7 rfl rfl)
theorem dX5_weekend_50 : decode cX5_weekend 50 = .ok (.goto 125, 3) := dk_167 0 125 (dk_at dksX5_weekend_2 10 rfl rfl)
theorem dX5_weekend_53 : decode cX5_weekend 53 = .ok (.aload_n 0, 1) := dk_42 (dk_at dksX5_weekend_2 13 rfl rfl)
theorem dX5_weekend_54 : decode cX5_weekend 54 = .ok (.dup, 1) := dk_89 (dk_at dksX5_weekend_2 14 rfl rfl)
theorem dX5_weekend_55 : decode cX5_weekend 55 = .ok (.getfield 195, 3) := dk_180 0 195 (dk_at dksX5_weekend_2 15 rfl rfl)
theorem dX5_weekend_58 : decode cX5_weekend 58 = .ok (.iconst 2, 1) := dk_5 (dk_at dksX5_weekend_2 18 rfl rfl)
theorem dX5_weekend_59 : decode cX5_weekend 59 = .ok (.iload_n 2, 1) := dk_28 (dk_at dksX5_weekend_2 19 rfl rfl)
theorem dX5_weekend_60 : decode cX5_weekend 60 = .ok (.imul, 1) := dk_104 (dk_at dksX5_weekend_2 20 rfl rfl)
theorem dX5_weekend_61 : decode cX5_weekend 61 = .ok (.iconst 3, 1) := dk_6 (dk_at dksX5_weekend_2 21 rfl rfl)
theorem dX5_weekend_62 : decode cX5_weekend 62 = .ok (.iadd, 1) := dk_96 (dk_at dksX5_weekend_2 22 rfl rfl)
theorem dX5_weekend_63 : decode cX5_weekend 63 = .ok (.iadd, 1) := dk_96 (dk_at dksX5_weekend_2 23 rfl rfl)
theorem dX5_weekend_64 : decode cX5_weekend 64 = .ok (.putfield 195, 3) := dk_181 0 195 (dk_at dksX5_weekend_3 0 rfl rfl)
theorem dX5_weekend_67 : decode cX5_weekend 67 = .ok (.goto 108, 3) := dk_167 0 108 (dk_at dksX5_weekend_3 3 rfl rfl)
theorem dX5_weekend_70 : decode cX5_weekend 70 = .ok (.aload_n 0, 1) := dk_42 (dk_at dksX5_weekend_3 6 rfl rfl)
theorem dX5_weekend_71 : decode cX5_weekend 71 = .ok (.dup, 1) := dk_89 (dk_at dksX5_weekend_3 7 rfl rfl)
theorem dX5_weekend_72 : decode cX5_weekend 72 = .ok (.getfield 195, 3) := dk_180 0 195 (dk_at dksX5_weekend_3 8 rfl rfl)
theorem dX5_weekend_75 : decode cX5_weekend 75 = .ok (.iload_n 2, 1) := dk_28 (dk_at dksX5_weekend_3 11 rfl rfl)
theorem dX5_weekend_76 : decode cX5_weekend 76 = .ok (.isub, 1) := dk_100 (dk_at dksX5_weekend_3 12 rfl rfl)
theorem dX5_weekend_77 : decode cX5_weekend 77 = .ok (.putfield 195, 3) := dk_181 0 195 (dk_at dksX5_weekend_3 13 rfl rfl)
theorem dX5_weekend_80 : decode cX5_weekend 80 = .ok (.aload_n 0, 1) := dk_42 (dk_at dksX5_weekend_3 16 rfl rfl)
theorem dX5_weekend_81 : decode cX5_weekend 81 = .ok (.aload_n 0, 1) := dk_42 (dk_at dksX5_weekend_3 17 rfl rfl)
theorem dX5_weekend_82 : decode cX5_weekend 82 = .ok (.aload_n 0, 1) := dk_42 (dk_at dksX5_weekend_3 18 rfl rfl)
theorem dX5_weekend_83 : decode cX5_weekend 83 = .ok (.getfield 198, 3) := dk_180 0 198 (dk_at dksX5_weekend_3 19 rfl rfl)
theorem dX5_weekend_86 : decode cX5_weekend 86 = .ok (.bipush 10, 2) := dk_16 10 (dk_at dksX5_weekend_3 22 rfl rfl)
theorem dX5_weekend_88 : decode cX5_weekend 88 = .ok (.iadd, 1) := dk_96 (dk_at dksX5_weekend_4 0 rfl rfl)
theorem dX5_weekend_89 : decode cX5_weekend 89 = .ok (.iload_n 2, 1) := dk_28 (dk_at dksX5_weekend_4 1 rfl rfl)
theorem dX5_weekend_90 : decode cX5_weekend 90 = .ok (.iadd, 1) := dk_96 (dk_at dksX5_weekend_4 2 rfl rfl)
theorem dX5_weekend_91 : decode cX5_weekend 91 = .ok (.bipush 99, 2) := dk_16 99 (dk_at dksX5_weekend_4 3 rfl rfl)
theorem dX5_weekend_93 : decode cX5_weekend 93 = .ok (.invokevirtual 216, 3) := dk_182 0 216 (dk_at dksX5_weekend_4 5 rfl rfl)
theorem dX5_weekend_96 : decode cX5_weekend 96 = .ok (.putfield 198, 3) := dk_181 0 198 (dk_at dksX5_weekend_4 8 rfl rfl)
theorem dX5_weekend_99 : decode cX5_weekend 99 = .ok (.iload_n 1, 1) := dk_27 (dk_at dksX5_weekend_4 11 rfl rfl)
theorem dX5_weekend_100 : decode cX5_weekend 100 = .ok (.iconst 5, 1) := dk_8 (dk_at dksX5_weekend_4 12 rfl rfl)
theorem dX5_weekend_101 : decode cX5_weekend 101 = .ok (.if_icmp .ne 74, 3) := dk_160 0 74 (dk_at dksX5_weekend_4 13 rfl rfl)
theorem dX5_weekend_104 : decode cX5_weekend 104 = .ok (.aload_n 0, 1) := dk_42 (dk_at dksX5_weekend_4 16 rfl rfl)
theorem dX5_weekend_105 : decode cX5_weekend 105 = .ok (.dup, 1) := dk_89 (dk_at dksX5_weekend_4 17 rfl rfl)
theorem dX5_weekend_106 : decode cX5_weekend 106 = .ok (.getfield 198, 3) := dk_180 0 198 (dk_at dksX5_weekend_4 18 rfl rfl)
theorem dX5_weekend_109 : decode cX5_weekend 109 = .ok (.iconst 2, 1) := dk_5 (dk_at dksX5_weekend_4 21 rfl rfl)
theorem dX5_weekend_110 : decode cX5_weekend 110 = .ok (.imul, 1) := dk_104 (dk_at dksX5_weekend_4 22 rfl rfl)
theorem dX5_weekend_111 : decode cX5_weekend 111 = .ok (.putfield 198, 3) := dk_181 0 198 (dk_at dksX5_weekend_5 0 rfl rfl)
theorem dX5_weekend_114 : decode cX5_weekend 114 = .ok (.goto 61, 3) := dk_167 0 61 (dk_at dksX5_weekend_5 3 rfl rfl)
theorem dX5_weekend_117 : decode cX5_weekend 117 = .ok (.aload_n 0, 1) := dk_42 (dk_at dksX5_weekend_5 6 rfl rfl)
theorem dX5_weekend_118 : decode cX5_weekend 118 = .ok (.aload_n 0, 1) := dk_42 (dk_at dksX5_weekend_5 7 rfl rfl)
theorem dX5_weekend_119 : decode cX5_weekend 119 = .ok (.aload_n 0, 1) := dk_42 (dk_at dksX5_weekend_5 8 rfl rfl)
theorem dX5_weekend_120 : decode cX5_weekend 120 = .ok (.getfield 195, 3) := dk_180 0 195 (dk_at dksX5_weekend_5 9 rfl rfl)
theorem dX5_weekend_123 : decode cX5_weekend 123 = .ok (.iconst 2, 1) := dk_5 (dk_at dksX5_weekend_5 12 rfl rfl)
theorem dX5_weekend_124 : decode cX5_weekend 124 = .ok (.iload_n 2, 1) := dk_28 (dk_at dksX5_weekend_5 13 rfl rfl)
theorem dX5_weekend_125 : decode cX5_weekend 125 = .ok (.imul, 1) := dk_104 (dk_at dksX5_weekend_5 14 rfl rfl)
theorem dX5_weekend_126 : decode cX5_weekend 126 = .ok (.isub, 1) := dk_100 (dk_at dksX5_weekend_5 15 rfl rfl)
theorem dX5_weekend_127 : decode cX5_weekend 127 = .ok (.sipush 400, 3) := dk_17 1 144 (dk_at dksX5_weekend_5 16 rfl rfl)
theorem dX5_weekend_130 : decode cX5_weekend 130 = .ok (.invokevirtual 216, 3) := dk_182 0 216 (dk_at dksX5_weekend_5 19 rfl rfl)
theorem dX5_weekend_133 : decode cX5_weekend 133 = .ok (.putfield 195, 3) := dk_181 0 195 (dk_at dksX5_weekend_6 0 rfl rfl)
theorem dX5_weekend_136 : decode cX5_weekend 136 = .ok (.iload_n 1, 1) := dk_27 (dk_at dksX5_weekend_6 3 rfl rfl)
theorem dX5_weekend_137 : decode cX5_weekend 137 = .ok (.bipush 6, 2) := dk_16 6 (dk_at dksX5_weekend_6 4 rfl rfl)
theorem dX5_weekend_139 : decode cX5_weekend 139 = .ok (.if_icmp .ne 36, 3) := dk_160 0 36 (dk_at dksX5_weekend_6 6 rfl rfl)
theorem dX5_weekend_142 : decode cX5_weekend 142 = .ok (.aload_n 0, 1) := dk_42 (dk_at dksX5_weekend_6 9 rfl rfl)
theorem dX5_weekend_143 : decode cX5_weekend 143 = .ok (.getfield 198, 3) := dk_180 0 198 (dk_at dksX5_weekend_6 10 rfl rfl)
theorem dX5_weekend_146 : decode cX5_weekend 146 = .ok (.bipush 20, 2) := dk_16 20 (dk_at dksX5_weekend_6 13 rfl rfl)
theorem dX5_weekend_148 : decode cX5_weekend 148 = .ok (.if_icmp .le 27, 3) := dk_164 0 27 (dk_at dksX5_weekend_6 15 rfl rfl)
theorem dX5_weekend_151 : decode cX5_weekend 151 = .ok (.aload_n 0, 1) := dk_42 (dk_at dksX5_weekend_6 18 rfl rfl)
theorem dX5_weekend_152 : decode cX5_weekend 152 = .ok (.dup, 1) := dk_89 (dk_at dksX5_weekend_6 19 rfl rfl)
theorem dX5_weekend_153 : decode cX5_weekend 153 = .ok (.getfield 195, 3) := dk_180 0 195 (dk_at dksX5_weekend_6 20 rfl rfl)
theorem dX5_weekend_156 : decode cX5_weekend 156 = .ok (.bipush 10, 2) := dk_16 10 (dk_at dksX5_weekend_7 0 rfl rfl)
theorem dX5_weekend_158 : decode cX5_weekend 158 = .ok (.isub, 1) := dk_100 (dk_at dksX5_weekend_7 2 rfl rfl)
theorem dX5_weekend_159 : decode cX5_weekend 159 = .ok (.putfield 195, 3) := dk_181 0 195 (dk_at dksX5_weekend_7 3 rfl rfl)
theorem dX5_weekend_162 : decode cX5_weekend 162 = .ok (.goto 13, 3) := dk_167 0 13 (dk_at dksX5_weekend_7 6 rfl rfl)
theorem dX5_weekend_165 : decode cX5_weekend 165 = .ok (.aload_n 0, 1) := dk_42 (dk_at dksX5_weekend_7 9 rfl rfl)
theorem dX5_weekend_166 : decode cX5_weekend 166 = .ok (.dup, 1) := dk_89 (dk_at dksX5_weekend_7 10 rfl rfl)
theorem dX5_weekend_167 : decode cX5_weekend 167 = .ok (.getfield 195, 3) := dk_180 0 195 (dk_at dksX5_weekend_7 11 rfl rfl)
theorem dX5_weekend_170 : decode cX5_weekend 170 = .ok (.iload_n 2, 1) := dk_28 (dk_at dksX5_weekend_7 14 rfl rfl)
theorem dX5_weekend_171 : decode cX5_weekend 171 = .ok (.isub, 1) := dk_100 (dk_at dksX5_weekend_7 15 rfl rfl)
theorem dX5_weekend_172 : decode cX5_weekend 172 = .ok (.putfield 195, 3) := dk_181 0 195 (dk_at dksX5_weekend_7 16 rfl rfl)
theorem dX5_weekend_175 : decode cX5_weekend 175 = .ok (.aload_n 0, 1) := dk_42 (dk_at dksX5_weekend_7 19 rfl rfl)
theorem dX5_weekend_176 : decode cX5_weekend 176 = .ok (.aload_n 0, 1) := dk_42 (dk_at dksX5_weekend_7 20 rfl rfl)
theorem dX5_weekend_177 : decode cX5_weekend 177 = .ok (.aload_n 0, 1) := dk_42 (dk_at dksX5_weekend_7 21 rfl rfl)
theorem dX5_weekend_178 : decode cX5_weekend 178 = .ok (.getfield 195, 3) := dk_180 0 195 (dk_at dksX5_weekend_8 0 rfl rfl)
theorem dX5_weekend_181 : decode cX5_weekend 181 = .ok (.sipush 400, 3) := dk_17 1 144 (dk_at dksX5_weekend_8 3 rfl rfl)
theorem dX5_weekend_184 : decode cX5_weekend 184 = .ok (.invokevirtual 216, 3) := dk_182 0 216 (dk_at dksX5_weekend_8 6 rfl rfl)
theorem dX5_weekend_187 : decode cX5_weekend 187 = .ok (.putfield 195, 3) := dk_181 0 195 (dk_at dksX5_weekend_8 9 rfl rfl)
theorem dX5_weekend_190 : decode cX5_weekend 190 = .ok (.aload_n 0, 1) := dk_42 (dk_at dksX5_weekend_8 12 rfl rfl)
theorem dX5_weekend_191 : decode cX5_weekend 191 = .ok (.aload_n 0, 1) := dk_42 (dk_at dksX5_weekend_8 13 rfl rfl)
theorem dX5_weekend_192 : decode cX5_weekend 192 = .ok (.aload_n 0, 1) := dk_42 (dk_at dksX5_weekend_8 14 rfl rfl)
theorem dX5_weekend_193 : decode cX5_weekend 193 = .ok (.getfield 198, 3) := dk_180 0 198 (dk_at dksX5_weekend_8 15 rfl rfl)
theorem dX5_weekend_196 : decode cX5_weekend 196 = .ok (.bipush 99, 2) := dk_16 99 (dk_at dksX5_weekend_8 18 rfl rfl)
theorem dX5_weekend_198 : decode cX5_weekend 198 = .ok (.invokevirtual 216, 3) := dk_182 0 216 (dk_at dksX5_weekend_8 20 rfl rfl)
theorem dX5_weekend_201 : decode cX5_weekend 201 = .ok (.putfield 198, 3) := dk_181 0 198 (dk_at dksX5_weekend_9 0 rfl rfl)
theorem dX5_weekend_204 : decode cX5_weekend 204 = .ok (.return_, 1) := dk_177 (dk_at dksX5_weekend_9 3 rfl rfl)
abbrev cX5_bound : ByteArray := prog_22_method_40_code
def yX5_bound : MethodName := ⟨RX5, "bound", "(II)I"⟩
def dkwX5_bound_0 : List UInt8 := [27, 156, 0, 7, 3, 167, 0, 13, 27, 28, 164, 0, 7, 28, 167, 0, 4, 27, 172]
abbrev dktX5_bound_0 : List UInt8 := dkwX5_bound_0 ++ []
theorem dksX5_bound_0 : cX5_bound.data.toList.drop 0 = dktX5_bound_0 := by decide +kernel
theorem dX5_bound_0 : decode cX5_bound 0 = .ok (.iload_n 1, 1) := dk_27 (dk_at dksX5_bound_0 0 rfl rfl)
theorem dX5_bound_1 : decode cX5_bound 1 = .ok (.ifCond .ge 7, 3) := dk_156 0 7 (dk_at dksX5_bound_0 1 rfl rfl)
theorem dX5_bound_4 : decode cX5_bound 4 = .ok (.iconst 0, 1) := dk_3 (dk_at dksX5_bound_0 4 rfl rfl)
theorem dX5_bound_5 : decode cX5_bound 5 = .ok (.goto 13, 3) := dk_167 0 13 (dk_at dksX5_bound_0 5 rfl rfl)
theorem dX5_bound_8 : decode cX5_bound 8 = .ok (.iload_n 1, 1) := dk_27 (dk_at dksX5_bound_0 8 rfl rfl)
theorem dX5_bound_9 : decode cX5_bound 9 = .ok (.iload_n 2, 1) := dk_28 (dk_at dksX5_bound_0 9 rfl rfl)
theorem dX5_bound_10 : decode cX5_bound 10 = .ok (.if_icmp .le 7, 3) := dk_164 0 7 (dk_at dksX5_bound_0 10 rfl rfl)
theorem dX5_bound_13 : decode cX5_bound 13 = .ok (.iload_n 2, 1) := dk_28 (dk_at dksX5_bound_0 13 rfl rfl)
theorem dX5_bound_14 : decode cX5_bound 14 = .ok (.goto 4, 3) := dk_167 0 4 (dk_at dksX5_bound_0 14 rfl rfl)
theorem dX5_bound_17 : decode cX5_bound 17 = .ok (.iload_n 1, 1) := dk_27 (dk_at dksX5_bound_0 17 rfl rfl)
theorem dX5_bound_18 : decode cX5_bound 18 = .ok (.ireturn, 1) := dk_172 (dk_at dksX5_bound_0 18 rfl rfl)
abbrev cX5_fault : ByteArray := prog_22_method_37_code
def yX5_fault : MethodName := ⟨RX5, "fault", "()I"⟩
theorem dX5_fault_0 : decode cX5_fault 0 = .ok (.aload_n 0, 1) := by decide +kernel
theorem dX5_fault_1 : decode cX5_fault 1 = .ok (.getfield 31, 3) := by decide +kernel
theorem dX5_fault_4 : decode cX5_fault 4 = .ok (.ireturn, 1) := by decide +kernel
abbrev cX5_norm : ByteArray := prog_22_method_47_code
def yX5_norm : MethodName := ⟨RX5, "norm", "(I)I"⟩
def dkwX5_norm_1 : List UInt8 := [42, 16, 250, 182, 0, 112, 172]
abbrev dktX5_norm_1 : List UInt8 := dkwX5_norm_1 ++ []
def dkwX5_norm_0 : List UInt8 := [27, 155, 0, 23, 27, 17, 3, 231, 163, 0, 16, 42, 42, 180, 0, 129, 27, 96, 182, 0, 213, 167, 0, 9]
abbrev dktX5_norm_0 : List UInt8 := dkwX5_norm_0 ++ dktX5_norm_1
theorem dksX5_norm_0 : cX5_norm.data.toList.drop 0 = dktX5_norm_0 := by decide +kernel
theorem dksX5_norm_1 : cX5_norm.data.toList.drop 24 = dktX5_norm_1 := dk_seg dksX5_norm_0 24 rfl rfl
theorem dX5_norm_0 : decode cX5_norm 0 = .ok (.iload_n 1, 1) := dk_27 (dk_at dksX5_norm_0 0 rfl rfl)
theorem dX5_norm_1 : decode cX5_norm 1 = .ok (.ifCond .lt 23, 3) := dk_155 0 23 (dk_at dksX5_norm_0 1 rfl rfl)
theorem dX5_norm_4 : decode cX5_norm 4 = .ok (.iload_n 1, 1) := dk_27 (dk_at dksX5_norm_0 4 rfl rfl)
theorem dX5_norm_5 : decode cX5_norm 5 = .ok (.sipush 999, 3) := dk_17 3 231 (dk_at dksX5_norm_0 5 rfl rfl)
theorem dX5_norm_8 : decode cX5_norm 8 = .ok (.if_icmp .gt 16, 3) := dk_163 0 16 (dk_at dksX5_norm_0 8 rfl rfl)
theorem dX5_norm_11 : decode cX5_norm 11 = .ok (.aload_n 0, 1) := dk_42 (dk_at dksX5_norm_0 11 rfl rfl)
theorem dX5_norm_12 : decode cX5_norm 12 = .ok (.aload_n 0, 1) := dk_42 (dk_at dksX5_norm_0 12 rfl rfl)
theorem dX5_norm_13 : decode cX5_norm 13 = .ok (.getfield 129, 3) := dk_180 0 129 (dk_at dksX5_norm_0 13 rfl rfl)
theorem dX5_norm_16 : decode cX5_norm 16 = .ok (.iload_n 1, 1) := dk_27 (dk_at dksX5_norm_0 16 rfl rfl)
theorem dX5_norm_17 : decode cX5_norm 17 = .ok (.iadd, 1) := dk_96 (dk_at dksX5_norm_0 17 rfl rfl)
theorem dX5_norm_18 : decode cX5_norm 18 = .ok (.invokevirtual 213, 3) := dk_182 0 213 (dk_at dksX5_norm_0 18 rfl rfl)
theorem dX5_norm_21 : decode cX5_norm 21 = .ok (.goto 9, 3) := dk_167 0 9 (dk_at dksX5_norm_0 21 rfl rfl)
theorem dX5_norm_24 : decode cX5_norm 24 = .ok (.aload_n 0, 1) := dk_42 (dk_at dksX5_norm_1 0 rfl rfl)
theorem dX5_norm_25 : decode cX5_norm 25 = .ok (.bipush (-6), 2) := dk_16 250 (dk_at dksX5_norm_1 1 rfl rfl)
theorem dX5_norm_27 : decode cX5_norm 27 = .ok (.invokevirtual 112, 3) := dk_182 0 112 (dk_at dksX5_norm_1 3 rfl rfl)
theorem dX5_norm_30 : decode cX5_norm 30 = .ok (.ireturn, 1) := dk_172 (dk_at dksX5_norm_1 6 rfl rfl)
abbrev cX5_judge : ByteArray := prog_22_method_51_code
def yX5_judge : MethodName := ⟨RX5, "judge", "(II)I"⟩
def dkwX5_judge_1 : List UInt8 := [182, 0, 234, 172]
abbrev dktX5_judge_1 : List UInt8 := dkwX5_judge_1 ++ []
def dkwX5_judge_0 : List UInt8 := [42, 27, 28, 182, 0, 231, 62, 29, 153, 0, 11, 42, 29, 182, 0, 237, 167, 0, 9, 42, 27, 28]
abbrev dktX5_judge_0 : List UInt8 := dkwX5_judge_0 ++ dktX5_judge_1
theorem dksX5_judge_0 : cX5_judge.data.toList.drop 0 = dktX5_judge_0 := by decide +kernel
theorem dksX5_judge_1 : cX5_judge.data.toList.drop 22 = dktX5_judge_1 := dk_seg dksX5_judge_0 22 rfl rfl
theorem dX5_judge_0 : decode cX5_judge 0 = .ok (.aload_n 0, 1) := dk_42 (dk_at dksX5_judge_0 0 rfl rfl)
theorem dX5_judge_1 : decode cX5_judge 1 = .ok (.iload_n 1, 1) := dk_27 (dk_at dksX5_judge_0 1 rfl rfl)
theorem dX5_judge_2 : decode cX5_judge 2 = .ok (.iload_n 2, 1) := dk_28 (dk_at dksX5_judge_0 2 rfl rfl)
theorem dX5_judge_3 : decode cX5_judge 3 = .ok (.invokevirtual 231, 3) := dk_182 0 231 (dk_at dksX5_judge_0 3 rfl rfl)
theorem dX5_judge_6 : decode cX5_judge 6 = .ok (.istore_n 3, 1) := dk_62 (dk_at dksX5_judge_0 6 rfl rfl)
theorem dX5_judge_7 : decode cX5_judge 7 = .ok (.iload_n 3, 1) := dk_29 (dk_at dksX5_judge_0 7 rfl rfl)
theorem dX5_judge_8 : decode cX5_judge 8 = .ok (.ifCond .eq 11, 3) := dk_153 0 11 (dk_at dksX5_judge_0 8 rfl rfl)
theorem dX5_judge_11 : decode cX5_judge 11 = .ok (.aload_n 0, 1) := dk_42 (dk_at dksX5_judge_0 11 rfl rfl)
theorem dX5_judge_12 : decode cX5_judge 12 = .ok (.iload_n 3, 1) := dk_29 (dk_at dksX5_judge_0 12 rfl rfl)
theorem dX5_judge_13 : decode cX5_judge 13 = .ok (.invokevirtual 237, 3) := dk_182 0 237 (dk_at dksX5_judge_0 13 rfl rfl)
theorem dX5_judge_16 : decode cX5_judge 16 = .ok (.goto 9, 3) := dk_167 0 9 (dk_at dksX5_judge_0 16 rfl rfl)
theorem dX5_judge_19 : decode cX5_judge 19 = .ok (.aload_n 0, 1) := dk_42 (dk_at dksX5_judge_0 19 rfl rfl)
theorem dX5_judge_20 : decode cX5_judge 20 = .ok (.iload_n 1, 1) := dk_27 (dk_at dksX5_judge_0 20 rfl rfl)
theorem dX5_judge_21 : decode cX5_judge 21 = .ok (.iload_n 2, 1) := dk_28 (dk_at dksX5_judge_0 21 rfl rfl)
theorem dX5_judge_22 : decode cX5_judge 22 = .ok (.invokevirtual 234, 3) := dk_182 0 234 (dk_at dksX5_judge_1 0 rfl rfl)
theorem dX5_judge_25 : decode cX5_judge 25 = .ok (.ireturn, 1) := dk_172 (dk_at dksX5_judge_1 3 rfl rfl)
abbrev cX5_barsOf : ByteArray := prog_22_method_49_code
def yX5_barsOf : MethodName := ⟨RX5, "barsOf", "(II)I"⟩
def dkwX5_barsOf_0 : List UInt8 := [42, 27, 28, 182, 0, 228, 62, 29, 154, 0, 14, 28, 16, 40, 164, 0, 8, 16, 250, 167, 0, 4, 29, 172]
abbrev dktX5_barsOf_0 : List UInt8 := dkwX5_barsOf_0 ++ []
theorem dksX5_barsOf_0 : cX5_barsOf.data.toList.drop 0 = dktX5_barsOf_0 := by decide +kernel
theorem dX5_barsOf_0 : decode cX5_barsOf 0 = .ok (.aload_n 0, 1) := dk_42 (dk_at dksX5_barsOf_0 0 rfl rfl)
theorem dX5_barsOf_1 : decode cX5_barsOf 1 = .ok (.iload_n 1, 1) := dk_27 (dk_at dksX5_barsOf_0 1 rfl rfl)
theorem dX5_barsOf_2 : decode cX5_barsOf 2 = .ok (.iload_n 2, 1) := dk_28 (dk_at dksX5_barsOf_0 2 rfl rfl)
theorem dX5_barsOf_3 : decode cX5_barsOf 3 = .ok (.invokevirtual 228, 3) := dk_182 0 228 (dk_at dksX5_barsOf_0 3 rfl rfl)
theorem dX5_barsOf_6 : decode cX5_barsOf 6 = .ok (.istore_n 3, 1) := dk_62 (dk_at dksX5_barsOf_0 6 rfl rfl)
theorem dX5_barsOf_7 : decode cX5_barsOf 7 = .ok (.iload_n 3, 1) := dk_29 (dk_at dksX5_barsOf_0 7 rfl rfl)
theorem dX5_barsOf_8 : decode cX5_barsOf 8 = .ok (.ifCond .ne 14, 3) := dk_154 0 14 (dk_at dksX5_barsOf_0 8 rfl rfl)
theorem dX5_barsOf_11 : decode cX5_barsOf 11 = .ok (.iload_n 2, 1) := dk_28 (dk_at dksX5_barsOf_0 11 rfl rfl)
theorem dX5_barsOf_12 : decode cX5_barsOf 12 = .ok (.bipush 40, 2) := dk_16 40 (dk_at dksX5_barsOf_0 12 rfl rfl)
theorem dX5_barsOf_14 : decode cX5_barsOf 14 = .ok (.if_icmp .le 8, 3) := dk_164 0 8 (dk_at dksX5_barsOf_0 14 rfl rfl)
theorem dX5_barsOf_17 : decode cX5_barsOf 17 = .ok (.bipush (-6), 2) := dk_16 250 (dk_at dksX5_barsOf_0 17 rfl rfl)
theorem dX5_barsOf_19 : decode cX5_barsOf 19 = .ok (.goto 4, 3) := dk_167 0 4 (dk_at dksX5_barsOf_0 19 rfl rfl)
theorem dX5_barsOf_22 : decode cX5_barsOf 22 = .ok (.iload_n 3, 1) := dk_29 (dk_at dksX5_barsOf_0 22 rfl rfl)
theorem dX5_barsOf_23 : decode cX5_barsOf 23 = .ok (.ireturn, 1) := dk_172 (dk_at dksX5_barsOf_0 23 rfl rfl)
abbrev cX5_bars : ByteArray := prog_22_method_17_code
def yX5_bars : MethodName := ⟨RX5, "bars", "(II)I"⟩
def dkwX5_bars_1 : List UInt8 := [180, 0, 62, 27, 46, 164, 0, 8, 16, 251, 167, 0, 4, 3, 172]
abbrev dktX5_bars_1 : List UInt8 := dkwX5_bars_1 ++ []
def dkwX5_bars_0 : List UInt8 := [42, 27, 182, 0, 119, 62, 29, 153, 0, 5, 29, 172, 28, 156, 0, 8, 16, 252, 167, 0, 19, 28, 42]
abbrev dktX5_bars_0 : List UInt8 := dkwX5_bars_0 ++ dktX5_bars_1
theorem dksX5_bars_0 : cX5_bars.data.toList.drop 0 = dktX5_bars_0 := by decide +kernel
theorem dksX5_bars_1 : cX5_bars.data.toList.drop 23 = dktX5_bars_1 := dk_seg dksX5_bars_0 23 rfl rfl
theorem dX5_bars_0 : decode cX5_bars 0 = .ok (.aload_n 0, 1) := dk_42 (dk_at dksX5_bars_0 0 rfl rfl)
theorem dX5_bars_1 : decode cX5_bars 1 = .ok (.iload_n 1, 1) := dk_27 (dk_at dksX5_bars_0 1 rfl rfl)
theorem dX5_bars_2 : decode cX5_bars 2 = .ok (.invokevirtual 119, 3) := dk_182 0 119 (dk_at dksX5_bars_0 2 rfl rfl)
theorem dX5_bars_5 : decode cX5_bars 5 = .ok (.istore_n 3, 1) := dk_62 (dk_at dksX5_bars_0 5 rfl rfl)
theorem dX5_bars_6 : decode cX5_bars 6 = .ok (.iload_n 3, 1) := dk_29 (dk_at dksX5_bars_0 6 rfl rfl)
theorem dX5_bars_7 : decode cX5_bars 7 = .ok (.ifCond .eq 5, 3) := dk_153 0 5 (dk_at dksX5_bars_0 7 rfl rfl)
theorem dX5_bars_10 : decode cX5_bars 10 = .ok (.iload_n 3, 1) := dk_29 (dk_at dksX5_bars_0 10 rfl rfl)
theorem dX5_bars_11 : decode cX5_bars 11 = .ok (.ireturn, 1) := dk_172 (dk_at dksX5_bars_0 11 rfl rfl)
theorem dX5_bars_12 : decode cX5_bars 12 = .ok (.iload_n 2, 1) := dk_28 (dk_at dksX5_bars_0 12 rfl rfl)
theorem dX5_bars_13 : decode cX5_bars 13 = .ok (.ifCond .ge 8, 3) := dk_156 0 8 (dk_at dksX5_bars_0 13 rfl rfl)
theorem dX5_bars_16 : decode cX5_bars 16 = .ok (.bipush (-4), 2) := dk_16 252 (dk_at dksX5_bars_0 16 rfl rfl)
theorem dX5_bars_18 : decode cX5_bars 18 = .ok (.goto 19, 3) := dk_167 0 19 (dk_at dksX5_bars_0 18 rfl rfl)
theorem dX5_bars_21 : decode cX5_bars 21 = .ok (.iload_n 2, 1) := dk_28 (dk_at dksX5_bars_0 21 rfl rfl)
theorem dX5_bars_22 : decode cX5_bars 22 = .ok (.aload_n 0, 1) := dk_42 (dk_at dksX5_bars_0 22 rfl rfl)
theorem dX5_bars_23 : decode cX5_bars 23 = .ok (.getfield 62, 3) := dk_180 0 62 (dk_at dksX5_bars_1 0 rfl rfl)
theorem dX5_bars_26 : decode cX5_bars 26 = .ok (.iload_n 1, 1) := dk_27 (dk_at dksX5_bars_1 3 rfl rfl)
theorem dX5_bars_27 : decode cX5_bars 27 = .ok (.iaload, 1) := dk_46 (dk_at dksX5_bars_1 4 rfl rfl)
theorem dX5_bars_28 : decode cX5_bars 28 = .ok (.if_icmp .le 8, 3) := dk_164 0 8 (dk_at dksX5_bars_1 5 rfl rfl)
theorem dX5_bars_31 : decode cX5_bars 31 = .ok (.bipush (-5), 2) := dk_16 251 (dk_at dksX5_bars_1 8 rfl rfl)
theorem dX5_bars_33 : decode cX5_bars 33 = .ok (.goto 4, 3) := dk_167 0 4 (dk_at dksX5_bars_1 10 rfl rfl)
theorem dX5_bars_36 : decode cX5_bars 36 = .ok (.iconst 0, 1) := dk_3 (dk_at dksX5_bars_1 13 rfl rfl)
theorem dX5_bars_37 : decode cX5_bars 37 = .ok (.ireturn, 1) := dk_172 (dk_at dksX5_bars_1 14 rfl rfl)
abbrev cX5_noTen : ByteArray := prog_22_method_3_code
def yX5_noTen : MethodName := ⟨RX5, "noTen", "(I)I"⟩
def dkwX5_noTen_0 : List UInt8 := [42, 180, 0, 34, 27, 116, 92, 46, 4, 96, 79, 27, 16, 10, 100, 172]
abbrev dktX5_noTen_0 : List UInt8 := dkwX5_noTen_0 ++ []
theorem dksX5_noTen_0 : cX5_noTen.data.toList.drop 0 = dktX5_noTen_0 := by decide +kernel
theorem dX5_noTen_0 : decode cX5_noTen 0 = .ok (.aload_n 0, 1) := dk_42 (dk_at dksX5_noTen_0 0 rfl rfl)
theorem dX5_noTen_1 : decode cX5_noTen 1 = .ok (.getfield 34, 3) := dk_180 0 34 (dk_at dksX5_noTen_0 1 rfl rfl)
theorem dX5_noTen_4 : decode cX5_noTen 4 = .ok (.iload_n 1, 1) := dk_27 (dk_at dksX5_noTen_0 4 rfl rfl)
theorem dX5_noTen_5 : decode cX5_noTen 5 = .ok (.ineg, 1) := dk_116 (dk_at dksX5_noTen_0 5 rfl rfl)
theorem dX5_noTen_6 : decode cX5_noTen 6 = .ok (.dup2, 1) := dk_92 (dk_at dksX5_noTen_0 6 rfl rfl)
theorem dX5_noTen_7 : decode cX5_noTen 7 = .ok (.iaload, 1) := dk_46 (dk_at dksX5_noTen_0 7 rfl rfl)
theorem dX5_noTen_8 : decode cX5_noTen 8 = .ok (.iconst 1, 1) := dk_4 (dk_at dksX5_noTen_0 8 rfl rfl)
theorem dX5_noTen_9 : decode cX5_noTen 9 = .ok (.iadd, 1) := dk_96 (dk_at dksX5_noTen_0 9 rfl rfl)
theorem dX5_noTen_10 : decode cX5_noTen 10 = .ok (.iastore, 1) := dk_79 (dk_at dksX5_noTen_0 10 rfl rfl)
theorem dX5_noTen_11 : decode cX5_noTen 11 = .ok (.iload_n 1, 1) := dk_27 (dk_at dksX5_noTen_0 11 rfl rfl)
theorem dX5_noTen_12 : decode cX5_noTen 12 = .ok (.bipush 10, 2) := dk_16 10 (dk_at dksX5_noTen_0 12 rfl rfl)
theorem dX5_noTen_14 : decode cX5_noTen 14 = .ok (.isub, 1) := dk_100 (dk_at dksX5_noTen_0 14 rfl rfl)
theorem dX5_noTen_15 : decode cX5_noTen 15 = .ok (.ireturn, 1) := dk_172 (dk_at dksX5_noTen_0 15 rfl rfl)
abbrev cX5_wrongIn : ByteArray := prog_22_method_48_code
def yX5_wrongIn : MethodName := ⟨RX5, "wrongIn", "(II)I"⟩
def dkwX5_wrongIn_1 : List UInt8 := [182, 0, 165, 154, 0, 5, 29, 172, 132, 3, 1, 167, 255, 223, 2, 172]
abbrev dktX5_wrongIn_1 : List UInt8 := dkwX5_wrongIn_1 ++ []
def dkwX5_wrongIn_0 : List UInt8 := [3, 62, 29, 28, 162, 0, 34, 42, 27, 29, 182, 0, 225, 2, 159, 0, 18, 42, 42, 27, 29, 182, 0, 225]
abbrev dktX5_wrongIn_0 : List UInt8 := dkwX5_wrongIn_0 ++ dktX5_wrongIn_1
theorem dksX5_wrongIn_0 : cX5_wrongIn.data.toList.drop 0 = dktX5_wrongIn_0 := by decide +kernel
theorem dksX5_wrongIn_1 : cX5_wrongIn.data.toList.drop 24 = dktX5_wrongIn_1 := dk_seg dksX5_wrongIn_0 24 rfl rfl
theorem dX5_wrongIn_0 : decode cX5_wrongIn 0 = .ok (.iconst 0, 1) := dk_3 (dk_at dksX5_wrongIn_0 0 rfl rfl)
theorem dX5_wrongIn_1 : decode cX5_wrongIn 1 = .ok (.istore_n 3, 1) := dk_62 (dk_at dksX5_wrongIn_0 1 rfl rfl)
theorem dX5_wrongIn_2 : decode cX5_wrongIn 2 = .ok (.iload_n 3, 1) := dk_29 (dk_at dksX5_wrongIn_0 2 rfl rfl)
theorem dX5_wrongIn_3 : decode cX5_wrongIn 3 = .ok (.iload_n 2, 1) := dk_28 (dk_at dksX5_wrongIn_0 3 rfl rfl)
theorem dX5_wrongIn_4 : decode cX5_wrongIn 4 = .ok (.if_icmp .ge 34, 3) := dk_162 0 34 (dk_at dksX5_wrongIn_0 4 rfl rfl)
theorem dX5_wrongIn_7 : decode cX5_wrongIn 7 = .ok (.aload_n 0, 1) := dk_42 (dk_at dksX5_wrongIn_0 7 rfl rfl)
theorem dX5_wrongIn_8 : decode cX5_wrongIn 8 = .ok (.iload_n 1, 1) := dk_27 (dk_at dksX5_wrongIn_0 8 rfl rfl)
theorem dX5_wrongIn_9 : decode cX5_wrongIn 9 = .ok (.iload_n 3, 1) := dk_29 (dk_at dksX5_wrongIn_0 9 rfl rfl)
theorem dX5_wrongIn_10 : decode cX5_wrongIn 10 = .ok (.invokevirtual 225, 3) := dk_182 0 225 (dk_at dksX5_wrongIn_0 10 rfl rfl)
theorem dX5_wrongIn_13 : decode cX5_wrongIn 13 = .ok (.iconst (-1), 1) := dk_2 (dk_at dksX5_wrongIn_0 13 rfl rfl)
theorem dX5_wrongIn_14 : decode cX5_wrongIn 14 = .ok (.if_icmp .eq 18, 3) := dk_159 0 18 (dk_at dksX5_wrongIn_0 14 rfl rfl)
theorem dX5_wrongIn_17 : decode cX5_wrongIn 17 = .ok (.aload_n 0, 1) := dk_42 (dk_at dksX5_wrongIn_0 17 rfl rfl)
theorem dX5_wrongIn_18 : decode cX5_wrongIn 18 = .ok (.aload_n 0, 1) := dk_42 (dk_at dksX5_wrongIn_0 18 rfl rfl)
theorem dX5_wrongIn_19 : decode cX5_wrongIn 19 = .ok (.iload_n 1, 1) := dk_27 (dk_at dksX5_wrongIn_0 19 rfl rfl)
theorem dX5_wrongIn_20 : decode cX5_wrongIn 20 = .ok (.iload_n 3, 1) := dk_29 (dk_at dksX5_wrongIn_0 20 rfl rfl)
theorem dX5_wrongIn_21 : decode cX5_wrongIn 21 = .ok (.invokevirtual 225, 3) := dk_182 0 225 (dk_at dksX5_wrongIn_0 21 rfl rfl)
theorem dX5_wrongIn_24 : decode cX5_wrongIn 24 = .ok (.invokevirtual 165, 3) := dk_182 0 165 (dk_at dksX5_wrongIn_1 0 rfl rfl)
theorem dX5_wrongIn_27 : decode cX5_wrongIn 27 = .ok (.ifCond .ne 5, 3) := dk_154 0 5 (dk_at dksX5_wrongIn_1 3 rfl rfl)
theorem dX5_wrongIn_30 : decode cX5_wrongIn 30 = .ok (.iload_n 3, 1) := dk_29 (dk_at dksX5_wrongIn_1 6 rfl rfl)
theorem dX5_wrongIn_31 : decode cX5_wrongIn 31 = .ok (.ireturn, 1) := dk_172 (dk_at dksX5_wrongIn_1 7 rfl rfl)
theorem dX5_wrongIn_32 : decode cX5_wrongIn 32 = .ok (.iinc 3 1, 3) := dk_132 3 1 (dk_at dksX5_wrongIn_1 8 rfl rfl)
theorem dX5_wrongIn_35 : decode cX5_wrongIn 35 = .ok (.goto (-33), 3) := dk_167 255 223 (dk_at dksX5_wrongIn_1 11 rfl rfl)
theorem dX5_wrongIn_38 : decode cX5_wrongIn 38 = .ok (.iconst (-1), 1) := dk_2 (dk_at dksX5_wrongIn_1 14 rfl rfl)
theorem dX5_wrongIn_39 : decode cX5_wrongIn 39 = .ok (.ireturn, 1) := dk_172 (dk_at dksX5_wrongIn_1 15 rfl rfl)
abbrev cX5_intAt : ByteArray := prog_22_method_16_code
def yX5_intAt : MethodName := ⟨RX5, "intAt", "(II)I"⟩
def dkwX5_intAt_0 : List UInt8 := [42, 180, 0, 68, 17, 0, 160, 27, 104, 28, 96, 47, 136, 172]
abbrev dktX5_intAt_0 : List UInt8 := dkwX5_intAt_0 ++ []
theorem dksX5_intAt_0 : cX5_intAt.data.toList.drop 0 = dktX5_intAt_0 := by decide +kernel
theorem dX5_intAt_0 : decode cX5_intAt 0 = .ok (.aload_n 0, 1) := dk_42 (dk_at dksX5_intAt_0 0 rfl rfl)
theorem dX5_intAt_1 : decode cX5_intAt 1 = .ok (.getfield 68, 3) := dk_180 0 68 (dk_at dksX5_intAt_0 1 rfl rfl)
theorem dX5_intAt_4 : decode cX5_intAt 4 = .ok (.sipush 160, 3) := dk_17 0 160 (dk_at dksX5_intAt_0 4 rfl rfl)
theorem dX5_intAt_7 : decode cX5_intAt 7 = .ok (.iload_n 1, 1) := dk_27 (dk_at dksX5_intAt_0 7 rfl rfl)
theorem dX5_intAt_8 : decode cX5_intAt 8 = .ok (.imul, 1) := dk_104 (dk_at dksX5_intAt_0 8 rfl rfl)
theorem dX5_intAt_9 : decode cX5_intAt 9 = .ok (.iload_n 2, 1) := dk_28 (dk_at dksX5_intAt_0 9 rfl rfl)
theorem dX5_intAt_10 : decode cX5_intAt 10 = .ok (.iadd, 1) := dk_96 (dk_at dksX5_intAt_0 10 rfl rfl)
theorem dX5_intAt_11 : decode cX5_intAt 11 = .ok (.laload, 1) := dk_47 (dk_at dksX5_intAt_0 11 rfl rfl)
theorem dX5_intAt_12 : decode cX5_intAt 12 = .ok (.l2i, 1) := dk_136 (dk_at dksX5_intAt_0 12 rfl rfl)
theorem dX5_intAt_13 : decode cX5_intAt 13 = .ok (.ireturn, 1) := dk_172 (dk_at dksX5_intAt_0 13 rfl rfl)
abbrev cX5_behind : ByteArray := prog_22_method_52_code
def yX5_behind : MethodName := ⟨RX5, "behind", "(III)I"⟩
def dkwX5_behind_5 : List UInt8 := [42, 180, 0, 204, 172]
abbrev dktX5_behind_5 : List UInt8 := dkwX5_behind_5 ++ []
def dkwX5_behind_4 : List UInt8 := [29, 4, 160, 0, 10, 42, 180, 0, 198, 167, 0, 19, 29, 5, 160, 0, 10, 42, 180, 0, 201, 167, 0, 7]
abbrev dktX5_behind_4 : List UInt8 := dkwX5_behind_4 ++ dktX5_behind_5
def dkwX5_behind_3 : List UInt8 := [182, 0, 225, 182, 0, 246, 87, 132, 5, 1, 167, 255, 235, 29, 154, 0, 10, 42, 180, 0, 195, 167, 0, 31]
abbrev dktX5_behind_3 : List UInt8 := dkwX5_behind_3 ++ dktX5_behind_4
def dkwX5_behind_2 : List UInt8 := [182, 0, 112, 172, 42, 182, 0, 243, 3, 54, 5, 21, 5, 28, 162, 0, 21, 42, 42, 27, 21, 5]
abbrev dktX5_behind_2 : List UInt8 := dkwX5_behind_2 ++ dktX5_behind_3
def dkwX5_behind_1 : List UInt8 := [54, 4, 21, 4, 154, 0, 11, 42, 27, 28, 182, 0, 240, 54, 4, 21, 4, 153, 0, 10, 42, 21, 4]
abbrev dktX5_behind_1 : List UInt8 := dkwX5_behind_1 ++ dktX5_behind_2
def dkwX5_behind_0 : List UInt8 := [42, 27, 28, 182, 0, 228, 54, 4, 21, 4, 154, 0, 16, 29, 155, 0, 8, 29, 6, 164, 0, 7, 16, 251]
abbrev dktX5_behind_0 : List UInt8 := dkwX5_behind_0 ++ dktX5_behind_1
theorem dksX5_behind_0 : cX5_behind.data.toList.drop 0 = dktX5_behind_0 := by decide +kernel
theorem dksX5_behind_1 : cX5_behind.data.toList.drop 24 = dktX5_behind_1 := dk_seg dksX5_behind_0 24 rfl rfl
theorem dksX5_behind_2 : cX5_behind.data.toList.drop 47 = dktX5_behind_2 := dk_seg dksX5_behind_1 23 rfl rfl
theorem dksX5_behind_3 : cX5_behind.data.toList.drop 69 = dktX5_behind_3 := dk_seg dksX5_behind_2 22 rfl rfl
theorem dksX5_behind_4 : cX5_behind.data.toList.drop 93 = dktX5_behind_4 := dk_seg dksX5_behind_3 24 rfl rfl
theorem dksX5_behind_5 : cX5_behind.data.toList.drop 117 = dktX5_behind_5 := dk_seg dksX5_behind_4 24 rfl rfl
theorem dX5_behind_0 : decode cX5_behind 0 = .ok (.aload_n 0, 1) := dk_42 (dk_at dksX5_behind_0 0 rfl rfl)
theorem dX5_behind_1 : decode cX5_behind 1 = .ok (.iload_n 1, 1) := dk_27 (dk_at dksX5_behind_0 1 rfl rfl)
theorem dX5_behind_2 : decode cX5_behind 2 = .ok (.iload_n 2, 1) := dk_28 (dk_at dksX5_behind_0 2 rfl rfl)
theorem dX5_behind_3 : decode cX5_behind 3 = .ok (.invokevirtual 228, 3) := dk_182 0 228 (dk_at dksX5_behind_0 3 rfl rfl)
theorem dX5_behind_6 : decode cX5_behind 6 = .ok (.istore 4, 2) := dk_54 4 (dk_at dksX5_behind_0 6 rfl rfl)
theorem dX5_behind_8 : decode cX5_behind 8 = .ok (.iload 4, 2) := dk_21 4 (dk_at dksX5_behind_0 8 rfl rfl)
theorem dX5_behind_10 : decode cX5_behind 10 = .ok (.ifCond .ne 16, 3) := dk_154 0 16 (dk_at dksX5_behind_0 10 rfl rfl)
theorem dX5_behind_13 : decode cX5_behind 13 = .ok (.iload_n 3, 1) := dk_29 (dk_at dksX5_behind_0 13 rfl rfl)
theorem dX5_behind_14 : decode cX5_behind 14 = .ok (.ifCond .lt 8, 3) := dk_155 0 8 (dk_at dksX5_behind_0 14 rfl rfl)
theorem dX5_behind_17 : decode cX5_behind 17 = .ok (.iload_n 3, 1) := dk_29 (dk_at dksX5_behind_0 17 rfl rfl)
theorem dX5_behind_18 : decode cX5_behind 18 = .ok (.iconst 3, 1) := dk_6 (dk_at dksX5_behind_0 18 rfl rfl)
theorem dX5_behind_19 : decode cX5_behind 19 = .ok (.if_icmp .le 7, 3) := dk_164 0 7 (dk_at dksX5_behind_0 19 rfl rfl)
theorem dX5_behind_22 : decode cX5_behind 22 = .ok (.bipush (-5), 2) := dk_16 251 (dk_at dksX5_behind_0 22 rfl rfl)
theorem dX5_behind_24 : decode cX5_behind 24 = .ok (.istore 4, 2) := dk_54 4 (dk_at dksX5_behind_1 0 rfl rfl)
theorem dX5_behind_26 : decode cX5_behind 26 = .ok (.iload 4, 2) := dk_21 4 (dk_at dksX5_behind_1 2 rfl rfl)
theorem dX5_behind_28 : decode cX5_behind 28 = .ok (.ifCond .ne 11, 3) := dk_154 0 11 (dk_at dksX5_behind_1 4 rfl rfl)
theorem dX5_behind_31 : decode cX5_behind 31 = .ok (.aload_n 0, 1) := dk_42 (dk_at dksX5_behind_1 7 rfl rfl)
theorem dX5_behind_32 : decode cX5_behind 32 = .ok (.iload_n 1, 1) := dk_27 (dk_at dksX5_behind_1 8 rfl rfl)
theorem dX5_behind_33 : decode cX5_behind 33 = .ok (.iload_n 2, 1) := dk_28 (dk_at dksX5_behind_1 9 rfl rfl)
theorem dX5_behind_34 : decode cX5_behind 34 = .ok (.invokevirtual 240, 3) := dk_182 0 240 (dk_at dksX5_behind_1 10 rfl rfl)
theorem dX5_behind_37 : decode cX5_behind 37 = .ok (.istore 4, 2) := dk_54 4 (dk_at dksX5_behind_1 13 rfl rfl)
theorem dX5_behind_39 : decode cX5_behind 39 = .ok (.iload 4, 2) := dk_21 4 (dk_at dksX5_behind_1 15 rfl rfl)
theorem dX5_behind_41 : decode cX5_behind 41 = .ok (.ifCond .eq 10, 3) := dk_153 0 10 (dk_at dksX5_behind_1 17 rfl rfl)
theorem dX5_behind_44 : decode cX5_behind 44 = .ok (.aload_n 0, 1) := dk_42 (dk_at dksX5_behind_1 20 rfl rfl)
theorem dX5_behind_45 : decode cX5_behind 45 = .ok (.iload 4, 2) := dk_21 4 (dk_at dksX5_behind_1 21 rfl rfl)
theorem dX5_behind_47 : decode cX5_behind 47 = .ok (.invokevirtual 112, 3) := dk_182 0 112 (dk_at dksX5_behind_2 0 rfl rfl)
theorem dX5_behind_50 : decode cX5_behind 50 = .ok (.ireturn, 1) := dk_172 (dk_at dksX5_behind_2 3 rfl rfl)
theorem dX5_behind_51 : decode cX5_behind 51 = .ok (.aload_n 0, 1) := dk_42 (dk_at dksX5_behind_2 4 rfl rfl)
theorem dX5_behind_52 : decode cX5_behind 52 = .ok (.invokevirtual 243, 3) := dk_182 0 243 (dk_at dksX5_behind_2 5 rfl rfl)
theorem dX5_behind_55 : decode cX5_behind 55 = .ok (.iconst 0, 1) := dk_3 (dk_at dksX5_behind_2 8 rfl rfl)
theorem dX5_behind_56 : decode cX5_behind 56 = .ok (.istore 5, 2) := dk_54 5 (dk_at dksX5_behind_2 9 rfl rfl)
theorem dX5_behind_58 : decode cX5_behind 58 = .ok (.iload 5, 2) := dk_21 5 (dk_at dksX5_behind_2 11 rfl rfl)
theorem dX5_behind_60 : decode cX5_behind 60 = .ok (.iload_n 2, 1) := dk_28 (dk_at dksX5_behind_2 13 rfl rfl)
theorem dX5_behind_61 : decode cX5_behind 61 = .ok (.if_icmp .ge 21, 3) := dk_162 0 21 (dk_at dksX5_behind_2 14 rfl rfl)
theorem dX5_behind_64 : decode cX5_behind 64 = .ok (.aload_n 0, 1) := dk_42 (dk_at dksX5_behind_2 17 rfl rfl)
theorem dX5_behind_65 : decode cX5_behind 65 = .ok (.aload_n 0, 1) := dk_42 (dk_at dksX5_behind_2 18 rfl rfl)
theorem dX5_behind_66 : decode cX5_behind 66 = .ok (.iload_n 1, 1) := dk_27 (dk_at dksX5_behind_2 19 rfl rfl)
theorem dX5_behind_67 : decode cX5_behind 67 = .ok (.iload 5, 2) := dk_21 5 (dk_at dksX5_behind_2 20 rfl rfl)
theorem dX5_behind_69 : decode cX5_behind 69 = .ok (.invokevirtual 225, 3) := dk_182 0 225 (dk_at dksX5_behind_3 0 rfl rfl)
theorem dX5_behind_72 : decode cX5_behind 72 = .ok (.invokevirtual 246, 3) := dk_182 0 246 (dk_at dksX5_behind_3 3 rfl rfl)
theorem dX5_behind_75 : decode cX5_behind 75 = .ok (.pop, 1) := dk_87 (dk_at dksX5_behind_3 6 rfl rfl)
theorem dX5_behind_76 : decode cX5_behind 76 = .ok (.iinc 5 1, 3) := dk_132 5 1 (dk_at dksX5_behind_3 7 rfl rfl)
theorem dX5_behind_79 : decode cX5_behind 79 = .ok (.goto (-21), 3) := dk_167 255 235 (dk_at dksX5_behind_3 10 rfl rfl)
theorem dX5_behind_82 : decode cX5_behind 82 = .ok (.iload_n 3, 1) := dk_29 (dk_at dksX5_behind_3 13 rfl rfl)
theorem dX5_behind_83 : decode cX5_behind 83 = .ok (.ifCond .ne 10, 3) := dk_154 0 10 (dk_at dksX5_behind_3 14 rfl rfl)
theorem dX5_behind_86 : decode cX5_behind 86 = .ok (.aload_n 0, 1) := dk_42 (dk_at dksX5_behind_3 17 rfl rfl)
theorem dX5_behind_87 : decode cX5_behind 87 = .ok (.getfield 195, 3) := dk_180 0 195 (dk_at dksX5_behind_3 18 rfl rfl)
theorem dX5_behind_90 : decode cX5_behind 90 = .ok (.goto 31, 3) := dk_167 0 31 (dk_at dksX5_behind_3 21 rfl rfl)
theorem dX5_behind_93 : decode cX5_behind 93 = .ok (.iload_n 3, 1) := dk_29 (dk_at dksX5_behind_4 0 rfl rfl)
theorem dX5_behind_94 : decode cX5_behind 94 = .ok (.iconst 1, 1) := dk_4 (dk_at dksX5_behind_4 1 rfl rfl)
theorem dX5_behind_95 : decode cX5_behind 95 = .ok (.if_icmp .ne 10, 3) := dk_160 0 10 (dk_at dksX5_behind_4 2 rfl rfl)
theorem dX5_behind_98 : decode cX5_behind 98 = .ok (.aload_n 0, 1) := dk_42 (dk_at dksX5_behind_4 5 rfl rfl)
theorem dX5_behind_99 : decode cX5_behind 99 = .ok (.getfield 198, 3) := dk_180 0 198 (dk_at dksX5_behind_4 6 rfl rfl)
theorem dX5_behind_102 : decode cX5_behind 102 = .ok (.goto 19, 3) := dk_167 0 19 (dk_at dksX5_behind_4 9 rfl rfl)
theorem dX5_behind_105 : decode cX5_behind 105 = .ok (.iload_n 3, 1) := dk_29 (dk_at dksX5_behind_4 12 rfl rfl)
theorem dX5_behind_106 : decode cX5_behind 106 = .ok (.iconst 2, 1) := dk_5 (dk_at dksX5_behind_4 13 rfl rfl)
theorem dX5_behind_107 : decode cX5_behind 107 = .ok (.if_icmp .ne 10, 3) := dk_160 0 10 (dk_at dksX5_behind_4 14 rfl rfl)
theorem dX5_behind_110 : decode cX5_behind 110 = .ok (.aload_n 0, 1) := dk_42 (dk_at dksX5_behind_4 17 rfl rfl)
theorem dX5_behind_111 : decode cX5_behind 111 = .ok (.getfield 201, 3) := dk_180 0 201 (dk_at dksX5_behind_4 18 rfl rfl)
theorem dX5_behind_114 : decode cX5_behind 114 = .ok (.goto 7, 3) := dk_167 0 7 (dk_at dksX5_behind_4 21 rfl rfl)
theorem dX5_behind_117 : decode cX5_behind 117 = .ok (.aload_n 0, 1) := dk_42 (dk_at dksX5_behind_5 0 rfl rfl)
theorem dX5_behind_118 : decode cX5_behind 118 = .ok (.getfield 204, 3) := dk_180 0 204 (dk_at dksX5_behind_5 1 rfl rfl)
theorem dX5_behind_121 : decode cX5_behind 121 = .ok (.ireturn, 1) := dk_172 (dk_at dksX5_behind_5 4 rfl rfl)
abbrev cX5_barsRight : ByteArray := prog_22_method_50_code
def yX5_barsRight : MethodName := ⟨RX5, "barsRight", "(II)I"⟩
def dkwX5_barsRight_1 : List UInt8 := [167, 0, 4, 29, 172]
abbrev dktX5_barsRight_1 : List UInt8 := dkwX5_barsRight_1 ++ []
def dkwX5_barsRight_0 : List UInt8 := [42, 27, 28, 182, 0, 231, 62, 29, 154, 0, 18, 42, 27, 28, 182, 0, 234, 2, 159, 0, 8, 16, 250]
abbrev dktX5_barsRight_0 : List UInt8 := dkwX5_barsRight_0 ++ dktX5_barsRight_1
theorem dksX5_barsRight_0 : cX5_barsRight.data.toList.drop 0 = dktX5_barsRight_0 := by decide +kernel
theorem dksX5_barsRight_1 : cX5_barsRight.data.toList.drop 23 = dktX5_barsRight_1 := dk_seg dksX5_barsRight_0 23 rfl rfl
theorem dX5_barsRight_0 : decode cX5_barsRight 0 = .ok (.aload_n 0, 1) := dk_42 (dk_at dksX5_barsRight_0 0 rfl rfl)
theorem dX5_barsRight_1 : decode cX5_barsRight 1 = .ok (.iload_n 1, 1) := dk_27 (dk_at dksX5_barsRight_0 1 rfl rfl)
theorem dX5_barsRight_2 : decode cX5_barsRight 2 = .ok (.iload_n 2, 1) := dk_28 (dk_at dksX5_barsRight_0 2 rfl rfl)
theorem dX5_barsRight_3 : decode cX5_barsRight 3 = .ok (.invokevirtual 231, 3) := dk_182 0 231 (dk_at dksX5_barsRight_0 3 rfl rfl)
theorem dX5_barsRight_6 : decode cX5_barsRight 6 = .ok (.istore_n 3, 1) := dk_62 (dk_at dksX5_barsRight_0 6 rfl rfl)
theorem dX5_barsRight_7 : decode cX5_barsRight 7 = .ok (.iload_n 3, 1) := dk_29 (dk_at dksX5_barsRight_0 7 rfl rfl)
theorem dX5_barsRight_8 : decode cX5_barsRight 8 = .ok (.ifCond .ne 18, 3) := dk_154 0 18 (dk_at dksX5_barsRight_0 8 rfl rfl)
theorem dX5_barsRight_11 : decode cX5_barsRight 11 = .ok (.aload_n 0, 1) := dk_42 (dk_at dksX5_barsRight_0 11 rfl rfl)
theorem dX5_barsRight_12 : decode cX5_barsRight 12 = .ok (.iload_n 1, 1) := dk_27 (dk_at dksX5_barsRight_0 12 rfl rfl)
theorem dX5_barsRight_13 : decode cX5_barsRight 13 = .ok (.iload_n 2, 1) := dk_28 (dk_at dksX5_barsRight_0 13 rfl rfl)
theorem dX5_barsRight_14 : decode cX5_barsRight 14 = .ok (.invokevirtual 234, 3) := dk_182 0 234 (dk_at dksX5_barsRight_0 14 rfl rfl)
theorem dX5_barsRight_17 : decode cX5_barsRight 17 = .ok (.iconst (-1), 1) := dk_2 (dk_at dksX5_barsRight_0 17 rfl rfl)
theorem dX5_barsRight_18 : decode cX5_barsRight 18 = .ok (.if_icmp .eq 8, 3) := dk_159 0 8 (dk_at dksX5_barsRight_0 18 rfl rfl)
theorem dX5_barsRight_21 : decode cX5_barsRight 21 = .ok (.bipush (-6), 2) := dk_16 250 (dk_at dksX5_barsRight_0 21 rfl rfl)
theorem dX5_barsRight_23 : decode cX5_barsRight 23 = .ok (.goto 4, 3) := dk_167 0 4 (dk_at dksX5_barsRight_1 0 rfl rfl)
theorem dX5_barsRight_26 : decode cX5_barsRight 26 = .ok (.iload_n 3, 1) := dk_29 (dk_at dksX5_barsRight_1 3 rfl rfl)
theorem dX5_barsRight_27 : decode cX5_barsRight 27 = .ok (.ireturn, 1) := dk_172 (dk_at dksX5_barsRight_1 4 rfl rfl)
abbrev cX5_whose : ByteArray := prog_22_method_54_code
def yX5_whose : MethodName := ⟨RX5, "whose", "(I)I"⟩
def dkwX5_whose_1 : List UInt8 := [27, 182, 0, 252, 172]
abbrev dktX5_whose_1 : List UInt8 := dkwX5_whose_1 ++ []
def dkwX5_whose_0 : List UInt8 := [27, 155, 0, 15, 27, 4, 163, 0, 10, 42, 182, 0, 249, 154, 0, 10, 42, 16, 251, 182, 0, 112, 172, 42]
abbrev dktX5_whose_0 : List UInt8 := dkwX5_whose_0 ++ dktX5_whose_1
theorem dksX5_whose_0 : cX5_whose.data.toList.drop 0 = dktX5_whose_0 := by decide +kernel
theorem dksX5_whose_1 : cX5_whose.data.toList.drop 24 = dktX5_whose_1 := dk_seg dksX5_whose_0 24 rfl rfl
theorem dX5_whose_0 : decode cX5_whose 0 = .ok (.iload_n 1, 1) := dk_27 (dk_at dksX5_whose_0 0 rfl rfl)
theorem dX5_whose_1 : decode cX5_whose 1 = .ok (.ifCond .lt 15, 3) := dk_155 0 15 (dk_at dksX5_whose_0 1 rfl rfl)
theorem dX5_whose_4 : decode cX5_whose 4 = .ok (.iload_n 1, 1) := dk_27 (dk_at dksX5_whose_0 4 rfl rfl)
theorem dX5_whose_5 : decode cX5_whose 5 = .ok (.iconst 1, 1) := dk_4 (dk_at dksX5_whose_0 5 rfl rfl)
theorem dX5_whose_6 : decode cX5_whose 6 = .ok (.if_icmp .gt 10, 3) := dk_163 0 10 (dk_at dksX5_whose_0 6 rfl rfl)
theorem dX5_whose_9 : decode cX5_whose 9 = .ok (.aload_n 0, 1) := dk_42 (dk_at dksX5_whose_0 9 rfl rfl)
theorem dX5_whose_10 : decode cX5_whose 10 = .ok (.invokevirtual 249, 3) := dk_182 0 249 (dk_at dksX5_whose_0 10 rfl rfl)
theorem dX5_whose_13 : decode cX5_whose 13 = .ok (.ifCond .ne 10, 3) := dk_154 0 10 (dk_at dksX5_whose_0 13 rfl rfl)
theorem dX5_whose_16 : decode cX5_whose 16 = .ok (.aload_n 0, 1) := dk_42 (dk_at dksX5_whose_0 16 rfl rfl)
theorem dX5_whose_17 : decode cX5_whose 17 = .ok (.bipush (-5), 2) := dk_16 251 (dk_at dksX5_whose_0 17 rfl rfl)
theorem dX5_whose_19 : decode cX5_whose 19 = .ok (.invokevirtual 112, 3) := dk_182 0 112 (dk_at dksX5_whose_0 19 rfl rfl)
theorem dX5_whose_22 : decode cX5_whose 22 = .ok (.ireturn, 1) := dk_172 (dk_at dksX5_whose_0 22 rfl rfl)
theorem dX5_whose_23 : decode cX5_whose 23 = .ok (.aload_n 0, 1) := dk_42 (dk_at dksX5_whose_0 23 rfl rfl)
theorem dX5_whose_24 : decode cX5_whose 24 = .ok (.iload_n 1, 1) := dk_27 (dk_at dksX5_whose_1 0 rfl rfl)
theorem dX5_whose_25 : decode cX5_whose 25 = .ok (.invokevirtual 252, 3) := dk_182 0 252 (dk_at dksX5_whose_1 1 rfl rfl)
theorem dX5_whose_28 : decode cX5_whose 28 = .ok (.ireturn, 1) := dk_172 (dk_at dksX5_whose_1 4 rfl rfl)
abbrev cX5_mays : ByteArray := prog_22_method_45_code
def yX5_mays : MethodName := ⟨RX5, "mays", "()I"⟩
def dkwX5_mays_1 : List UInt8 := [132, 2, 1, 167, 255, 234, 27, 172]
abbrev dktX5_mays_1 : List UInt8 := dkwX5_mays_1 ++ []
def dkwX5_mays_0 : List UInt8 := [3, 60, 3, 61, 28, 42, 180, 0, 105, 162, 0, 20, 42, 28, 182, 0, 165, 153, 0, 6, 132, 1, 1]
abbrev dktX5_mays_0 : List UInt8 := dkwX5_mays_0 ++ dktX5_mays_1
theorem dksX5_mays_0 : cX5_mays.data.toList.drop 0 = dktX5_mays_0 := by decide +kernel
theorem dksX5_mays_1 : cX5_mays.data.toList.drop 23 = dktX5_mays_1 := dk_seg dksX5_mays_0 23 rfl rfl
theorem dX5_mays_0 : decode cX5_mays 0 = .ok (.iconst 0, 1) := dk_3 (dk_at dksX5_mays_0 0 rfl rfl)
theorem dX5_mays_1 : decode cX5_mays 1 = .ok (.istore_n 1, 1) := dk_60 (dk_at dksX5_mays_0 1 rfl rfl)
theorem dX5_mays_2 : decode cX5_mays 2 = .ok (.iconst 0, 1) := dk_3 (dk_at dksX5_mays_0 2 rfl rfl)
theorem dX5_mays_3 : decode cX5_mays 3 = .ok (.istore_n 2, 1) := dk_61 (dk_at dksX5_mays_0 3 rfl rfl)
theorem dX5_mays_4 : decode cX5_mays 4 = .ok (.iload_n 2, 1) := dk_28 (dk_at dksX5_mays_0 4 rfl rfl)
theorem dX5_mays_5 : decode cX5_mays 5 = .ok (.aload_n 0, 1) := dk_42 (dk_at dksX5_mays_0 5 rfl rfl)
theorem dX5_mays_6 : decode cX5_mays 6 = .ok (.getfield 105, 3) := dk_180 0 105 (dk_at dksX5_mays_0 6 rfl rfl)
theorem dX5_mays_9 : decode cX5_mays 9 = .ok (.if_icmp .ge 20, 3) := dk_162 0 20 (dk_at dksX5_mays_0 9 rfl rfl)
theorem dX5_mays_12 : decode cX5_mays 12 = .ok (.aload_n 0, 1) := dk_42 (dk_at dksX5_mays_0 12 rfl rfl)
theorem dX5_mays_13 : decode cX5_mays 13 = .ok (.iload_n 2, 1) := dk_28 (dk_at dksX5_mays_0 13 rfl rfl)
theorem dX5_mays_14 : decode cX5_mays 14 = .ok (.invokevirtual 165, 3) := dk_182 0 165 (dk_at dksX5_mays_0 14 rfl rfl)
theorem dX5_mays_17 : decode cX5_mays 17 = .ok (.ifCond .eq 6, 3) := dk_153 0 6 (dk_at dksX5_mays_0 17 rfl rfl)
theorem dX5_mays_20 : decode cX5_mays 20 = .ok (.iinc 1 1, 3) := dk_132 1 1 (dk_at dksX5_mays_0 20 rfl rfl)
theorem dX5_mays_23 : decode cX5_mays 23 = .ok (.iinc 2 1, 3) := dk_132 2 1 (dk_at dksX5_mays_1 0 rfl rfl)
theorem dX5_mays_26 : decode cX5_mays 26 = .ok (.goto (-22), 3) := dk_167 255 234 (dk_at dksX5_mays_1 3 rfl rfl)
theorem dX5_mays_29 : decode cX5_mays 29 = .ok (.iload_n 1, 1) := dk_27 (dk_at dksX5_mays_1 6 rfl rfl)
theorem dX5_mays_30 : decode cX5_mays 30 = .ok (.ireturn, 1) := dk_172 (dk_at dksX5_mays_1 7 rfl rfl)
abbrev cX5_turn : ByteArray := prog_22_method_53_code
def yX5_turn : MethodName := ⟨RX5, "turn", "(I)I"⟩
def dkwX5_turn_4 : List UInt8 := [132, 3, 1, 167, 255, 161, 28, 172]
abbrev dktX5_turn_4 : List UInt8 := dkwX5_turn_4 ++ []
def dkwX5_turn_3 : List UInt8 := [46, 42, 180, 0, 50, 28, 46, 162, 0, 7, 4, 167, 0, 4, 3, 54, 4, 21, 4, 153, 0, 5, 29, 61]
abbrev dktX5_turn_3 : List UInt8 := dkwX5_turn_3 ++ dktX5_turn_4
def dkwX5_turn_2 : List UInt8 := [27, 153, 0, 18, 42, 180, 0, 44, 29, 46, 42, 180, 0, 44, 28, 46, 160, 0, 22, 42, 180, 0, 50, 29]
abbrev dktX5_turn_2 : List UInt8 := dkwX5_turn_2 ++ dktX5_turn_3
def dkwX5_turn_1 : List UInt8 := [2, 159, 0, 57, 27, 4, 160, 0, 18, 42, 180, 0, 44, 29, 46, 42, 180, 0, 44, 28, 46, 163, 0, 37]
abbrev dktX5_turn_1 : List UInt8 := dkwX5_turn_1 ++ dktX5_turn_2
def dkwX5_turn_0 : List UInt8 := [2, 61, 3, 62, 29, 42, 180, 0, 105, 162, 0, 93, 42, 29, 182, 0, 165, 154, 0, 6, 167, 0, 76, 28]
abbrev dktX5_turn_0 : List UInt8 := dkwX5_turn_0 ++ dktX5_turn_1
theorem dksX5_turn_0 : cX5_turn.data.toList.drop 0 = dktX5_turn_0 := by decide +kernel
theorem dksX5_turn_1 : cX5_turn.data.toList.drop 24 = dktX5_turn_1 := dk_seg dksX5_turn_0 24 rfl rfl
theorem dksX5_turn_2 : cX5_turn.data.toList.drop 48 = dktX5_turn_2 := dk_seg dksX5_turn_1 24 rfl rfl
theorem dksX5_turn_3 : cX5_turn.data.toList.drop 72 = dktX5_turn_3 := dk_seg dksX5_turn_2 24 rfl rfl
theorem dksX5_turn_4 : cX5_turn.data.toList.drop 96 = dktX5_turn_4 := dk_seg dksX5_turn_3 24 rfl rfl
theorem dX5_turn_0 : decode cX5_turn 0 = .ok (.iconst (-1), 1) := dk_2 (dk_at dksX5_turn_0 0 rfl rfl)
theorem dX5_turn_1 : decode cX5_turn 1 = .ok (.istore_n 2, 1) := dk_61 (dk_at dksX5_turn_0 1 rfl rfl)
theorem dX5_turn_2 : decode cX5_turn 2 = .ok (.iconst 0, 1) := dk_3 (dk_at dksX5_turn_0 2 rfl rfl)
theorem dX5_turn_3 : decode cX5_turn 3 = .ok (.istore_n 3, 1) := dk_62 (dk_at dksX5_turn_0 3 rfl rfl)
theorem dX5_turn_4 : decode cX5_turn 4 = .ok (.iload_n 3, 1) := dk_29 (dk_at dksX5_turn_0 4 rfl rfl)
theorem dX5_turn_5 : decode cX5_turn 5 = .ok (.aload_n 0, 1) := dk_42 (dk_at dksX5_turn_0 5 rfl rfl)
theorem dX5_turn_6 : decode cX5_turn 6 = .ok (.getfield 105, 3) := dk_180 0 105 (dk_at dksX5_turn_0 6 rfl rfl)
theorem dX5_turn_9 : decode cX5_turn 9 = .ok (.if_icmp .ge 93, 3) := dk_162 0 93 (dk_at dksX5_turn_0 9 rfl rfl)
theorem dX5_turn_12 : decode cX5_turn 12 = .ok (.aload_n 0, 1) := dk_42 (dk_at dksX5_turn_0 12 rfl rfl)
theorem dX5_turn_13 : decode cX5_turn 13 = .ok (.iload_n 3, 1) := dk_29 (dk_at dksX5_turn_0 13 rfl rfl)
theorem dX5_turn_14 : decode cX5_turn 14 = .ok (.invokevirtual 165, 3) := dk_182 0 165 (dk_at dksX5_turn_0 14 rfl rfl)
theorem dX5_turn_17 : decode cX5_turn 17 = .ok (.ifCond .ne 6, 3) := dk_154 0 6 (dk_at dksX5_turn_0 17 rfl rfl)
theorem dX5_turn_20 : decode cX5_turn 20 = .ok (.goto 76, 3) := dk_167 0 76 (dk_at dksX5_turn_0 20 rfl rfl)
theorem dX5_turn_23 : decode cX5_turn 23 = .ok (.iload_n 2, 1) := dk_28 (dk_at dksX5_turn_0 23 rfl rfl)
theorem dX5_turn_24 : decode cX5_turn 24 = .ok (.iconst (-1), 1) := dk_2 (dk_at dksX5_turn_1 0 rfl rfl)
theorem dX5_turn_25 : decode cX5_turn 25 = .ok (.if_icmp .eq 57, 3) := dk_159 0 57 (dk_at dksX5_turn_1 1 rfl rfl)
theorem dX5_turn_28 : decode cX5_turn 28 = .ok (.iload_n 1, 1) := dk_27 (dk_at dksX5_turn_1 4 rfl rfl)
theorem dX5_turn_29 : decode cX5_turn 29 = .ok (.iconst 1, 1) := dk_4 (dk_at dksX5_turn_1 5 rfl rfl)
theorem dX5_turn_30 : decode cX5_turn 30 = .ok (.if_icmp .ne 18, 3) := dk_160 0 18 (dk_at dksX5_turn_1 6 rfl rfl)
theorem dX5_turn_33 : decode cX5_turn 33 = .ok (.aload_n 0, 1) := dk_42 (dk_at dksX5_turn_1 9 rfl rfl)
theorem dX5_turn_34 : decode cX5_turn 34 = .ok (.getfield 44, 3) := dk_180 0 44 (dk_at dksX5_turn_1 10 rfl rfl)
theorem dX5_turn_37 : decode cX5_turn 37 = .ok (.iload_n 3, 1) := dk_29 (dk_at dksX5_turn_1 13 rfl rfl)
theorem dX5_turn_38 : decode cX5_turn 38 = .ok (.iaload, 1) := dk_46 (dk_at dksX5_turn_1 14 rfl rfl)
theorem dX5_turn_39 : decode cX5_turn 39 = .ok (.aload_n 0, 1) := dk_42 (dk_at dksX5_turn_1 15 rfl rfl)
theorem dX5_turn_40 : decode cX5_turn 40 = .ok (.getfield 44, 3) := dk_180 0 44 (dk_at dksX5_turn_1 16 rfl rfl)
theorem dX5_turn_43 : decode cX5_turn 43 = .ok (.iload_n 2, 1) := dk_28 (dk_at dksX5_turn_1 19 rfl rfl)
theorem dX5_turn_44 : decode cX5_turn 44 = .ok (.iaload, 1) := dk_46 (dk_at dksX5_turn_1 20 rfl rfl)
theorem dX5_turn_45 : decode cX5_turn 45 = .ok (.if_icmp .gt 37, 3) := dk_163 0 37 (dk_at dksX5_turn_1 21 rfl rfl)
theorem dX5_turn_48 : decode cX5_turn 48 = .ok (.iload_n 1, 1) := dk_27 (dk_at dksX5_turn_2 0 rfl rfl)
theorem dX5_turn_49 : decode cX5_turn 49 = .ok (.ifCond .eq 18, 3) := dk_153 0 18 (dk_at dksX5_turn_2 1 rfl rfl)
theorem dX5_turn_52 : decode cX5_turn 52 = .ok (.aload_n 0, 1) := dk_42 (dk_at dksX5_turn_2 4 rfl rfl)
theorem dX5_turn_53 : decode cX5_turn 53 = .ok (.getfield 44, 3) := dk_180 0 44 (dk_at dksX5_turn_2 5 rfl rfl)
theorem dX5_turn_56 : decode cX5_turn 56 = .ok (.iload_n 3, 1) := dk_29 (dk_at dksX5_turn_2 8 rfl rfl)
theorem dX5_turn_57 : decode cX5_turn 57 = .ok (.iaload, 1) := dk_46 (dk_at dksX5_turn_2 9 rfl rfl)
theorem dX5_turn_58 : decode cX5_turn 58 = .ok (.aload_n 0, 1) := dk_42 (dk_at dksX5_turn_2 10 rfl rfl)
theorem dX5_turn_59 : decode cX5_turn 59 = .ok (.getfield 44, 3) := dk_180 0 44 (dk_at dksX5_turn_2 11 rfl rfl)
theorem dX5_turn_62 : decode cX5_turn 62 = .ok (.iload_n 2, 1) := dk_28 (dk_at dksX5_turn_2 14 rfl rfl)
theorem dX5_turn_63 : decode cX5_turn 63 = .ok (.iaload, 1) := dk_46 (dk_at dksX5_turn_2 15 rfl rfl)
theorem dX5_turn_64 : decode cX5_turn 64 = .ok (.if_icmp .ne 22, 3) := dk_160 0 22 (dk_at dksX5_turn_2 16 rfl rfl)
theorem dX5_turn_67 : decode cX5_turn 67 = .ok (.aload_n 0, 1) := dk_42 (dk_at dksX5_turn_2 19 rfl rfl)
theorem dX5_turn_68 : decode cX5_turn 68 = .ok (.getfield 50, 3) := dk_180 0 50 (dk_at dksX5_turn_2 20 rfl rfl)
theorem dX5_turn_71 : decode cX5_turn 71 = .ok (.iload_n 3, 1) := dk_29 (dk_at dksX5_turn_2 23 rfl rfl)
theorem dX5_turn_72 : decode cX5_turn 72 = .ok (.iaload, 1) := dk_46 (dk_at dksX5_turn_3 0 rfl rfl)
theorem dX5_turn_73 : decode cX5_turn 73 = .ok (.aload_n 0, 1) := dk_42 (dk_at dksX5_turn_3 1 rfl rfl)
theorem dX5_turn_74 : decode cX5_turn 74 = .ok (.getfield 50, 3) := dk_180 0 50 (dk_at dksX5_turn_3 2 rfl rfl)
theorem dX5_turn_77 : decode cX5_turn 77 = .ok (.iload_n 2, 1) := dk_28 (dk_at dksX5_turn_3 5 rfl rfl)
theorem dX5_turn_78 : decode cX5_turn 78 = .ok (.iaload, 1) := dk_46 (dk_at dksX5_turn_3 6 rfl rfl)
theorem dX5_turn_79 : decode cX5_turn 79 = .ok (.if_icmp .ge 7, 3) := dk_162 0 7 (dk_at dksX5_turn_3 7 rfl rfl)
theorem dX5_turn_82 : decode cX5_turn 82 = .ok (.iconst 1, 1) := dk_4 (dk_at dksX5_turn_3 10 rfl rfl)
theorem dX5_turn_83 : decode cX5_turn 83 = .ok (.goto 4, 3) := dk_167 0 4 (dk_at dksX5_turn_3 11 rfl rfl)
theorem dX5_turn_86 : decode cX5_turn 86 = .ok (.iconst 0, 1) := dk_3 (dk_at dksX5_turn_3 14 rfl rfl)
theorem dX5_turn_87 : decode cX5_turn 87 = .ok (.istore 4, 2) := dk_54 4 (dk_at dksX5_turn_3 15 rfl rfl)
theorem dX5_turn_89 : decode cX5_turn 89 = .ok (.iload 4, 2) := dk_21 4 (dk_at dksX5_turn_3 17 rfl rfl)
theorem dX5_turn_91 : decode cX5_turn 91 = .ok (.ifCond .eq 5, 3) := dk_153 0 5 (dk_at dksX5_turn_3 19 rfl rfl)
theorem dX5_turn_94 : decode cX5_turn 94 = .ok (.iload_n 3, 1) := dk_29 (dk_at dksX5_turn_3 22 rfl rfl)
theorem dX5_turn_95 : decode cX5_turn 95 = .ok (.istore_n 2, 1) := dk_61 (dk_at dksX5_turn_3 23 rfl rfl)
theorem dX5_turn_96 : decode cX5_turn 96 = .ok (.iinc 3 1, 3) := dk_132 3 1 (dk_at dksX5_turn_4 0 rfl rfl)
theorem dX5_turn_99 : decode cX5_turn 99 = .ok (.goto (-95), 3) := dk_167 255 161 (dk_at dksX5_turn_4 3 rfl rfl)
theorem dX5_turn_102 : decode cX5_turn 102 = .ok (.iload_n 2, 1) := dk_28 (dk_at dksX5_turn_4 6 rfl rfl)
theorem dX5_turn_103 : decode cX5_turn 103 = .ok (.ireturn, 1) := dk_172 (dk_at dksX5_turn_4 7 rfl rfl)
abbrev cX5_order : ByteArray := prog_22_method_58_code
def yX5_order : MethodName := ⟨RX5, "order", "(I)I"⟩
def dkwX5_order_2 : List UInt8 := [180, 0, 255, 167, 0, 9, 42, 180, 0, 96, 27, 46, 172]
abbrev dktX5_order_2 : List UInt8 := dkwX5_order_2 ++ []
def dkwX5_order_1 : List UInt8 := [16, 6, 164, 0, 10, 42, 16, 249, 182, 0, 112, 172, 42, 182, 1, 16, 87, 27, 2, 160, 0, 10, 42]
abbrev dktX5_order_1 : List UInt8 := dkwX5_order_1 ++ dktX5_order_2
def dkwX5_order_0 : List UInt8 := [27, 2, 161, 0, 11, 27, 42, 182, 0, 249, 161, 0, 10, 42, 16, 251, 182, 0, 112, 172, 42, 182, 0, 249]
abbrev dktX5_order_0 : List UInt8 := dkwX5_order_0 ++ dktX5_order_1
theorem dksX5_order_0 : cX5_order.data.toList.drop 0 = dktX5_order_0 := by decide +kernel
theorem dksX5_order_1 : cX5_order.data.toList.drop 24 = dktX5_order_1 := dk_seg dksX5_order_0 24 rfl rfl
theorem dksX5_order_2 : cX5_order.data.toList.drop 47 = dktX5_order_2 := dk_seg dksX5_order_1 23 rfl rfl
theorem dX5_order_0 : decode cX5_order 0 = .ok (.iload_n 1, 1) := dk_27 (dk_at dksX5_order_0 0 rfl rfl)
theorem dX5_order_1 : decode cX5_order 1 = .ok (.iconst (-1), 1) := dk_2 (dk_at dksX5_order_0 1 rfl rfl)
theorem dX5_order_2 : decode cX5_order 2 = .ok (.if_icmp .lt 11, 3) := dk_161 0 11 (dk_at dksX5_order_0 2 rfl rfl)
theorem dX5_order_5 : decode cX5_order 5 = .ok (.iload_n 1, 1) := dk_27 (dk_at dksX5_order_0 5 rfl rfl)
theorem dX5_order_6 : decode cX5_order 6 = .ok (.aload_n 0, 1) := dk_42 (dk_at dksX5_order_0 6 rfl rfl)
theorem dX5_order_7 : decode cX5_order 7 = .ok (.invokevirtual 249, 3) := dk_182 0 249 (dk_at dksX5_order_0 7 rfl rfl)
theorem dX5_order_10 : decode cX5_order 10 = .ok (.if_icmp .lt 10, 3) := dk_161 0 10 (dk_at dksX5_order_0 10 rfl rfl)
theorem dX5_order_13 : decode cX5_order 13 = .ok (.aload_n 0, 1) := dk_42 (dk_at dksX5_order_0 13 rfl rfl)
theorem dX5_order_14 : decode cX5_order 14 = .ok (.bipush (-5), 2) := dk_16 251 (dk_at dksX5_order_0 14 rfl rfl)
theorem dX5_order_16 : decode cX5_order 16 = .ok (.invokevirtual 112, 3) := dk_182 0 112 (dk_at dksX5_order_0 16 rfl rfl)
theorem dX5_order_19 : decode cX5_order 19 = .ok (.ireturn, 1) := dk_172 (dk_at dksX5_order_0 19 rfl rfl)
theorem dX5_order_20 : decode cX5_order 20 = .ok (.aload_n 0, 1) := dk_42 (dk_at dksX5_order_0 20 rfl rfl)
theorem dX5_order_21 : decode cX5_order 21 = .ok (.invokevirtual 249, 3) := dk_182 0 249 (dk_at dksX5_order_0 21 rfl rfl)
theorem dX5_order_24 : decode cX5_order 24 = .ok (.bipush 6, 2) := dk_16 6 (dk_at dksX5_order_1 0 rfl rfl)
theorem dX5_order_26 : decode cX5_order 26 = .ok (.if_icmp .le 10, 3) := dk_164 0 10 (dk_at dksX5_order_1 2 rfl rfl)
theorem dX5_order_29 : decode cX5_order 29 = .ok (.aload_n 0, 1) := dk_42 (dk_at dksX5_order_1 5 rfl rfl)
theorem dX5_order_30 : decode cX5_order 30 = .ok (.bipush (-7), 2) := dk_16 249 (dk_at dksX5_order_1 6 rfl rfl)
theorem dX5_order_32 : decode cX5_order 32 = .ok (.invokevirtual 112, 3) := dk_182 0 112 (dk_at dksX5_order_1 8 rfl rfl)
theorem dX5_order_35 : decode cX5_order 35 = .ok (.ireturn, 1) := dk_172 (dk_at dksX5_order_1 11 rfl rfl)
theorem dX5_order_36 : decode cX5_order 36 = .ok (.aload_n 0, 1) := dk_42 (dk_at dksX5_order_1 12 rfl rfl)
theorem dX5_order_37 : decode cX5_order 37 = .ok (.invokevirtual 272, 3) := dk_182 1 16 (dk_at dksX5_order_1 13 rfl rfl)
theorem dX5_order_40 : decode cX5_order 40 = .ok (.pop, 1) := dk_87 (dk_at dksX5_order_1 16 rfl rfl)
theorem dX5_order_41 : decode cX5_order 41 = .ok (.iload_n 1, 1) := dk_27 (dk_at dksX5_order_1 17 rfl rfl)
theorem dX5_order_42 : decode cX5_order 42 = .ok (.iconst (-1), 1) := dk_2 (dk_at dksX5_order_1 18 rfl rfl)
theorem dX5_order_43 : decode cX5_order 43 = .ok (.if_icmp .ne 10, 3) := dk_160 0 10 (dk_at dksX5_order_1 19 rfl rfl)
theorem dX5_order_46 : decode cX5_order 46 = .ok (.aload_n 0, 1) := dk_42 (dk_at dksX5_order_1 22 rfl rfl)
theorem dX5_order_47 : decode cX5_order 47 = .ok (.getfield 255, 3) := dk_180 0 255 (dk_at dksX5_order_2 0 rfl rfl)
theorem dX5_order_50 : decode cX5_order 50 = .ok (.goto 9, 3) := dk_167 0 9 (dk_at dksX5_order_2 3 rfl rfl)
theorem dX5_order_53 : decode cX5_order 53 = .ok (.aload_n 0, 1) := dk_42 (dk_at dksX5_order_2 6 rfl rfl)
theorem dX5_order_54 : decode cX5_order 54 = .ok (.getfield 96, 3) := dk_180 0 96 (dk_at dksX5_order_2 7 rfl rfl)
theorem dX5_order_57 : decode cX5_order 57 = .ok (.iload_n 1, 1) := dk_27 (dk_at dksX5_order_2 10 rfl rfl)
theorem dX5_order_58 : decode cX5_order 58 = .ok (.iaload, 1) := dk_46 (dk_at dksX5_order_2 11 rfl rfl)
theorem dX5_order_59 : decode cX5_order 59 = .ok (.ireturn, 1) := dk_172 (dk_at dksX5_order_2 12 rfl rfl)
abbrev cX5_ordered : ByteArray := prog_22_method_57_code
def yX5_ordered : MethodName := ⟨RX5, "ordered", "()I"⟩
def dkwX5_ordered_0 : List UInt8 := [42, 2, 181, 0, 255, 42, 3, 181, 1, 2, 42, 182, 0, 249, 60, 42, 3, 27, 3, 182, 1, 12, 27, 172]
abbrev dktX5_ordered_0 : List UInt8 := dkwX5_ordered_0 ++ []
theorem dksX5_ordered_0 : cX5_ordered.data.toList.drop 0 = dktX5_ordered_0 := by decide +kernel
theorem dX5_ordered_0 : decode cX5_ordered 0 = .ok (.aload_n 0, 1) := dk_42 (dk_at dksX5_ordered_0 0 rfl rfl)
theorem dX5_ordered_1 : decode cX5_ordered 1 = .ok (.iconst (-1), 1) := dk_2 (dk_at dksX5_ordered_0 1 rfl rfl)
theorem dX5_ordered_2 : decode cX5_ordered 2 = .ok (.putfield 255, 3) := dk_181 0 255 (dk_at dksX5_ordered_0 2 rfl rfl)
theorem dX5_ordered_5 : decode cX5_ordered 5 = .ok (.aload_n 0, 1) := dk_42 (dk_at dksX5_ordered_0 5 rfl rfl)
theorem dX5_ordered_6 : decode cX5_ordered 6 = .ok (.iconst 0, 1) := dk_3 (dk_at dksX5_ordered_0 6 rfl rfl)
theorem dX5_ordered_7 : decode cX5_ordered 7 = .ok (.putfield 258, 3) := dk_181 1 2 (dk_at dksX5_ordered_0 7 rfl rfl)
theorem dX5_ordered_10 : decode cX5_ordered 10 = .ok (.aload_n 0, 1) := dk_42 (dk_at dksX5_ordered_0 10 rfl rfl)
theorem dX5_ordered_11 : decode cX5_ordered 11 = .ok (.invokevirtual 249, 3) := dk_182 0 249 (dk_at dksX5_ordered_0 11 rfl rfl)
theorem dX5_ordered_14 : decode cX5_ordered 14 = .ok (.istore_n 1, 1) := dk_60 (dk_at dksX5_ordered_0 14 rfl rfl)
theorem dX5_ordered_15 : decode cX5_ordered 15 = .ok (.aload_n 0, 1) := dk_42 (dk_at dksX5_ordered_0 15 rfl rfl)
theorem dX5_ordered_16 : decode cX5_ordered 16 = .ok (.iconst 0, 1) := dk_3 (dk_at dksX5_ordered_0 16 rfl rfl)
theorem dX5_ordered_17 : decode cX5_ordered 17 = .ok (.iload_n 1, 1) := dk_27 (dk_at dksX5_ordered_0 17 rfl rfl)
theorem dX5_ordered_18 : decode cX5_ordered 18 = .ok (.iconst 0, 1) := dk_3 (dk_at dksX5_ordered_0 18 rfl rfl)
theorem dX5_ordered_19 : decode cX5_ordered 19 = .ok (.invokevirtual 268, 3) := dk_182 1 12 (dk_at dksX5_ordered_0 19 rfl rfl)
theorem dX5_ordered_22 : decode cX5_ordered 22 = .ok (.iload_n 1, 1) := dk_27 (dk_at dksX5_ordered_0 22 rfl rfl)
theorem dX5_ordered_23 : decode cX5_ordered 23 = .ok (.ireturn, 1) := dk_172 (dk_at dksX5_ordered_0 23 rfl rfl)
abbrev cX5_orders : ByteArray := prog_22_method_56_code
def yX5_orders : MethodName := ⟨RX5, "orders", "(III)V"⟩
def dkwX5_orders_2 : List UInt8 := [79, 42, 27, 4, 96, 28, 29, 4, 21, 4, 120, 128, 182, 1, 12, 132, 4, 1, 167, 255, 203, 177]
abbrev dktX5_orders_2 : List UInt8 := dkwX5_orders_2 ++ []
def dkwX5_orders_1 : List UInt8 := [29, 21, 4, 122, 4, 126, 4, 160, 0, 6, 167, 0, 29, 42, 180, 0, 93, 27, 42, 21, 4, 182, 1, 9]
abbrev dktX5_orders_1 : List UInt8 := dkwX5_orders_1 ++ dktX5_orders_2
def dkwX5_orders_0 : List UInt8 := [27, 28, 160, 0, 8, 42, 28, 182, 1, 5, 3, 54, 4, 21, 4, 28, 162, 0, 53, 27, 28, 162, 0, 48]
abbrev dktX5_orders_0 : List UInt8 := dkwX5_orders_0 ++ dktX5_orders_1
theorem dksX5_orders_0 : cX5_orders.data.toList.drop 0 = dktX5_orders_0 := by decide +kernel
theorem dksX5_orders_1 : cX5_orders.data.toList.drop 24 = dktX5_orders_1 := dk_seg dksX5_orders_0 24 rfl rfl
theorem dksX5_orders_2 : cX5_orders.data.toList.drop 48 = dktX5_orders_2 := dk_seg dksX5_orders_1 24 rfl rfl
theorem dX5_orders_0 : decode cX5_orders 0 = .ok (.iload_n 1, 1) := dk_27 (dk_at dksX5_orders_0 0 rfl rfl)
theorem dX5_orders_1 : decode cX5_orders 1 = .ok (.iload_n 2, 1) := dk_28 (dk_at dksX5_orders_0 1 rfl rfl)
theorem dX5_orders_2 : decode cX5_orders 2 = .ok (.if_icmp .ne 8, 3) := dk_160 0 8 (dk_at dksX5_orders_0 2 rfl rfl)
theorem dX5_orders_5 : decode cX5_orders 5 = .ok (.aload_n 0, 1) := dk_42 (dk_at dksX5_orders_0 5 rfl rfl)
theorem dX5_orders_6 : decode cX5_orders 6 = .ok (.iload_n 2, 1) := dk_28 (dk_at dksX5_orders_0 6 rfl rfl)
theorem dX5_orders_7 : decode cX5_orders 7 = .ok (.invokevirtual 261, 3) := dk_182 1 5 (dk_at dksX5_orders_0 7 rfl rfl)
theorem dX5_orders_10 : decode cX5_orders 10 = .ok (.iconst 0, 1) := dk_3 (dk_at dksX5_orders_0 10 rfl rfl)
theorem dX5_orders_11 : decode cX5_orders 11 = .ok (.istore 4, 2) := dk_54 4 (dk_at dksX5_orders_0 11 rfl rfl)
theorem dX5_orders_13 : decode cX5_orders 13 = .ok (.iload 4, 2) := dk_21 4 (dk_at dksX5_orders_0 13 rfl rfl)
theorem dX5_orders_15 : decode cX5_orders 15 = .ok (.iload_n 2, 1) := dk_28 (dk_at dksX5_orders_0 15 rfl rfl)
theorem dX5_orders_16 : decode cX5_orders 16 = .ok (.if_icmp .ge 53, 3) := dk_162 0 53 (dk_at dksX5_orders_0 16 rfl rfl)
theorem dX5_orders_19 : decode cX5_orders 19 = .ok (.iload_n 1, 1) := dk_27 (dk_at dksX5_orders_0 19 rfl rfl)
theorem dX5_orders_20 : decode cX5_orders 20 = .ok (.iload_n 2, 1) := dk_28 (dk_at dksX5_orders_0 20 rfl rfl)
theorem dX5_orders_21 : decode cX5_orders 21 = .ok (.if_icmp .ge 48, 3) := dk_162 0 48 (dk_at dksX5_orders_0 21 rfl rfl)
theorem dX5_orders_24 : decode cX5_orders 24 = .ok (.iload_n 3, 1) := dk_29 (dk_at dksX5_orders_1 0 rfl rfl)
theorem dX5_orders_25 : decode cX5_orders 25 = .ok (.iload 4, 2) := dk_21 4 (dk_at dksX5_orders_1 1 rfl rfl)
theorem dX5_orders_27 : decode cX5_orders 27 = .ok (.ishr, 1) := dk_122 (dk_at dksX5_orders_1 3 rfl rfl)
theorem dX5_orders_28 : decode cX5_orders 28 = .ok (.iconst 1, 1) := dk_4 (dk_at dksX5_orders_1 4 rfl rfl)
theorem dX5_orders_29 : decode cX5_orders 29 = .ok (.iand, 1) := dk_126 (dk_at dksX5_orders_1 5 rfl rfl)
theorem dX5_orders_30 : decode cX5_orders 30 = .ok (.iconst 1, 1) := dk_4 (dk_at dksX5_orders_1 6 rfl rfl)
theorem dX5_orders_31 : decode cX5_orders 31 = .ok (.if_icmp .ne 6, 3) := dk_160 0 6 (dk_at dksX5_orders_1 7 rfl rfl)
theorem dX5_orders_34 : decode cX5_orders 34 = .ok (.goto 29, 3) := dk_167 0 29 (dk_at dksX5_orders_1 10 rfl rfl)
theorem dX5_orders_37 : decode cX5_orders 37 = .ok (.aload_n 0, 1) := dk_42 (dk_at dksX5_orders_1 13 rfl rfl)
theorem dX5_orders_38 : decode cX5_orders 38 = .ok (.getfield 93, 3) := dk_180 0 93 (dk_at dksX5_orders_1 14 rfl rfl)
theorem dX5_orders_41 : decode cX5_orders 41 = .ok (.iload_n 1, 1) := dk_27 (dk_at dksX5_orders_1 17 rfl rfl)
theorem dX5_orders_42 : decode cX5_orders 42 = .ok (.aload_n 0, 1) := dk_42 (dk_at dksX5_orders_1 18 rfl rfl)
theorem dX5_orders_43 : decode cX5_orders 43 = .ok (.iload 4, 2) := dk_21 4 (dk_at dksX5_orders_1 19 rfl rfl)
theorem dX5_orders_45 : decode cX5_orders 45 = .ok (.invokevirtual 265, 3) := dk_182 1 9 (dk_at dksX5_orders_1 21 rfl rfl)
theorem dX5_orders_48 : decode cX5_orders 48 = .ok (.iastore, 1) := dk_79 (dk_at dksX5_orders_2 0 rfl rfl)
theorem dX5_orders_49 : decode cX5_orders 49 = .ok (.aload_n 0, 1) := dk_42 (dk_at dksX5_orders_2 1 rfl rfl)
theorem dX5_orders_50 : decode cX5_orders 50 = .ok (.iload_n 1, 1) := dk_27 (dk_at dksX5_orders_2 2 rfl rfl)
theorem dX5_orders_51 : decode cX5_orders 51 = .ok (.iconst 1, 1) := dk_4 (dk_at dksX5_orders_2 3 rfl rfl)
theorem dX5_orders_52 : decode cX5_orders 52 = .ok (.iadd, 1) := dk_96 (dk_at dksX5_orders_2 4 rfl rfl)
theorem dX5_orders_53 : decode cX5_orders 53 = .ok (.iload_n 2, 1) := dk_28 (dk_at dksX5_orders_2 5 rfl rfl)
theorem dX5_orders_54 : decode cX5_orders 54 = .ok (.iload_n 3, 1) := dk_29 (dk_at dksX5_orders_2 6 rfl rfl)
theorem dX5_orders_55 : decode cX5_orders 55 = .ok (.iconst 1, 1) := dk_4 (dk_at dksX5_orders_2 7 rfl rfl)
theorem dX5_orders_56 : decode cX5_orders 56 = .ok (.iload 4, 2) := dk_21 4 (dk_at dksX5_orders_2 8 rfl rfl)
theorem dX5_orders_58 : decode cX5_orders 58 = .ok (.ishl, 1) := dk_120 (dk_at dksX5_orders_2 10 rfl rfl)
theorem dX5_orders_59 : decode cX5_orders 59 = .ok (.ior, 1) := dk_128 (dk_at dksX5_orders_2 11 rfl rfl)
theorem dX5_orders_60 : decode cX5_orders 60 = .ok (.invokevirtual 268, 3) := dk_182 1 12 (dk_at dksX5_orders_2 12 rfl rfl)
theorem dX5_orders_63 : decode cX5_orders 63 = .ok (.iinc 4 1, 3) := dk_132 4 1 (dk_at dksX5_orders_2 15 rfl rfl)
theorem dX5_orders_66 : decode cX5_orders 66 = .ok (.goto (-53), 3) := dk_167 255 203 (dk_at dksX5_orders_2 18 rfl rfl)
theorem dX5_orders_69 : decode cX5_orders 69 = .ok (.return_, 1) := dk_177 (dk_at dksX5_orders_2 21 rfl rfl)
abbrev cX5_tries : ByteArray := prog_22_method_55_code
def yX5_tries : MethodName := ⟨RX5, "tries", "(I)V"⟩
def dkwX5_tries_6 : List UInt8 := [180, 0, 93, 29, 46, 79, 132, 3, 1, 167, 255, 236, 177]
abbrev dktX5_tries_6 : List UInt8 := dkwX5_tries_6 ++ []
def dkwX5_tries_5 : List UInt8 := [180, 0, 204, 181, 0, 255, 42, 28, 181, 1, 2, 3, 62, 29, 27, 162, 0, 21, 42, 180, 0, 96, 29, 42]
abbrev dktX5_tries_5 : List UInt8 := dkwX5_tries_5 ++ dktX5_tries_6
def dkwX5_tries_4 : List UInt8 := [42, 180, 0, 204, 42, 180, 0, 255, 160, 0, 12, 28, 42, 180, 1, 2, 163, 0, 4, 177, 42, 42]
abbrev dktX5_tries_4 : List UInt8 := dkwX5_tries_4 ++ dktX5_tries_5
def dkwX5_tries_3 : List UInt8 := [167, 0, 4, 28, 61, 42, 180, 0, 255, 2, 159, 0, 34, 42, 180, 0, 204, 42, 180, 0, 255, 163, 0, 22]
abbrev dktX5_tries_3 : List UInt8 := dkwX5_tries_3 ++ dktX5_tries_4
def dkwX5_tries_2 : List UInt8 := [180, 0, 195, 167, 0, 4, 28, 61, 132, 3, 1, 167, 255, 220, 42, 180, 0, 204, 158, 0, 7, 3]
abbrev dktX5_tries_2 : List UInt8 := dkwX5_tries_2 ++ dktX5_tries_3
def dkwX5_tries_1 : List UInt8 := [162, 0, 37, 42, 42, 180, 0, 93, 29, 46, 182, 0, 246, 87, 42, 180, 0, 195, 28, 162, 0, 10, 42]
abbrev dktX5_tries_1 : List UInt8 := dkwX5_tries_1 ++ dktX5_tries_2
def dkwX5_tries_0 : List UInt8 := [42, 182, 0, 243, 27, 154, 0, 10, 42, 180, 0, 195, 167, 0, 6, 17, 1, 144, 61, 3, 62, 29, 27]
abbrev dktX5_tries_0 : List UInt8 := dkwX5_tries_0 ++ dktX5_tries_1
theorem dksX5_tries_0 : cX5_tries.data.toList.drop 0 = dktX5_tries_0 := by decide +kernel
theorem dksX5_tries_1 : cX5_tries.data.toList.drop 23 = dktX5_tries_1 := dk_seg dksX5_tries_0 23 rfl rfl
theorem dksX5_tries_2 : cX5_tries.data.toList.drop 46 = dktX5_tries_2 := dk_seg dksX5_tries_1 23 rfl rfl
theorem dksX5_tries_3 : cX5_tries.data.toList.drop 68 = dktX5_tries_3 := dk_seg dksX5_tries_2 22 rfl rfl
theorem dksX5_tries_4 : cX5_tries.data.toList.drop 92 = dktX5_tries_4 := dk_seg dksX5_tries_3 24 rfl rfl
theorem dksX5_tries_5 : cX5_tries.data.toList.drop 114 = dktX5_tries_5 := dk_seg dksX5_tries_4 22 rfl rfl
theorem dksX5_tries_6 : cX5_tries.data.toList.drop 138 = dktX5_tries_6 := dk_seg dksX5_tries_5 24 rfl rfl
theorem dX5_tries_0 : decode cX5_tries 0 = .ok (.aload_n 0, 1) := dk_42 (dk_at dksX5_tries_0 0 rfl rfl)
theorem dX5_tries_1 : decode cX5_tries 1 = .ok (.invokevirtual 243, 3) := dk_182 0 243 (dk_at dksX5_tries_0 1 rfl rfl)
theorem dX5_tries_4 : decode cX5_tries 4 = .ok (.iload_n 1, 1) := dk_27 (dk_at dksX5_tries_0 4 rfl rfl)
theorem dX5_tries_5 : decode cX5_tries 5 = .ok (.ifCond .ne 10, 3) := dk_154 0 10 (dk_at dksX5_tries_0 5 rfl rfl)
theorem dX5_tries_8 : decode cX5_tries 8 = .ok (.aload_n 0, 1) := dk_42 (dk_at dksX5_tries_0 8 rfl rfl)
theorem dX5_tries_9 : decode cX5_tries 9 = .ok (.getfield 195, 3) := dk_180 0 195 (dk_at dksX5_tries_0 9 rfl rfl)
theorem dX5_tries_12 : decode cX5_tries 12 = .ok (.goto 6, 3) := dk_167 0 6 (dk_at dksX5_tries_0 12 rfl rfl)
theorem dX5_tries_15 : decode cX5_tries 15 = .ok (.sipush 400, 3) := dk_17 1 144 (dk_at dksX5_tries_0 15 rfl rfl)
theorem dX5_tries_18 : decode cX5_tries 18 = .ok (.istore_n 2, 1) := dk_61 (dk_at dksX5_tries_0 18 rfl rfl)
theorem dX5_tries_19 : decode cX5_tries 19 = .ok (.iconst 0, 1) := dk_3 (dk_at dksX5_tries_0 19 rfl rfl)
theorem dX5_tries_20 : decode cX5_tries 20 = .ok (.istore_n 3, 1) := dk_62 (dk_at dksX5_tries_0 20 rfl rfl)
theorem dX5_tries_21 : decode cX5_tries 21 = .ok (.iload_n 3, 1) := dk_29 (dk_at dksX5_tries_0 21 rfl rfl)
theorem dX5_tries_22 : decode cX5_tries 22 = .ok (.iload_n 1, 1) := dk_27 (dk_at dksX5_tries_0 22 rfl rfl)
theorem dX5_tries_23 : decode cX5_tries 23 = .ok (.if_icmp .ge 37, 3) := dk_162 0 37 (dk_at dksX5_tries_1 0 rfl rfl)
theorem dX5_tries_26 : decode cX5_tries 26 = .ok (.aload_n 0, 1) := dk_42 (dk_at dksX5_tries_1 3 rfl rfl)
theorem dX5_tries_27 : decode cX5_tries 27 = .ok (.aload_n 0, 1) := dk_42 (dk_at dksX5_tries_1 4 rfl rfl)
theorem dX5_tries_28 : decode cX5_tries 28 = .ok (.getfield 93, 3) := dk_180 0 93 (dk_at dksX5_tries_1 5 rfl rfl)
theorem dX5_tries_31 : decode cX5_tries 31 = .ok (.iload_n 3, 1) := dk_29 (dk_at dksX5_tries_1 8 rfl rfl)
theorem dX5_tries_32 : decode cX5_tries 32 = .ok (.iaload, 1) := dk_46 (dk_at dksX5_tries_1 9 rfl rfl)
theorem dX5_tries_33 : decode cX5_tries 33 = .ok (.invokevirtual 246, 3) := dk_182 0 246 (dk_at dksX5_tries_1 10 rfl rfl)
theorem dX5_tries_36 : decode cX5_tries 36 = .ok (.pop, 1) := dk_87 (dk_at dksX5_tries_1 13 rfl rfl)
theorem dX5_tries_37 : decode cX5_tries 37 = .ok (.aload_n 0, 1) := dk_42 (dk_at dksX5_tries_1 14 rfl rfl)
theorem dX5_tries_38 : decode cX5_tries 38 = .ok (.getfield 195, 3) := dk_180 0 195 (dk_at dksX5_tries_1 15 rfl rfl)
theorem dX5_tries_41 : decode cX5_tries 41 = .ok (.iload_n 2, 1) := dk_28 (dk_at dksX5_tries_1 18 rfl rfl)
theorem dX5_tries_42 : decode cX5_tries 42 = .ok (.if_icmp .ge 10, 3) := dk_162 0 10 (dk_at dksX5_tries_1 19 rfl rfl)
theorem dX5_tries_45 : decode cX5_tries 45 = .ok (.aload_n 0, 1) := dk_42 (dk_at dksX5_tries_1 22 rfl rfl)
theorem dX5_tries_46 : decode cX5_tries 46 = .ok (.getfield 195, 3) := dk_180 0 195 (dk_at dksX5_tries_2 0 rfl rfl)
theorem dX5_tries_49 : decode cX5_tries 49 = .ok (.goto 4, 3) := dk_167 0 4 (dk_at dksX5_tries_2 3 rfl rfl)
theorem dX5_tries_52 : decode cX5_tries 52 = .ok (.iload_n 2, 1) := dk_28 (dk_at dksX5_tries_2 6 rfl rfl)
theorem dX5_tries_53 : decode cX5_tries 53 = .ok (.istore_n 2, 1) := dk_61 (dk_at dksX5_tries_2 7 rfl rfl)
theorem dX5_tries_54 : decode cX5_tries 54 = .ok (.iinc 3 1, 3) := dk_132 3 1 (dk_at dksX5_tries_2 8 rfl rfl)
theorem dX5_tries_57 : decode cX5_tries 57 = .ok (.goto (-36), 3) := dk_167 255 220 (dk_at dksX5_tries_2 11 rfl rfl)
theorem dX5_tries_60 : decode cX5_tries 60 = .ok (.aload_n 0, 1) := dk_42 (dk_at dksX5_tries_2 14 rfl rfl)
theorem dX5_tries_61 : decode cX5_tries 61 = .ok (.getfield 204, 3) := dk_180 0 204 (dk_at dksX5_tries_2 15 rfl rfl)
theorem dX5_tries_64 : decode cX5_tries 64 = .ok (.ifCond .le 7, 3) := dk_158 0 7 (dk_at dksX5_tries_2 18 rfl rfl)
theorem dX5_tries_67 : decode cX5_tries 67 = .ok (.iconst 0, 1) := dk_3 (dk_at dksX5_tries_2 21 rfl rfl)
theorem dX5_tries_68 : decode cX5_tries 68 = .ok (.goto 4, 3) := dk_167 0 4 (dk_at dksX5_tries_3 0 rfl rfl)
theorem dX5_tries_71 : decode cX5_tries 71 = .ok (.iload_n 2, 1) := dk_28 (dk_at dksX5_tries_3 3 rfl rfl)
theorem dX5_tries_72 : decode cX5_tries 72 = .ok (.istore_n 2, 1) := dk_61 (dk_at dksX5_tries_3 4 rfl rfl)
theorem dX5_tries_73 : decode cX5_tries 73 = .ok (.aload_n 0, 1) := dk_42 (dk_at dksX5_tries_3 5 rfl rfl)
theorem dX5_tries_74 : decode cX5_tries 74 = .ok (.getfield 255, 3) := dk_180 0 255 (dk_at dksX5_tries_3 6 rfl rfl)
theorem dX5_tries_77 : decode cX5_tries 77 = .ok (.iconst (-1), 1) := dk_2 (dk_at dksX5_tries_3 9 rfl rfl)
theorem dX5_tries_78 : decode cX5_tries 78 = .ok (.if_icmp .eq 34, 3) := dk_159 0 34 (dk_at dksX5_tries_3 10 rfl rfl)
theorem dX5_tries_81 : decode cX5_tries 81 = .ok (.aload_n 0, 1) := dk_42 (dk_at dksX5_tries_3 13 rfl rfl)
theorem dX5_tries_82 : decode cX5_tries 82 = .ok (.getfield 204, 3) := dk_180 0 204 (dk_at dksX5_tries_3 14 rfl rfl)
theorem dX5_tries_85 : decode cX5_tries 85 = .ok (.aload_n 0, 1) := dk_42 (dk_at dksX5_tries_3 17 rfl rfl)
theorem dX5_tries_86 : decode cX5_tries 86 = .ok (.getfield 255, 3) := dk_180 0 255 (dk_at dksX5_tries_3 18 rfl rfl)
theorem dX5_tries_89 : decode cX5_tries 89 = .ok (.if_icmp .gt 22, 3) := dk_163 0 22 (dk_at dksX5_tries_3 21 rfl rfl)
theorem dX5_tries_92 : decode cX5_tries 92 = .ok (.aload_n 0, 1) := dk_42 (dk_at dksX5_tries_4 0 rfl rfl)
theorem dX5_tries_93 : decode cX5_tries 93 = .ok (.getfield 204, 3) := dk_180 0 204 (dk_at dksX5_tries_4 1 rfl rfl)
theorem dX5_tries_96 : decode cX5_tries 96 = .ok (.aload_n 0, 1) := dk_42 (dk_at dksX5_tries_4 4 rfl rfl)
theorem dX5_tries_97 : decode cX5_tries 97 = .ok (.getfield 255, 3) := dk_180 0 255 (dk_at dksX5_tries_4 5 rfl rfl)
theorem dX5_tries_100 : decode cX5_tries 100 = .ok (.if_icmp .ne 12, 3) := dk_160 0 12 (dk_at dksX5_tries_4 8 rfl rfl)
theorem dX5_tries_103 : decode cX5_tries 103 = .ok (.iload_n 2, 1) := dk_28 (dk_at dksX5_tries_4 11 rfl rfl)
theorem dX5_tries_104 : decode cX5_tries 104 = .ok (.aload_n 0, 1) := dk_42 (dk_at dksX5_tries_4 12 rfl rfl)
theorem dX5_tries_105 : decode cX5_tries 105 = .ok (.getfield 258, 3) := dk_180 1 2 (dk_at dksX5_tries_4 13 rfl rfl)
theorem dX5_tries_108 : decode cX5_tries 108 = .ok (.if_icmp .gt 4, 3) := dk_163 0 4 (dk_at dksX5_tries_4 16 rfl rfl)
theorem dX5_tries_111 : decode cX5_tries 111 = .ok (.return_, 1) := dk_177 (dk_at dksX5_tries_4 19 rfl rfl)
theorem dX5_tries_112 : decode cX5_tries 112 = .ok (.aload_n 0, 1) := dk_42 (dk_at dksX5_tries_4 20 rfl rfl)
theorem dX5_tries_113 : decode cX5_tries 113 = .ok (.aload_n 0, 1) := dk_42 (dk_at dksX5_tries_4 21 rfl rfl)
theorem dX5_tries_114 : decode cX5_tries 114 = .ok (.getfield 204, 3) := dk_180 0 204 (dk_at dksX5_tries_5 0 rfl rfl)
theorem dX5_tries_117 : decode cX5_tries 117 = .ok (.putfield 255, 3) := dk_181 0 255 (dk_at dksX5_tries_5 3 rfl rfl)
theorem dX5_tries_120 : decode cX5_tries 120 = .ok (.aload_n 0, 1) := dk_42 (dk_at dksX5_tries_5 6 rfl rfl)
theorem dX5_tries_121 : decode cX5_tries 121 = .ok (.iload_n 2, 1) := dk_28 (dk_at dksX5_tries_5 7 rfl rfl)
theorem dX5_tries_122 : decode cX5_tries 122 = .ok (.putfield 258, 3) := dk_181 1 2 (dk_at dksX5_tries_5 8 rfl rfl)
theorem dX5_tries_125 : decode cX5_tries 125 = .ok (.iconst 0, 1) := dk_3 (dk_at dksX5_tries_5 11 rfl rfl)
theorem dX5_tries_126 : decode cX5_tries 126 = .ok (.istore_n 3, 1) := dk_62 (dk_at dksX5_tries_5 12 rfl rfl)
theorem dX5_tries_127 : decode cX5_tries 127 = .ok (.iload_n 3, 1) := dk_29 (dk_at dksX5_tries_5 13 rfl rfl)
theorem dX5_tries_128 : decode cX5_tries 128 = .ok (.iload_n 1, 1) := dk_27 (dk_at dksX5_tries_5 14 rfl rfl)
theorem dX5_tries_129 : decode cX5_tries 129 = .ok (.if_icmp .ge 21, 3) := dk_162 0 21 (dk_at dksX5_tries_5 15 rfl rfl)
theorem dX5_tries_132 : decode cX5_tries 132 = .ok (.aload_n 0, 1) := dk_42 (dk_at dksX5_tries_5 18 rfl rfl)
theorem dX5_tries_133 : decode cX5_tries 133 = .ok (.getfield 96, 3) := dk_180 0 96 (dk_at dksX5_tries_5 19 rfl rfl)
theorem dX5_tries_136 : decode cX5_tries 136 = .ok (.iload_n 3, 1) := dk_29 (dk_at dksX5_tries_5 22 rfl rfl)
theorem dX5_tries_137 : decode cX5_tries 137 = .ok (.aload_n 0, 1) := dk_42 (dk_at dksX5_tries_5 23 rfl rfl)
theorem dX5_tries_138 : decode cX5_tries 138 = .ok (.getfield 93, 3) := dk_180 0 93 (dk_at dksX5_tries_6 0 rfl rfl)
theorem dX5_tries_141 : decode cX5_tries 141 = .ok (.iload_n 3, 1) := dk_29 (dk_at dksX5_tries_6 3 rfl rfl)
theorem dX5_tries_142 : decode cX5_tries 142 = .ok (.iaload, 1) := dk_46 (dk_at dksX5_tries_6 4 rfl rfl)
theorem dX5_tries_143 : decode cX5_tries 143 = .ok (.iastore, 1) := dk_79 (dk_at dksX5_tries_6 5 rfl rfl)
theorem dX5_tries_144 : decode cX5_tries 144 = .ok (.iinc 3 1, 3) := dk_132 3 1 (dk_at dksX5_tries_6 6 rfl rfl)
theorem dX5_tries_147 : decode cX5_tries 147 = .ok (.goto (-20), 3) := dk_167 255 236 (dk_at dksX5_tries_6 9 rfl rfl)
theorem dX5_tries_150 : decode cX5_tries 150 = .ok (.return_, 1) := dk_177 (dk_at dksX5_tries_6 12 rfl rfl)
abbrev cX5_mayAt : ByteArray := prog_22_method_46_code
def yX5_mayAt : MethodName := ⟨RX5, "mayAt", "(I)I"⟩
def dkwX5_mayAt_1 : List UInt8 := [154, 0, 5, 29, 172, 132, 2, 255, 132, 3, 1, 167, 255, 225, 2, 172]
abbrev dktX5_mayAt_1 : List UInt8 := dkwX5_mayAt_1 ++ []
def dkwX5_mayAt_0 : List UInt8 := [27, 61, 3, 62, 29, 42, 180, 0, 105, 162, 0, 29, 42, 29, 182, 0, 165, 154, 0, 6, 167, 0, 12, 28]
abbrev dktX5_mayAt_0 : List UInt8 := dkwX5_mayAt_0 ++ dktX5_mayAt_1
theorem dksX5_mayAt_0 : cX5_mayAt.data.toList.drop 0 = dktX5_mayAt_0 := by decide +kernel
theorem dksX5_mayAt_1 : cX5_mayAt.data.toList.drop 24 = dktX5_mayAt_1 := dk_seg dksX5_mayAt_0 24 rfl rfl
theorem dX5_mayAt_0 : decode cX5_mayAt 0 = .ok (.iload_n 1, 1) := dk_27 (dk_at dksX5_mayAt_0 0 rfl rfl)
theorem dX5_mayAt_1 : decode cX5_mayAt 1 = .ok (.istore_n 2, 1) := dk_61 (dk_at dksX5_mayAt_0 1 rfl rfl)
theorem dX5_mayAt_2 : decode cX5_mayAt 2 = .ok (.iconst 0, 1) := dk_3 (dk_at dksX5_mayAt_0 2 rfl rfl)
theorem dX5_mayAt_3 : decode cX5_mayAt 3 = .ok (.istore_n 3, 1) := dk_62 (dk_at dksX5_mayAt_0 3 rfl rfl)
theorem dX5_mayAt_4 : decode cX5_mayAt 4 = .ok (.iload_n 3, 1) := dk_29 (dk_at dksX5_mayAt_0 4 rfl rfl)
theorem dX5_mayAt_5 : decode cX5_mayAt 5 = .ok (.aload_n 0, 1) := dk_42 (dk_at dksX5_mayAt_0 5 rfl rfl)
theorem dX5_mayAt_6 : decode cX5_mayAt 6 = .ok (.getfield 105, 3) := dk_180 0 105 (dk_at dksX5_mayAt_0 6 rfl rfl)
theorem dX5_mayAt_9 : decode cX5_mayAt 9 = .ok (.if_icmp .ge 29, 3) := dk_162 0 29 (dk_at dksX5_mayAt_0 9 rfl rfl)
theorem dX5_mayAt_12 : decode cX5_mayAt 12 = .ok (.aload_n 0, 1) := dk_42 (dk_at dksX5_mayAt_0 12 rfl rfl)
theorem dX5_mayAt_13 : decode cX5_mayAt 13 = .ok (.iload_n 3, 1) := dk_29 (dk_at dksX5_mayAt_0 13 rfl rfl)
theorem dX5_mayAt_14 : decode cX5_mayAt 14 = .ok (.invokevirtual 165, 3) := dk_182 0 165 (dk_at dksX5_mayAt_0 14 rfl rfl)
theorem dX5_mayAt_17 : decode cX5_mayAt 17 = .ok (.ifCond .ne 6, 3) := dk_154 0 6 (dk_at dksX5_mayAt_0 17 rfl rfl)
theorem dX5_mayAt_20 : decode cX5_mayAt 20 = .ok (.goto 12, 3) := dk_167 0 12 (dk_at dksX5_mayAt_0 20 rfl rfl)
theorem dX5_mayAt_23 : decode cX5_mayAt 23 = .ok (.iload_n 2, 1) := dk_28 (dk_at dksX5_mayAt_0 23 rfl rfl)
theorem dX5_mayAt_24 : decode cX5_mayAt 24 = .ok (.ifCond .ne 5, 3) := dk_154 0 5 (dk_at dksX5_mayAt_1 0 rfl rfl)
theorem dX5_mayAt_27 : decode cX5_mayAt 27 = .ok (.iload_n 3, 1) := dk_29 (dk_at dksX5_mayAt_1 3 rfl rfl)
theorem dX5_mayAt_28 : decode cX5_mayAt 28 = .ok (.ireturn, 1) := dk_172 (dk_at dksX5_mayAt_1 4 rfl rfl)
theorem dX5_mayAt_29 : decode cX5_mayAt 29 = .ok (.iinc 2 (-1), 3) := dk_132 2 255 (dk_at dksX5_mayAt_1 5 rfl rfl)
theorem dX5_mayAt_32 : decode cX5_mayAt 32 = .ok (.iinc 3 1, 3) := dk_132 3 1 (dk_at dksX5_mayAt_1 8 rfl rfl)
theorem dX5_mayAt_35 : decode cX5_mayAt 35 = .ok (.goto (-31), 3) := dk_167 255 225 (dk_at dksX5_mayAt_1 11 rfl rfl)
theorem dX5_mayAt_38 : decode cX5_mayAt 38 = .ok (.iconst (-1), 1) := dk_2 (dk_at dksX5_mayAt_1 14 rfl rfl)
theorem dX5_mayAt_39 : decode cX5_mayAt 39 = .ok (.ireturn, 1) := dk_172 (dk_at dksX5_mayAt_1 15 rfl rfl)
abbrev cX5_least : ByteArray := prog_22_method_59_code
def yX5_least : MethodName := ⟨RX5, "least", "()I"⟩
def dkwX5_least_1 : List UInt8 := [180, 1, 2, 172]
abbrev dktX5_least_1 : List UInt8 := dkwX5_least_1 ++ []
def dkwX5_least_0 : List UInt8 := [42, 182, 0, 249, 16, 6, 164, 0, 10, 42, 16, 249, 182, 0, 112, 172, 42, 182, 1, 16, 87, 42]
abbrev dktX5_least_0 : List UInt8 := dkwX5_least_0 ++ dktX5_least_1
theorem dksX5_least_0 : cX5_least.data.toList.drop 0 = dktX5_least_0 := by decide +kernel
theorem dksX5_least_1 : cX5_least.data.toList.drop 22 = dktX5_least_1 := dk_seg dksX5_least_0 22 rfl rfl
theorem dX5_least_0 : decode cX5_least 0 = .ok (.aload_n 0, 1) := dk_42 (dk_at dksX5_least_0 0 rfl rfl)
theorem dX5_least_1 : decode cX5_least 1 = .ok (.invokevirtual 249, 3) := dk_182 0 249 (dk_at dksX5_least_0 1 rfl rfl)
theorem dX5_least_4 : decode cX5_least 4 = .ok (.bipush 6, 2) := dk_16 6 (dk_at dksX5_least_0 4 rfl rfl)
theorem dX5_least_6 : decode cX5_least 6 = .ok (.if_icmp .le 10, 3) := dk_164 0 10 (dk_at dksX5_least_0 6 rfl rfl)
theorem dX5_least_9 : decode cX5_least 9 = .ok (.aload_n 0, 1) := dk_42 (dk_at dksX5_least_0 9 rfl rfl)
theorem dX5_least_10 : decode cX5_least 10 = .ok (.bipush (-7), 2) := dk_16 249 (dk_at dksX5_least_0 10 rfl rfl)
theorem dX5_least_12 : decode cX5_least 12 = .ok (.invokevirtual 112, 3) := dk_182 0 112 (dk_at dksX5_least_0 12 rfl rfl)
theorem dX5_least_15 : decode cX5_least 15 = .ok (.ireturn, 1) := dk_172 (dk_at dksX5_least_0 15 rfl rfl)
theorem dX5_least_16 : decode cX5_least 16 = .ok (.aload_n 0, 1) := dk_42 (dk_at dksX5_least_0 16 rfl rfl)
theorem dX5_least_17 : decode cX5_least 17 = .ok (.invokevirtual 272, 3) := dk_182 1 16 (dk_at dksX5_least_0 17 rfl rfl)
theorem dX5_least_20 : decode cX5_least 20 = .ok (.pop, 1) := dk_87 (dk_at dksX5_least_0 20 rfl rfl)
theorem dX5_least_21 : decode cX5_least 21 = .ok (.aload_n 0, 1) := dk_42 (dk_at dksX5_least_0 21 rfl rfl)
theorem dX5_least_22 : decode cX5_least 22 = .ok (.getfield 258, 3) := dk_180 1 2 (dk_at dksX5_least_1 0 rfl rfl)
theorem dX5_least_25 : decode cX5_least 25 = .ok (.ireturn, 1) := dk_172 (dk_at dksX5_least_1 3 rfl rfl)
abbrev cX5_was : ByteArray := prog_22_method_60_code
def yX5_was : MethodName := ⟨RX5, "was", "(II)I"⟩
def dkwX5_was_4 : List UInt8 := [167, 255, 192, 29, 172]
abbrev dktX5_was_4 : List UInt8 := dkwX5_was_4 ++ []
def dkwX5_was_3 : List UInt8 := [180, 0, 195, 28, 160, 0, 10, 29, 4, 21, 4, 120, 128, 62, 132, 5, 1, 167, 255, 208, 132, 4, 1]
abbrev dktX5_was_3 : List UInt8 := dkwX5_was_3 ++ dktX5_was_4
def dkwX5_was_2 : List UInt8 := [181, 0, 195, 42, 42, 180, 0, 126, 5, 108, 181, 0, 198, 42, 21, 4, 21, 5, 182, 0, 222, 42]
abbrev dktX5_was_2 : List UInt8 := dkwX5_was_2 ++ dktX5_was_3
def dkwX5_was_1 : List UInt8 := [62, 3, 54, 4, 21, 4, 16, 7, 162, 0, 63, 3, 54, 5, 21, 5, 16, 10, 162, 0, 47, 42, 27]
abbrev dktX5_was_1 : List UInt8 := dkwX5_was_1 ++ dktX5_was_2
def dkwX5_was_0 : List UInt8 := [42, 27, 182, 1, 19, 153, 0, 11, 42, 28, 182, 1, 19, 154, 0, 10, 42, 16, 250, 182, 0, 112, 172, 3]
abbrev dktX5_was_0 : List UInt8 := dkwX5_was_0 ++ dktX5_was_1
theorem dksX5_was_0 : cX5_was.data.toList.drop 0 = dktX5_was_0 := by decide +kernel
theorem dksX5_was_1 : cX5_was.data.toList.drop 24 = dktX5_was_1 := dk_seg dksX5_was_0 24 rfl rfl
theorem dksX5_was_2 : cX5_was.data.toList.drop 47 = dktX5_was_2 := dk_seg dksX5_was_1 23 rfl rfl
theorem dksX5_was_3 : cX5_was.data.toList.drop 69 = dktX5_was_3 := dk_seg dksX5_was_2 22 rfl rfl
theorem dksX5_was_4 : cX5_was.data.toList.drop 92 = dktX5_was_4 := dk_seg dksX5_was_3 23 rfl rfl
theorem dX5_was_0 : decode cX5_was 0 = .ok (.aload_n 0, 1) := dk_42 (dk_at dksX5_was_0 0 rfl rfl)
theorem dX5_was_1 : decode cX5_was 1 = .ok (.iload_n 1, 1) := dk_27 (dk_at dksX5_was_0 1 rfl rfl)
theorem dX5_was_2 : decode cX5_was 2 = .ok (.invokevirtual 275, 3) := dk_182 1 19 (dk_at dksX5_was_0 2 rfl rfl)
theorem dX5_was_5 : decode cX5_was 5 = .ok (.ifCond .eq 11, 3) := dk_153 0 11 (dk_at dksX5_was_0 5 rfl rfl)
theorem dX5_was_8 : decode cX5_was 8 = .ok (.aload_n 0, 1) := dk_42 (dk_at dksX5_was_0 8 rfl rfl)
theorem dX5_was_9 : decode cX5_was 9 = .ok (.iload_n 2, 1) := dk_28 (dk_at dksX5_was_0 9 rfl rfl)
theorem dX5_was_10 : decode cX5_was 10 = .ok (.invokevirtual 275, 3) := dk_182 1 19 (dk_at dksX5_was_0 10 rfl rfl)
theorem dX5_was_13 : decode cX5_was 13 = .ok (.ifCond .ne 10, 3) := dk_154 0 10 (dk_at dksX5_was_0 13 rfl rfl)
theorem dX5_was_16 : decode cX5_was 16 = .ok (.aload_n 0, 1) := dk_42 (dk_at dksX5_was_0 16 rfl rfl)
theorem dX5_was_17 : decode cX5_was 17 = .ok (.bipush (-6), 2) := dk_16 250 (dk_at dksX5_was_0 17 rfl rfl)
theorem dX5_was_19 : decode cX5_was 19 = .ok (.invokevirtual 112, 3) := dk_182 0 112 (dk_at dksX5_was_0 19 rfl rfl)
theorem dX5_was_22 : decode cX5_was 22 = .ok (.ireturn, 1) := dk_172 (dk_at dksX5_was_0 22 rfl rfl)
theorem dX5_was_23 : decode cX5_was 23 = .ok (.iconst 0, 1) := dk_3 (dk_at dksX5_was_0 23 rfl rfl)
theorem dX5_was_24 : decode cX5_was 24 = .ok (.istore_n 3, 1) := dk_62 (dk_at dksX5_was_1 0 rfl rfl)
theorem dX5_was_25 : decode cX5_was 25 = .ok (.iconst 0, 1) := dk_3 (dk_at dksX5_was_1 1 rfl rfl)
theorem dX5_was_26 : decode cX5_was 26 = .ok (.istore 4, 2) := dk_54 4 (dk_at dksX5_was_1 2 rfl rfl)
theorem dX5_was_28 : decode cX5_was 28 = .ok (.iload 4, 2) := dk_21 4 (dk_at dksX5_was_1 4 rfl rfl)
theorem dX5_was_30 : decode cX5_was 30 = .ok (.bipush 7, 2) := dk_16 7 (dk_at dksX5_was_1 6 rfl rfl)
theorem dX5_was_32 : decode cX5_was 32 = .ok (.if_icmp .ge 63, 3) := dk_162 0 63 (dk_at dksX5_was_1 8 rfl rfl)
theorem dX5_was_35 : decode cX5_was 35 = .ok (.iconst 0, 1) := dk_3 (dk_at dksX5_was_1 11 rfl rfl)
theorem dX5_was_36 : decode cX5_was 36 = .ok (.istore 5, 2) := dk_54 5 (dk_at dksX5_was_1 12 rfl rfl)
theorem dX5_was_38 : decode cX5_was 38 = .ok (.iload 5, 2) := dk_21 5 (dk_at dksX5_was_1 14 rfl rfl)
theorem dX5_was_40 : decode cX5_was 40 = .ok (.bipush 10, 2) := dk_16 10 (dk_at dksX5_was_1 16 rfl rfl)
theorem dX5_was_42 : decode cX5_was 42 = .ok (.if_icmp .ge 47, 3) := dk_162 0 47 (dk_at dksX5_was_1 18 rfl rfl)
theorem dX5_was_45 : decode cX5_was 45 = .ok (.aload_n 0, 1) := dk_42 (dk_at dksX5_was_1 21 rfl rfl)
theorem dX5_was_46 : decode cX5_was 46 = .ok (.iload_n 1, 1) := dk_27 (dk_at dksX5_was_1 22 rfl rfl)
theorem dX5_was_47 : decode cX5_was 47 = .ok (.putfield 195, 3) := dk_181 0 195 (dk_at dksX5_was_2 0 rfl rfl)
theorem dX5_was_50 : decode cX5_was 50 = .ok (.aload_n 0, 1) := dk_42 (dk_at dksX5_was_2 3 rfl rfl)
theorem dX5_was_51 : decode cX5_was 51 = .ok (.aload_n 0, 1) := dk_42 (dk_at dksX5_was_2 4 rfl rfl)
theorem dX5_was_52 : decode cX5_was 52 = .ok (.getfield 126, 3) := dk_180 0 126 (dk_at dksX5_was_2 5 rfl rfl)
theorem dX5_was_55 : decode cX5_was 55 = .ok (.iconst 2, 1) := dk_5 (dk_at dksX5_was_2 8 rfl rfl)
theorem dX5_was_56 : decode cX5_was 56 = .ok (.idiv, 1) := dk_108 (dk_at dksX5_was_2 9 rfl rfl)
theorem dX5_was_57 : decode cX5_was 57 = .ok (.putfield 198, 3) := dk_181 0 198 (dk_at dksX5_was_2 10 rfl rfl)
theorem dX5_was_60 : decode cX5_was 60 = .ok (.aload_n 0, 1) := dk_42 (dk_at dksX5_was_2 13 rfl rfl)
theorem dX5_was_61 : decode cX5_was 61 = .ok (.iload 4, 2) := dk_21 4 (dk_at dksX5_was_2 14 rfl rfl)
theorem dX5_was_63 : decode cX5_was 63 = .ok (.iload 5, 2) := dk_21 5 (dk_at dksX5_was_2 16 rfl rfl)
theorem dX5_was_65 : decode cX5_was 65 = .ok (.invokevirtual 222, 3) := dk_182 0 222 (dk_at dksX5_was_2 18 rfl rfl)
theorem dX5_was_68 : decode cX5_was 68 = .ok (.aload_n 0, 1) := dk_42 (dk_at dksX5_was_2 21 rfl rfl)
theorem dX5_was_69 : decode cX5_was 69 = .ok (.getfield 195, 3) := dk_180 0 195 (dk_at dksX5_was_3 0 rfl rfl)
theorem dX5_was_72 : decode cX5_was 72 = .ok (.iload_n 2, 1) := dk_28 (dk_at dksX5_was_3 3 rfl rfl)
theorem dX5_was_73 : decode cX5_was 73 = .ok (.if_icmp .ne 10, 3) := dk_160 0 10 (dk_at dksX5_was_3 4 rfl rfl)
theorem dX5_was_76 : decode cX5_was 76 = .ok (.iload_n 3, 1) := dk_29 (dk_at dksX5_was_3 7 rfl rfl)
theorem dX5_was_77 : decode cX5_was 77 = .ok (.iconst 1, 1) := dk_4 (dk_at dksX5_was_3 8 rfl rfl)
theorem dX5_was_78 : decode cX5_was 78 = .ok (.iload 4, 2) := dk_21 4 (dk_at dksX5_was_3 9 rfl rfl)
theorem dX5_was_80 : decode cX5_was 80 = .ok (.ishl, 1) := dk_120 (dk_at dksX5_was_3 11 rfl rfl)
theorem dX5_was_81 : decode cX5_was 81 = .ok (.ior, 1) := dk_128 (dk_at dksX5_was_3 12 rfl rfl)
theorem dX5_was_82 : decode cX5_was 82 = .ok (.istore_n 3, 1) := dk_62 (dk_at dksX5_was_3 13 rfl rfl)
theorem dX5_was_83 : decode cX5_was 83 = .ok (.iinc 5 1, 3) := dk_132 5 1 (dk_at dksX5_was_3 14 rfl rfl)
theorem dX5_was_86 : decode cX5_was 86 = .ok (.goto (-48), 3) := dk_167 255 208 (dk_at dksX5_was_3 17 rfl rfl)
theorem dX5_was_89 : decode cX5_was 89 = .ok (.iinc 4 1, 3) := dk_132 4 1 (dk_at dksX5_was_3 20 rfl rfl)
theorem dX5_was_92 : decode cX5_was 92 = .ok (.goto (-64), 3) := dk_167 255 192 (dk_at dksX5_was_4 0 rfl rfl)
theorem dX5_was_95 : decode cX5_was 95 = .ok (.iload_n 3, 1) := dk_29 (dk_at dksX5_was_4 3 rfl rfl)
theorem dX5_was_96 : decode cX5_was 96 = .ok (.ireturn, 1) := dk_172 (dk_at dksX5_was_4 4 rfl rfl)
abbrev cX5_isWeight : ByteArray := prog_22_method_7_code
def yX5_isWeight : MethodName := ⟨RX5, "isWeight", "(I)Z"⟩
def dkwX5_isWeight_0 : List UInt8 := [27, 155, 0, 14, 27, 17, 1, 144, 163, 0, 7, 4, 167, 0, 4, 3, 172]
abbrev dktX5_isWeight_0 : List UInt8 := dkwX5_isWeight_0 ++ []
theorem dksX5_isWeight_0 : cX5_isWeight.data.toList.drop 0 = dktX5_isWeight_0 := by decide +kernel
theorem dX5_isWeight_0 : decode cX5_isWeight 0 = .ok (.iload_n 1, 1) := dk_27 (dk_at dksX5_isWeight_0 0 rfl rfl)
theorem dX5_isWeight_1 : decode cX5_isWeight 1 = .ok (.ifCond .lt 14, 3) := dk_155 0 14 (dk_at dksX5_isWeight_0 1 rfl rfl)
theorem dX5_isWeight_4 : decode cX5_isWeight 4 = .ok (.iload_n 1, 1) := dk_27 (dk_at dksX5_isWeight_0 4 rfl rfl)
theorem dX5_isWeight_5 : decode cX5_isWeight 5 = .ok (.sipush 400, 3) := dk_17 1 144 (dk_at dksX5_isWeight_0 5 rfl rfl)
theorem dX5_isWeight_8 : decode cX5_isWeight 8 = .ok (.if_icmp .gt 7, 3) := dk_163 0 7 (dk_at dksX5_isWeight_0 8 rfl rfl)
theorem dX5_isWeight_11 : decode cX5_isWeight 11 = .ok (.iconst 1, 1) := dk_4 (dk_at dksX5_isWeight_0 11 rfl rfl)
theorem dX5_isWeight_12 : decode cX5_isWeight 12 = .ok (.goto 4, 3) := dk_167 0 4 (dk_at dksX5_isWeight_0 12 rfl rfl)
theorem dX5_isWeight_15 : decode cX5_isWeight 15 = .ok (.iconst 0, 1) := dk_3 (dk_at dksX5_isWeight_0 15 rfl rfl)
theorem dX5_isWeight_16 : decode cX5_isWeight 16 = .ok (.ireturn, 1) := dk_172 (dk_at dksX5_isWeight_0 16 rfl rfl)
abbrev cX5_fit : ByteArray := prog_22_method_61_code
def yX5_fit : MethodName := ⟨RX5, "fit", "(I)I"⟩
def dkwX5_fit_3 : List UInt8 := [167, 0, 6, 4, 29, 120, 128, 61, 132, 3, 1, 167, 255, 192, 28, 172]
abbrev dktX5_fit_3 : List UInt8 := dkwX5_fit_3 ++ []
def dkwX5_fit_2 : List UInt8 := [29, 182, 0, 246, 154, 0, 28, 42, 180, 0, 195, 27, 160, 0, 20, 28, 29, 2, 160, 0, 9, 17, 1, 0]
abbrev dktX5_fit_2 : List UInt8 := dkwX5_fit_2 ++ dktX5_fit_3
def dkwX5_fit_1 : List UInt8 := [162, 0, 62, 29, 2, 159, 0, 14, 42, 29, 182, 0, 165, 154, 0, 6, 167, 0, 40, 42, 182, 0, 243, 42]
abbrev dktX5_fit_1 : List UInt8 := dkwX5_fit_1 ++ dktX5_fit_2
def dkwX5_fit_0 : List UInt8 := [42, 27, 182, 1, 19, 154, 0, 10, 42, 16, 250, 182, 0, 112, 172, 3, 61, 2, 62, 29, 42, 180, 0, 105]
abbrev dktX5_fit_0 : List UInt8 := dkwX5_fit_0 ++ dktX5_fit_1
theorem dksX5_fit_0 : cX5_fit.data.toList.drop 0 = dktX5_fit_0 := by decide +kernel
theorem dksX5_fit_1 : cX5_fit.data.toList.drop 24 = dktX5_fit_1 := dk_seg dksX5_fit_0 24 rfl rfl
theorem dksX5_fit_2 : cX5_fit.data.toList.drop 48 = dktX5_fit_2 := dk_seg dksX5_fit_1 24 rfl rfl
theorem dksX5_fit_3 : cX5_fit.data.toList.drop 72 = dktX5_fit_3 := dk_seg dksX5_fit_2 24 rfl rfl
theorem dX5_fit_0 : decode cX5_fit 0 = .ok (.aload_n 0, 1) := dk_42 (dk_at dksX5_fit_0 0 rfl rfl)
theorem dX5_fit_1 : decode cX5_fit 1 = .ok (.iload_n 1, 1) := dk_27 (dk_at dksX5_fit_0 1 rfl rfl)
theorem dX5_fit_2 : decode cX5_fit 2 = .ok (.invokevirtual 275, 3) := dk_182 1 19 (dk_at dksX5_fit_0 2 rfl rfl)
theorem dX5_fit_5 : decode cX5_fit 5 = .ok (.ifCond .ne 10, 3) := dk_154 0 10 (dk_at dksX5_fit_0 5 rfl rfl)
theorem dX5_fit_8 : decode cX5_fit 8 = .ok (.aload_n 0, 1) := dk_42 (dk_at dksX5_fit_0 8 rfl rfl)
theorem dX5_fit_9 : decode cX5_fit 9 = .ok (.bipush (-6), 2) := dk_16 250 (dk_at dksX5_fit_0 9 rfl rfl)
theorem dX5_fit_11 : decode cX5_fit 11 = .ok (.invokevirtual 112, 3) := dk_182 0 112 (dk_at dksX5_fit_0 11 rfl rfl)
theorem dX5_fit_14 : decode cX5_fit 14 = .ok (.ireturn, 1) := dk_172 (dk_at dksX5_fit_0 14 rfl rfl)
theorem dX5_fit_15 : decode cX5_fit 15 = .ok (.iconst 0, 1) := dk_3 (dk_at dksX5_fit_0 15 rfl rfl)
theorem dX5_fit_16 : decode cX5_fit 16 = .ok (.istore_n 2, 1) := dk_61 (dk_at dksX5_fit_0 16 rfl rfl)
theorem dX5_fit_17 : decode cX5_fit 17 = .ok (.iconst (-1), 1) := dk_2 (dk_at dksX5_fit_0 17 rfl rfl)
theorem dX5_fit_18 : decode cX5_fit 18 = .ok (.istore_n 3, 1) := dk_62 (dk_at dksX5_fit_0 18 rfl rfl)
theorem dX5_fit_19 : decode cX5_fit 19 = .ok (.iload_n 3, 1) := dk_29 (dk_at dksX5_fit_0 19 rfl rfl)
theorem dX5_fit_20 : decode cX5_fit 20 = .ok (.aload_n 0, 1) := dk_42 (dk_at dksX5_fit_0 20 rfl rfl)
theorem dX5_fit_21 : decode cX5_fit 21 = .ok (.getfield 105, 3) := dk_180 0 105 (dk_at dksX5_fit_0 21 rfl rfl)
theorem dX5_fit_24 : decode cX5_fit 24 = .ok (.if_icmp .ge 62, 3) := dk_162 0 62 (dk_at dksX5_fit_1 0 rfl rfl)
theorem dX5_fit_27 : decode cX5_fit 27 = .ok (.iload_n 3, 1) := dk_29 (dk_at dksX5_fit_1 3 rfl rfl)
theorem dX5_fit_28 : decode cX5_fit 28 = .ok (.iconst (-1), 1) := dk_2 (dk_at dksX5_fit_1 4 rfl rfl)
theorem dX5_fit_29 : decode cX5_fit 29 = .ok (.if_icmp .eq 14, 3) := dk_159 0 14 (dk_at dksX5_fit_1 5 rfl rfl)
theorem dX5_fit_32 : decode cX5_fit 32 = .ok (.aload_n 0, 1) := dk_42 (dk_at dksX5_fit_1 8 rfl rfl)
theorem dX5_fit_33 : decode cX5_fit 33 = .ok (.iload_n 3, 1) := dk_29 (dk_at dksX5_fit_1 9 rfl rfl)
theorem dX5_fit_34 : decode cX5_fit 34 = .ok (.invokevirtual 165, 3) := dk_182 0 165 (dk_at dksX5_fit_1 10 rfl rfl)
theorem dX5_fit_37 : decode cX5_fit 37 = .ok (.ifCond .ne 6, 3) := dk_154 0 6 (dk_at dksX5_fit_1 13 rfl rfl)
theorem dX5_fit_40 : decode cX5_fit 40 = .ok (.goto 40, 3) := dk_167 0 40 (dk_at dksX5_fit_1 16 rfl rfl)
theorem dX5_fit_43 : decode cX5_fit 43 = .ok (.aload_n 0, 1) := dk_42 (dk_at dksX5_fit_1 19 rfl rfl)
theorem dX5_fit_44 : decode cX5_fit 44 = .ok (.invokevirtual 243, 3) := dk_182 0 243 (dk_at dksX5_fit_1 20 rfl rfl)
theorem dX5_fit_47 : decode cX5_fit 47 = .ok (.aload_n 0, 1) := dk_42 (dk_at dksX5_fit_1 23 rfl rfl)
theorem dX5_fit_48 : decode cX5_fit 48 = .ok (.iload_n 3, 1) := dk_29 (dk_at dksX5_fit_2 0 rfl rfl)
theorem dX5_fit_49 : decode cX5_fit 49 = .ok (.invokevirtual 246, 3) := dk_182 0 246 (dk_at dksX5_fit_2 1 rfl rfl)
theorem dX5_fit_52 : decode cX5_fit 52 = .ok (.ifCond .ne 28, 3) := dk_154 0 28 (dk_at dksX5_fit_2 4 rfl rfl)
theorem dX5_fit_55 : decode cX5_fit 55 = .ok (.aload_n 0, 1) := dk_42 (dk_at dksX5_fit_2 7 rfl rfl)
theorem dX5_fit_56 : decode cX5_fit 56 = .ok (.getfield 195, 3) := dk_180 0 195 (dk_at dksX5_fit_2 8 rfl rfl)
theorem dX5_fit_59 : decode cX5_fit 59 = .ok (.iload_n 1, 1) := dk_27 (dk_at dksX5_fit_2 11 rfl rfl)
theorem dX5_fit_60 : decode cX5_fit 60 = .ok (.if_icmp .ne 20, 3) := dk_160 0 20 (dk_at dksX5_fit_2 12 rfl rfl)
theorem dX5_fit_63 : decode cX5_fit 63 = .ok (.iload_n 2, 1) := dk_28 (dk_at dksX5_fit_2 15 rfl rfl)
theorem dX5_fit_64 : decode cX5_fit 64 = .ok (.iload_n 3, 1) := dk_29 (dk_at dksX5_fit_2 16 rfl rfl)
theorem dX5_fit_65 : decode cX5_fit 65 = .ok (.iconst (-1), 1) := dk_2 (dk_at dksX5_fit_2 17 rfl rfl)
theorem dX5_fit_66 : decode cX5_fit 66 = .ok (.if_icmp .ne 9, 3) := dk_160 0 9 (dk_at dksX5_fit_2 18 rfl rfl)
theorem dX5_fit_69 : decode cX5_fit 69 = .ok (.sipush 256, 3) := dk_17 1 0 (dk_at dksX5_fit_2 21 rfl rfl)
theorem dX5_fit_72 : decode cX5_fit 72 = .ok (.goto 6, 3) := dk_167 0 6 (dk_at dksX5_fit_3 0 rfl rfl)
theorem dX5_fit_75 : decode cX5_fit 75 = .ok (.iconst 1, 1) := dk_4 (dk_at dksX5_fit_3 3 rfl rfl)
theorem dX5_fit_76 : decode cX5_fit 76 = .ok (.iload_n 3, 1) := dk_29 (dk_at dksX5_fit_3 4 rfl rfl)
theorem dX5_fit_77 : decode cX5_fit 77 = .ok (.ishl, 1) := dk_120 (dk_at dksX5_fit_3 5 rfl rfl)
theorem dX5_fit_78 : decode cX5_fit 78 = .ok (.ior, 1) := dk_128 (dk_at dksX5_fit_3 6 rfl rfl)
theorem dX5_fit_79 : decode cX5_fit 79 = .ok (.istore_n 2, 1) := dk_61 (dk_at dksX5_fit_3 7 rfl rfl)
theorem dX5_fit_80 : decode cX5_fit 80 = .ok (.iinc 3 1, 3) := dk_132 3 1 (dk_at dksX5_fit_3 8 rfl rfl)
theorem dX5_fit_83 : decode cX5_fit 83 = .ok (.goto (-64), 3) := dk_167 255 192 (dk_at dksX5_fit_3 11 rfl rfl)
theorem dX5_fit_86 : decode cX5_fit 86 = .ok (.iload_n 2, 1) := dk_28 (dk_at dksX5_fit_3 14 rfl rfl)
theorem dX5_fit_87 : decode cX5_fit 87 = .ok (.ireturn, 1) := dk_172 (dk_at dksX5_fit_3 15 rfl rfl)
abbrev cX5_chance : ByteArray := prog_22_method_64_code
def yX5_chance : MethodName := ⟨RX5, "chance", "(I)I"⟩
def dkwX5_chance_1 : List UInt8 := [182, 1, 25, 167, 0, 9, 42, 16, 250, 182, 0, 112, 172]
abbrev dktX5_chance_1 : List UInt8 := dkwX5_chance_1 ++ []
def dkwX5_chance_0 : List UInt8 := [42, 182, 0, 249, 154, 0, 10, 42, 16, 251, 182, 0, 112, 172, 42, 27, 182, 1, 22, 153, 0, 11, 42, 27]
abbrev dktX5_chance_0 : List UInt8 := dkwX5_chance_0 ++ dktX5_chance_1
theorem dksX5_chance_0 : cX5_chance.data.toList.drop 0 = dktX5_chance_0 := by decide +kernel
theorem dksX5_chance_1 : cX5_chance.data.toList.drop 24 = dktX5_chance_1 := dk_seg dksX5_chance_0 24 rfl rfl
theorem dX5_chance_0 : decode cX5_chance 0 = .ok (.aload_n 0, 1) := dk_42 (dk_at dksX5_chance_0 0 rfl rfl)
theorem dX5_chance_1 : decode cX5_chance 1 = .ok (.invokevirtual 249, 3) := dk_182 0 249 (dk_at dksX5_chance_0 1 rfl rfl)
theorem dX5_chance_4 : decode cX5_chance 4 = .ok (.ifCond .ne 10, 3) := dk_154 0 10 (dk_at dksX5_chance_0 4 rfl rfl)
theorem dX5_chance_7 : decode cX5_chance 7 = .ok (.aload_n 0, 1) := dk_42 (dk_at dksX5_chance_0 7 rfl rfl)
theorem dX5_chance_8 : decode cX5_chance 8 = .ok (.bipush (-5), 2) := dk_16 251 (dk_at dksX5_chance_0 8 rfl rfl)
theorem dX5_chance_10 : decode cX5_chance 10 = .ok (.invokevirtual 112, 3) := dk_182 0 112 (dk_at dksX5_chance_0 10 rfl rfl)
theorem dX5_chance_13 : decode cX5_chance 13 = .ok (.ireturn, 1) := dk_172 (dk_at dksX5_chance_0 13 rfl rfl)
theorem dX5_chance_14 : decode cX5_chance 14 = .ok (.aload_n 0, 1) := dk_42 (dk_at dksX5_chance_0 14 rfl rfl)
theorem dX5_chance_15 : decode cX5_chance 15 = .ok (.iload_n 1, 1) := dk_27 (dk_at dksX5_chance_0 15 rfl rfl)
theorem dX5_chance_16 : decode cX5_chance 16 = .ok (.invokevirtual 278, 3) := dk_182 1 22 (dk_at dksX5_chance_0 16 rfl rfl)
theorem dX5_chance_19 : decode cX5_chance 19 = .ok (.ifCond .eq 11, 3) := dk_153 0 11 (dk_at dksX5_chance_0 19 rfl rfl)
theorem dX5_chance_22 : decode cX5_chance 22 = .ok (.aload_n 0, 1) := dk_42 (dk_at dksX5_chance_0 22 rfl rfl)
theorem dX5_chance_23 : decode cX5_chance 23 = .ok (.iload_n 1, 1) := dk_27 (dk_at dksX5_chance_0 23 rfl rfl)
theorem dX5_chance_24 : decode cX5_chance 24 = .ok (.invokevirtual 281, 3) := dk_182 1 25 (dk_at dksX5_chance_1 0 rfl rfl)
theorem dX5_chance_27 : decode cX5_chance 27 = .ok (.goto 9, 3) := dk_167 0 9 (dk_at dksX5_chance_1 3 rfl rfl)
theorem dX5_chance_30 : decode cX5_chance 30 = .ok (.aload_n 0, 1) := dk_42 (dk_at dksX5_chance_1 6 rfl rfl)
theorem dX5_chance_31 : decode cX5_chance 31 = .ok (.bipush (-6), 2) := dk_16 250 (dk_at dksX5_chance_1 7 rfl rfl)
theorem dX5_chance_33 : decode cX5_chance 33 = .ok (.invokevirtual 112, 3) := dk_182 0 112 (dk_at dksX5_chance_1 9 rfl rfl)
theorem dX5_chance_36 : decode cX5_chance 36 = .ok (.ireturn, 1) := dk_172 (dk_at dksX5_chance_1 12 rfl rfl)
abbrev cX5_isFew : ByteArray := prog_22_method_63_code
def yX5_isFew : MethodName := ⟨RX5, "isFew", "(I)Z"⟩
def dkwX5_isFew_0 : List UInt8 := [27, 4, 161, 0, 12, 27, 7, 163, 0, 7, 4, 167, 0, 4, 3, 172]
abbrev dktX5_isFew_0 : List UInt8 := dkwX5_isFew_0 ++ []
theorem dksX5_isFew_0 : cX5_isFew.data.toList.drop 0 = dktX5_isFew_0 := by decide +kernel
theorem dX5_isFew_0 : decode cX5_isFew 0 = .ok (.iload_n 1, 1) := dk_27 (dk_at dksX5_isFew_0 0 rfl rfl)
theorem dX5_isFew_1 : decode cX5_isFew 1 = .ok (.iconst 1, 1) := dk_4 (dk_at dksX5_isFew_0 1 rfl rfl)
theorem dX5_isFew_2 : decode cX5_isFew 2 = .ok (.if_icmp .lt 12, 3) := dk_161 0 12 (dk_at dksX5_isFew_0 2 rfl rfl)
theorem dX5_isFew_5 : decode cX5_isFew 5 = .ok (.iload_n 1, 1) := dk_27 (dk_at dksX5_isFew_0 5 rfl rfl)
theorem dX5_isFew_6 : decode cX5_isFew 6 = .ok (.iconst 4, 1) := dk_7 (dk_at dksX5_isFew_0 6 rfl rfl)
theorem dX5_isFew_7 : decode cX5_isFew 7 = .ok (.if_icmp .gt 7, 3) := dk_163 0 7 (dk_at dksX5_isFew_0 7 rfl rfl)
theorem dX5_isFew_10 : decode cX5_isFew 10 = .ok (.iconst 1, 1) := dk_4 (dk_at dksX5_isFew_0 10 rfl rfl)
theorem dX5_isFew_11 : decode cX5_isFew 11 = .ok (.goto 4, 3) := dk_167 0 4 (dk_at dksX5_isFew_0 11 rfl rfl)
theorem dX5_isFew_14 : decode cX5_isFew 14 = .ok (.iconst 0, 1) := dk_3 (dk_at dksX5_isFew_0 14 rfl rfl)
theorem dX5_isFew_15 : decode cX5_isFew 15 = .ok (.ireturn, 1) := dk_172 (dk_at dksX5_isFew_0 15 rfl rfl)
abbrev cX5_dying : ByteArray := prog_22_method_62_code
def yX5_dying : MethodName := ⟨RX5, "dying", "(I)I"⟩
def dkwX5_dying_5 : List UInt8 := [132, 4, 1, 27, 54, 7, 132, 7, 1, 167, 255, 202, 132, 5, 1, 167, 255, 179, 21, 4, 172]
abbrev dktX5_dying_5 : List UInt8 := dkwX5_dying_5 ++ []
def dkwX5_dying_4 : List UInt8 := [42, 21, 8, 182, 0, 246, 154, 0, 6, 167, 0, 20, 42, 180, 0, 99, 21, 8, 92, 46, 4, 96, 79]
abbrev dktX5_dying_4 : List UInt8 := dkwX5_dying_4 ++ dktX5_dying_5
def dkwX5_dying_3 : List UInt8 := [54, 7, 21, 7, 27, 162, 0, 54, 42, 21, 6, 28, 112, 182, 1, 9, 54, 8, 21, 6, 28, 108, 54, 6]
abbrev dktX5_dying_3 : List UInt8 := dkwX5_dying_3 ++ dktX5_dying_4
def dkwX5_dying_2 : List UInt8 := [132, 5, 1, 167, 255, 243, 3, 54, 5, 21, 5, 29, 162, 0, 77, 21, 5, 54, 6, 42, 182, 0, 243, 3]
abbrev dktX5_dying_2 : List UInt8 := dkwX5_dying_2 ++ dktX5_dying_3
def dkwX5_dying_1 : List UInt8 := [21, 5, 3, 79, 132, 5, 1, 167, 255, 238, 3, 54, 5, 21, 5, 27, 162, 0, 13, 29, 28, 104, 62]
abbrev dktX5_dying_1 : List UInt8 := dkwX5_dying_1 ++ dktX5_dying_2
def dkwX5_dying_0 : List UInt8 := [42, 182, 0, 249, 61, 4, 62, 3, 54, 4, 3, 54, 5, 21, 5, 16, 8, 162, 0, 17, 42, 180, 0, 99]
abbrev dktX5_dying_0 : List UInt8 := dkwX5_dying_0 ++ dktX5_dying_1
theorem dksX5_dying_0 : cX5_dying.data.toList.drop 0 = dktX5_dying_0 := by decide +kernel
theorem dksX5_dying_1 : cX5_dying.data.toList.drop 24 = dktX5_dying_1 := dk_seg dksX5_dying_0 24 rfl rfl
theorem dksX5_dying_2 : cX5_dying.data.toList.drop 47 = dktX5_dying_2 := dk_seg dksX5_dying_1 23 rfl rfl
theorem dksX5_dying_3 : cX5_dying.data.toList.drop 71 = dktX5_dying_3 := dk_seg dksX5_dying_2 24 rfl rfl
theorem dksX5_dying_4 : cX5_dying.data.toList.drop 95 = dktX5_dying_4 := dk_seg dksX5_dying_3 24 rfl rfl
theorem dksX5_dying_5 : cX5_dying.data.toList.drop 118 = dktX5_dying_5 := dk_seg dksX5_dying_4 23 rfl rfl
theorem dX5_dying_0 : decode cX5_dying 0 = .ok (.aload_n 0, 1) := dk_42 (dk_at dksX5_dying_0 0 rfl rfl)
theorem dX5_dying_1 : decode cX5_dying 1 = .ok (.invokevirtual 249, 3) := dk_182 0 249 (dk_at dksX5_dying_0 1 rfl rfl)
theorem dX5_dying_4 : decode cX5_dying 4 = .ok (.istore_n 2, 1) := dk_61 (dk_at dksX5_dying_0 4 rfl rfl)
theorem dX5_dying_5 : decode cX5_dying 5 = .ok (.iconst 1, 1) := dk_4 (dk_at dksX5_dying_0 5 rfl rfl)
theorem dX5_dying_6 : decode cX5_dying 6 = .ok (.istore_n 3, 1) := dk_62 (dk_at dksX5_dying_0 6 rfl rfl)
theorem dX5_dying_7 : decode cX5_dying 7 = .ok (.iconst 0, 1) := dk_3 (dk_at dksX5_dying_0 7 rfl rfl)
theorem dX5_dying_8 : decode cX5_dying 8 = .ok (.istore 4, 2) := dk_54 4 (dk_at dksX5_dying_0 8 rfl rfl)
theorem dX5_dying_10 : decode cX5_dying 10 = .ok (.iconst 0, 1) := dk_3 (dk_at dksX5_dying_0 10 rfl rfl)
theorem dX5_dying_11 : decode cX5_dying 11 = .ok (.istore 5, 2) := dk_54 5 (dk_at dksX5_dying_0 11 rfl rfl)
theorem dX5_dying_13 : decode cX5_dying 13 = .ok (.iload 5, 2) := dk_21 5 (dk_at dksX5_dying_0 13 rfl rfl)
theorem dX5_dying_15 : decode cX5_dying 15 = .ok (.bipush 8, 2) := dk_16 8 (dk_at dksX5_dying_0 15 rfl rfl)
theorem dX5_dying_17 : decode cX5_dying 17 = .ok (.if_icmp .ge 17, 3) := dk_162 0 17 (dk_at dksX5_dying_0 17 rfl rfl)
theorem dX5_dying_20 : decode cX5_dying 20 = .ok (.aload_n 0, 1) := dk_42 (dk_at dksX5_dying_0 20 rfl rfl)
theorem dX5_dying_21 : decode cX5_dying 21 = .ok (.getfield 99, 3) := dk_180 0 99 (dk_at dksX5_dying_0 21 rfl rfl)
theorem dX5_dying_24 : decode cX5_dying 24 = .ok (.iload 5, 2) := dk_21 5 (dk_at dksX5_dying_1 0 rfl rfl)
theorem dX5_dying_26 : decode cX5_dying 26 = .ok (.iconst 0, 1) := dk_3 (dk_at dksX5_dying_1 2 rfl rfl)
theorem dX5_dying_27 : decode cX5_dying 27 = .ok (.iastore, 1) := dk_79 (dk_at dksX5_dying_1 3 rfl rfl)
theorem dX5_dying_28 : decode cX5_dying 28 = .ok (.iinc 5 1, 3) := dk_132 5 1 (dk_at dksX5_dying_1 4 rfl rfl)
theorem dX5_dying_31 : decode cX5_dying 31 = .ok (.goto (-18), 3) := dk_167 255 238 (dk_at dksX5_dying_1 7 rfl rfl)
theorem dX5_dying_34 : decode cX5_dying 34 = .ok (.iconst 0, 1) := dk_3 (dk_at dksX5_dying_1 10 rfl rfl)
theorem dX5_dying_35 : decode cX5_dying 35 = .ok (.istore 5, 2) := dk_54 5 (dk_at dksX5_dying_1 11 rfl rfl)
theorem dX5_dying_37 : decode cX5_dying 37 = .ok (.iload 5, 2) := dk_21 5 (dk_at dksX5_dying_1 13 rfl rfl)
theorem dX5_dying_39 : decode cX5_dying 39 = .ok (.iload_n 1, 1) := dk_27 (dk_at dksX5_dying_1 15 rfl rfl)
theorem dX5_dying_40 : decode cX5_dying 40 = .ok (.if_icmp .ge 13, 3) := dk_162 0 13 (dk_at dksX5_dying_1 16 rfl rfl)
theorem dX5_dying_43 : decode cX5_dying 43 = .ok (.iload_n 3, 1) := dk_29 (dk_at dksX5_dying_1 19 rfl rfl)
theorem dX5_dying_44 : decode cX5_dying 44 = .ok (.iload_n 2, 1) := dk_28 (dk_at dksX5_dying_1 20 rfl rfl)
theorem dX5_dying_45 : decode cX5_dying 45 = .ok (.imul, 1) := dk_104 (dk_at dksX5_dying_1 21 rfl rfl)
theorem dX5_dying_46 : decode cX5_dying 46 = .ok (.istore_n 3, 1) := dk_62 (dk_at dksX5_dying_1 22 rfl rfl)
theorem dX5_dying_47 : decode cX5_dying 47 = .ok (.iinc 5 1, 3) := dk_132 5 1 (dk_at dksX5_dying_2 0 rfl rfl)
theorem dX5_dying_50 : decode cX5_dying 50 = .ok (.goto (-13), 3) := dk_167 255 243 (dk_at dksX5_dying_2 3 rfl rfl)
theorem dX5_dying_53 : decode cX5_dying 53 = .ok (.iconst 0, 1) := dk_3 (dk_at dksX5_dying_2 6 rfl rfl)
theorem dX5_dying_54 : decode cX5_dying 54 = .ok (.istore 5, 2) := dk_54 5 (dk_at dksX5_dying_2 7 rfl rfl)
theorem dX5_dying_56 : decode cX5_dying 56 = .ok (.iload 5, 2) := dk_21 5 (dk_at dksX5_dying_2 9 rfl rfl)
theorem dX5_dying_58 : decode cX5_dying 58 = .ok (.iload_n 3, 1) := dk_29 (dk_at dksX5_dying_2 11 rfl rfl)
theorem dX5_dying_59 : decode cX5_dying 59 = .ok (.if_icmp .ge 77, 3) := dk_162 0 77 (dk_at dksX5_dying_2 12 rfl rfl)
theorem dX5_dying_62 : decode cX5_dying 62 = .ok (.iload 5, 2) := dk_21 5 (dk_at dksX5_dying_2 15 rfl rfl)
theorem dX5_dying_64 : decode cX5_dying 64 = .ok (.istore 6, 2) := dk_54 6 (dk_at dksX5_dying_2 17 rfl rfl)
theorem dX5_dying_66 : decode cX5_dying 66 = .ok (.aload_n 0, 1) := dk_42 (dk_at dksX5_dying_2 19 rfl rfl)
theorem dX5_dying_67 : decode cX5_dying 67 = .ok (.invokevirtual 243, 3) := dk_182 0 243 (dk_at dksX5_dying_2 20 rfl rfl)
theorem dX5_dying_70 : decode cX5_dying 70 = .ok (.iconst 0, 1) := dk_3 (dk_at dksX5_dying_2 23 rfl rfl)
theorem dX5_dying_71 : decode cX5_dying 71 = .ok (.istore 7, 2) := dk_54 7 (dk_at dksX5_dying_3 0 rfl rfl)
theorem dX5_dying_73 : decode cX5_dying 73 = .ok (.iload 7, 2) := dk_21 7 (dk_at dksX5_dying_3 2 rfl rfl)
theorem dX5_dying_75 : decode cX5_dying 75 = .ok (.iload_n 1, 1) := dk_27 (dk_at dksX5_dying_3 4 rfl rfl)
theorem dX5_dying_76 : decode cX5_dying 76 = .ok (.if_icmp .ge 54, 3) := dk_162 0 54 (dk_at dksX5_dying_3 5 rfl rfl)
theorem dX5_dying_79 : decode cX5_dying 79 = .ok (.aload_n 0, 1) := dk_42 (dk_at dksX5_dying_3 8 rfl rfl)
theorem dX5_dying_80 : decode cX5_dying 80 = .ok (.iload 6, 2) := dk_21 6 (dk_at dksX5_dying_3 9 rfl rfl)
theorem dX5_dying_82 : decode cX5_dying 82 = .ok (.iload_n 2, 1) := dk_28 (dk_at dksX5_dying_3 11 rfl rfl)
theorem dX5_dying_83 : decode cX5_dying 83 = .ok (.irem, 1) := dk_112 (dk_at dksX5_dying_3 12 rfl rfl)
theorem dX5_dying_84 : decode cX5_dying 84 = .ok (.invokevirtual 265, 3) := dk_182 1 9 (dk_at dksX5_dying_3 13 rfl rfl)
theorem dX5_dying_87 : decode cX5_dying 87 = .ok (.istore 8, 2) := dk_54 8 (dk_at dksX5_dying_3 16 rfl rfl)
theorem dX5_dying_89 : decode cX5_dying 89 = .ok (.iload 6, 2) := dk_21 6 (dk_at dksX5_dying_3 18 rfl rfl)
theorem dX5_dying_91 : decode cX5_dying 91 = .ok (.iload_n 2, 1) := dk_28 (dk_at dksX5_dying_3 20 rfl rfl)
theorem dX5_dying_92 : decode cX5_dying 92 = .ok (.idiv, 1) := dk_108 (dk_at dksX5_dying_3 21 rfl rfl)
theorem dX5_dying_93 : decode cX5_dying 93 = .ok (.istore 6, 2) := dk_54 6 (dk_at dksX5_dying_3 22 rfl rfl)
theorem dX5_dying_95 : decode cX5_dying 95 = .ok (.aload_n 0, 1) := dk_42 (dk_at dksX5_dying_4 0 rfl rfl)
theorem dX5_dying_96 : decode cX5_dying 96 = .ok (.iload 8, 2) := dk_21 8 (dk_at dksX5_dying_4 1 rfl rfl)
theorem dX5_dying_98 : decode cX5_dying 98 = .ok (.invokevirtual 246, 3) := dk_182 0 246 (dk_at dksX5_dying_4 3 rfl rfl)
theorem dX5_dying_101 : decode cX5_dying 101 = .ok (.ifCond .ne 6, 3) := dk_154 0 6 (dk_at dksX5_dying_4 6 rfl rfl)
theorem dX5_dying_104 : decode cX5_dying 104 = .ok (.goto 20, 3) := dk_167 0 20 (dk_at dksX5_dying_4 9 rfl rfl)
theorem dX5_dying_107 : decode cX5_dying 107 = .ok (.aload_n 0, 1) := dk_42 (dk_at dksX5_dying_4 12 rfl rfl)
theorem dX5_dying_108 : decode cX5_dying 108 = .ok (.getfield 99, 3) := dk_180 0 99 (dk_at dksX5_dying_4 13 rfl rfl)
theorem dX5_dying_111 : decode cX5_dying 111 = .ok (.iload 8, 2) := dk_21 8 (dk_at dksX5_dying_4 16 rfl rfl)
theorem dX5_dying_113 : decode cX5_dying 113 = .ok (.dup2, 1) := dk_92 (dk_at dksX5_dying_4 18 rfl rfl)
theorem dX5_dying_114 : decode cX5_dying 114 = .ok (.iaload, 1) := dk_46 (dk_at dksX5_dying_4 19 rfl rfl)
theorem dX5_dying_115 : decode cX5_dying 115 = .ok (.iconst 1, 1) := dk_4 (dk_at dksX5_dying_4 20 rfl rfl)
theorem dX5_dying_116 : decode cX5_dying 116 = .ok (.iadd, 1) := dk_96 (dk_at dksX5_dying_4 21 rfl rfl)
theorem dX5_dying_117 : decode cX5_dying 117 = .ok (.iastore, 1) := dk_79 (dk_at dksX5_dying_4 22 rfl rfl)
theorem dX5_dying_118 : decode cX5_dying 118 = .ok (.iinc 4 1, 3) := dk_132 4 1 (dk_at dksX5_dying_5 0 rfl rfl)
theorem dX5_dying_121 : decode cX5_dying 121 = .ok (.iload_n 1, 1) := dk_27 (dk_at dksX5_dying_5 3 rfl rfl)
theorem dX5_dying_122 : decode cX5_dying 122 = .ok (.istore 7, 2) := dk_54 7 (dk_at dksX5_dying_5 4 rfl rfl)
theorem dX5_dying_124 : decode cX5_dying 124 = .ok (.iinc 7 1, 3) := dk_132 7 1 (dk_at dksX5_dying_5 6 rfl rfl)
theorem dX5_dying_127 : decode cX5_dying 127 = .ok (.goto (-54), 3) := dk_167 255 202 (dk_at dksX5_dying_5 9 rfl rfl)
theorem dX5_dying_130 : decode cX5_dying 130 = .ok (.iinc 5 1, 3) := dk_132 5 1 (dk_at dksX5_dying_5 12 rfl rfl)
theorem dX5_dying_133 : decode cX5_dying 133 = .ok (.goto (-77), 3) := dk_167 255 179 (dk_at dksX5_dying_5 15 rfl rfl)
theorem dX5_dying_136 : decode cX5_dying 136 = .ok (.iload 4, 2) := dk_21 4 (dk_at dksX5_dying_5 18 rfl rfl)
theorem dX5_dying_138 : decode cX5_dying 138 = .ok (.ireturn, 1) := dk_172 (dk_at dksX5_dying_5 20 rfl rfl)
abbrev cX5_last : ByteArray := prog_22_method_65_code
def yX5_last : MethodName := ⟨RX5, "last", "(III)I"⟩
def dkwX5_last_3 : List UInt8 := [21, 4, 154, 0, 7, 3, 167, 0, 16, 17, 3, 232, 42, 180, 0, 99, 27, 46, 104, 21, 4, 108, 172]
abbrev dktX5_last_3 : List UInt8 := dkwX5_last_3 ++ []
def dkwX5_last_2 : List UInt8 := [182, 0, 112, 172, 42, 28, 182, 1, 25, 54, 4, 29, 154, 0, 12, 42, 180, 0, 99, 27, 46, 167, 0, 25]
abbrev dktX5_last_2 : List UInt8 := dkwX5_last_2 ++ dktX5_last_3
def dkwX5_last_1 : List UInt8 := [182, 0, 249, 154, 0, 10, 42, 16, 251, 182, 0, 112, 172, 42, 28, 182, 1, 22, 154, 0, 10, 42, 16, 250]
abbrev dktX5_last_1 : List UInt8 := dkwX5_last_1 ++ dktX5_last_2
def dkwX5_last_0 : List UInt8 := [42, 27, 182, 0, 116, 154, 0, 9, 42, 2, 182, 0, 112, 172, 29, 155, 0, 15, 29, 4, 163, 0, 10, 42]
abbrev dktX5_last_0 : List UInt8 := dkwX5_last_0 ++ dktX5_last_1
theorem dksX5_last_0 : cX5_last.data.toList.drop 0 = dktX5_last_0 := by decide +kernel
theorem dksX5_last_1 : cX5_last.data.toList.drop 24 = dktX5_last_1 := dk_seg dksX5_last_0 24 rfl rfl
theorem dksX5_last_2 : cX5_last.data.toList.drop 48 = dktX5_last_2 := dk_seg dksX5_last_1 24 rfl rfl
theorem dksX5_last_3 : cX5_last.data.toList.drop 72 = dktX5_last_3 := dk_seg dksX5_last_2 24 rfl rfl
theorem dX5_last_0 : decode cX5_last 0 = .ok (.aload_n 0, 1) := dk_42 (dk_at dksX5_last_0 0 rfl rfl)
theorem dX5_last_1 : decode cX5_last 1 = .ok (.iload_n 1, 1) := dk_27 (dk_at dksX5_last_0 1 rfl rfl)
theorem dX5_last_2 : decode cX5_last 2 = .ok (.invokevirtual 116, 3) := dk_182 0 116 (dk_at dksX5_last_0 2 rfl rfl)
theorem dX5_last_5 : decode cX5_last 5 = .ok (.ifCond .ne 9, 3) := dk_154 0 9 (dk_at dksX5_last_0 5 rfl rfl)
theorem dX5_last_8 : decode cX5_last 8 = .ok (.aload_n 0, 1) := dk_42 (dk_at dksX5_last_0 8 rfl rfl)
theorem dX5_last_9 : decode cX5_last 9 = .ok (.iconst (-1), 1) := dk_2 (dk_at dksX5_last_0 9 rfl rfl)
theorem dX5_last_10 : decode cX5_last 10 = .ok (.invokevirtual 112, 3) := dk_182 0 112 (dk_at dksX5_last_0 10 rfl rfl)
theorem dX5_last_13 : decode cX5_last 13 = .ok (.ireturn, 1) := dk_172 (dk_at dksX5_last_0 13 rfl rfl)
theorem dX5_last_14 : decode cX5_last 14 = .ok (.iload_n 3, 1) := dk_29 (dk_at dksX5_last_0 14 rfl rfl)
theorem dX5_last_15 : decode cX5_last 15 = .ok (.ifCond .lt 15, 3) := dk_155 0 15 (dk_at dksX5_last_0 15 rfl rfl)
theorem dX5_last_18 : decode cX5_last 18 = .ok (.iload_n 3, 1) := dk_29 (dk_at dksX5_last_0 18 rfl rfl)
theorem dX5_last_19 : decode cX5_last 19 = .ok (.iconst 1, 1) := dk_4 (dk_at dksX5_last_0 19 rfl rfl)
theorem dX5_last_20 : decode cX5_last 20 = .ok (.if_icmp .gt 10, 3) := dk_163 0 10 (dk_at dksX5_last_0 20 rfl rfl)
theorem dX5_last_23 : decode cX5_last 23 = .ok (.aload_n 0, 1) := dk_42 (dk_at dksX5_last_0 23 rfl rfl)
theorem dX5_last_24 : decode cX5_last 24 = .ok (.invokevirtual 249, 3) := dk_182 0 249 (dk_at dksX5_last_1 0 rfl rfl)
theorem dX5_last_27 : decode cX5_last 27 = .ok (.ifCond .ne 10, 3) := dk_154 0 10 (dk_at dksX5_last_1 3 rfl rfl)
theorem dX5_last_30 : decode cX5_last 30 = .ok (.aload_n 0, 1) := dk_42 (dk_at dksX5_last_1 6 rfl rfl)
theorem dX5_last_31 : decode cX5_last 31 = .ok (.bipush (-5), 2) := dk_16 251 (dk_at dksX5_last_1 7 rfl rfl)
theorem dX5_last_33 : decode cX5_last 33 = .ok (.invokevirtual 112, 3) := dk_182 0 112 (dk_at dksX5_last_1 9 rfl rfl)
theorem dX5_last_36 : decode cX5_last 36 = .ok (.ireturn, 1) := dk_172 (dk_at dksX5_last_1 12 rfl rfl)
theorem dX5_last_37 : decode cX5_last 37 = .ok (.aload_n 0, 1) := dk_42 (dk_at dksX5_last_1 13 rfl rfl)
theorem dX5_last_38 : decode cX5_last 38 = .ok (.iload_n 2, 1) := dk_28 (dk_at dksX5_last_1 14 rfl rfl)
theorem dX5_last_39 : decode cX5_last 39 = .ok (.invokevirtual 278, 3) := dk_182 1 22 (dk_at dksX5_last_1 15 rfl rfl)
theorem dX5_last_42 : decode cX5_last 42 = .ok (.ifCond .ne 10, 3) := dk_154 0 10 (dk_at dksX5_last_1 18 rfl rfl)
theorem dX5_last_45 : decode cX5_last 45 = .ok (.aload_n 0, 1) := dk_42 (dk_at dksX5_last_1 21 rfl rfl)
theorem dX5_last_46 : decode cX5_last 46 = .ok (.bipush (-6), 2) := dk_16 250 (dk_at dksX5_last_1 22 rfl rfl)
theorem dX5_last_48 : decode cX5_last 48 = .ok (.invokevirtual 112, 3) := dk_182 0 112 (dk_at dksX5_last_2 0 rfl rfl)
theorem dX5_last_51 : decode cX5_last 51 = .ok (.ireturn, 1) := dk_172 (dk_at dksX5_last_2 3 rfl rfl)
theorem dX5_last_52 : decode cX5_last 52 = .ok (.aload_n 0, 1) := dk_42 (dk_at dksX5_last_2 4 rfl rfl)
theorem dX5_last_53 : decode cX5_last 53 = .ok (.iload_n 2, 1) := dk_28 (dk_at dksX5_last_2 5 rfl rfl)
theorem dX5_last_54 : decode cX5_last 54 = .ok (.invokevirtual 281, 3) := dk_182 1 25 (dk_at dksX5_last_2 6 rfl rfl)
theorem dX5_last_57 : decode cX5_last 57 = .ok (.istore 4, 2) := dk_54 4 (dk_at dksX5_last_2 9 rfl rfl)
theorem dX5_last_59 : decode cX5_last 59 = .ok (.iload_n 3, 1) := dk_29 (dk_at dksX5_last_2 11 rfl rfl)
theorem dX5_last_60 : decode cX5_last 60 = .ok (.ifCond .ne 12, 3) := dk_154 0 12 (dk_at dksX5_last_2 12 rfl rfl)
theorem dX5_last_63 : decode cX5_last 63 = .ok (.aload_n 0, 1) := dk_42 (dk_at dksX5_last_2 15 rfl rfl)
theorem dX5_last_64 : decode cX5_last 64 = .ok (.getfield 99, 3) := dk_180 0 99 (dk_at dksX5_last_2 16 rfl rfl)
theorem dX5_last_67 : decode cX5_last 67 = .ok (.iload_n 1, 1) := dk_27 (dk_at dksX5_last_2 19 rfl rfl)
theorem dX5_last_68 : decode cX5_last 68 = .ok (.iaload, 1) := dk_46 (dk_at dksX5_last_2 20 rfl rfl)
theorem dX5_last_69 : decode cX5_last 69 = .ok (.goto 25, 3) := dk_167 0 25 (dk_at dksX5_last_2 21 rfl rfl)
theorem dX5_last_72 : decode cX5_last 72 = .ok (.iload 4, 2) := dk_21 4 (dk_at dksX5_last_3 0 rfl rfl)
theorem dX5_last_74 : decode cX5_last 74 = .ok (.ifCond .ne 7, 3) := dk_154 0 7 (dk_at dksX5_last_3 2 rfl rfl)
theorem dX5_last_77 : decode cX5_last 77 = .ok (.iconst 0, 1) := dk_3 (dk_at dksX5_last_3 5 rfl rfl)
theorem dX5_last_78 : decode cX5_last 78 = .ok (.goto 16, 3) := dk_167 0 16 (dk_at dksX5_last_3 6 rfl rfl)
theorem dX5_last_81 : decode cX5_last 81 = .ok (.sipush 1000, 3) := dk_17 3 232 (dk_at dksX5_last_3 9 rfl rfl)
theorem dX5_last_84 : decode cX5_last 84 = .ok (.aload_n 0, 1) := dk_42 (dk_at dksX5_last_3 12 rfl rfl)
theorem dX5_last_85 : decode cX5_last 85 = .ok (.getfield 99, 3) := dk_180 0 99 (dk_at dksX5_last_3 13 rfl rfl)
theorem dX5_last_88 : decode cX5_last 88 = .ok (.iload_n 1, 1) := dk_27 (dk_at dksX5_last_3 16 rfl rfl)
theorem dX5_last_89 : decode cX5_last 89 = .ok (.iaload, 1) := dk_46 (dk_at dksX5_last_3 17 rfl rfl)
theorem dX5_last_90 : decode cX5_last 90 = .ok (.imul, 1) := dk_104 (dk_at dksX5_last_3 18 rfl rfl)
theorem dX5_last_91 : decode cX5_last 91 = .ok (.iload 4, 2) := dk_21 4 (dk_at dksX5_last_3 19 rfl rfl)
theorem dX5_last_93 : decode cX5_last 93 = .ok (.idiv, 1) := dk_108 (dk_at dksX5_last_3 21 rfl rfl)
theorem dX5_last_94 : decode cX5_last 94 = .ok (.ireturn, 1) := dk_172 (dk_at dksX5_last_3 22 rfl rfl)
abbrev cX5_carried : ByteArray := prog_22_method_66_code
def yX5_carried : MethodName := ⟨RX5, "carried", "(II)I"⟩
def dkwX5_carried_4 : List UInt8 := [42, 180, 0, 195, 62, 132, 4, 1, 167, 255, 189, 42, 180, 0, 195, 29, 100, 172]
abbrev dktX5_carried_4 : List UInt8 := dkwX5_carried_4 ++ []
def dkwX5_carried_3 : List UInt8 := [3, 54, 5, 21, 5, 28, 162, 0, 13, 42, 182, 0, 219, 132, 5, 1, 167, 255, 243, 21, 4, 154, 0, 8]
abbrev dktX5_carried_3 : List UInt8 := dkwX5_carried_3 ++ dktX5_carried_4
def dkwX5_carried_2 : List UInt8 := [182, 0, 219, 21, 4, 154, 0, 19, 42, 42, 180, 0, 38, 27, 46, 42, 180, 0, 41, 27, 46, 182, 0, 222]
abbrev dktX5_carried_2 : List UInt8 := dkwX5_carried_2 ++ dktX5_carried_3
def dkwX5_carried_1 : List UInt8 := [42, 16, 250, 182, 1, 28, 172, 3, 62, 3, 54, 4, 21, 4, 5, 162, 0, 67, 42, 182, 0, 243, 42]
abbrev dktX5_carried_1 : List UInt8 := dkwX5_carried_1 ++ dktX5_carried_2
def dkwX5_carried_0 : List UInt8 := [42, 27, 182, 0, 116, 154, 0, 9, 42, 2, 182, 1, 28, 172, 28, 155, 0, 9, 28, 16, 40, 164, 0, 10]
abbrev dktX5_carried_0 : List UInt8 := dkwX5_carried_0 ++ dktX5_carried_1
theorem dksX5_carried_0 : cX5_carried.data.toList.drop 0 = dktX5_carried_0 := by decide +kernel
theorem dksX5_carried_1 : cX5_carried.data.toList.drop 24 = dktX5_carried_1 := dk_seg dksX5_carried_0 24 rfl rfl
theorem dksX5_carried_2 : cX5_carried.data.toList.drop 47 = dktX5_carried_2 := dk_seg dksX5_carried_1 23 rfl rfl
theorem dksX5_carried_3 : cX5_carried.data.toList.drop 71 = dktX5_carried_3 := dk_seg dksX5_carried_2 24 rfl rfl
theorem dksX5_carried_4 : cX5_carried.data.toList.drop 95 = dktX5_carried_4 := dk_seg dksX5_carried_3 24 rfl rfl
theorem dX5_carried_0 : decode cX5_carried 0 = .ok (.aload_n 0, 1) := dk_42 (dk_at dksX5_carried_0 0 rfl rfl)
theorem dX5_carried_1 : decode cX5_carried 1 = .ok (.iload_n 1, 1) := dk_27 (dk_at dksX5_carried_0 1 rfl rfl)
theorem dX5_carried_2 : decode cX5_carried 2 = .ok (.invokevirtual 116, 3) := dk_182 0 116 (dk_at dksX5_carried_0 2 rfl rfl)
theorem dX5_carried_5 : decode cX5_carried 5 = .ok (.ifCond .ne 9, 3) := dk_154 0 9 (dk_at dksX5_carried_0 5 rfl rfl)
theorem dX5_carried_8 : decode cX5_carried 8 = .ok (.aload_n 0, 1) := dk_42 (dk_at dksX5_carried_0 8 rfl rfl)
theorem dX5_carried_9 : decode cX5_carried 9 = .ok (.iconst (-1), 1) := dk_2 (dk_at dksX5_carried_0 9 rfl rfl)
theorem dX5_carried_10 : decode cX5_carried 10 = .ok (.invokevirtual 284, 3) := dk_182 1 28 (dk_at dksX5_carried_0 10 rfl rfl)
theorem dX5_carried_13 : decode cX5_carried 13 = .ok (.ireturn, 1) := dk_172 (dk_at dksX5_carried_0 13 rfl rfl)
theorem dX5_carried_14 : decode cX5_carried 14 = .ok (.iload_n 2, 1) := dk_28 (dk_at dksX5_carried_0 14 rfl rfl)
theorem dX5_carried_15 : decode cX5_carried 15 = .ok (.ifCond .lt 9, 3) := dk_155 0 9 (dk_at dksX5_carried_0 15 rfl rfl)
theorem dX5_carried_18 : decode cX5_carried 18 = .ok (.iload_n 2, 1) := dk_28 (dk_at dksX5_carried_0 18 rfl rfl)
theorem dX5_carried_19 : decode cX5_carried 19 = .ok (.bipush 40, 2) := dk_16 40 (dk_at dksX5_carried_0 19 rfl rfl)
theorem dX5_carried_21 : decode cX5_carried 21 = .ok (.if_icmp .le 10, 3) := dk_164 0 10 (dk_at dksX5_carried_0 21 rfl rfl)
theorem dX5_carried_24 : decode cX5_carried 24 = .ok (.aload_n 0, 1) := dk_42 (dk_at dksX5_carried_1 0 rfl rfl)
theorem dX5_carried_25 : decode cX5_carried 25 = .ok (.bipush (-6), 2) := dk_16 250 (dk_at dksX5_carried_1 1 rfl rfl)
theorem dX5_carried_27 : decode cX5_carried 27 = .ok (.invokevirtual 284, 3) := dk_182 1 28 (dk_at dksX5_carried_1 3 rfl rfl)
theorem dX5_carried_30 : decode cX5_carried 30 = .ok (.ireturn, 1) := dk_172 (dk_at dksX5_carried_1 6 rfl rfl)
theorem dX5_carried_31 : decode cX5_carried 31 = .ok (.iconst 0, 1) := dk_3 (dk_at dksX5_carried_1 7 rfl rfl)
theorem dX5_carried_32 : decode cX5_carried 32 = .ok (.istore_n 3, 1) := dk_62 (dk_at dksX5_carried_1 8 rfl rfl)
theorem dX5_carried_33 : decode cX5_carried 33 = .ok (.iconst 0, 1) := dk_3 (dk_at dksX5_carried_1 9 rfl rfl)
theorem dX5_carried_34 : decode cX5_carried 34 = .ok (.istore 4, 2) := dk_54 4 (dk_at dksX5_carried_1 10 rfl rfl)
theorem dX5_carried_36 : decode cX5_carried 36 = .ok (.iload 4, 2) := dk_21 4 (dk_at dksX5_carried_1 12 rfl rfl)
theorem dX5_carried_38 : decode cX5_carried 38 = .ok (.iconst 2, 1) := dk_5 (dk_at dksX5_carried_1 14 rfl rfl)
theorem dX5_carried_39 : decode cX5_carried 39 = .ok (.if_icmp .ge 67, 3) := dk_162 0 67 (dk_at dksX5_carried_1 15 rfl rfl)
theorem dX5_carried_42 : decode cX5_carried 42 = .ok (.aload_n 0, 1) := dk_42 (dk_at dksX5_carried_1 18 rfl rfl)
theorem dX5_carried_43 : decode cX5_carried 43 = .ok (.invokevirtual 243, 3) := dk_182 0 243 (dk_at dksX5_carried_1 19 rfl rfl)
theorem dX5_carried_46 : decode cX5_carried 46 = .ok (.aload_n 0, 1) := dk_42 (dk_at dksX5_carried_1 22 rfl rfl)
theorem dX5_carried_47 : decode cX5_carried 47 = .ok (.invokevirtual 219, 3) := dk_182 0 219 (dk_at dksX5_carried_2 0 rfl rfl)
theorem dX5_carried_50 : decode cX5_carried 50 = .ok (.iload 4, 2) := dk_21 4 (dk_at dksX5_carried_2 3 rfl rfl)
theorem dX5_carried_52 : decode cX5_carried 52 = .ok (.ifCond .ne 19, 3) := dk_154 0 19 (dk_at dksX5_carried_2 5 rfl rfl)
theorem dX5_carried_55 : decode cX5_carried 55 = .ok (.aload_n 0, 1) := dk_42 (dk_at dksX5_carried_2 8 rfl rfl)
theorem dX5_carried_56 : decode cX5_carried 56 = .ok (.aload_n 0, 1) := dk_42 (dk_at dksX5_carried_2 9 rfl rfl)
theorem dX5_carried_57 : decode cX5_carried 57 = .ok (.getfield 38, 3) := dk_180 0 38 (dk_at dksX5_carried_2 10 rfl rfl)
theorem dX5_carried_60 : decode cX5_carried 60 = .ok (.iload_n 1, 1) := dk_27 (dk_at dksX5_carried_2 13 rfl rfl)
theorem dX5_carried_61 : decode cX5_carried 61 = .ok (.iaload, 1) := dk_46 (dk_at dksX5_carried_2 14 rfl rfl)
theorem dX5_carried_62 : decode cX5_carried 62 = .ok (.aload_n 0, 1) := dk_42 (dk_at dksX5_carried_2 15 rfl rfl)
theorem dX5_carried_63 : decode cX5_carried 63 = .ok (.getfield 41, 3) := dk_180 0 41 (dk_at dksX5_carried_2 16 rfl rfl)
theorem dX5_carried_66 : decode cX5_carried 66 = .ok (.iload_n 1, 1) := dk_27 (dk_at dksX5_carried_2 19 rfl rfl)
theorem dX5_carried_67 : decode cX5_carried 67 = .ok (.iaload, 1) := dk_46 (dk_at dksX5_carried_2 20 rfl rfl)
theorem dX5_carried_68 : decode cX5_carried 68 = .ok (.invokevirtual 222, 3) := dk_182 0 222 (dk_at dksX5_carried_2 21 rfl rfl)
theorem dX5_carried_71 : decode cX5_carried 71 = .ok (.iconst 0, 1) := dk_3 (dk_at dksX5_carried_3 0 rfl rfl)
theorem dX5_carried_72 : decode cX5_carried 72 = .ok (.istore 5, 2) := dk_54 5 (dk_at dksX5_carried_3 1 rfl rfl)
theorem dX5_carried_74 : decode cX5_carried 74 = .ok (.iload 5, 2) := dk_21 5 (dk_at dksX5_carried_3 3 rfl rfl)
theorem dX5_carried_76 : decode cX5_carried 76 = .ok (.iload_n 2, 1) := dk_28 (dk_at dksX5_carried_3 5 rfl rfl)
theorem dX5_carried_77 : decode cX5_carried 77 = .ok (.if_icmp .ge 13, 3) := dk_162 0 13 (dk_at dksX5_carried_3 6 rfl rfl)
theorem dX5_carried_80 : decode cX5_carried 80 = .ok (.aload_n 0, 1) := dk_42 (dk_at dksX5_carried_3 9 rfl rfl)
theorem dX5_carried_81 : decode cX5_carried 81 = .ok (.invokevirtual 219, 3) := dk_182 0 219 (dk_at dksX5_carried_3 10 rfl rfl)
theorem dX5_carried_84 : decode cX5_carried 84 = .ok (.iinc 5 1, 3) := dk_132 5 1 (dk_at dksX5_carried_3 13 rfl rfl)
theorem dX5_carried_87 : decode cX5_carried 87 = .ok (.goto (-13), 3) := dk_167 255 243 (dk_at dksX5_carried_3 16 rfl rfl)
theorem dX5_carried_90 : decode cX5_carried 90 = .ok (.iload 4, 2) := dk_21 4 (dk_at dksX5_carried_3 19 rfl rfl)
theorem dX5_carried_92 : decode cX5_carried 92 = .ok (.ifCond .ne 8, 3) := dk_154 0 8 (dk_at dksX5_carried_3 21 rfl rfl)
theorem dX5_carried_95 : decode cX5_carried 95 = .ok (.aload_n 0, 1) := dk_42 (dk_at dksX5_carried_4 0 rfl rfl)
theorem dX5_carried_96 : decode cX5_carried 96 = .ok (.getfield 195, 3) := dk_180 0 195 (dk_at dksX5_carried_4 1 rfl rfl)
theorem dX5_carried_99 : decode cX5_carried 99 = .ok (.istore_n 3, 1) := dk_62 (dk_at dksX5_carried_4 4 rfl rfl)
theorem dX5_carried_100 : decode cX5_carried 100 = .ok (.iinc 4 1, 3) := dk_132 4 1 (dk_at dksX5_carried_4 5 rfl rfl)
theorem dX5_carried_103 : decode cX5_carried 103 = .ok (.goto (-67), 3) := dk_167 255 189 (dk_at dksX5_carried_4 8 rfl rfl)
theorem dX5_carried_106 : decode cX5_carried 106 = .ok (.aload_n 0, 1) := dk_42 (dk_at dksX5_carried_4 11 rfl rfl)
theorem dX5_carried_107 : decode cX5_carried 107 = .ok (.getfield 195, 3) := dk_180 0 195 (dk_at dksX5_carried_4 12 rfl rfl)
theorem dX5_carried_110 : decode cX5_carried 110 = .ok (.iload_n 3, 1) := dk_29 (dk_at dksX5_carried_4 15 rfl rfl)
theorem dX5_carried_111 : decode cX5_carried 111 = .ok (.isub, 1) := dk_100 (dk_at dksX5_carried_4 16 rfl rfl)
theorem dX5_carried_112 : decode cX5_carried 112 = .ok (.ireturn, 1) := dk_172 (dk_at dksX5_carried_4 17 rfl rfl)
abbrev cX5_noFar : ByteArray := prog_22_method_4_code
def yX5_noFar : MethodName := ⟨RX5, "noFar", "(I)I"⟩
def dkwX5_noFar_0 : List UInt8 := [42, 180, 0, 34, 27, 116, 92, 46, 4, 96, 79, 27, 17, 3, 232, 100, 172]
abbrev dktX5_noFar_0 : List UInt8 := dkwX5_noFar_0 ++ []
theorem dksX5_noFar_0 : cX5_noFar.data.toList.drop 0 = dktX5_noFar_0 := by decide +kernel
theorem dX5_noFar_0 : decode cX5_noFar 0 = .ok (.aload_n 0, 1) := dk_42 (dk_at dksX5_noFar_0 0 rfl rfl)
theorem dX5_noFar_1 : decode cX5_noFar 1 = .ok (.getfield 34, 3) := dk_180 0 34 (dk_at dksX5_noFar_0 1 rfl rfl)
theorem dX5_noFar_4 : decode cX5_noFar 4 = .ok (.iload_n 1, 1) := dk_27 (dk_at dksX5_noFar_0 4 rfl rfl)
theorem dX5_noFar_5 : decode cX5_noFar 5 = .ok (.ineg, 1) := dk_116 (dk_at dksX5_noFar_0 5 rfl rfl)
theorem dX5_noFar_6 : decode cX5_noFar 6 = .ok (.dup2, 1) := dk_92 (dk_at dksX5_noFar_0 6 rfl rfl)
theorem dX5_noFar_7 : decode cX5_noFar 7 = .ok (.iaload, 1) := dk_46 (dk_at dksX5_noFar_0 7 rfl rfl)
theorem dX5_noFar_8 : decode cX5_noFar 8 = .ok (.iconst 1, 1) := dk_4 (dk_at dksX5_noFar_0 8 rfl rfl)
theorem dX5_noFar_9 : decode cX5_noFar 9 = .ok (.iadd, 1) := dk_96 (dk_at dksX5_noFar_0 9 rfl rfl)
theorem dX5_noFar_10 : decode cX5_noFar 10 = .ok (.iastore, 1) := dk_79 (dk_at dksX5_noFar_0 10 rfl rfl)
theorem dX5_noFar_11 : decode cX5_noFar 11 = .ok (.iload_n 1, 1) := dk_27 (dk_at dksX5_noFar_0 11 rfl rfl)
theorem dX5_noFar_12 : decode cX5_noFar 12 = .ok (.sipush 1000, 3) := dk_17 3 232 (dk_at dksX5_noFar_0 12 rfl rfl)
theorem dX5_noFar_15 : decode cX5_noFar 15 = .ok (.isub, 1) := dk_100 (dk_at dksX5_noFar_0 15 rfl rfl)
theorem dX5_noFar_16 : decode cX5_noFar 16 = .ok (.ireturn, 1) := dk_172 (dk_at dksX5_noFar_0 16 rfl rfl)
abbrev cX5_leastFeed : ByteArray := prog_22_method_68_code
def yX5_leastFeed : MethodName := ⟨RX5, "leastFeed", "(III)I"⟩
def dkwX5_leastFeed_4 : List UInt8 := [167, 255, 215, 42, 21, 5, 181, 0, 16, 21, 6, 172]
abbrev dktX5_leastFeed_4 : List UInt8 := dkwX5_leastFeed_4 ++ []
def dkwX5_leastFeed_3 : List UInt8 := [182, 1, 31, 153, 0, 9, 42, 180, 0, 16, 54, 6, 42, 89, 180, 0, 16, 4, 96, 181, 0, 16]
abbrev dktX5_leastFeed_3 : List UInt8 := dkwX5_leastFeed_3 ++ dktX5_leastFeed_4
def dkwX5_leastFeed_2 : List UInt8 := [3, 181, 0, 16, 42, 180, 0, 16, 16, 10, 162, 0, 38, 21, 6, 2, 160, 0, 32, 42, 27, 28, 29]
abbrev dktX5_leastFeed_2 : List UInt8 := dkwX5_leastFeed_2 ++ dktX5_leastFeed_3
def dkwX5_leastFeed_1 : List UInt8 := [54, 4, 21, 4, 153, 0, 10, 42, 21, 4, 182, 0, 237, 172, 42, 180, 0, 16, 54, 5, 2, 54, 6, 42]
abbrev dktX5_leastFeed_1 : List UInt8 := dkwX5_leastFeed_1 ++ dktX5_leastFeed_2
def dkwX5_leastFeed_0 : List UInt8 := [42, 27, 28, 182, 0, 240, 54, 4, 21, 4, 154, 0, 15, 42, 29, 182, 1, 19, 154, 0, 7, 16, 250]
abbrev dktX5_leastFeed_0 : List UInt8 := dkwX5_leastFeed_0 ++ dktX5_leastFeed_1
theorem dksX5_leastFeed_0 : cX5_leastFeed.data.toList.drop 0 = dktX5_leastFeed_0 := by decide +kernel
theorem dksX5_leastFeed_1 : cX5_leastFeed.data.toList.drop 23 = dktX5_leastFeed_1 := dk_seg dksX5_leastFeed_0 23 rfl rfl
theorem dksX5_leastFeed_2 : cX5_leastFeed.data.toList.drop 47 = dktX5_leastFeed_2 := dk_seg dksX5_leastFeed_1 24 rfl rfl
theorem dksX5_leastFeed_3 : cX5_leastFeed.data.toList.drop 70 = dktX5_leastFeed_3 := dk_seg dksX5_leastFeed_2 23 rfl rfl
theorem dksX5_leastFeed_4 : cX5_leastFeed.data.toList.drop 92 = dktX5_leastFeed_4 := dk_seg dksX5_leastFeed_3 22 rfl rfl
theorem dX5_leastFeed_0 : decode cX5_leastFeed 0 = .ok (.aload_n 0, 1) := dk_42 (dk_at dksX5_leastFeed_0 0 rfl rfl)
theorem dX5_leastFeed_1 : decode cX5_leastFeed 1 = .ok (.iload_n 1, 1) := dk_27 (dk_at dksX5_leastFeed_0 1 rfl rfl)
theorem dX5_leastFeed_2 : decode cX5_leastFeed 2 = .ok (.iload_n 2, 1) := dk_28 (dk_at dksX5_leastFeed_0 2 rfl rfl)
theorem dX5_leastFeed_3 : decode cX5_leastFeed 3 = .ok (.invokevirtual 240, 3) := dk_182 0 240 (dk_at dksX5_leastFeed_0 3 rfl rfl)
theorem dX5_leastFeed_6 : decode cX5_leastFeed 6 = .ok (.istore 4, 2) := dk_54 4 (dk_at dksX5_leastFeed_0 6 rfl rfl)
theorem dX5_leastFeed_8 : decode cX5_leastFeed 8 = .ok (.iload 4, 2) := dk_21 4 (dk_at dksX5_leastFeed_0 8 rfl rfl)
theorem dX5_leastFeed_10 : decode cX5_leastFeed 10 = .ok (.ifCond .ne 15, 3) := dk_154 0 15 (dk_at dksX5_leastFeed_0 10 rfl rfl)
theorem dX5_leastFeed_13 : decode cX5_leastFeed 13 = .ok (.aload_n 0, 1) := dk_42 (dk_at dksX5_leastFeed_0 13 rfl rfl)
theorem dX5_leastFeed_14 : decode cX5_leastFeed 14 = .ok (.iload_n 3, 1) := dk_29 (dk_at dksX5_leastFeed_0 14 rfl rfl)
theorem dX5_leastFeed_15 : decode cX5_leastFeed 15 = .ok (.invokevirtual 275, 3) := dk_182 1 19 (dk_at dksX5_leastFeed_0 15 rfl rfl)
theorem dX5_leastFeed_18 : decode cX5_leastFeed 18 = .ok (.ifCond .ne 7, 3) := dk_154 0 7 (dk_at dksX5_leastFeed_0 18 rfl rfl)
theorem dX5_leastFeed_21 : decode cX5_leastFeed 21 = .ok (.bipush (-6), 2) := dk_16 250 (dk_at dksX5_leastFeed_0 21 rfl rfl)
theorem dX5_leastFeed_23 : decode cX5_leastFeed 23 = .ok (.istore 4, 2) := dk_54 4 (dk_at dksX5_leastFeed_1 0 rfl rfl)
theorem dX5_leastFeed_25 : decode cX5_leastFeed 25 = .ok (.iload 4, 2) := dk_21 4 (dk_at dksX5_leastFeed_1 2 rfl rfl)
theorem dX5_leastFeed_27 : decode cX5_leastFeed 27 = .ok (.ifCond .eq 10, 3) := dk_153 0 10 (dk_at dksX5_leastFeed_1 4 rfl rfl)
theorem dX5_leastFeed_30 : decode cX5_leastFeed 30 = .ok (.aload_n 0, 1) := dk_42 (dk_at dksX5_leastFeed_1 7 rfl rfl)
theorem dX5_leastFeed_31 : decode cX5_leastFeed 31 = .ok (.iload 4, 2) := dk_21 4 (dk_at dksX5_leastFeed_1 8 rfl rfl)
theorem dX5_leastFeed_33 : decode cX5_leastFeed 33 = .ok (.invokevirtual 237, 3) := dk_182 0 237 (dk_at dksX5_leastFeed_1 10 rfl rfl)
theorem dX5_leastFeed_36 : decode cX5_leastFeed 36 = .ok (.ireturn, 1) := dk_172 (dk_at dksX5_leastFeed_1 13 rfl rfl)
theorem dX5_leastFeed_37 : decode cX5_leastFeed 37 = .ok (.aload_n 0, 1) := dk_42 (dk_at dksX5_leastFeed_1 14 rfl rfl)
theorem dX5_leastFeed_38 : decode cX5_leastFeed 38 = .ok (.getfield 16, 3) := dk_180 0 16 (dk_at dksX5_leastFeed_1 15 rfl rfl)
theorem dX5_leastFeed_41 : decode cX5_leastFeed 41 = .ok (.istore 5, 2) := dk_54 5 (dk_at dksX5_leastFeed_1 18 rfl rfl)
theorem dX5_leastFeed_43 : decode cX5_leastFeed 43 = .ok (.iconst (-1), 1) := dk_2 (dk_at dksX5_leastFeed_1 20 rfl rfl)
theorem dX5_leastFeed_44 : decode cX5_leastFeed 44 = .ok (.istore 6, 2) := dk_54 6 (dk_at dksX5_leastFeed_1 21 rfl rfl)
theorem dX5_leastFeed_46 : decode cX5_leastFeed 46 = .ok (.aload_n 0, 1) := dk_42 (dk_at dksX5_leastFeed_1 23 rfl rfl)
theorem dX5_leastFeed_47 : decode cX5_leastFeed 47 = .ok (.iconst 0, 1) := dk_3 (dk_at dksX5_leastFeed_2 0 rfl rfl)
theorem dX5_leastFeed_48 : decode cX5_leastFeed 48 = .ok (.putfield 16, 3) := dk_181 0 16 (dk_at dksX5_leastFeed_2 1 rfl rfl)
theorem dX5_leastFeed_51 : decode cX5_leastFeed 51 = .ok (.aload_n 0, 1) := dk_42 (dk_at dksX5_leastFeed_2 4 rfl rfl)
theorem dX5_leastFeed_52 : decode cX5_leastFeed 52 = .ok (.getfield 16, 3) := dk_180 0 16 (dk_at dksX5_leastFeed_2 5 rfl rfl)
theorem dX5_leastFeed_55 : decode cX5_leastFeed 55 = .ok (.bipush 10, 2) := dk_16 10 (dk_at dksX5_leastFeed_2 8 rfl rfl)
theorem dX5_leastFeed_57 : decode cX5_leastFeed 57 = .ok (.if_icmp .ge 38, 3) := dk_162 0 38 (dk_at dksX5_leastFeed_2 10 rfl rfl)
theorem dX5_leastFeed_60 : decode cX5_leastFeed 60 = .ok (.iload 6, 2) := dk_21 6 (dk_at dksX5_leastFeed_2 13 rfl rfl)
theorem dX5_leastFeed_62 : decode cX5_leastFeed 62 = .ok (.iconst (-1), 1) := dk_2 (dk_at dksX5_leastFeed_2 15 rfl rfl)
theorem dX5_leastFeed_63 : decode cX5_leastFeed 63 = .ok (.if_icmp .ne 32, 3) := dk_160 0 32 (dk_at dksX5_leastFeed_2 16 rfl rfl)
theorem dX5_leastFeed_66 : decode cX5_leastFeed 66 = .ok (.aload_n 0, 1) := dk_42 (dk_at dksX5_leastFeed_2 19 rfl rfl)
theorem dX5_leastFeed_67 : decode cX5_leastFeed 67 = .ok (.iload_n 1, 1) := dk_27 (dk_at dksX5_leastFeed_2 20 rfl rfl)
theorem dX5_leastFeed_68 : decode cX5_leastFeed 68 = .ok (.iload_n 2, 1) := dk_28 (dk_at dksX5_leastFeed_2 21 rfl rfl)
theorem dX5_leastFeed_69 : decode cX5_leastFeed 69 = .ok (.iload_n 3, 1) := dk_29 (dk_at dksX5_leastFeed_2 22 rfl rfl)
theorem dX5_leastFeed_70 : decode cX5_leastFeed 70 = .ok (.invokevirtual 287, 3) := dk_182 1 31 (dk_at dksX5_leastFeed_3 0 rfl rfl)
theorem dX5_leastFeed_73 : decode cX5_leastFeed 73 = .ok (.ifCond .eq 9, 3) := dk_153 0 9 (dk_at dksX5_leastFeed_3 3 rfl rfl)
theorem dX5_leastFeed_76 : decode cX5_leastFeed 76 = .ok (.aload_n 0, 1) := dk_42 (dk_at dksX5_leastFeed_3 6 rfl rfl)
theorem dX5_leastFeed_77 : decode cX5_leastFeed 77 = .ok (.getfield 16, 3) := dk_180 0 16 (dk_at dksX5_leastFeed_3 7 rfl rfl)
theorem dX5_leastFeed_80 : decode cX5_leastFeed 80 = .ok (.istore 6, 2) := dk_54 6 (dk_at dksX5_leastFeed_3 10 rfl rfl)
theorem dX5_leastFeed_82 : decode cX5_leastFeed 82 = .ok (.aload_n 0, 1) := dk_42 (dk_at dksX5_leastFeed_3 12 rfl rfl)
theorem dX5_leastFeed_83 : decode cX5_leastFeed 83 = .ok (.dup, 1) := dk_89 (dk_at dksX5_leastFeed_3 13 rfl rfl)
theorem dX5_leastFeed_84 : decode cX5_leastFeed 84 = .ok (.getfield 16, 3) := dk_180 0 16 (dk_at dksX5_leastFeed_3 14 rfl rfl)
theorem dX5_leastFeed_87 : decode cX5_leastFeed 87 = .ok (.iconst 1, 1) := dk_4 (dk_at dksX5_leastFeed_3 17 rfl rfl)
theorem dX5_leastFeed_88 : decode cX5_leastFeed 88 = .ok (.iadd, 1) := dk_96 (dk_at dksX5_leastFeed_3 18 rfl rfl)
theorem dX5_leastFeed_89 : decode cX5_leastFeed 89 = .ok (.putfield 16, 3) := dk_181 0 16 (dk_at dksX5_leastFeed_3 19 rfl rfl)
theorem dX5_leastFeed_92 : decode cX5_leastFeed 92 = .ok (.goto (-41), 3) := dk_167 255 215 (dk_at dksX5_leastFeed_4 0 rfl rfl)
theorem dX5_leastFeed_95 : decode cX5_leastFeed 95 = .ok (.aload_n 0, 1) := dk_42 (dk_at dksX5_leastFeed_4 3 rfl rfl)
theorem dX5_leastFeed_96 : decode cX5_leastFeed 96 = .ok (.iload 5, 2) := dk_21 5 (dk_at dksX5_leastFeed_4 4 rfl rfl)
theorem dX5_leastFeed_98 : decode cX5_leastFeed 98 = .ok (.putfield 16, 3) := dk_181 0 16 (dk_at dksX5_leastFeed_4 6 rfl rfl)
theorem dX5_leastFeed_101 : decode cX5_leastFeed 101 = .ok (.iload 6, 2) := dk_21 6 (dk_at dksX5_leastFeed_4 9 rfl rfl)
theorem dX5_leastFeed_103 : decode cX5_leastFeed 103 = .ok (.ireturn, 1) := dk_172 (dk_at dksX5_leastFeed_4 11 rfl rfl)
abbrev cX5_isFed : ByteArray := prog_22_method_67_code
def yX5_isFed : MethodName := ⟨RX5, "isFed", "(III)Z"⟩
def dkwX5_isFed_1 : List UInt8 := [154, 0, 11, 42, 180, 0, 195, 29, 162, 0, 5, 3, 172, 132, 4, 1, 167, 255, 223, 4, 172]
abbrev dktX5_isFed_1 : List UInt8 := dkwX5_isFed_1 ++ []
def dkwX5_isFed_0 : List UInt8 := [42, 182, 0, 243, 3, 54, 4, 21, 4, 28, 162, 0, 33, 42, 42, 27, 21, 4, 182, 0, 225, 182, 0, 246]
abbrev dktX5_isFed_0 : List UInt8 := dkwX5_isFed_0 ++ dktX5_isFed_1
theorem dksX5_isFed_0 : cX5_isFed.data.toList.drop 0 = dktX5_isFed_0 := by decide +kernel
theorem dksX5_isFed_1 : cX5_isFed.data.toList.drop 24 = dktX5_isFed_1 := dk_seg dksX5_isFed_0 24 rfl rfl
theorem dX5_isFed_0 : decode cX5_isFed 0 = .ok (.aload_n 0, 1) := dk_42 (dk_at dksX5_isFed_0 0 rfl rfl)
theorem dX5_isFed_1 : decode cX5_isFed 1 = .ok (.invokevirtual 243, 3) := dk_182 0 243 (dk_at dksX5_isFed_0 1 rfl rfl)
theorem dX5_isFed_4 : decode cX5_isFed 4 = .ok (.iconst 0, 1) := dk_3 (dk_at dksX5_isFed_0 4 rfl rfl)
theorem dX5_isFed_5 : decode cX5_isFed 5 = .ok (.istore 4, 2) := dk_54 4 (dk_at dksX5_isFed_0 5 rfl rfl)
theorem dX5_isFed_7 : decode cX5_isFed 7 = .ok (.iload 4, 2) := dk_21 4 (dk_at dksX5_isFed_0 7 rfl rfl)
theorem dX5_isFed_9 : decode cX5_isFed 9 = .ok (.iload_n 2, 1) := dk_28 (dk_at dksX5_isFed_0 9 rfl rfl)
theorem dX5_isFed_10 : decode cX5_isFed 10 = .ok (.if_icmp .ge 33, 3) := dk_162 0 33 (dk_at dksX5_isFed_0 10 rfl rfl)
theorem dX5_isFed_13 : decode cX5_isFed 13 = .ok (.aload_n 0, 1) := dk_42 (dk_at dksX5_isFed_0 13 rfl rfl)
theorem dX5_isFed_14 : decode cX5_isFed 14 = .ok (.aload_n 0, 1) := dk_42 (dk_at dksX5_isFed_0 14 rfl rfl)
theorem dX5_isFed_15 : decode cX5_isFed 15 = .ok (.iload_n 1, 1) := dk_27 (dk_at dksX5_isFed_0 15 rfl rfl)
theorem dX5_isFed_16 : decode cX5_isFed 16 = .ok (.iload 4, 2) := dk_21 4 (dk_at dksX5_isFed_0 16 rfl rfl)
theorem dX5_isFed_18 : decode cX5_isFed 18 = .ok (.invokevirtual 225, 3) := dk_182 0 225 (dk_at dksX5_isFed_0 18 rfl rfl)
theorem dX5_isFed_21 : decode cX5_isFed 21 = .ok (.invokevirtual 246, 3) := dk_182 0 246 (dk_at dksX5_isFed_0 21 rfl rfl)
theorem dX5_isFed_24 : decode cX5_isFed 24 = .ok (.ifCond .ne 11, 3) := dk_154 0 11 (dk_at dksX5_isFed_1 0 rfl rfl)
theorem dX5_isFed_27 : decode cX5_isFed 27 = .ok (.aload_n 0, 1) := dk_42 (dk_at dksX5_isFed_1 3 rfl rfl)
theorem dX5_isFed_28 : decode cX5_isFed 28 = .ok (.getfield 195, 3) := dk_180 0 195 (dk_at dksX5_isFed_1 4 rfl rfl)
theorem dX5_isFed_31 : decode cX5_isFed 31 = .ok (.iload_n 3, 1) := dk_29 (dk_at dksX5_isFed_1 7 rfl rfl)
theorem dX5_isFed_32 : decode cX5_isFed 32 = .ok (.if_icmp .ge 5, 3) := dk_162 0 5 (dk_at dksX5_isFed_1 8 rfl rfl)
theorem dX5_isFed_35 : decode cX5_isFed 35 = .ok (.iconst 0, 1) := dk_3 (dk_at dksX5_isFed_1 11 rfl rfl)
theorem dX5_isFed_36 : decode cX5_isFed 36 = .ok (.ireturn, 1) := dk_172 (dk_at dksX5_isFed_1 12 rfl rfl)
theorem dX5_isFed_37 : decode cX5_isFed 37 = .ok (.iinc 4 1, 3) := dk_132 4 1 (dk_at dksX5_isFed_1 13 rfl rfl)
theorem dX5_isFed_40 : decode cX5_isFed 40 = .ok (.goto (-33), 3) := dk_167 255 223 (dk_at dksX5_isFed_1 16 rfl rfl)
theorem dX5_isFed_43 : decode cX5_isFed 43 = .ok (.iconst 1, 1) := dk_4 (dk_at dksX5_isFed_1 19 rfl rfl)
theorem dX5_isFed_44 : decode cX5_isFed 44 = .ok (.ireturn, 1) := dk_172 (dk_at dksX5_isFed_1 20 rfl rfl)
abbrev cX5_lasts : ByteArray := prog_22_method_69_code
def yX5_lasts : MethodName := ⟨RX5, "lasts", "()I"⟩
def dkwX5_lasts_1 : List UInt8 := [132, 1, 1, 167, 255, 236, 2, 172]
abbrev dktX5_lasts_1 : List UInt8 := dkwX5_lasts_1 ++ []
def dkwX5_lasts_0 : List UInt8 := [42, 182, 0, 243, 4, 60, 27, 17, 3, 232, 163, 0, 19, 42, 2, 182, 0, 246, 153, 0, 5, 27, 172]
abbrev dktX5_lasts_0 : List UInt8 := dkwX5_lasts_0 ++ dktX5_lasts_1
theorem dksX5_lasts_0 : cX5_lasts.data.toList.drop 0 = dktX5_lasts_0 := by decide +kernel
theorem dksX5_lasts_1 : cX5_lasts.data.toList.drop 23 = dktX5_lasts_1 := dk_seg dksX5_lasts_0 23 rfl rfl
theorem dX5_lasts_0 : decode cX5_lasts 0 = .ok (.aload_n 0, 1) := dk_42 (dk_at dksX5_lasts_0 0 rfl rfl)
theorem dX5_lasts_1 : decode cX5_lasts 1 = .ok (.invokevirtual 243, 3) := dk_182 0 243 (dk_at dksX5_lasts_0 1 rfl rfl)
theorem dX5_lasts_4 : decode cX5_lasts 4 = .ok (.iconst 1, 1) := dk_4 (dk_at dksX5_lasts_0 4 rfl rfl)
theorem dX5_lasts_5 : decode cX5_lasts 5 = .ok (.istore_n 1, 1) := dk_60 (dk_at dksX5_lasts_0 5 rfl rfl)
theorem dX5_lasts_6 : decode cX5_lasts 6 = .ok (.iload_n 1, 1) := dk_27 (dk_at dksX5_lasts_0 6 rfl rfl)
theorem dX5_lasts_7 : decode cX5_lasts 7 = .ok (.sipush 1000, 3) := dk_17 3 232 (dk_at dksX5_lasts_0 7 rfl rfl)
theorem dX5_lasts_10 : decode cX5_lasts 10 = .ok (.if_icmp .gt 19, 3) := dk_163 0 19 (dk_at dksX5_lasts_0 10 rfl rfl)
theorem dX5_lasts_13 : decode cX5_lasts 13 = .ok (.aload_n 0, 1) := dk_42 (dk_at dksX5_lasts_0 13 rfl rfl)
theorem dX5_lasts_14 : decode cX5_lasts 14 = .ok (.iconst (-1), 1) := dk_2 (dk_at dksX5_lasts_0 14 rfl rfl)
theorem dX5_lasts_15 : decode cX5_lasts 15 = .ok (.invokevirtual 246, 3) := dk_182 0 246 (dk_at dksX5_lasts_0 15 rfl rfl)
theorem dX5_lasts_18 : decode cX5_lasts 18 = .ok (.ifCond .eq 5, 3) := dk_153 0 5 (dk_at dksX5_lasts_0 18 rfl rfl)
theorem dX5_lasts_21 : decode cX5_lasts 21 = .ok (.iload_n 1, 1) := dk_27 (dk_at dksX5_lasts_0 21 rfl rfl)
theorem dX5_lasts_22 : decode cX5_lasts 22 = .ok (.ireturn, 1) := dk_172 (dk_at dksX5_lasts_0 22 rfl rfl)
theorem dX5_lasts_23 : decode cX5_lasts 23 = .ok (.iinc 1 1, 3) := dk_132 1 1 (dk_at dksX5_lasts_1 0 rfl rfl)
theorem dX5_lasts_26 : decode cX5_lasts 26 = .ok (.goto (-20), 3) := dk_167 255 236 (dk_at dksX5_lasts_1 3 rfl rfl)
theorem dX5_lasts_29 : decode cX5_lasts 29 = .ok (.iconst (-1), 1) := dk_2 (dk_at dksX5_lasts_1 6 rfl rfl)
theorem dX5_lasts_30 : decode cX5_lasts 30 = .ok (.ireturn, 1) := dk_172 (dk_at dksX5_lasts_1 7 rfl rfl)
abbrev cX5_noticed : ByteArray := prog_22_method_70_code
def yX5_noticed : MethodName := ⟨RX5, "noticed", "(III)I"⟩
def dkwX5_noticed_4 : List UInt8 := [100, 54, 7, 21, 7, 29, 161, 0, 6, 132, 5, 1, 132, 6, 1, 167, 255, 193, 21, 5, 172]
abbrev dktX5_noticed_4 : List UInt8 := dkwX5_noticed_4 ++ []
def dkwX5_noticed_3 : List UInt8 := [180, 0, 210, 16, 80, 164, 0, 13, 42, 180, 0, 210, 16, 80, 100, 167, 0, 10, 16, 80, 42, 180, 0, 210]
abbrev dktX5_noticed_3 : List UInt8 := dkwX5_noticed_3 ++ dktX5_noticed_4
def dkwX5_noticed_2 : List UInt8 := [21, 6, 28, 162, 0, 63, 42, 42, 27, 21, 6, 182, 0, 225, 182, 0, 246, 154, 0, 6, 167, 0, 40, 42]
abbrev dktX5_noticed_2 : List UInt8 := dkwX5_noticed_2 ++ dktX5_noticed_3
def dkwX5_noticed_1 : List UInt8 := [16, 250, 54, 4, 21, 4, 153, 0, 10, 42, 21, 4, 182, 0, 112, 172, 42, 182, 0, 243, 3, 54, 6]
abbrev dktX5_noticed_1 : List UInt8 := dkwX5_noticed_1 ++ dktX5_noticed_2
def dkwX5_noticed_0 : List UInt8 := [42, 27, 28, 182, 0, 240, 54, 4, 3, 54, 5, 21, 4, 154, 0, 15, 42, 29, 182, 1, 19, 154, 0, 7]
abbrev dktX5_noticed_0 : List UInt8 := dkwX5_noticed_0 ++ dktX5_noticed_1
theorem dksX5_noticed_0 : cX5_noticed.data.toList.drop 0 = dktX5_noticed_0 := by decide +kernel
theorem dksX5_noticed_1 : cX5_noticed.data.toList.drop 24 = dktX5_noticed_1 := dk_seg dksX5_noticed_0 24 rfl rfl
theorem dksX5_noticed_2 : cX5_noticed.data.toList.drop 47 = dktX5_noticed_2 := dk_seg dksX5_noticed_1 23 rfl rfl
theorem dksX5_noticed_3 : cX5_noticed.data.toList.drop 71 = dktX5_noticed_3 := dk_seg dksX5_noticed_2 24 rfl rfl
theorem dksX5_noticed_4 : cX5_noticed.data.toList.drop 95 = dktX5_noticed_4 := dk_seg dksX5_noticed_3 24 rfl rfl
theorem dX5_noticed_0 : decode cX5_noticed 0 = .ok (.aload_n 0, 1) := dk_42 (dk_at dksX5_noticed_0 0 rfl rfl)
theorem dX5_noticed_1 : decode cX5_noticed 1 = .ok (.iload_n 1, 1) := dk_27 (dk_at dksX5_noticed_0 1 rfl rfl)
theorem dX5_noticed_2 : decode cX5_noticed 2 = .ok (.iload_n 2, 1) := dk_28 (dk_at dksX5_noticed_0 2 rfl rfl)
theorem dX5_noticed_3 : decode cX5_noticed 3 = .ok (.invokevirtual 240, 3) := dk_182 0 240 (dk_at dksX5_noticed_0 3 rfl rfl)
theorem dX5_noticed_6 : decode cX5_noticed 6 = .ok (.istore 4, 2) := dk_54 4 (dk_at dksX5_noticed_0 6 rfl rfl)
theorem dX5_noticed_8 : decode cX5_noticed 8 = .ok (.iconst 0, 1) := dk_3 (dk_at dksX5_noticed_0 8 rfl rfl)
theorem dX5_noticed_9 : decode cX5_noticed 9 = .ok (.istore 5, 2) := dk_54 5 (dk_at dksX5_noticed_0 9 rfl rfl)
theorem dX5_noticed_11 : decode cX5_noticed 11 = .ok (.iload 4, 2) := dk_21 4 (dk_at dksX5_noticed_0 11 rfl rfl)
theorem dX5_noticed_13 : decode cX5_noticed 13 = .ok (.ifCond .ne 15, 3) := dk_154 0 15 (dk_at dksX5_noticed_0 13 rfl rfl)
theorem dX5_noticed_16 : decode cX5_noticed 16 = .ok (.aload_n 0, 1) := dk_42 (dk_at dksX5_noticed_0 16 rfl rfl)
theorem dX5_noticed_17 : decode cX5_noticed 17 = .ok (.iload_n 3, 1) := dk_29 (dk_at dksX5_noticed_0 17 rfl rfl)
theorem dX5_noticed_18 : decode cX5_noticed 18 = .ok (.invokevirtual 275, 3) := dk_182 1 19 (dk_at dksX5_noticed_0 18 rfl rfl)
theorem dX5_noticed_21 : decode cX5_noticed 21 = .ok (.ifCond .ne 7, 3) := dk_154 0 7 (dk_at dksX5_noticed_0 21 rfl rfl)
theorem dX5_noticed_24 : decode cX5_noticed 24 = .ok (.bipush (-6), 2) := dk_16 250 (dk_at dksX5_noticed_1 0 rfl rfl)
theorem dX5_noticed_26 : decode cX5_noticed 26 = .ok (.istore 4, 2) := dk_54 4 (dk_at dksX5_noticed_1 2 rfl rfl)
theorem dX5_noticed_28 : decode cX5_noticed 28 = .ok (.iload 4, 2) := dk_21 4 (dk_at dksX5_noticed_1 4 rfl rfl)
theorem dX5_noticed_30 : decode cX5_noticed 30 = .ok (.ifCond .eq 10, 3) := dk_153 0 10 (dk_at dksX5_noticed_1 6 rfl rfl)
theorem dX5_noticed_33 : decode cX5_noticed 33 = .ok (.aload_n 0, 1) := dk_42 (dk_at dksX5_noticed_1 9 rfl rfl)
theorem dX5_noticed_34 : decode cX5_noticed 34 = .ok (.iload 4, 2) := dk_21 4 (dk_at dksX5_noticed_1 10 rfl rfl)
theorem dX5_noticed_36 : decode cX5_noticed 36 = .ok (.invokevirtual 112, 3) := dk_182 0 112 (dk_at dksX5_noticed_1 12 rfl rfl)
theorem dX5_noticed_39 : decode cX5_noticed 39 = .ok (.ireturn, 1) := dk_172 (dk_at dksX5_noticed_1 15 rfl rfl)
theorem dX5_noticed_40 : decode cX5_noticed 40 = .ok (.aload_n 0, 1) := dk_42 (dk_at dksX5_noticed_1 16 rfl rfl)
theorem dX5_noticed_41 : decode cX5_noticed 41 = .ok (.invokevirtual 243, 3) := dk_182 0 243 (dk_at dksX5_noticed_1 17 rfl rfl)
theorem dX5_noticed_44 : decode cX5_noticed 44 = .ok (.iconst 0, 1) := dk_3 (dk_at dksX5_noticed_1 20 rfl rfl)
theorem dX5_noticed_45 : decode cX5_noticed 45 = .ok (.istore 6, 2) := dk_54 6 (dk_at dksX5_noticed_1 21 rfl rfl)
theorem dX5_noticed_47 : decode cX5_noticed 47 = .ok (.iload 6, 2) := dk_21 6 (dk_at dksX5_noticed_2 0 rfl rfl)
theorem dX5_noticed_49 : decode cX5_noticed 49 = .ok (.iload_n 2, 1) := dk_28 (dk_at dksX5_noticed_2 2 rfl rfl)
theorem dX5_noticed_50 : decode cX5_noticed 50 = .ok (.if_icmp .ge 63, 3) := dk_162 0 63 (dk_at dksX5_noticed_2 3 rfl rfl)
theorem dX5_noticed_53 : decode cX5_noticed 53 = .ok (.aload_n 0, 1) := dk_42 (dk_at dksX5_noticed_2 6 rfl rfl)
theorem dX5_noticed_54 : decode cX5_noticed 54 = .ok (.aload_n 0, 1) := dk_42 (dk_at dksX5_noticed_2 7 rfl rfl)
theorem dX5_noticed_55 : decode cX5_noticed 55 = .ok (.iload_n 1, 1) := dk_27 (dk_at dksX5_noticed_2 8 rfl rfl)
theorem dX5_noticed_56 : decode cX5_noticed 56 = .ok (.iload 6, 2) := dk_21 6 (dk_at dksX5_noticed_2 9 rfl rfl)
theorem dX5_noticed_58 : decode cX5_noticed 58 = .ok (.invokevirtual 225, 3) := dk_182 0 225 (dk_at dksX5_noticed_2 11 rfl rfl)
theorem dX5_noticed_61 : decode cX5_noticed 61 = .ok (.invokevirtual 246, 3) := dk_182 0 246 (dk_at dksX5_noticed_2 14 rfl rfl)
theorem dX5_noticed_64 : decode cX5_noticed 64 = .ok (.ifCond .ne 6, 3) := dk_154 0 6 (dk_at dksX5_noticed_2 17 rfl rfl)
theorem dX5_noticed_67 : decode cX5_noticed 67 = .ok (.goto 40, 3) := dk_167 0 40 (dk_at dksX5_noticed_2 20 rfl rfl)
theorem dX5_noticed_70 : decode cX5_noticed 70 = .ok (.aload_n 0, 1) := dk_42 (dk_at dksX5_noticed_2 23 rfl rfl)
theorem dX5_noticed_71 : decode cX5_noticed 71 = .ok (.getfield 210, 3) := dk_180 0 210 (dk_at dksX5_noticed_3 0 rfl rfl)
theorem dX5_noticed_74 : decode cX5_noticed 74 = .ok (.bipush 80, 2) := dk_16 80 (dk_at dksX5_noticed_3 3 rfl rfl)
theorem dX5_noticed_76 : decode cX5_noticed 76 = .ok (.if_icmp .le 13, 3) := dk_164 0 13 (dk_at dksX5_noticed_3 5 rfl rfl)
theorem dX5_noticed_79 : decode cX5_noticed 79 = .ok (.aload_n 0, 1) := dk_42 (dk_at dksX5_noticed_3 8 rfl rfl)
theorem dX5_noticed_80 : decode cX5_noticed 80 = .ok (.getfield 210, 3) := dk_180 0 210 (dk_at dksX5_noticed_3 9 rfl rfl)
theorem dX5_noticed_83 : decode cX5_noticed 83 = .ok (.bipush 80, 2) := dk_16 80 (dk_at dksX5_noticed_3 12 rfl rfl)
theorem dX5_noticed_85 : decode cX5_noticed 85 = .ok (.isub, 1) := dk_100 (dk_at dksX5_noticed_3 14 rfl rfl)
theorem dX5_noticed_86 : decode cX5_noticed 86 = .ok (.goto 10, 3) := dk_167 0 10 (dk_at dksX5_noticed_3 15 rfl rfl)
theorem dX5_noticed_89 : decode cX5_noticed 89 = .ok (.bipush 80, 2) := dk_16 80 (dk_at dksX5_noticed_3 18 rfl rfl)
theorem dX5_noticed_91 : decode cX5_noticed 91 = .ok (.aload_n 0, 1) := dk_42 (dk_at dksX5_noticed_3 20 rfl rfl)
theorem dX5_noticed_92 : decode cX5_noticed 92 = .ok (.getfield 210, 3) := dk_180 0 210 (dk_at dksX5_noticed_3 21 rfl rfl)
theorem dX5_noticed_95 : decode cX5_noticed 95 = .ok (.isub, 1) := dk_100 (dk_at dksX5_noticed_4 0 rfl rfl)
theorem dX5_noticed_96 : decode cX5_noticed 96 = .ok (.istore 7, 2) := dk_54 7 (dk_at dksX5_noticed_4 1 rfl rfl)
theorem dX5_noticed_98 : decode cX5_noticed 98 = .ok (.iload 7, 2) := dk_21 7 (dk_at dksX5_noticed_4 3 rfl rfl)
theorem dX5_noticed_100 : decode cX5_noticed 100 = .ok (.iload_n 3, 1) := dk_29 (dk_at dksX5_noticed_4 5 rfl rfl)
theorem dX5_noticed_101 : decode cX5_noticed 101 = .ok (.if_icmp .lt 6, 3) := dk_161 0 6 (dk_at dksX5_noticed_4 6 rfl rfl)
theorem dX5_noticed_104 : decode cX5_noticed 104 = .ok (.iinc 5 1, 3) := dk_132 5 1 (dk_at dksX5_noticed_4 9 rfl rfl)
theorem dX5_noticed_107 : decode cX5_noticed 107 = .ok (.iinc 6 1, 3) := dk_132 6 1 (dk_at dksX5_noticed_4 12 rfl rfl)
theorem dX5_noticed_110 : decode cX5_noticed 110 = .ok (.goto (-63), 3) := dk_167 255 193 (dk_at dksX5_noticed_4 15 rfl rfl)
theorem dX5_noticed_113 : decode cX5_noticed 113 = .ok (.iload 5, 2) := dk_21 5 (dk_at dksX5_noticed_4 18 rfl rfl)
theorem dX5_noticed_115 : decode cX5_noticed 115 = .ok (.ireturn, 1) := dk_172 (dk_at dksX5_noticed_4 20 rfl rfl)
abbrev cX5_swap : ByteArray := prog_22_method_72_code
def yX5_swap : MethodName := ⟨RX5, "swap", "(II)I"⟩
def dkwX5_swap_6 : List UInt8 := [21, 4, 172]
abbrev dktX5_swap_6 : List UInt8 := dkwX5_swap_6 ++ []
def dkwX5_swap_5 : List UInt8 := [180, 0, 204, 54, 5, 42, 180, 0, 195, 54, 6, 132, 8, 1, 167, 255, 185, 132, 7, 1, 167, 255, 167]
abbrev dktX5_swap_5 : List UInt8 := dkwX5_swap_5 ++ dktX5_swap_6
def dkwX5_swap_4 : List UInt8 := [180, 0, 195, 21, 6, 163, 0, 6, 167, 0, 25, 16, 100, 21, 7, 104, 21, 8, 96, 54, 4, 42]
abbrev dktX5_swap_4 : List UInt8 := dkwX5_swap_4 ++ dktX5_swap_5
def dkwX5_swap_3 : List UInt8 := [182, 1, 35, 42, 180, 0, 204, 21, 5, 163, 0, 46, 42, 180, 0, 204, 21, 5, 160, 0, 15, 42]
abbrev dktX5_swap_3 : List UInt8 := dkwX5_swap_3 ++ dktX5_swap_4
def dkwX5_swap_2 : List UInt8 := [162, 0, 89, 21, 7, 4, 96, 54, 8, 21, 8, 28, 162, 0, 71, 42, 27, 28, 21, 7, 21, 8]
abbrev dktX5_swap_2 : List UInt8 := dkwX5_swap_2 ++ dktX5_swap_3
def dkwX5_swap_1 : List UInt8 := [182, 1, 35, 2, 54, 4, 42, 180, 0, 204, 54, 5, 42, 180, 0, 195, 54, 6, 3, 54, 7, 21, 7, 28]
abbrev dktX5_swap_1 : List UInt8 := dkwX5_swap_1 ++ dktX5_swap_2
def dkwX5_swap_0 : List UInt8 := [42, 27, 28, 182, 0, 240, 62, 29, 153, 0, 9, 42, 29, 182, 0, 237, 172, 42, 27, 28, 3, 3]
abbrev dktX5_swap_0 : List UInt8 := dkwX5_swap_0 ++ dktX5_swap_1
theorem dksX5_swap_0 : cX5_swap.data.toList.drop 0 = dktX5_swap_0 := by decide +kernel
theorem dksX5_swap_1 : cX5_swap.data.toList.drop 22 = dktX5_swap_1 := dk_seg dksX5_swap_0 22 rfl rfl
theorem dksX5_swap_2 : cX5_swap.data.toList.drop 46 = dktX5_swap_2 := dk_seg dksX5_swap_1 24 rfl rfl
theorem dksX5_swap_3 : cX5_swap.data.toList.drop 68 = dktX5_swap_3 := dk_seg dksX5_swap_2 22 rfl rfl
theorem dksX5_swap_4 : cX5_swap.data.toList.drop 90 = dktX5_swap_4 := dk_seg dksX5_swap_3 22 rfl rfl
theorem dksX5_swap_5 : cX5_swap.data.toList.drop 112 = dktX5_swap_5 := dk_seg dksX5_swap_4 22 rfl rfl
theorem dksX5_swap_6 : cX5_swap.data.toList.drop 135 = dktX5_swap_6 := dk_seg dksX5_swap_5 23 rfl rfl
theorem dX5_swap_0 : decode cX5_swap 0 = .ok (.aload_n 0, 1) := dk_42 (dk_at dksX5_swap_0 0 rfl rfl)
theorem dX5_swap_1 : decode cX5_swap 1 = .ok (.iload_n 1, 1) := dk_27 (dk_at dksX5_swap_0 1 rfl rfl)
theorem dX5_swap_2 : decode cX5_swap 2 = .ok (.iload_n 2, 1) := dk_28 (dk_at dksX5_swap_0 2 rfl rfl)
theorem dX5_swap_3 : decode cX5_swap 3 = .ok (.invokevirtual 240, 3) := dk_182 0 240 (dk_at dksX5_swap_0 3 rfl rfl)
theorem dX5_swap_6 : decode cX5_swap 6 = .ok (.istore_n 3, 1) := dk_62 (dk_at dksX5_swap_0 6 rfl rfl)
theorem dX5_swap_7 : decode cX5_swap 7 = .ok (.iload_n 3, 1) := dk_29 (dk_at dksX5_swap_0 7 rfl rfl)
theorem dX5_swap_8 : decode cX5_swap 8 = .ok (.ifCond .eq 9, 3) := dk_153 0 9 (dk_at dksX5_swap_0 8 rfl rfl)
theorem dX5_swap_11 : decode cX5_swap 11 = .ok (.aload_n 0, 1) := dk_42 (dk_at dksX5_swap_0 11 rfl rfl)
theorem dX5_swap_12 : decode cX5_swap 12 = .ok (.iload_n 3, 1) := dk_29 (dk_at dksX5_swap_0 12 rfl rfl)
theorem dX5_swap_13 : decode cX5_swap 13 = .ok (.invokevirtual 237, 3) := dk_182 0 237 (dk_at dksX5_swap_0 13 rfl rfl)
theorem dX5_swap_16 : decode cX5_swap 16 = .ok (.ireturn, 1) := dk_172 (dk_at dksX5_swap_0 16 rfl rfl)
theorem dX5_swap_17 : decode cX5_swap 17 = .ok (.aload_n 0, 1) := dk_42 (dk_at dksX5_swap_0 17 rfl rfl)
theorem dX5_swap_18 : decode cX5_swap 18 = .ok (.iload_n 1, 1) := dk_27 (dk_at dksX5_swap_0 18 rfl rfl)
theorem dX5_swap_19 : decode cX5_swap 19 = .ok (.iload_n 2, 1) := dk_28 (dk_at dksX5_swap_0 19 rfl rfl)
theorem dX5_swap_20 : decode cX5_swap 20 = .ok (.iconst 0, 1) := dk_3 (dk_at dksX5_swap_0 20 rfl rfl)
theorem dX5_swap_21 : decode cX5_swap 21 = .ok (.iconst 0, 1) := dk_3 (dk_at dksX5_swap_0 21 rfl rfl)
theorem dX5_swap_22 : decode cX5_swap 22 = .ok (.invokevirtual 291, 3) := dk_182 1 35 (dk_at dksX5_swap_1 0 rfl rfl)
theorem dX5_swap_25 : decode cX5_swap 25 = .ok (.iconst (-1), 1) := dk_2 (dk_at dksX5_swap_1 3 rfl rfl)
theorem dX5_swap_26 : decode cX5_swap 26 = .ok (.istore 4, 2) := dk_54 4 (dk_at dksX5_swap_1 4 rfl rfl)
theorem dX5_swap_28 : decode cX5_swap 28 = .ok (.aload_n 0, 1) := dk_42 (dk_at dksX5_swap_1 6 rfl rfl)
theorem dX5_swap_29 : decode cX5_swap 29 = .ok (.getfield 204, 3) := dk_180 0 204 (dk_at dksX5_swap_1 7 rfl rfl)
theorem dX5_swap_32 : decode cX5_swap 32 = .ok (.istore 5, 2) := dk_54 5 (dk_at dksX5_swap_1 10 rfl rfl)
theorem dX5_swap_34 : decode cX5_swap 34 = .ok (.aload_n 0, 1) := dk_42 (dk_at dksX5_swap_1 12 rfl rfl)
theorem dX5_swap_35 : decode cX5_swap 35 = .ok (.getfield 195, 3) := dk_180 0 195 (dk_at dksX5_swap_1 13 rfl rfl)
theorem dX5_swap_38 : decode cX5_swap 38 = .ok (.istore 6, 2) := dk_54 6 (dk_at dksX5_swap_1 16 rfl rfl)
theorem dX5_swap_40 : decode cX5_swap 40 = .ok (.iconst 0, 1) := dk_3 (dk_at dksX5_swap_1 18 rfl rfl)
theorem dX5_swap_41 : decode cX5_swap 41 = .ok (.istore 7, 2) := dk_54 7 (dk_at dksX5_swap_1 19 rfl rfl)
theorem dX5_swap_43 : decode cX5_swap 43 = .ok (.iload 7, 2) := dk_21 7 (dk_at dksX5_swap_1 21 rfl rfl)
theorem dX5_swap_45 : decode cX5_swap 45 = .ok (.iload_n 2, 1) := dk_28 (dk_at dksX5_swap_1 23 rfl rfl)
theorem dX5_swap_46 : decode cX5_swap 46 = .ok (.if_icmp .ge 89, 3) := dk_162 0 89 (dk_at dksX5_swap_2 0 rfl rfl)
theorem dX5_swap_49 : decode cX5_swap 49 = .ok (.iload 7, 2) := dk_21 7 (dk_at dksX5_swap_2 3 rfl rfl)
theorem dX5_swap_51 : decode cX5_swap 51 = .ok (.iconst 1, 1) := dk_4 (dk_at dksX5_swap_2 5 rfl rfl)
theorem dX5_swap_52 : decode cX5_swap 52 = .ok (.iadd, 1) := dk_96 (dk_at dksX5_swap_2 6 rfl rfl)
theorem dX5_swap_53 : decode cX5_swap 53 = .ok (.istore 8, 2) := dk_54 8 (dk_at dksX5_swap_2 7 rfl rfl)
theorem dX5_swap_55 : decode cX5_swap 55 = .ok (.iload 8, 2) := dk_21 8 (dk_at dksX5_swap_2 9 rfl rfl)
theorem dX5_swap_57 : decode cX5_swap 57 = .ok (.iload_n 2, 1) := dk_28 (dk_at dksX5_swap_2 11 rfl rfl)
theorem dX5_swap_58 : decode cX5_swap 58 = .ok (.if_icmp .ge 71, 3) := dk_162 0 71 (dk_at dksX5_swap_2 12 rfl rfl)
theorem dX5_swap_61 : decode cX5_swap 61 = .ok (.aload_n 0, 1) := dk_42 (dk_at dksX5_swap_2 15 rfl rfl)
theorem dX5_swap_62 : decode cX5_swap 62 = .ok (.iload_n 1, 1) := dk_27 (dk_at dksX5_swap_2 16 rfl rfl)
theorem dX5_swap_63 : decode cX5_swap 63 = .ok (.iload_n 2, 1) := dk_28 (dk_at dksX5_swap_2 17 rfl rfl)
theorem dX5_swap_64 : decode cX5_swap 64 = .ok (.iload 7, 2) := dk_21 7 (dk_at dksX5_swap_2 18 rfl rfl)
theorem dX5_swap_66 : decode cX5_swap 66 = .ok (.iload 8, 2) := dk_21 8 (dk_at dksX5_swap_2 20 rfl rfl)
theorem dX5_swap_68 : decode cX5_swap 68 = .ok (.invokevirtual 291, 3) := dk_182 1 35 (dk_at dksX5_swap_3 0 rfl rfl)
theorem dX5_swap_71 : decode cX5_swap 71 = .ok (.aload_n 0, 1) := dk_42 (dk_at dksX5_swap_3 3 rfl rfl)
theorem dX5_swap_72 : decode cX5_swap 72 = .ok (.getfield 204, 3) := dk_180 0 204 (dk_at dksX5_swap_3 4 rfl rfl)
theorem dX5_swap_75 : decode cX5_swap 75 = .ok (.iload 5, 2) := dk_21 5 (dk_at dksX5_swap_3 7 rfl rfl)
theorem dX5_swap_77 : decode cX5_swap 77 = .ok (.if_icmp .gt 46, 3) := dk_163 0 46 (dk_at dksX5_swap_3 9 rfl rfl)
theorem dX5_swap_80 : decode cX5_swap 80 = .ok (.aload_n 0, 1) := dk_42 (dk_at dksX5_swap_3 12 rfl rfl)
theorem dX5_swap_81 : decode cX5_swap 81 = .ok (.getfield 204, 3) := dk_180 0 204 (dk_at dksX5_swap_3 13 rfl rfl)
theorem dX5_swap_84 : decode cX5_swap 84 = .ok (.iload 5, 2) := dk_21 5 (dk_at dksX5_swap_3 16 rfl rfl)
theorem dX5_swap_86 : decode cX5_swap 86 = .ok (.if_icmp .ne 15, 3) := dk_160 0 15 (dk_at dksX5_swap_3 18 rfl rfl)
theorem dX5_swap_89 : decode cX5_swap 89 = .ok (.aload_n 0, 1) := dk_42 (dk_at dksX5_swap_3 21 rfl rfl)
theorem dX5_swap_90 : decode cX5_swap 90 = .ok (.getfield 195, 3) := dk_180 0 195 (dk_at dksX5_swap_4 0 rfl rfl)
theorem dX5_swap_93 : decode cX5_swap 93 = .ok (.iload 6, 2) := dk_21 6 (dk_at dksX5_swap_4 3 rfl rfl)
theorem dX5_swap_95 : decode cX5_swap 95 = .ok (.if_icmp .gt 6, 3) := dk_163 0 6 (dk_at dksX5_swap_4 5 rfl rfl)
theorem dX5_swap_98 : decode cX5_swap 98 = .ok (.goto 25, 3) := dk_167 0 25 (dk_at dksX5_swap_4 8 rfl rfl)
theorem dX5_swap_101 : decode cX5_swap 101 = .ok (.bipush 100, 2) := dk_16 100 (dk_at dksX5_swap_4 11 rfl rfl)
theorem dX5_swap_103 : decode cX5_swap 103 = .ok (.iload 7, 2) := dk_21 7 (dk_at dksX5_swap_4 13 rfl rfl)
theorem dX5_swap_105 : decode cX5_swap 105 = .ok (.imul, 1) := dk_104 (dk_at dksX5_swap_4 15 rfl rfl)
theorem dX5_swap_106 : decode cX5_swap 106 = .ok (.iload 8, 2) := dk_21 8 (dk_at dksX5_swap_4 16 rfl rfl)
theorem dX5_swap_108 : decode cX5_swap 108 = .ok (.iadd, 1) := dk_96 (dk_at dksX5_swap_4 18 rfl rfl)
theorem dX5_swap_109 : decode cX5_swap 109 = .ok (.istore 4, 2) := dk_54 4 (dk_at dksX5_swap_4 19 rfl rfl)
theorem dX5_swap_111 : decode cX5_swap 111 = .ok (.aload_n 0, 1) := dk_42 (dk_at dksX5_swap_4 21 rfl rfl)
theorem dX5_swap_112 : decode cX5_swap 112 = .ok (.getfield 204, 3) := dk_180 0 204 (dk_at dksX5_swap_5 0 rfl rfl)
theorem dX5_swap_115 : decode cX5_swap 115 = .ok (.istore 5, 2) := dk_54 5 (dk_at dksX5_swap_5 3 rfl rfl)
theorem dX5_swap_117 : decode cX5_swap 117 = .ok (.aload_n 0, 1) := dk_42 (dk_at dksX5_swap_5 5 rfl rfl)
theorem dX5_swap_118 : decode cX5_swap 118 = .ok (.getfield 195, 3) := dk_180 0 195 (dk_at dksX5_swap_5 6 rfl rfl)
theorem dX5_swap_121 : decode cX5_swap 121 = .ok (.istore 6, 2) := dk_54 6 (dk_at dksX5_swap_5 9 rfl rfl)
theorem dX5_swap_123 : decode cX5_swap 123 = .ok (.iinc 8 1, 3) := dk_132 8 1 (dk_at dksX5_swap_5 11 rfl rfl)
theorem dX5_swap_126 : decode cX5_swap 126 = .ok (.goto (-71), 3) := dk_167 255 185 (dk_at dksX5_swap_5 14 rfl rfl)
theorem dX5_swap_129 : decode cX5_swap 129 = .ok (.iinc 7 1, 3) := dk_132 7 1 (dk_at dksX5_swap_5 17 rfl rfl)
theorem dX5_swap_132 : decode cX5_swap 132 = .ok (.goto (-89), 3) := dk_167 255 167 (dk_at dksX5_swap_5 20 rfl rfl)
theorem dX5_swap_135 : decode cX5_swap 135 = .ok (.iload 4, 2) := dk_21 4 (dk_at dksX5_swap_6 0 rfl rfl)
theorem dX5_swap_137 : decode cX5_swap 137 = .ok (.ireturn, 1) := dk_172 (dk_at dksX5_swap_6 2 rfl rfl)
abbrev cX5_swapped : ByteArray := prog_22_method_71_code
def yX5_swapped : MethodName := ⟨RX5, "swapped", "(IIII)V"⟩
def dkwX5_swapped_2 : List UInt8 := [132, 5, 1, 167, 255, 213, 177]
abbrev dktX5_swapped_2 : List UInt8 := dkwX5_swapped_2 ++ []
def dkwX5_swapped_1 : List UInt8 := [167, 0, 16, 21, 5, 21, 4, 160, 0, 7, 29, 167, 0, 5, 21, 5, 182, 0, 225, 182, 0, 246, 87]
abbrev dktX5_swapped_1 : List UInt8 := dkwX5_swapped_1 ++ dktX5_swapped_2
def dkwX5_swapped_0 : List UInt8 := [42, 182, 0, 243, 3, 54, 5, 21, 5, 28, 162, 0, 43, 42, 42, 27, 21, 5, 29, 160, 0, 8, 21, 4]
abbrev dktX5_swapped_0 : List UInt8 := dkwX5_swapped_0 ++ dktX5_swapped_1
theorem dksX5_swapped_0 : cX5_swapped.data.toList.drop 0 = dktX5_swapped_0 := by decide +kernel
theorem dksX5_swapped_1 : cX5_swapped.data.toList.drop 24 = dktX5_swapped_1 := dk_seg dksX5_swapped_0 24 rfl rfl
theorem dksX5_swapped_2 : cX5_swapped.data.toList.drop 47 = dktX5_swapped_2 := dk_seg dksX5_swapped_1 23 rfl rfl
theorem dX5_swapped_0 : decode cX5_swapped 0 = .ok (.aload_n 0, 1) := dk_42 (dk_at dksX5_swapped_0 0 rfl rfl)
theorem dX5_swapped_1 : decode cX5_swapped 1 = .ok (.invokevirtual 243, 3) := dk_182 0 243 (dk_at dksX5_swapped_0 1 rfl rfl)
theorem dX5_swapped_4 : decode cX5_swapped 4 = .ok (.iconst 0, 1) := dk_3 (dk_at dksX5_swapped_0 4 rfl rfl)
theorem dX5_swapped_5 : decode cX5_swapped 5 = .ok (.istore 5, 2) := dk_54 5 (dk_at dksX5_swapped_0 5 rfl rfl)
theorem dX5_swapped_7 : decode cX5_swapped 7 = .ok (.iload 5, 2) := dk_21 5 (dk_at dksX5_swapped_0 7 rfl rfl)
theorem dX5_swapped_9 : decode cX5_swapped 9 = .ok (.iload_n 2, 1) := dk_28 (dk_at dksX5_swapped_0 9 rfl rfl)
theorem dX5_swapped_10 : decode cX5_swapped 10 = .ok (.if_icmp .ge 43, 3) := dk_162 0 43 (dk_at dksX5_swapped_0 10 rfl rfl)
theorem dX5_swapped_13 : decode cX5_swapped 13 = .ok (.aload_n 0, 1) := dk_42 (dk_at dksX5_swapped_0 13 rfl rfl)
theorem dX5_swapped_14 : decode cX5_swapped 14 = .ok (.aload_n 0, 1) := dk_42 (dk_at dksX5_swapped_0 14 rfl rfl)
theorem dX5_swapped_15 : decode cX5_swapped 15 = .ok (.iload_n 1, 1) := dk_27 (dk_at dksX5_swapped_0 15 rfl rfl)
theorem dX5_swapped_16 : decode cX5_swapped 16 = .ok (.iload 5, 2) := dk_21 5 (dk_at dksX5_swapped_0 16 rfl rfl)
theorem dX5_swapped_18 : decode cX5_swapped 18 = .ok (.iload_n 3, 1) := dk_29 (dk_at dksX5_swapped_0 18 rfl rfl)
theorem dX5_swapped_19 : decode cX5_swapped 19 = .ok (.if_icmp .ne 8, 3) := dk_160 0 8 (dk_at dksX5_swapped_0 19 rfl rfl)
theorem dX5_swapped_22 : decode cX5_swapped 22 = .ok (.iload 4, 2) := dk_21 4 (dk_at dksX5_swapped_0 22 rfl rfl)
theorem dX5_swapped_24 : decode cX5_swapped 24 = .ok (.goto 16, 3) := dk_167 0 16 (dk_at dksX5_swapped_1 0 rfl rfl)
theorem dX5_swapped_27 : decode cX5_swapped 27 = .ok (.iload 5, 2) := dk_21 5 (dk_at dksX5_swapped_1 3 rfl rfl)
theorem dX5_swapped_29 : decode cX5_swapped 29 = .ok (.iload 4, 2) := dk_21 4 (dk_at dksX5_swapped_1 5 rfl rfl)
theorem dX5_swapped_31 : decode cX5_swapped 31 = .ok (.if_icmp .ne 7, 3) := dk_160 0 7 (dk_at dksX5_swapped_1 7 rfl rfl)
theorem dX5_swapped_34 : decode cX5_swapped 34 = .ok (.iload_n 3, 1) := dk_29 (dk_at dksX5_swapped_1 10 rfl rfl)
theorem dX5_swapped_35 : decode cX5_swapped 35 = .ok (.goto 5, 3) := dk_167 0 5 (dk_at dksX5_swapped_1 11 rfl rfl)
theorem dX5_swapped_38 : decode cX5_swapped 38 = .ok (.iload 5, 2) := dk_21 5 (dk_at dksX5_swapped_1 14 rfl rfl)
theorem dX5_swapped_40 : decode cX5_swapped 40 = .ok (.invokevirtual 225, 3) := dk_182 0 225 (dk_at dksX5_swapped_1 16 rfl rfl)
theorem dX5_swapped_43 : decode cX5_swapped 43 = .ok (.invokevirtual 246, 3) := dk_182 0 246 (dk_at dksX5_swapped_1 19 rfl rfl)
theorem dX5_swapped_46 : decode cX5_swapped 46 = .ok (.pop, 1) := dk_87 (dk_at dksX5_swapped_1 22 rfl rfl)
theorem dX5_swapped_47 : decode cX5_swapped 47 = .ok (.iinc 5 1, 3) := dk_132 5 1 (dk_at dksX5_swapped_2 0 rfl rfl)
theorem dX5_swapped_50 : decode cX5_swapped 50 = .ok (.goto (-43), 3) := dk_167 255 213 (dk_at dksX5_swapped_2 3 rfl rfl)
theorem dX5_swapped_53 : decode cX5_swapped 53 = .ok (.return_, 1) := dk_177 (dk_at dksX5_swapped_2 6 rfl rfl)
abbrev cX5_week : ByteArray := prog_22_method_74_code
def yX5_week : MethodName := ⟨RX5, "week", "(I)I"⟩
def dkwX5_week_2 : List UInt8 := [167, 0, 7, 42, 180, 0, 7, 172]
abbrev dktX5_week_2 : List UInt8 := dkwX5_week_2 ++ []
def dkwX5_week_1 : List UInt8 := [42, 27, 182, 0, 165, 154, 0, 10, 42, 16, 250, 182, 0, 237, 172, 42, 27, 182, 0, 181, 153, 0, 7, 2]
abbrev dktX5_week_1 : List UInt8 := dkwX5_week_1 ++ dktX5_week_2
def dkwX5_week_0 : List UInt8 := [27, 2, 159, 0, 17, 42, 27, 182, 0, 116, 154, 0, 9, 42, 2, 182, 0, 237, 172, 27, 2, 159, 0, 18]
abbrev dktX5_week_0 : List UInt8 := dkwX5_week_0 ++ dktX5_week_1
theorem dksX5_week_0 : cX5_week.data.toList.drop 0 = dktX5_week_0 := by decide +kernel
theorem dksX5_week_1 : cX5_week.data.toList.drop 24 = dktX5_week_1 := dk_seg dksX5_week_0 24 rfl rfl
theorem dksX5_week_2 : cX5_week.data.toList.drop 48 = dktX5_week_2 := dk_seg dksX5_week_1 24 rfl rfl
theorem dX5_week_0 : decode cX5_week 0 = .ok (.iload_n 1, 1) := dk_27 (dk_at dksX5_week_0 0 rfl rfl)
theorem dX5_week_1 : decode cX5_week 1 = .ok (.iconst (-1), 1) := dk_2 (dk_at dksX5_week_0 1 rfl rfl)
theorem dX5_week_2 : decode cX5_week 2 = .ok (.if_icmp .eq 17, 3) := dk_159 0 17 (dk_at dksX5_week_0 2 rfl rfl)
theorem dX5_week_5 : decode cX5_week 5 = .ok (.aload_n 0, 1) := dk_42 (dk_at dksX5_week_0 5 rfl rfl)
theorem dX5_week_6 : decode cX5_week 6 = .ok (.iload_n 1, 1) := dk_27 (dk_at dksX5_week_0 6 rfl rfl)
theorem dX5_week_7 : decode cX5_week 7 = .ok (.invokevirtual 116, 3) := dk_182 0 116 (dk_at dksX5_week_0 7 rfl rfl)
theorem dX5_week_10 : decode cX5_week 10 = .ok (.ifCond .ne 9, 3) := dk_154 0 9 (dk_at dksX5_week_0 10 rfl rfl)
theorem dX5_week_13 : decode cX5_week 13 = .ok (.aload_n 0, 1) := dk_42 (dk_at dksX5_week_0 13 rfl rfl)
theorem dX5_week_14 : decode cX5_week 14 = .ok (.iconst (-1), 1) := dk_2 (dk_at dksX5_week_0 14 rfl rfl)
theorem dX5_week_15 : decode cX5_week 15 = .ok (.invokevirtual 237, 3) := dk_182 0 237 (dk_at dksX5_week_0 15 rfl rfl)
theorem dX5_week_18 : decode cX5_week 18 = .ok (.ireturn, 1) := dk_172 (dk_at dksX5_week_0 18 rfl rfl)
theorem dX5_week_19 : decode cX5_week 19 = .ok (.iload_n 1, 1) := dk_27 (dk_at dksX5_week_0 19 rfl rfl)
theorem dX5_week_20 : decode cX5_week 20 = .ok (.iconst (-1), 1) := dk_2 (dk_at dksX5_week_0 20 rfl rfl)
theorem dX5_week_21 : decode cX5_week 21 = .ok (.if_icmp .eq 18, 3) := dk_159 0 18 (dk_at dksX5_week_0 21 rfl rfl)
theorem dX5_week_24 : decode cX5_week 24 = .ok (.aload_n 0, 1) := dk_42 (dk_at dksX5_week_1 0 rfl rfl)
theorem dX5_week_25 : decode cX5_week 25 = .ok (.iload_n 1, 1) := dk_27 (dk_at dksX5_week_1 1 rfl rfl)
theorem dX5_week_26 : decode cX5_week 26 = .ok (.invokevirtual 165, 3) := dk_182 0 165 (dk_at dksX5_week_1 2 rfl rfl)
theorem dX5_week_29 : decode cX5_week 29 = .ok (.ifCond .ne 10, 3) := dk_154 0 10 (dk_at dksX5_week_1 5 rfl rfl)
theorem dX5_week_32 : decode cX5_week 32 = .ok (.aload_n 0, 1) := dk_42 (dk_at dksX5_week_1 8 rfl rfl)
theorem dX5_week_33 : decode cX5_week 33 = .ok (.bipush (-6), 2) := dk_16 250 (dk_at dksX5_week_1 9 rfl rfl)
theorem dX5_week_35 : decode cX5_week 35 = .ok (.invokevirtual 237, 3) := dk_182 0 237 (dk_at dksX5_week_1 11 rfl rfl)
theorem dX5_week_38 : decode cX5_week 38 = .ok (.ireturn, 1) := dk_172 (dk_at dksX5_week_1 14 rfl rfl)
theorem dX5_week_39 : decode cX5_week 39 = .ok (.aload_n 0, 1) := dk_42 (dk_at dksX5_week_1 15 rfl rfl)
theorem dX5_week_40 : decode cX5_week 40 = .ok (.iload_n 1, 1) := dk_27 (dk_at dksX5_week_1 16 rfl rfl)
theorem dX5_week_41 : decode cX5_week 41 = .ok (.invokevirtual 181, 3) := dk_182 0 181 (dk_at dksX5_week_1 17 rfl rfl)
theorem dX5_week_44 : decode cX5_week 44 = .ok (.ifCond .eq 7, 3) := dk_153 0 7 (dk_at dksX5_week_1 20 rfl rfl)
theorem dX5_week_47 : decode cX5_week 47 = .ok (.iconst (-1), 1) := dk_2 (dk_at dksX5_week_1 23 rfl rfl)
theorem dX5_week_48 : decode cX5_week 48 = .ok (.goto 7, 3) := dk_167 0 7 (dk_at dksX5_week_2 0 rfl rfl)
theorem dX5_week_51 : decode cX5_week 51 = .ok (.aload_n 0, 1) := dk_42 (dk_at dksX5_week_2 3 rfl rfl)
theorem dX5_week_52 : decode cX5_week 52 = .ok (.getfield 7, 3) := dk_180 0 7 (dk_at dksX5_week_2 4 rfl rfl)
theorem dX5_week_55 : decode cX5_week 55 = .ok (.ireturn, 1) := dk_172 (dk_at dksX5_week_2 7 rfl rfl)
abbrev cX5_weeks : ByteArray := prog_22_method_75_code
def yX5_weeks : MethodName := ⟨RX5, "weeks", "(II)I"⟩
def dkwX5_weeks_3 : List UInt8 := [167, 255, 232, 29, 172]
abbrev dktX5_weeks_3 : List UInt8 := dkwX5_weeks_3 ++ []
def dkwX5_weeks_2 : List UInt8 := [27, 162, 0, 24, 42, 42, 28, 182, 0, 252, 182, 0, 181, 153, 0, 6, 132, 3, 1, 132, 4, 1]
abbrev dktX5_weeks_2 : List UInt8 := dkwX5_weeks_2 ++ dktX5_weeks_3
def dkwX5_weeks_1 : List UInt8 := [4, 161, 0, 9, 27, 16, 60, 164, 0, 10, 42, 16, 250, 182, 0, 112, 172, 3, 62, 3, 54, 4, 21, 4]
abbrev dktX5_weeks_1 : List UInt8 := dkwX5_weeks_1 ++ dktX5_weeks_2
def dkwX5_weeks_0 : List UInt8 := [28, 155, 0, 15, 28, 4, 163, 0, 10, 42, 182, 0, 249, 154, 0, 10, 42, 16, 251, 182, 0, 112, 172, 27]
abbrev dktX5_weeks_0 : List UInt8 := dkwX5_weeks_0 ++ dktX5_weeks_1
theorem dksX5_weeks_0 : cX5_weeks.data.toList.drop 0 = dktX5_weeks_0 := by decide +kernel
theorem dksX5_weeks_1 : cX5_weeks.data.toList.drop 24 = dktX5_weeks_1 := dk_seg dksX5_weeks_0 24 rfl rfl
theorem dksX5_weeks_2 : cX5_weeks.data.toList.drop 48 = dktX5_weeks_2 := dk_seg dksX5_weeks_1 24 rfl rfl
theorem dksX5_weeks_3 : cX5_weeks.data.toList.drop 70 = dktX5_weeks_3 := dk_seg dksX5_weeks_2 22 rfl rfl
theorem dX5_weeks_0 : decode cX5_weeks 0 = .ok (.iload_n 2, 1) := dk_28 (dk_at dksX5_weeks_0 0 rfl rfl)
theorem dX5_weeks_1 : decode cX5_weeks 1 = .ok (.ifCond .lt 15, 3) := dk_155 0 15 (dk_at dksX5_weeks_0 1 rfl rfl)
theorem dX5_weeks_4 : decode cX5_weeks 4 = .ok (.iload_n 2, 1) := dk_28 (dk_at dksX5_weeks_0 4 rfl rfl)
theorem dX5_weeks_5 : decode cX5_weeks 5 = .ok (.iconst 1, 1) := dk_4 (dk_at dksX5_weeks_0 5 rfl rfl)
theorem dX5_weeks_6 : decode cX5_weeks 6 = .ok (.if_icmp .gt 10, 3) := dk_163 0 10 (dk_at dksX5_weeks_0 6 rfl rfl)
theorem dX5_weeks_9 : decode cX5_weeks 9 = .ok (.aload_n 0, 1) := dk_42 (dk_at dksX5_weeks_0 9 rfl rfl)
theorem dX5_weeks_10 : decode cX5_weeks 10 = .ok (.invokevirtual 249, 3) := dk_182 0 249 (dk_at dksX5_weeks_0 10 rfl rfl)
theorem dX5_weeks_13 : decode cX5_weeks 13 = .ok (.ifCond .ne 10, 3) := dk_154 0 10 (dk_at dksX5_weeks_0 13 rfl rfl)
theorem dX5_weeks_16 : decode cX5_weeks 16 = .ok (.aload_n 0, 1) := dk_42 (dk_at dksX5_weeks_0 16 rfl rfl)
theorem dX5_weeks_17 : decode cX5_weeks 17 = .ok (.bipush (-5), 2) := dk_16 251 (dk_at dksX5_weeks_0 17 rfl rfl)
theorem dX5_weeks_19 : decode cX5_weeks 19 = .ok (.invokevirtual 112, 3) := dk_182 0 112 (dk_at dksX5_weeks_0 19 rfl rfl)
theorem dX5_weeks_22 : decode cX5_weeks 22 = .ok (.ireturn, 1) := dk_172 (dk_at dksX5_weeks_0 22 rfl rfl)
theorem dX5_weeks_23 : decode cX5_weeks 23 = .ok (.iload_n 1, 1) := dk_27 (dk_at dksX5_weeks_0 23 rfl rfl)
theorem dX5_weeks_24 : decode cX5_weeks 24 = .ok (.iconst 1, 1) := dk_4 (dk_at dksX5_weeks_1 0 rfl rfl)
theorem dX5_weeks_25 : decode cX5_weeks 25 = .ok (.if_icmp .lt 9, 3) := dk_161 0 9 (dk_at dksX5_weeks_1 1 rfl rfl)
theorem dX5_weeks_28 : decode cX5_weeks 28 = .ok (.iload_n 1, 1) := dk_27 (dk_at dksX5_weeks_1 4 rfl rfl)
theorem dX5_weeks_29 : decode cX5_weeks 29 = .ok (.bipush 60, 2) := dk_16 60 (dk_at dksX5_weeks_1 5 rfl rfl)
theorem dX5_weeks_31 : decode cX5_weeks 31 = .ok (.if_icmp .le 10, 3) := dk_164 0 10 (dk_at dksX5_weeks_1 7 rfl rfl)
theorem dX5_weeks_34 : decode cX5_weeks 34 = .ok (.aload_n 0, 1) := dk_42 (dk_at dksX5_weeks_1 10 rfl rfl)
theorem dX5_weeks_35 : decode cX5_weeks 35 = .ok (.bipush (-6), 2) := dk_16 250 (dk_at dksX5_weeks_1 11 rfl rfl)
theorem dX5_weeks_37 : decode cX5_weeks 37 = .ok (.invokevirtual 112, 3) := dk_182 0 112 (dk_at dksX5_weeks_1 13 rfl rfl)
theorem dX5_weeks_40 : decode cX5_weeks 40 = .ok (.ireturn, 1) := dk_172 (dk_at dksX5_weeks_1 16 rfl rfl)
theorem dX5_weeks_41 : decode cX5_weeks 41 = .ok (.iconst 0, 1) := dk_3 (dk_at dksX5_weeks_1 17 rfl rfl)
theorem dX5_weeks_42 : decode cX5_weeks 42 = .ok (.istore_n 3, 1) := dk_62 (dk_at dksX5_weeks_1 18 rfl rfl)
theorem dX5_weeks_43 : decode cX5_weeks 43 = .ok (.iconst 0, 1) := dk_3 (dk_at dksX5_weeks_1 19 rfl rfl)
theorem dX5_weeks_44 : decode cX5_weeks 44 = .ok (.istore 4, 2) := dk_54 4 (dk_at dksX5_weeks_1 20 rfl rfl)
theorem dX5_weeks_46 : decode cX5_weeks 46 = .ok (.iload 4, 2) := dk_21 4 (dk_at dksX5_weeks_1 22 rfl rfl)
theorem dX5_weeks_48 : decode cX5_weeks 48 = .ok (.iload_n 1, 1) := dk_27 (dk_at dksX5_weeks_2 0 rfl rfl)
theorem dX5_weeks_49 : decode cX5_weeks 49 = .ok (.if_icmp .ge 24, 3) := dk_162 0 24 (dk_at dksX5_weeks_2 1 rfl rfl)
theorem dX5_weeks_52 : decode cX5_weeks 52 = .ok (.aload_n 0, 1) := dk_42 (dk_at dksX5_weeks_2 4 rfl rfl)
theorem dX5_weeks_53 : decode cX5_weeks 53 = .ok (.aload_n 0, 1) := dk_42 (dk_at dksX5_weeks_2 5 rfl rfl)
theorem dX5_weeks_54 : decode cX5_weeks 54 = .ok (.iload_n 2, 1) := dk_28 (dk_at dksX5_weeks_2 6 rfl rfl)
theorem dX5_weeks_55 : decode cX5_weeks 55 = .ok (.invokevirtual 252, 3) := dk_182 0 252 (dk_at dksX5_weeks_2 7 rfl rfl)
theorem dX5_weeks_58 : decode cX5_weeks 58 = .ok (.invokevirtual 181, 3) := dk_182 0 181 (dk_at dksX5_weeks_2 10 rfl rfl)
theorem dX5_weeks_61 : decode cX5_weeks 61 = .ok (.ifCond .eq 6, 3) := dk_153 0 6 (dk_at dksX5_weeks_2 13 rfl rfl)
theorem dX5_weeks_64 : decode cX5_weeks 64 = .ok (.iinc 3 1, 3) := dk_132 3 1 (dk_at dksX5_weeks_2 16 rfl rfl)
theorem dX5_weeks_67 : decode cX5_weeks 67 = .ok (.iinc 4 1, 3) := dk_132 4 1 (dk_at dksX5_weeks_2 19 rfl rfl)
theorem dX5_weeks_70 : decode cX5_weeks 70 = .ok (.goto (-24), 3) := dk_167 255 232 (dk_at dksX5_weeks_3 0 rfl rfl)
theorem dX5_weeks_73 : decode cX5_weeks 73 = .ok (.iload_n 3, 1) := dk_29 (dk_at dksX5_weeks_3 3 rfl rfl)
theorem dX5_weeks_74 : decode cX5_weeks 74 = .ok (.ireturn, 1) := dk_172 (dk_at dksX5_weeks_3 4 rfl rfl)
abbrev cX5_term : ByteArray := prog_22_method_77_code
def yX5_term : MethodName := ⟨RX5, "term", "(I)I"⟩
def dkwX5_term_2 : List UInt8 := [132, 2, 1, 132, 3, 1, 167, 255, 224, 28, 172]
abbrev dktX5_term_2 : List UInt8 := dkwX5_term_2 ++ []
def dkwX5_term_1 : List UInt8 := [162, 0, 33, 42, 42, 42, 42, 182, 0, 249, 4, 96, 182, 1, 40, 182, 1, 9, 182, 0, 181, 153, 0, 6]
abbrev dktX5_term_1 : List UInt8 := dkwX5_term_1 ++ dktX5_term_2
def dkwX5_term_0 : List UInt8 := [27, 4, 161, 0, 9, 27, 16, 60, 164, 0, 10, 42, 16, 250, 182, 0, 112, 172, 3, 61, 3, 62, 29, 27]
abbrev dktX5_term_0 : List UInt8 := dkwX5_term_0 ++ dktX5_term_1
theorem dksX5_term_0 : cX5_term.data.toList.drop 0 = dktX5_term_0 := by decide +kernel
theorem dksX5_term_1 : cX5_term.data.toList.drop 24 = dktX5_term_1 := dk_seg dksX5_term_0 24 rfl rfl
theorem dksX5_term_2 : cX5_term.data.toList.drop 48 = dktX5_term_2 := dk_seg dksX5_term_1 24 rfl rfl
theorem dX5_term_0 : decode cX5_term 0 = .ok (.iload_n 1, 1) := dk_27 (dk_at dksX5_term_0 0 rfl rfl)
theorem dX5_term_1 : decode cX5_term 1 = .ok (.iconst 1, 1) := dk_4 (dk_at dksX5_term_0 1 rfl rfl)
theorem dX5_term_2 : decode cX5_term 2 = .ok (.if_icmp .lt 9, 3) := dk_161 0 9 (dk_at dksX5_term_0 2 rfl rfl)
theorem dX5_term_5 : decode cX5_term 5 = .ok (.iload_n 1, 1) := dk_27 (dk_at dksX5_term_0 5 rfl rfl)
theorem dX5_term_6 : decode cX5_term 6 = .ok (.bipush 60, 2) := dk_16 60 (dk_at dksX5_term_0 6 rfl rfl)
theorem dX5_term_8 : decode cX5_term 8 = .ok (.if_icmp .le 10, 3) := dk_164 0 10 (dk_at dksX5_term_0 8 rfl rfl)
theorem dX5_term_11 : decode cX5_term 11 = .ok (.aload_n 0, 1) := dk_42 (dk_at dksX5_term_0 11 rfl rfl)
theorem dX5_term_12 : decode cX5_term 12 = .ok (.bipush (-6), 2) := dk_16 250 (dk_at dksX5_term_0 12 rfl rfl)
theorem dX5_term_14 : decode cX5_term 14 = .ok (.invokevirtual 112, 3) := dk_182 0 112 (dk_at dksX5_term_0 14 rfl rfl)
theorem dX5_term_17 : decode cX5_term 17 = .ok (.ireturn, 1) := dk_172 (dk_at dksX5_term_0 17 rfl rfl)
theorem dX5_term_18 : decode cX5_term 18 = .ok (.iconst 0, 1) := dk_3 (dk_at dksX5_term_0 18 rfl rfl)
theorem dX5_term_19 : decode cX5_term 19 = .ok (.istore_n 2, 1) := dk_61 (dk_at dksX5_term_0 19 rfl rfl)
theorem dX5_term_20 : decode cX5_term 20 = .ok (.iconst 0, 1) := dk_3 (dk_at dksX5_term_0 20 rfl rfl)
theorem dX5_term_21 : decode cX5_term 21 = .ok (.istore_n 3, 1) := dk_62 (dk_at dksX5_term_0 21 rfl rfl)
theorem dX5_term_22 : decode cX5_term 22 = .ok (.iload_n 3, 1) := dk_29 (dk_at dksX5_term_0 22 rfl rfl)
theorem dX5_term_23 : decode cX5_term 23 = .ok (.iload_n 1, 1) := dk_27 (dk_at dksX5_term_0 23 rfl rfl)
theorem dX5_term_24 : decode cX5_term 24 = .ok (.if_icmp .ge 33, 3) := dk_162 0 33 (dk_at dksX5_term_1 0 rfl rfl)
theorem dX5_term_27 : decode cX5_term 27 = .ok (.aload_n 0, 1) := dk_42 (dk_at dksX5_term_1 3 rfl rfl)
theorem dX5_term_28 : decode cX5_term 28 = .ok (.aload_n 0, 1) := dk_42 (dk_at dksX5_term_1 4 rfl rfl)
theorem dX5_term_29 : decode cX5_term 29 = .ok (.aload_n 0, 1) := dk_42 (dk_at dksX5_term_1 5 rfl rfl)
theorem dX5_term_30 : decode cX5_term 30 = .ok (.aload_n 0, 1) := dk_42 (dk_at dksX5_term_1 6 rfl rfl)
theorem dX5_term_31 : decode cX5_term 31 = .ok (.invokevirtual 249, 3) := dk_182 0 249 (dk_at dksX5_term_1 7 rfl rfl)
theorem dX5_term_34 : decode cX5_term 34 = .ok (.iconst 1, 1) := dk_4 (dk_at dksX5_term_1 10 rfl rfl)
theorem dX5_term_35 : decode cX5_term 35 = .ok (.iadd, 1) := dk_96 (dk_at dksX5_term_1 11 rfl rfl)
theorem dX5_term_36 : decode cX5_term 36 = .ok (.invokevirtual 296, 3) := dk_182 1 40 (dk_at dksX5_term_1 12 rfl rfl)
theorem dX5_term_39 : decode cX5_term 39 = .ok (.invokevirtual 265, 3) := dk_182 1 9 (dk_at dksX5_term_1 15 rfl rfl)
theorem dX5_term_42 : decode cX5_term 42 = .ok (.invokevirtual 181, 3) := dk_182 0 181 (dk_at dksX5_term_1 18 rfl rfl)
theorem dX5_term_45 : decode cX5_term 45 = .ok (.ifCond .eq 6, 3) := dk_153 0 6 (dk_at dksX5_term_1 21 rfl rfl)
theorem dX5_term_48 : decode cX5_term 48 = .ok (.iinc 2 1, 3) := dk_132 2 1 (dk_at dksX5_term_2 0 rfl rfl)
theorem dX5_term_51 : decode cX5_term 51 = .ok (.iinc 3 1, 3) := dk_132 3 1 (dk_at dksX5_term_2 3 rfl rfl)
theorem dX5_term_54 : decode cX5_term 54 = .ok (.goto (-32), 3) := dk_167 255 224 (dk_at dksX5_term_2 6 rfl rfl)
theorem dX5_term_57 : decode cX5_term 57 = .ok (.iload_n 2, 1) := dk_28 (dk_at dksX5_term_2 9 rfl rfl)
theorem dX5_term_58 : decode cX5_term 58 = .ok (.ireturn, 1) := dk_172 (dk_at dksX5_term_2 10 rfl rfl)
abbrev cX5_draw : ByteArray := prog_22_method_76_code
def yX5_draw : MethodName := ⟨RX5, "draw", "(I)I"⟩
def dkwX5_draw_1 : List UInt8 := [112, 172]
abbrev dktX5_draw_1 : List UInt8 := dkwX5_draw_1 ++ []
def dkwX5_draw_0 : List UInt8 := [42, 42, 180, 0, 28, 19, 1, 39, 104, 17, 48, 57, 96, 181, 0, 28, 42, 180, 0, 28, 16, 16, 124, 27]
abbrev dktX5_draw_0 : List UInt8 := dkwX5_draw_0 ++ dktX5_draw_1
theorem dksX5_draw_0 : cX5_draw.data.toList.drop 0 = dktX5_draw_0 := by decide +kernel
theorem dksX5_draw_1 : cX5_draw.data.toList.drop 24 = dktX5_draw_1 := dk_seg dksX5_draw_0 24 rfl rfl
theorem dX5_draw_0 : decode cX5_draw 0 = .ok (.aload_n 0, 1) := dk_42 (dk_at dksX5_draw_0 0 rfl rfl)
theorem dX5_draw_1 : decode cX5_draw 1 = .ok (.aload_n 0, 1) := dk_42 (dk_at dksX5_draw_0 1 rfl rfl)
theorem dX5_draw_2 : decode cX5_draw 2 = .ok (.getfield 28, 3) := dk_180 0 28 (dk_at dksX5_draw_0 2 rfl rfl)
theorem dX5_draw_5 : decode cX5_draw 5 = .ok (.ldc_w 295, 3) := dk_19 1 39 (dk_at dksX5_draw_0 5 rfl rfl)
theorem dX5_draw_8 : decode cX5_draw 8 = .ok (.imul, 1) := dk_104 (dk_at dksX5_draw_0 8 rfl rfl)
theorem dX5_draw_9 : decode cX5_draw 9 = .ok (.sipush 12345, 3) := dk_17 48 57 (dk_at dksX5_draw_0 9 rfl rfl)
theorem dX5_draw_12 : decode cX5_draw 12 = .ok (.iadd, 1) := dk_96 (dk_at dksX5_draw_0 12 rfl rfl)
theorem dX5_draw_13 : decode cX5_draw 13 = .ok (.putfield 28, 3) := dk_181 0 28 (dk_at dksX5_draw_0 13 rfl rfl)
theorem dX5_draw_16 : decode cX5_draw 16 = .ok (.aload_n 0, 1) := dk_42 (dk_at dksX5_draw_0 16 rfl rfl)
theorem dX5_draw_17 : decode cX5_draw 17 = .ok (.getfield 28, 3) := dk_180 0 28 (dk_at dksX5_draw_0 17 rfl rfl)
theorem dX5_draw_20 : decode cX5_draw 20 = .ok (.bipush 16, 2) := dk_16 16 (dk_at dksX5_draw_0 20 rfl rfl)
theorem dX5_draw_22 : decode cX5_draw 22 = .ok (.iushr, 1) := dk_124 (dk_at dksX5_draw_0 22 rfl rfl)
theorem dX5_draw_23 : decode cX5_draw 23 = .ok (.iload_n 1, 1) := dk_27 (dk_at dksX5_draw_0 23 rfl rfl)
theorem dX5_draw_24 : decode cX5_draw 24 = .ok (.irem, 1) := dk_112 (dk_at dksX5_draw_1 0 rfl rfl)
theorem dX5_draw_25 : decode cX5_draw 25 = .ok (.ireturn, 1) := dk_172 (dk_at dksX5_draw_1 1 rfl rfl)
abbrev cX5_anew : ByteArray := prog_22_method_78_code
def yX5_anew : MethodName := ⟨RX5, "anew", "()I"⟩
def dkwX5_anew_1 : List UInt8 := [180, 0, 50, 28, 3, 79, 132, 2, 1, 167, 255, 229, 42, 2, 181, 0, 25, 27, 172]
abbrev dktX5_anew_1 : List UInt8 := dkwX5_anew_1 ++ []
def dkwX5_anew_0 : List UInt8 := [3, 60, 3, 61, 28, 42, 180, 0, 105, 162, 0, 25, 27, 42, 180, 0, 50, 28, 46, 96, 60, 42]
abbrev dktX5_anew_0 : List UInt8 := dkwX5_anew_0 ++ dktX5_anew_1
theorem dksX5_anew_0 : cX5_anew.data.toList.drop 0 = dktX5_anew_0 := by decide +kernel
theorem dksX5_anew_1 : cX5_anew.data.toList.drop 22 = dktX5_anew_1 := dk_seg dksX5_anew_0 22 rfl rfl
theorem dX5_anew_0 : decode cX5_anew 0 = .ok (.iconst 0, 1) := dk_3 (dk_at dksX5_anew_0 0 rfl rfl)
theorem dX5_anew_1 : decode cX5_anew 1 = .ok (.istore_n 1, 1) := dk_60 (dk_at dksX5_anew_0 1 rfl rfl)
theorem dX5_anew_2 : decode cX5_anew 2 = .ok (.iconst 0, 1) := dk_3 (dk_at dksX5_anew_0 2 rfl rfl)
theorem dX5_anew_3 : decode cX5_anew 3 = .ok (.istore_n 2, 1) := dk_61 (dk_at dksX5_anew_0 3 rfl rfl)
theorem dX5_anew_4 : decode cX5_anew 4 = .ok (.iload_n 2, 1) := dk_28 (dk_at dksX5_anew_0 4 rfl rfl)
theorem dX5_anew_5 : decode cX5_anew 5 = .ok (.aload_n 0, 1) := dk_42 (dk_at dksX5_anew_0 5 rfl rfl)
theorem dX5_anew_6 : decode cX5_anew 6 = .ok (.getfield 105, 3) := dk_180 0 105 (dk_at dksX5_anew_0 6 rfl rfl)
theorem dX5_anew_9 : decode cX5_anew 9 = .ok (.if_icmp .ge 25, 3) := dk_162 0 25 (dk_at dksX5_anew_0 9 rfl rfl)
theorem dX5_anew_12 : decode cX5_anew 12 = .ok (.iload_n 1, 1) := dk_27 (dk_at dksX5_anew_0 12 rfl rfl)
theorem dX5_anew_13 : decode cX5_anew 13 = .ok (.aload_n 0, 1) := dk_42 (dk_at dksX5_anew_0 13 rfl rfl)
theorem dX5_anew_14 : decode cX5_anew 14 = .ok (.getfield 50, 3) := dk_180 0 50 (dk_at dksX5_anew_0 14 rfl rfl)
theorem dX5_anew_17 : decode cX5_anew 17 = .ok (.iload_n 2, 1) := dk_28 (dk_at dksX5_anew_0 17 rfl rfl)
theorem dX5_anew_18 : decode cX5_anew 18 = .ok (.iaload, 1) := dk_46 (dk_at dksX5_anew_0 18 rfl rfl)
theorem dX5_anew_19 : decode cX5_anew 19 = .ok (.iadd, 1) := dk_96 (dk_at dksX5_anew_0 19 rfl rfl)
theorem dX5_anew_20 : decode cX5_anew 20 = .ok (.istore_n 1, 1) := dk_60 (dk_at dksX5_anew_0 20 rfl rfl)
theorem dX5_anew_21 : decode cX5_anew 21 = .ok (.aload_n 0, 1) := dk_42 (dk_at dksX5_anew_0 21 rfl rfl)
theorem dX5_anew_22 : decode cX5_anew 22 = .ok (.getfield 50, 3) := dk_180 0 50 (dk_at dksX5_anew_1 0 rfl rfl)
theorem dX5_anew_25 : decode cX5_anew 25 = .ok (.iload_n 2, 1) := dk_28 (dk_at dksX5_anew_1 3 rfl rfl)
theorem dX5_anew_26 : decode cX5_anew 26 = .ok (.iconst 0, 1) := dk_3 (dk_at dksX5_anew_1 4 rfl rfl)
theorem dX5_anew_27 : decode cX5_anew 27 = .ok (.iastore, 1) := dk_79 (dk_at dksX5_anew_1 5 rfl rfl)
theorem dX5_anew_28 : decode cX5_anew 28 = .ok (.iinc 2 1, 3) := dk_132 2 1 (dk_at dksX5_anew_1 6 rfl rfl)
theorem dX5_anew_31 : decode cX5_anew 31 = .ok (.goto (-27), 3) := dk_167 255 229 (dk_at dksX5_anew_1 9 rfl rfl)
theorem dX5_anew_34 : decode cX5_anew 34 = .ok (.aload_n 0, 1) := dk_42 (dk_at dksX5_anew_1 12 rfl rfl)
theorem dX5_anew_35 : decode cX5_anew 35 = .ok (.iconst (-1), 1) := dk_2 (dk_at dksX5_anew_1 13 rfl rfl)
theorem dX5_anew_36 : decode cX5_anew 36 = .ok (.putfield 25, 3) := dk_181 0 25 (dk_at dksX5_anew_1 14 rfl rfl)
theorem dX5_anew_39 : decode cX5_anew 39 = .ok (.iload_n 1, 1) := dk_27 (dk_at dksX5_anew_1 17 rfl rfl)
theorem dX5_anew_40 : decode cX5_anew 40 = .ok (.ireturn, 1) := dk_172 (dk_at dksX5_anew_1 18 rfl rfl)
abbrev cX5_seed : ByteArray := prog_22_method_79_code
def yX5_seed : MethodName := ⟨RX5, "seed", "(I)I"⟩
def dkwX5_seed_0 : List UInt8 := [42, 180, 0, 28, 61, 42, 27, 181, 0, 28, 28, 172]
abbrev dktX5_seed_0 : List UInt8 := dkwX5_seed_0 ++ []
theorem dksX5_seed_0 : cX5_seed.data.toList.drop 0 = dktX5_seed_0 := by decide +kernel
theorem dX5_seed_0 : decode cX5_seed 0 = .ok (.aload_n 0, 1) := dk_42 (dk_at dksX5_seed_0 0 rfl rfl)
theorem dX5_seed_1 : decode cX5_seed 1 = .ok (.getfield 28, 3) := dk_180 0 28 (dk_at dksX5_seed_0 1 rfl rfl)
theorem dX5_seed_4 : decode cX5_seed 4 = .ok (.istore_n 2, 1) := dk_61 (dk_at dksX5_seed_0 4 rfl rfl)
theorem dX5_seed_5 : decode cX5_seed 5 = .ok (.aload_n 0, 1) := dk_42 (dk_at dksX5_seed_0 5 rfl rfl)
theorem dX5_seed_6 : decode cX5_seed 6 = .ok (.iload_n 1, 1) := dk_27 (dk_at dksX5_seed_0 6 rfl rfl)
theorem dX5_seed_7 : decode cX5_seed 7 = .ok (.putfield 28, 3) := dk_181 0 28 (dk_at dksX5_seed_0 7 rfl rfl)
theorem dX5_seed_10 : decode cX5_seed 10 = .ok (.iload_n 2, 1) := dk_28 (dk_at dksX5_seed_0 10 rfl rfl)
theorem dX5_seed_11 : decode cX5_seed 11 = .ok (.ireturn, 1) := dk_172 (dk_at dksX5_seed_0 11 rfl rfl)
abbrev cX5_act : ByteArray := prog_22_method_84_code
def yX5_act : MethodName := ⟨RX5, "act", "(III)I"⟩
def dkwX5_act_2 : List UInt8 := [167, 0, 9, 42, 27, 29, 182, 1, 55, 172]
abbrev dktX5_act_2 : List UInt8 := dkwX5_act_2 ++ []
def dkwX5_act_1 : List UInt8 := [28, 154, 0, 12, 42, 27, 29, 182, 1, 49, 167, 0, 23, 28, 4, 160, 0, 12, 42, 27, 29, 182, 1, 52]
abbrev dktX5_act_1 : List UInt8 := dkwX5_act_1 ++ dktX5_act_2
def dkwX5_act_0 : List UInt8 := [42, 3, 181, 1, 43, 42, 27, 182, 0, 116, 153, 0, 12, 28, 155, 0, 8, 28, 5, 164, 0, 5, 3, 172]
abbrev dktX5_act_0 : List UInt8 := dkwX5_act_0 ++ dktX5_act_1
theorem dksX5_act_0 : cX5_act.data.toList.drop 0 = dktX5_act_0 := by decide +kernel
theorem dksX5_act_1 : cX5_act.data.toList.drop 24 = dktX5_act_1 := dk_seg dksX5_act_0 24 rfl rfl
theorem dksX5_act_2 : cX5_act.data.toList.drop 48 = dktX5_act_2 := dk_seg dksX5_act_1 24 rfl rfl
theorem dX5_act_0 : decode cX5_act 0 = .ok (.aload_n 0, 1) := dk_42 (dk_at dksX5_act_0 0 rfl rfl)
theorem dX5_act_1 : decode cX5_act 1 = .ok (.iconst 0, 1) := dk_3 (dk_at dksX5_act_0 1 rfl rfl)
theorem dX5_act_2 : decode cX5_act 2 = .ok (.putfield 299, 3) := dk_181 1 43 (dk_at dksX5_act_0 2 rfl rfl)
theorem dX5_act_5 : decode cX5_act 5 = .ok (.aload_n 0, 1) := dk_42 (dk_at dksX5_act_0 5 rfl rfl)
theorem dX5_act_6 : decode cX5_act 6 = .ok (.iload_n 1, 1) := dk_27 (dk_at dksX5_act_0 6 rfl rfl)
theorem dX5_act_7 : decode cX5_act 7 = .ok (.invokevirtual 116, 3) := dk_182 0 116 (dk_at dksX5_act_0 7 rfl rfl)
theorem dX5_act_10 : decode cX5_act 10 = .ok (.ifCond .eq 12, 3) := dk_153 0 12 (dk_at dksX5_act_0 10 rfl rfl)
theorem dX5_act_13 : decode cX5_act 13 = .ok (.iload_n 2, 1) := dk_28 (dk_at dksX5_act_0 13 rfl rfl)
theorem dX5_act_14 : decode cX5_act 14 = .ok (.ifCond .lt 8, 3) := dk_155 0 8 (dk_at dksX5_act_0 14 rfl rfl)
theorem dX5_act_17 : decode cX5_act 17 = .ok (.iload_n 2, 1) := dk_28 (dk_at dksX5_act_0 17 rfl rfl)
theorem dX5_act_18 : decode cX5_act 18 = .ok (.iconst 2, 1) := dk_5 (dk_at dksX5_act_0 18 rfl rfl)
theorem dX5_act_19 : decode cX5_act 19 = .ok (.if_icmp .le 5, 3) := dk_164 0 5 (dk_at dksX5_act_0 19 rfl rfl)
theorem dX5_act_22 : decode cX5_act 22 = .ok (.iconst 0, 1) := dk_3 (dk_at dksX5_act_0 22 rfl rfl)
theorem dX5_act_23 : decode cX5_act 23 = .ok (.ireturn, 1) := dk_172 (dk_at dksX5_act_0 23 rfl rfl)
theorem dX5_act_24 : decode cX5_act 24 = .ok (.iload_n 2, 1) := dk_28 (dk_at dksX5_act_1 0 rfl rfl)
theorem dX5_act_25 : decode cX5_act 25 = .ok (.ifCond .ne 12, 3) := dk_154 0 12 (dk_at dksX5_act_1 1 rfl rfl)
theorem dX5_act_28 : decode cX5_act 28 = .ok (.aload_n 0, 1) := dk_42 (dk_at dksX5_act_1 4 rfl rfl)
theorem dX5_act_29 : decode cX5_act 29 = .ok (.iload_n 1, 1) := dk_27 (dk_at dksX5_act_1 5 rfl rfl)
theorem dX5_act_30 : decode cX5_act 30 = .ok (.iload_n 3, 1) := dk_29 (dk_at dksX5_act_1 6 rfl rfl)
theorem dX5_act_31 : decode cX5_act 31 = .ok (.invokevirtual 305, 3) := dk_182 1 49 (dk_at dksX5_act_1 7 rfl rfl)
theorem dX5_act_34 : decode cX5_act 34 = .ok (.goto 23, 3) := dk_167 0 23 (dk_at dksX5_act_1 10 rfl rfl)
theorem dX5_act_37 : decode cX5_act 37 = .ok (.iload_n 2, 1) := dk_28 (dk_at dksX5_act_1 13 rfl rfl)
theorem dX5_act_38 : decode cX5_act 38 = .ok (.iconst 1, 1) := dk_4 (dk_at dksX5_act_1 14 rfl rfl)
theorem dX5_act_39 : decode cX5_act 39 = .ok (.if_icmp .ne 12, 3) := dk_160 0 12 (dk_at dksX5_act_1 15 rfl rfl)
theorem dX5_act_42 : decode cX5_act 42 = .ok (.aload_n 0, 1) := dk_42 (dk_at dksX5_act_1 18 rfl rfl)
theorem dX5_act_43 : decode cX5_act 43 = .ok (.iload_n 1, 1) := dk_27 (dk_at dksX5_act_1 19 rfl rfl)
theorem dX5_act_44 : decode cX5_act 44 = .ok (.iload_n 3, 1) := dk_29 (dk_at dksX5_act_1 20 rfl rfl)
theorem dX5_act_45 : decode cX5_act 45 = .ok (.invokevirtual 308, 3) := dk_182 1 52 (dk_at dksX5_act_1 21 rfl rfl)
theorem dX5_act_48 : decode cX5_act 48 = .ok (.goto 9, 3) := dk_167 0 9 (dk_at dksX5_act_2 0 rfl rfl)
theorem dX5_act_51 : decode cX5_act 51 = .ok (.aload_n 0, 1) := dk_42 (dk_at dksX5_act_2 3 rfl rfl)
theorem dX5_act_52 : decode cX5_act 52 = .ok (.iload_n 1, 1) := dk_27 (dk_at dksX5_act_2 4 rfl rfl)
theorem dX5_act_53 : decode cX5_act 53 = .ok (.iload_n 3, 1) := dk_29 (dk_at dksX5_act_2 5 rfl rfl)
theorem dX5_act_54 : decode cX5_act 54 = .ok (.invokevirtual 311, 3) := dk_182 1 55 (dk_at dksX5_act_2 6 rfl rfl)
theorem dX5_act_57 : decode cX5_act 57 = .ok (.ireturn, 1) := dk_172 (dk_at dksX5_act_2 9 rfl rfl)
abbrev cX5_feeding : ByteArray := prog_22_method_81_code
def yX5_feeding : MethodName := ⟨RX5, "feeding", "(II)I"⟩
def dkwX5_feeding_5 : List UInt8 := [172]
abbrev dktX5_feeding_5 : List UInt8 := dkwX5_feeding_5 ++ []
def dkwX5_feeding_4 : List UInt8 := [160, 0, 9, 21, 4, 27, 100, 54, 4, 29, 16, 6, 160, 0, 10, 21, 4, 5, 104, 167, 0, 5, 21, 4]
abbrev dktX5_feeding_4 : List UInt8 := dkwX5_feeding_4 ++ dktX5_feeding_5
def dkwX5_feeding_3 : List UInt8 := [160, 0, 14, 21, 4, 42, 180, 0, 41, 27, 46, 96, 54, 4, 29, 7, 159, 0, 9, 29, 16, 6]
abbrev dktX5_feeding_3 : List UInt8 := dkwX5_feeding_3 ++ dktX5_feeding_4
def dkwX5_feeding_2 : List UInt8 := [16, 20, 182, 1, 46, 42, 16, 10, 182, 1, 46, 28, 27, 96, 54, 4, 29, 4, 159, 0, 8, 29, 6]
abbrev dktX5_feeding_2 : List UInt8 := dkwX5_feeding_2 ++ dktX5_feeding_3
def dkwX5_feeding_1 : List UInt8 := [29, 16, 6, 160, 0, 9, 42, 16, 51, 182, 1, 46, 29, 4, 159, 0, 8, 29, 6, 160, 0, 9, 42]
abbrev dktX5_feeding_1 : List UInt8 := dkwX5_feeding_1 ++ dktX5_feeding_2
def dkwX5_feeding_0 : List UInt8 := [42, 180, 0, 38, 27, 46, 62, 29, 16, 6, 160, 0, 9, 42, 16, 70, 182, 1, 46, 29, 7, 159, 0, 9]
abbrev dktX5_feeding_0 : List UInt8 := dkwX5_feeding_0 ++ dktX5_feeding_1
theorem dksX5_feeding_0 : cX5_feeding.data.toList.drop 0 = dktX5_feeding_0 := by decide +kernel
theorem dksX5_feeding_1 : cX5_feeding.data.toList.drop 24 = dktX5_feeding_1 := dk_seg dksX5_feeding_0 24 rfl rfl
theorem dksX5_feeding_2 : cX5_feeding.data.toList.drop 47 = dktX5_feeding_2 := dk_seg dksX5_feeding_1 23 rfl rfl
theorem dksX5_feeding_3 : cX5_feeding.data.toList.drop 70 = dktX5_feeding_3 := dk_seg dksX5_feeding_2 23 rfl rfl
theorem dksX5_feeding_4 : cX5_feeding.data.toList.drop 92 = dktX5_feeding_4 := dk_seg dksX5_feeding_3 22 rfl rfl
theorem dksX5_feeding_5 : cX5_feeding.data.toList.drop 116 = dktX5_feeding_5 := dk_seg dksX5_feeding_4 24 rfl rfl
theorem dX5_feeding_0 : decode cX5_feeding 0 = .ok (.aload_n 0, 1) := dk_42 (dk_at dksX5_feeding_0 0 rfl rfl)
theorem dX5_feeding_1 : decode cX5_feeding 1 = .ok (.getfield 38, 3) := dk_180 0 38 (dk_at dksX5_feeding_0 1 rfl rfl)
theorem dX5_feeding_4 : decode cX5_feeding 4 = .ok (.iload_n 1, 1) := dk_27 (dk_at dksX5_feeding_0 4 rfl rfl)
theorem dX5_feeding_5 : decode cX5_feeding 5 = .ok (.iaload, 1) := dk_46 (dk_at dksX5_feeding_0 5 rfl rfl)
theorem dX5_feeding_6 : decode cX5_feeding 6 = .ok (.istore_n 3, 1) := dk_62 (dk_at dksX5_feeding_0 6 rfl rfl)
theorem dX5_feeding_7 : decode cX5_feeding 7 = .ok (.iload_n 3, 1) := dk_29 (dk_at dksX5_feeding_0 7 rfl rfl)
theorem dX5_feeding_8 : decode cX5_feeding 8 = .ok (.bipush 6, 2) := dk_16 6 (dk_at dksX5_feeding_0 8 rfl rfl)
theorem dX5_feeding_10 : decode cX5_feeding 10 = .ok (.if_icmp .ne 9, 3) := dk_160 0 9 (dk_at dksX5_feeding_0 10 rfl rfl)
theorem dX5_feeding_13 : decode cX5_feeding 13 = .ok (.aload_n 0, 1) := dk_42 (dk_at dksX5_feeding_0 13 rfl rfl)
theorem dX5_feeding_14 : decode cX5_feeding 14 = .ok (.bipush 70, 2) := dk_16 70 (dk_at dksX5_feeding_0 14 rfl rfl)
theorem dX5_feeding_16 : decode cX5_feeding 16 = .ok (.invokevirtual 302, 3) := dk_182 1 46 (dk_at dksX5_feeding_0 16 rfl rfl)
theorem dX5_feeding_19 : decode cX5_feeding 19 = .ok (.iload_n 3, 1) := dk_29 (dk_at dksX5_feeding_0 19 rfl rfl)
theorem dX5_feeding_20 : decode cX5_feeding 20 = .ok (.iconst 4, 1) := dk_7 (dk_at dksX5_feeding_0 20 rfl rfl)
theorem dX5_feeding_21 : decode cX5_feeding 21 = .ok (.if_icmp .eq 9, 3) := dk_159 0 9 (dk_at dksX5_feeding_0 21 rfl rfl)
theorem dX5_feeding_24 : decode cX5_feeding 24 = .ok (.iload_n 3, 1) := dk_29 (dk_at dksX5_feeding_1 0 rfl rfl)
theorem dX5_feeding_25 : decode cX5_feeding 25 = .ok (.bipush 6, 2) := dk_16 6 (dk_at dksX5_feeding_1 1 rfl rfl)
theorem dX5_feeding_27 : decode cX5_feeding 27 = .ok (.if_icmp .ne 9, 3) := dk_160 0 9 (dk_at dksX5_feeding_1 3 rfl rfl)
theorem dX5_feeding_30 : decode cX5_feeding 30 = .ok (.aload_n 0, 1) := dk_42 (dk_at dksX5_feeding_1 6 rfl rfl)
theorem dX5_feeding_31 : decode cX5_feeding 31 = .ok (.bipush 51, 2) := dk_16 51 (dk_at dksX5_feeding_1 7 rfl rfl)
theorem dX5_feeding_33 : decode cX5_feeding 33 = .ok (.invokevirtual 302, 3) := dk_182 1 46 (dk_at dksX5_feeding_1 9 rfl rfl)
theorem dX5_feeding_36 : decode cX5_feeding 36 = .ok (.iload_n 3, 1) := dk_29 (dk_at dksX5_feeding_1 12 rfl rfl)
theorem dX5_feeding_37 : decode cX5_feeding 37 = .ok (.iconst 1, 1) := dk_4 (dk_at dksX5_feeding_1 13 rfl rfl)
theorem dX5_feeding_38 : decode cX5_feeding 38 = .ok (.if_icmp .eq 8, 3) := dk_159 0 8 (dk_at dksX5_feeding_1 14 rfl rfl)
theorem dX5_feeding_41 : decode cX5_feeding 41 = .ok (.iload_n 3, 1) := dk_29 (dk_at dksX5_feeding_1 17 rfl rfl)
theorem dX5_feeding_42 : decode cX5_feeding 42 = .ok (.iconst 3, 1) := dk_6 (dk_at dksX5_feeding_1 18 rfl rfl)
theorem dX5_feeding_43 : decode cX5_feeding 43 = .ok (.if_icmp .ne 9, 3) := dk_160 0 9 (dk_at dksX5_feeding_1 19 rfl rfl)
theorem dX5_feeding_46 : decode cX5_feeding 46 = .ok (.aload_n 0, 1) := dk_42 (dk_at dksX5_feeding_1 22 rfl rfl)
theorem dX5_feeding_47 : decode cX5_feeding 47 = .ok (.bipush 20, 2) := dk_16 20 (dk_at dksX5_feeding_2 0 rfl rfl)
theorem dX5_feeding_49 : decode cX5_feeding 49 = .ok (.invokevirtual 302, 3) := dk_182 1 46 (dk_at dksX5_feeding_2 2 rfl rfl)
theorem dX5_feeding_52 : decode cX5_feeding 52 = .ok (.aload_n 0, 1) := dk_42 (dk_at dksX5_feeding_2 5 rfl rfl)
theorem dX5_feeding_53 : decode cX5_feeding 53 = .ok (.bipush 10, 2) := dk_16 10 (dk_at dksX5_feeding_2 6 rfl rfl)
theorem dX5_feeding_55 : decode cX5_feeding 55 = .ok (.invokevirtual 302, 3) := dk_182 1 46 (dk_at dksX5_feeding_2 8 rfl rfl)
theorem dX5_feeding_58 : decode cX5_feeding 58 = .ok (.iload_n 2, 1) := dk_28 (dk_at dksX5_feeding_2 11 rfl rfl)
theorem dX5_feeding_59 : decode cX5_feeding 59 = .ok (.iload_n 1, 1) := dk_27 (dk_at dksX5_feeding_2 12 rfl rfl)
theorem dX5_feeding_60 : decode cX5_feeding 60 = .ok (.iadd, 1) := dk_96 (dk_at dksX5_feeding_2 13 rfl rfl)
theorem dX5_feeding_61 : decode cX5_feeding 61 = .ok (.istore 4, 2) := dk_54 4 (dk_at dksX5_feeding_2 14 rfl rfl)
theorem dX5_feeding_63 : decode cX5_feeding 63 = .ok (.iload_n 3, 1) := dk_29 (dk_at dksX5_feeding_2 16 rfl rfl)
theorem dX5_feeding_64 : decode cX5_feeding 64 = .ok (.iconst 1, 1) := dk_4 (dk_at dksX5_feeding_2 17 rfl rfl)
theorem dX5_feeding_65 : decode cX5_feeding 65 = .ok (.if_icmp .eq 8, 3) := dk_159 0 8 (dk_at dksX5_feeding_2 18 rfl rfl)
theorem dX5_feeding_68 : decode cX5_feeding 68 = .ok (.iload_n 3, 1) := dk_29 (dk_at dksX5_feeding_2 21 rfl rfl)
theorem dX5_feeding_69 : decode cX5_feeding 69 = .ok (.iconst 3, 1) := dk_6 (dk_at dksX5_feeding_2 22 rfl rfl)
theorem dX5_feeding_70 : decode cX5_feeding 70 = .ok (.if_icmp .ne 14, 3) := dk_160 0 14 (dk_at dksX5_feeding_3 0 rfl rfl)
theorem dX5_feeding_73 : decode cX5_feeding 73 = .ok (.iload 4, 2) := dk_21 4 (dk_at dksX5_feeding_3 3 rfl rfl)
theorem dX5_feeding_75 : decode cX5_feeding 75 = .ok (.aload_n 0, 1) := dk_42 (dk_at dksX5_feeding_3 5 rfl rfl)
theorem dX5_feeding_76 : decode cX5_feeding 76 = .ok (.getfield 41, 3) := dk_180 0 41 (dk_at dksX5_feeding_3 6 rfl rfl)
theorem dX5_feeding_79 : decode cX5_feeding 79 = .ok (.iload_n 1, 1) := dk_27 (dk_at dksX5_feeding_3 9 rfl rfl)
theorem dX5_feeding_80 : decode cX5_feeding 80 = .ok (.iaload, 1) := dk_46 (dk_at dksX5_feeding_3 10 rfl rfl)
theorem dX5_feeding_81 : decode cX5_feeding 81 = .ok (.iadd, 1) := dk_96 (dk_at dksX5_feeding_3 11 rfl rfl)
theorem dX5_feeding_82 : decode cX5_feeding 82 = .ok (.istore 4, 2) := dk_54 4 (dk_at dksX5_feeding_3 12 rfl rfl)
theorem dX5_feeding_84 : decode cX5_feeding 84 = .ok (.iload_n 3, 1) := dk_29 (dk_at dksX5_feeding_3 14 rfl rfl)
theorem dX5_feeding_85 : decode cX5_feeding 85 = .ok (.iconst 4, 1) := dk_7 (dk_at dksX5_feeding_3 15 rfl rfl)
theorem dX5_feeding_86 : decode cX5_feeding 86 = .ok (.if_icmp .eq 9, 3) := dk_159 0 9 (dk_at dksX5_feeding_3 16 rfl rfl)
theorem dX5_feeding_89 : decode cX5_feeding 89 = .ok (.iload_n 3, 1) := dk_29 (dk_at dksX5_feeding_3 19 rfl rfl)
theorem dX5_feeding_90 : decode cX5_feeding 90 = .ok (.bipush 6, 2) := dk_16 6 (dk_at dksX5_feeding_3 20 rfl rfl)
theorem dX5_feeding_92 : decode cX5_feeding 92 = .ok (.if_icmp .ne 9, 3) := dk_160 0 9 (dk_at dksX5_feeding_4 0 rfl rfl)
theorem dX5_feeding_95 : decode cX5_feeding 95 = .ok (.iload 4, 2) := dk_21 4 (dk_at dksX5_feeding_4 3 rfl rfl)
theorem dX5_feeding_97 : decode cX5_feeding 97 = .ok (.iload_n 1, 1) := dk_27 (dk_at dksX5_feeding_4 5 rfl rfl)
theorem dX5_feeding_98 : decode cX5_feeding 98 = .ok (.isub, 1) := dk_100 (dk_at dksX5_feeding_4 6 rfl rfl)
theorem dX5_feeding_99 : decode cX5_feeding 99 = .ok (.istore 4, 2) := dk_54 4 (dk_at dksX5_feeding_4 7 rfl rfl)
theorem dX5_feeding_101 : decode cX5_feeding 101 = .ok (.iload_n 3, 1) := dk_29 (dk_at dksX5_feeding_4 9 rfl rfl)
theorem dX5_feeding_102 : decode cX5_feeding 102 = .ok (.bipush 6, 2) := dk_16 6 (dk_at dksX5_feeding_4 10 rfl rfl)
theorem dX5_feeding_104 : decode cX5_feeding 104 = .ok (.if_icmp .ne 10, 3) := dk_160 0 10 (dk_at dksX5_feeding_4 12 rfl rfl)
theorem dX5_feeding_107 : decode cX5_feeding 107 = .ok (.iload 4, 2) := dk_21 4 (dk_at dksX5_feeding_4 15 rfl rfl)
theorem dX5_feeding_109 : decode cX5_feeding 109 = .ok (.iconst 2, 1) := dk_5 (dk_at dksX5_feeding_4 17 rfl rfl)
theorem dX5_feeding_110 : decode cX5_feeding 110 = .ok (.imul, 1) := dk_104 (dk_at dksX5_feeding_4 18 rfl rfl)
theorem dX5_feeding_111 : decode cX5_feeding 111 = .ok (.goto 5, 3) := dk_167 0 5 (dk_at dksX5_feeding_4 19 rfl rfl)
theorem dX5_feeding_114 : decode cX5_feeding 114 = .ok (.iload 4, 2) := dk_21 4 (dk_at dksX5_feeding_4 22 rfl rfl)
theorem dX5_feeding_116 : decode cX5_feeding 116 = .ok (.ireturn, 1) := dk_172 (dk_at dksX5_feeding_5 0 rfl rfl)
abbrev cX5_body : ByteArray := prog_22_method_80_code
def yX5_body : MethodName := ⟨RX5, "body", "(I)V"⟩
def dkwX5_body_1 : List UInt8 := [4, 96, 181, 1, 43, 177]
abbrev dktX5_body_1 : List UInt8 := dkwX5_body_1 ++ []
def dkwX5_body_0 : List UInt8 := [42, 180, 1, 43, 16, 20, 162, 0, 13, 42, 180, 0, 102, 42, 180, 1, 43, 27, 79, 42, 89, 180, 1, 43]
abbrev dktX5_body_0 : List UInt8 := dkwX5_body_0 ++ dktX5_body_1
theorem dksX5_body_0 : cX5_body.data.toList.drop 0 = dktX5_body_0 := by decide +kernel
theorem dksX5_body_1 : cX5_body.data.toList.drop 24 = dktX5_body_1 := dk_seg dksX5_body_0 24 rfl rfl
theorem dX5_body_0 : decode cX5_body 0 = .ok (.aload_n 0, 1) := dk_42 (dk_at dksX5_body_0 0 rfl rfl)
theorem dX5_body_1 : decode cX5_body 1 = .ok (.getfield 299, 3) := dk_180 1 43 (dk_at dksX5_body_0 1 rfl rfl)
theorem dX5_body_4 : decode cX5_body 4 = .ok (.bipush 20, 2) := dk_16 20 (dk_at dksX5_body_0 4 rfl rfl)
theorem dX5_body_6 : decode cX5_body 6 = .ok (.if_icmp .ge 13, 3) := dk_162 0 13 (dk_at dksX5_body_0 6 rfl rfl)
theorem dX5_body_9 : decode cX5_body 9 = .ok (.aload_n 0, 1) := dk_42 (dk_at dksX5_body_0 9 rfl rfl)
theorem dX5_body_10 : decode cX5_body 10 = .ok (.getfield 102, 3) := dk_180 0 102 (dk_at dksX5_body_0 10 rfl rfl)
theorem dX5_body_13 : decode cX5_body 13 = .ok (.aload_n 0, 1) := dk_42 (dk_at dksX5_body_0 13 rfl rfl)
theorem dX5_body_14 : decode cX5_body 14 = .ok (.getfield 299, 3) := dk_180 1 43 (dk_at dksX5_body_0 14 rfl rfl)
theorem dX5_body_17 : decode cX5_body 17 = .ok (.iload_n 1, 1) := dk_27 (dk_at dksX5_body_0 17 rfl rfl)
theorem dX5_body_18 : decode cX5_body 18 = .ok (.iastore, 1) := dk_79 (dk_at dksX5_body_0 18 rfl rfl)
theorem dX5_body_19 : decode cX5_body 19 = .ok (.aload_n 0, 1) := dk_42 (dk_at dksX5_body_0 19 rfl rfl)
theorem dX5_body_20 : decode cX5_body 20 = .ok (.dup, 1) := dk_89 (dk_at dksX5_body_0 20 rfl rfl)
theorem dX5_body_21 : decode cX5_body 21 = .ok (.getfield 299, 3) := dk_180 1 43 (dk_at dksX5_body_0 21 rfl rfl)
theorem dX5_body_24 : decode cX5_body 24 = .ok (.iconst 1, 1) := dk_4 (dk_at dksX5_body_1 0 rfl rfl)
theorem dX5_body_25 : decode cX5_body 25 = .ok (.iadd, 1) := dk_96 (dk_at dksX5_body_1 1 rfl rfl)
theorem dX5_body_26 : decode cX5_body 26 = .ok (.putfield 299, 3) := dk_181 1 43 (dk_at dksX5_body_1 2 rfl rfl)
theorem dX5_body_29 : decode cX5_body 29 = .ok (.return_, 1) := dk_177 (dk_at dksX5_body_1 5 rfl rfl)
abbrev cX5_weighing : ByteArray := prog_22_method_82_code
def yX5_weighing : MethodName := ⟨RX5, "weighing", "(II)I"⟩
def dkwX5_weighing_4 : List UInt8 := [153, 0, 10, 21, 6, 6, 104, 167, 0, 5, 21, 6, 172]
abbrev dktX5_weighing_4 : List UInt8 := dkwX5_weighing_4 ++ []
def dkwX5_weighing_3 : List UInt8 := [16, 30, 182, 1, 46, 42, 16, 11, 182, 1, 46, 42, 27, 21, 4, 182, 1, 49, 5, 104, 54, 6, 21, 5]
abbrev dktX5_weighing_3 : List UInt8 := dkwX5_weighing_3 ++ dktX5_weighing_4
def dkwX5_weighing_2 : List UInt8 := [29, 5, 159, 0, 8, 29, 8, 160, 0, 7, 4, 167, 0, 4, 3, 54, 5, 21, 5, 153, 0, 9, 42]
abbrev dktX5_weighing_2 : List UInt8 := dkwX5_weighing_2 ++ dktX5_weighing_3
def dkwX5_weighing_1 : List UInt8 := [180, 0, 41, 27, 46, 100, 54, 4, 29, 6, 160, 0, 14, 42, 16, 40, 182, 1, 46, 28, 4, 96, 54, 4]
abbrev dktX5_weighing_1 : List UInt8 := dkwX5_weighing_1 ++ dktX5_weighing_2
def dkwX5_weighing_0 : List UInt8 := [42, 180, 0, 38, 27, 46, 62, 28, 54, 4, 29, 16, 6, 160, 0, 19, 42, 16, 71, 182, 1, 46, 28, 42]
abbrev dktX5_weighing_0 : List UInt8 := dkwX5_weighing_0 ++ dktX5_weighing_1
theorem dksX5_weighing_0 : cX5_weighing.data.toList.drop 0 = dktX5_weighing_0 := by decide +kernel
theorem dksX5_weighing_1 : cX5_weighing.data.toList.drop 24 = dktX5_weighing_1 := dk_seg dksX5_weighing_0 24 rfl rfl
theorem dksX5_weighing_2 : cX5_weighing.data.toList.drop 48 = dktX5_weighing_2 := dk_seg dksX5_weighing_1 24 rfl rfl
theorem dksX5_weighing_3 : cX5_weighing.data.toList.drop 71 = dktX5_weighing_3 := dk_seg dksX5_weighing_2 23 rfl rfl
theorem dksX5_weighing_4 : cX5_weighing.data.toList.drop 95 = dktX5_weighing_4 := dk_seg dksX5_weighing_3 24 rfl rfl
theorem dX5_weighing_0 : decode cX5_weighing 0 = .ok (.aload_n 0, 1) := dk_42 (dk_at dksX5_weighing_0 0 rfl rfl)
theorem dX5_weighing_1 : decode cX5_weighing 1 = .ok (.getfield 38, 3) := dk_180 0 38 (dk_at dksX5_weighing_0 1 rfl rfl)
theorem dX5_weighing_4 : decode cX5_weighing 4 = .ok (.iload_n 1, 1) := dk_27 (dk_at dksX5_weighing_0 4 rfl rfl)
theorem dX5_weighing_5 : decode cX5_weighing 5 = .ok (.iaload, 1) := dk_46 (dk_at dksX5_weighing_0 5 rfl rfl)
theorem dX5_weighing_6 : decode cX5_weighing 6 = .ok (.istore_n 3, 1) := dk_62 (dk_at dksX5_weighing_0 6 rfl rfl)
theorem dX5_weighing_7 : decode cX5_weighing 7 = .ok (.iload_n 2, 1) := dk_28 (dk_at dksX5_weighing_0 7 rfl rfl)
theorem dX5_weighing_8 : decode cX5_weighing 8 = .ok (.istore 4, 2) := dk_54 4 (dk_at dksX5_weighing_0 8 rfl rfl)
theorem dX5_weighing_10 : decode cX5_weighing 10 = .ok (.iload_n 3, 1) := dk_29 (dk_at dksX5_weighing_0 10 rfl rfl)
theorem dX5_weighing_11 : decode cX5_weighing 11 = .ok (.bipush 6, 2) := dk_16 6 (dk_at dksX5_weighing_0 11 rfl rfl)
theorem dX5_weighing_13 : decode cX5_weighing 13 = .ok (.if_icmp .ne 19, 3) := dk_160 0 19 (dk_at dksX5_weighing_0 13 rfl rfl)
theorem dX5_weighing_16 : decode cX5_weighing 16 = .ok (.aload_n 0, 1) := dk_42 (dk_at dksX5_weighing_0 16 rfl rfl)
theorem dX5_weighing_17 : decode cX5_weighing 17 = .ok (.bipush 71, 2) := dk_16 71 (dk_at dksX5_weighing_0 17 rfl rfl)
theorem dX5_weighing_19 : decode cX5_weighing 19 = .ok (.invokevirtual 302, 3) := dk_182 1 46 (dk_at dksX5_weighing_0 19 rfl rfl)
theorem dX5_weighing_22 : decode cX5_weighing 22 = .ok (.iload_n 2, 1) := dk_28 (dk_at dksX5_weighing_0 22 rfl rfl)
theorem dX5_weighing_23 : decode cX5_weighing 23 = .ok (.aload_n 0, 1) := dk_42 (dk_at dksX5_weighing_0 23 rfl rfl)
theorem dX5_weighing_24 : decode cX5_weighing 24 = .ok (.getfield 41, 3) := dk_180 0 41 (dk_at dksX5_weighing_1 0 rfl rfl)
theorem dX5_weighing_27 : decode cX5_weighing 27 = .ok (.iload_n 1, 1) := dk_27 (dk_at dksX5_weighing_1 3 rfl rfl)
theorem dX5_weighing_28 : decode cX5_weighing 28 = .ok (.iaload, 1) := dk_46 (dk_at dksX5_weighing_1 4 rfl rfl)
theorem dX5_weighing_29 : decode cX5_weighing 29 = .ok (.isub, 1) := dk_100 (dk_at dksX5_weighing_1 5 rfl rfl)
theorem dX5_weighing_30 : decode cX5_weighing 30 = .ok (.istore 4, 2) := dk_54 4 (dk_at dksX5_weighing_1 6 rfl rfl)
theorem dX5_weighing_32 : decode cX5_weighing 32 = .ok (.iload_n 3, 1) := dk_29 (dk_at dksX5_weighing_1 8 rfl rfl)
theorem dX5_weighing_33 : decode cX5_weighing 33 = .ok (.iconst 3, 1) := dk_6 (dk_at dksX5_weighing_1 9 rfl rfl)
theorem dX5_weighing_34 : decode cX5_weighing 34 = .ok (.if_icmp .ne 14, 3) := dk_160 0 14 (dk_at dksX5_weighing_1 10 rfl rfl)
theorem dX5_weighing_37 : decode cX5_weighing 37 = .ok (.aload_n 0, 1) := dk_42 (dk_at dksX5_weighing_1 13 rfl rfl)
theorem dX5_weighing_38 : decode cX5_weighing 38 = .ok (.bipush 40, 2) := dk_16 40 (dk_at dksX5_weighing_1 14 rfl rfl)
theorem dX5_weighing_40 : decode cX5_weighing 40 = .ok (.invokevirtual 302, 3) := dk_182 1 46 (dk_at dksX5_weighing_1 16 rfl rfl)
theorem dX5_weighing_43 : decode cX5_weighing 43 = .ok (.iload_n 2, 1) := dk_28 (dk_at dksX5_weighing_1 19 rfl rfl)
theorem dX5_weighing_44 : decode cX5_weighing 44 = .ok (.iconst 1, 1) := dk_4 (dk_at dksX5_weighing_1 20 rfl rfl)
theorem dX5_weighing_45 : decode cX5_weighing 45 = .ok (.iadd, 1) := dk_96 (dk_at dksX5_weighing_1 21 rfl rfl)
theorem dX5_weighing_46 : decode cX5_weighing 46 = .ok (.istore 4, 2) := dk_54 4 (dk_at dksX5_weighing_1 22 rfl rfl)
theorem dX5_weighing_48 : decode cX5_weighing 48 = .ok (.iload_n 3, 1) := dk_29 (dk_at dksX5_weighing_2 0 rfl rfl)
theorem dX5_weighing_49 : decode cX5_weighing 49 = .ok (.iconst 2, 1) := dk_5 (dk_at dksX5_weighing_2 1 rfl rfl)
theorem dX5_weighing_50 : decode cX5_weighing 50 = .ok (.if_icmp .eq 8, 3) := dk_159 0 8 (dk_at dksX5_weighing_2 2 rfl rfl)
theorem dX5_weighing_53 : decode cX5_weighing 53 = .ok (.iload_n 3, 1) := dk_29 (dk_at dksX5_weighing_2 5 rfl rfl)
theorem dX5_weighing_54 : decode cX5_weighing 54 = .ok (.iconst 5, 1) := dk_8 (dk_at dksX5_weighing_2 6 rfl rfl)
theorem dX5_weighing_55 : decode cX5_weighing 55 = .ok (.if_icmp .ne 7, 3) := dk_160 0 7 (dk_at dksX5_weighing_2 7 rfl rfl)
theorem dX5_weighing_58 : decode cX5_weighing 58 = .ok (.iconst 1, 1) := dk_4 (dk_at dksX5_weighing_2 10 rfl rfl)
theorem dX5_weighing_59 : decode cX5_weighing 59 = .ok (.goto 4, 3) := dk_167 0 4 (dk_at dksX5_weighing_2 11 rfl rfl)
theorem dX5_weighing_62 : decode cX5_weighing 62 = .ok (.iconst 0, 1) := dk_3 (dk_at dksX5_weighing_2 14 rfl rfl)
theorem dX5_weighing_63 : decode cX5_weighing 63 = .ok (.istore 5, 2) := dk_54 5 (dk_at dksX5_weighing_2 15 rfl rfl)
theorem dX5_weighing_65 : decode cX5_weighing 65 = .ok (.iload 5, 2) := dk_21 5 (dk_at dksX5_weighing_2 17 rfl rfl)
theorem dX5_weighing_67 : decode cX5_weighing 67 = .ok (.ifCond .eq 9, 3) := dk_153 0 9 (dk_at dksX5_weighing_2 19 rfl rfl)
theorem dX5_weighing_70 : decode cX5_weighing 70 = .ok (.aload_n 0, 1) := dk_42 (dk_at dksX5_weighing_2 22 rfl rfl)
theorem dX5_weighing_71 : decode cX5_weighing 71 = .ok (.bipush 30, 2) := dk_16 30 (dk_at dksX5_weighing_3 0 rfl rfl)
theorem dX5_weighing_73 : decode cX5_weighing 73 = .ok (.invokevirtual 302, 3) := dk_182 1 46 (dk_at dksX5_weighing_3 2 rfl rfl)
theorem dX5_weighing_76 : decode cX5_weighing 76 = .ok (.aload_n 0, 1) := dk_42 (dk_at dksX5_weighing_3 5 rfl rfl)
theorem dX5_weighing_77 : decode cX5_weighing 77 = .ok (.bipush 11, 2) := dk_16 11 (dk_at dksX5_weighing_3 6 rfl rfl)
theorem dX5_weighing_79 : decode cX5_weighing 79 = .ok (.invokevirtual 302, 3) := dk_182 1 46 (dk_at dksX5_weighing_3 8 rfl rfl)
theorem dX5_weighing_82 : decode cX5_weighing 82 = .ok (.aload_n 0, 1) := dk_42 (dk_at dksX5_weighing_3 11 rfl rfl)
theorem dX5_weighing_83 : decode cX5_weighing 83 = .ok (.iload_n 1, 1) := dk_27 (dk_at dksX5_weighing_3 12 rfl rfl)
theorem dX5_weighing_84 : decode cX5_weighing 84 = .ok (.iload 4, 2) := dk_21 4 (dk_at dksX5_weighing_3 13 rfl rfl)
theorem dX5_weighing_86 : decode cX5_weighing 86 = .ok (.invokevirtual 305, 3) := dk_182 1 49 (dk_at dksX5_weighing_3 15 rfl rfl)
theorem dX5_weighing_89 : decode cX5_weighing 89 = .ok (.iconst 2, 1) := dk_5 (dk_at dksX5_weighing_3 18 rfl rfl)
theorem dX5_weighing_90 : decode cX5_weighing 90 = .ok (.imul, 1) := dk_104 (dk_at dksX5_weighing_3 19 rfl rfl)
theorem dX5_weighing_91 : decode cX5_weighing 91 = .ok (.istore 6, 2) := dk_54 6 (dk_at dksX5_weighing_3 20 rfl rfl)
theorem dX5_weighing_93 : decode cX5_weighing 93 = .ok (.iload 5, 2) := dk_21 5 (dk_at dksX5_weighing_3 22 rfl rfl)
theorem dX5_weighing_95 : decode cX5_weighing 95 = .ok (.ifCond .eq 10, 3) := dk_153 0 10 (dk_at dksX5_weighing_4 0 rfl rfl)
theorem dX5_weighing_98 : decode cX5_weighing 98 = .ok (.iload 6, 2) := dk_21 6 (dk_at dksX5_weighing_4 3 rfl rfl)
theorem dX5_weighing_100 : decode cX5_weighing 100 = .ok (.iconst 3, 1) := dk_6 (dk_at dksX5_weighing_4 5 rfl rfl)
theorem dX5_weighing_101 : decode cX5_weighing 101 = .ok (.imul, 1) := dk_104 (dk_at dksX5_weighing_4 6 rfl rfl)
theorem dX5_weighing_102 : decode cX5_weighing 102 = .ok (.goto 5, 3) := dk_167 0 5 (dk_at dksX5_weighing_4 7 rfl rfl)
theorem dX5_weighing_105 : decode cX5_weighing 105 = .ok (.iload 6, 2) := dk_21 6 (dk_at dksX5_weighing_4 10 rfl rfl)
theorem dX5_weighing_107 : decode cX5_weighing 107 = .ok (.ireturn, 1) := dk_172 (dk_at dksX5_weighing_4 12 rfl rfl)
abbrev cX5_writing : ByteArray := prog_22_method_83_code
def yX5_writing : MethodName := ⟨RX5, "writing", "(II)I"⟩
def dkwX5_writing_4 : List UInt8 := [167, 0, 5, 21, 4, 172]
abbrev dktX5_writing_4 : List UInt8 := dkwX5_writing_4 ++ []
def dkwX5_writing_3 : List UInt8 := [159, 0, 9, 29, 16, 6, 160, 0, 9, 21, 4, 116, 167, 0, 17, 29, 8, 160, 0, 10, 21, 4, 8, 130]
abbrev dktX5_writing_3 : List UInt8 := dkwX5_writing_3 ++ dktX5_writing_4
def dkwX5_writing_2 : List UInt8 := [54, 4, 21, 4, 42, 27, 28, 42, 180, 0, 41, 27, 46, 100, 182, 1, 49, 130, 54, 4, 29, 7]
abbrev dktX5_writing_2 : List UInt8 := dkwX5_writing_2 ++ dktX5_writing_3
def dkwX5_writing_1 : List UInt8 := [29, 8, 160, 0, 9, 42, 16, 60, 182, 1, 46, 42, 16, 12, 182, 1, 46, 42, 27, 28, 182, 1, 52]
abbrev dktX5_writing_1 : List UInt8 := dkwX5_writing_1 ++ dktX5_writing_2
def dkwX5_writing_0 : List UInt8 := [42, 180, 0, 38, 27, 46, 62, 29, 7, 159, 0, 9, 29, 16, 6, 160, 0, 9, 42, 16, 50, 182, 1, 46]
abbrev dktX5_writing_0 : List UInt8 := dkwX5_writing_0 ++ dktX5_writing_1
theorem dksX5_writing_0 : cX5_writing.data.toList.drop 0 = dktX5_writing_0 := by decide +kernel
theorem dksX5_writing_1 : cX5_writing.data.toList.drop 24 = dktX5_writing_1 := dk_seg dksX5_writing_0 24 rfl rfl
theorem dksX5_writing_2 : cX5_writing.data.toList.drop 47 = dktX5_writing_2 := dk_seg dksX5_writing_1 23 rfl rfl
theorem dksX5_writing_3 : cX5_writing.data.toList.drop 69 = dktX5_writing_3 := dk_seg dksX5_writing_2 22 rfl rfl
theorem dksX5_writing_4 : cX5_writing.data.toList.drop 93 = dktX5_writing_4 := dk_seg dksX5_writing_3 24 rfl rfl
theorem dX5_writing_0 : decode cX5_writing 0 = .ok (.aload_n 0, 1) := dk_42 (dk_at dksX5_writing_0 0 rfl rfl)
theorem dX5_writing_1 : decode cX5_writing 1 = .ok (.getfield 38, 3) := dk_180 0 38 (dk_at dksX5_writing_0 1 rfl rfl)
theorem dX5_writing_4 : decode cX5_writing 4 = .ok (.iload_n 1, 1) := dk_27 (dk_at dksX5_writing_0 4 rfl rfl)
theorem dX5_writing_5 : decode cX5_writing 5 = .ok (.iaload, 1) := dk_46 (dk_at dksX5_writing_0 5 rfl rfl)
theorem dX5_writing_6 : decode cX5_writing 6 = .ok (.istore_n 3, 1) := dk_62 (dk_at dksX5_writing_0 6 rfl rfl)
theorem dX5_writing_7 : decode cX5_writing 7 = .ok (.iload_n 3, 1) := dk_29 (dk_at dksX5_writing_0 7 rfl rfl)
theorem dX5_writing_8 : decode cX5_writing 8 = .ok (.iconst 4, 1) := dk_7 (dk_at dksX5_writing_0 8 rfl rfl)
theorem dX5_writing_9 : decode cX5_writing 9 = .ok (.if_icmp .eq 9, 3) := dk_159 0 9 (dk_at dksX5_writing_0 9 rfl rfl)
theorem dX5_writing_12 : decode cX5_writing 12 = .ok (.iload_n 3, 1) := dk_29 (dk_at dksX5_writing_0 12 rfl rfl)
theorem dX5_writing_13 : decode cX5_writing 13 = .ok (.bipush 6, 2) := dk_16 6 (dk_at dksX5_writing_0 13 rfl rfl)
theorem dX5_writing_15 : decode cX5_writing 15 = .ok (.if_icmp .ne 9, 3) := dk_160 0 9 (dk_at dksX5_writing_0 15 rfl rfl)
theorem dX5_writing_18 : decode cX5_writing 18 = .ok (.aload_n 0, 1) := dk_42 (dk_at dksX5_writing_0 18 rfl rfl)
theorem dX5_writing_19 : decode cX5_writing 19 = .ok (.bipush 50, 2) := dk_16 50 (dk_at dksX5_writing_0 19 rfl rfl)
theorem dX5_writing_21 : decode cX5_writing 21 = .ok (.invokevirtual 302, 3) := dk_182 1 46 (dk_at dksX5_writing_0 21 rfl rfl)
theorem dX5_writing_24 : decode cX5_writing 24 = .ok (.iload_n 3, 1) := dk_29 (dk_at dksX5_writing_1 0 rfl rfl)
theorem dX5_writing_25 : decode cX5_writing 25 = .ok (.iconst 5, 1) := dk_8 (dk_at dksX5_writing_1 1 rfl rfl)
theorem dX5_writing_26 : decode cX5_writing 26 = .ok (.if_icmp .ne 9, 3) := dk_160 0 9 (dk_at dksX5_writing_1 2 rfl rfl)
theorem dX5_writing_29 : decode cX5_writing 29 = .ok (.aload_n 0, 1) := dk_42 (dk_at dksX5_writing_1 5 rfl rfl)
theorem dX5_writing_30 : decode cX5_writing 30 = .ok (.bipush 60, 2) := dk_16 60 (dk_at dksX5_writing_1 6 rfl rfl)
theorem dX5_writing_32 : decode cX5_writing 32 = .ok (.invokevirtual 302, 3) := dk_182 1 46 (dk_at dksX5_writing_1 8 rfl rfl)
theorem dX5_writing_35 : decode cX5_writing 35 = .ok (.aload_n 0, 1) := dk_42 (dk_at dksX5_writing_1 11 rfl rfl)
theorem dX5_writing_36 : decode cX5_writing 36 = .ok (.bipush 12, 2) := dk_16 12 (dk_at dksX5_writing_1 12 rfl rfl)
theorem dX5_writing_38 : decode cX5_writing 38 = .ok (.invokevirtual 302, 3) := dk_182 1 46 (dk_at dksX5_writing_1 14 rfl rfl)
theorem dX5_writing_41 : decode cX5_writing 41 = .ok (.aload_n 0, 1) := dk_42 (dk_at dksX5_writing_1 17 rfl rfl)
theorem dX5_writing_42 : decode cX5_writing 42 = .ok (.iload_n 1, 1) := dk_27 (dk_at dksX5_writing_1 18 rfl rfl)
theorem dX5_writing_43 : decode cX5_writing 43 = .ok (.iload_n 2, 1) := dk_28 (dk_at dksX5_writing_1 19 rfl rfl)
theorem dX5_writing_44 : decode cX5_writing 44 = .ok (.invokevirtual 308, 3) := dk_182 1 52 (dk_at dksX5_writing_1 20 rfl rfl)
theorem dX5_writing_47 : decode cX5_writing 47 = .ok (.istore 4, 2) := dk_54 4 (dk_at dksX5_writing_2 0 rfl rfl)
theorem dX5_writing_49 : decode cX5_writing 49 = .ok (.iload 4, 2) := dk_21 4 (dk_at dksX5_writing_2 2 rfl rfl)
theorem dX5_writing_51 : decode cX5_writing 51 = .ok (.aload_n 0, 1) := dk_42 (dk_at dksX5_writing_2 4 rfl rfl)
theorem dX5_writing_52 : decode cX5_writing 52 = .ok (.iload_n 1, 1) := dk_27 (dk_at dksX5_writing_2 5 rfl rfl)
theorem dX5_writing_53 : decode cX5_writing 53 = .ok (.iload_n 2, 1) := dk_28 (dk_at dksX5_writing_2 6 rfl rfl)
theorem dX5_writing_54 : decode cX5_writing 54 = .ok (.aload_n 0, 1) := dk_42 (dk_at dksX5_writing_2 7 rfl rfl)
theorem dX5_writing_55 : decode cX5_writing 55 = .ok (.getfield 41, 3) := dk_180 0 41 (dk_at dksX5_writing_2 8 rfl rfl)
theorem dX5_writing_58 : decode cX5_writing 58 = .ok (.iload_n 1, 1) := dk_27 (dk_at dksX5_writing_2 11 rfl rfl)
theorem dX5_writing_59 : decode cX5_writing 59 = .ok (.iaload, 1) := dk_46 (dk_at dksX5_writing_2 12 rfl rfl)
theorem dX5_writing_60 : decode cX5_writing 60 = .ok (.isub, 1) := dk_100 (dk_at dksX5_writing_2 13 rfl rfl)
theorem dX5_writing_61 : decode cX5_writing 61 = .ok (.invokevirtual 305, 3) := dk_182 1 49 (dk_at dksX5_writing_2 14 rfl rfl)
theorem dX5_writing_64 : decode cX5_writing 64 = .ok (.ixor, 1) := dk_130 (dk_at dksX5_writing_2 17 rfl rfl)
theorem dX5_writing_65 : decode cX5_writing 65 = .ok (.istore 4, 2) := dk_54 4 (dk_at dksX5_writing_2 18 rfl rfl)
theorem dX5_writing_67 : decode cX5_writing 67 = .ok (.iload_n 3, 1) := dk_29 (dk_at dksX5_writing_2 20 rfl rfl)
theorem dX5_writing_68 : decode cX5_writing 68 = .ok (.iconst 4, 1) := dk_7 (dk_at dksX5_writing_2 21 rfl rfl)
theorem dX5_writing_69 : decode cX5_writing 69 = .ok (.if_icmp .eq 9, 3) := dk_159 0 9 (dk_at dksX5_writing_3 0 rfl rfl)
theorem dX5_writing_72 : decode cX5_writing 72 = .ok (.iload_n 3, 1) := dk_29 (dk_at dksX5_writing_3 3 rfl rfl)
theorem dX5_writing_73 : decode cX5_writing 73 = .ok (.bipush 6, 2) := dk_16 6 (dk_at dksX5_writing_3 4 rfl rfl)
theorem dX5_writing_75 : decode cX5_writing 75 = .ok (.if_icmp .ne 9, 3) := dk_160 0 9 (dk_at dksX5_writing_3 6 rfl rfl)
theorem dX5_writing_78 : decode cX5_writing 78 = .ok (.iload 4, 2) := dk_21 4 (dk_at dksX5_writing_3 9 rfl rfl)
theorem dX5_writing_80 : decode cX5_writing 80 = .ok (.ineg, 1) := dk_116 (dk_at dksX5_writing_3 11 rfl rfl)
theorem dX5_writing_81 : decode cX5_writing 81 = .ok (.goto 17, 3) := dk_167 0 17 (dk_at dksX5_writing_3 12 rfl rfl)
theorem dX5_writing_84 : decode cX5_writing 84 = .ok (.iload_n 3, 1) := dk_29 (dk_at dksX5_writing_3 15 rfl rfl)
theorem dX5_writing_85 : decode cX5_writing 85 = .ok (.iconst 5, 1) := dk_8 (dk_at dksX5_writing_3 16 rfl rfl)
theorem dX5_writing_86 : decode cX5_writing 86 = .ok (.if_icmp .ne 10, 3) := dk_160 0 10 (dk_at dksX5_writing_3 17 rfl rfl)
theorem dX5_writing_89 : decode cX5_writing 89 = .ok (.iload 4, 2) := dk_21 4 (dk_at dksX5_writing_3 20 rfl rfl)
theorem dX5_writing_91 : decode cX5_writing 91 = .ok (.iconst 5, 1) := dk_8 (dk_at dksX5_writing_3 22 rfl rfl)
theorem dX5_writing_92 : decode cX5_writing 92 = .ok (.ixor, 1) := dk_130 (dk_at dksX5_writing_3 23 rfl rfl)
theorem dX5_writing_93 : decode cX5_writing 93 = .ok (.goto 5, 3) := dk_167 0 5 (dk_at dksX5_writing_4 0 rfl rfl)
theorem dX5_writing_96 : decode cX5_writing 96 = .ok (.iload 4, 2) := dk_21 4 (dk_at dksX5_writing_4 3 rfl rfl)
theorem dX5_writing_98 : decode cX5_writing 98 = .ok (.ireturn, 1) := dk_172 (dk_at dksX5_writing_4 5 rfl rfl)
abbrev cX5_trace : ByteArray := prog_22_method_85_code
def yX5_trace : MethodName := ⟨RX5, "trace", "(I)I"⟩
def dkwX5_trace_1 : List UInt8 := [167, 0, 4, 2, 172]
abbrev dktX5_trace_1 : List UInt8 := dkwX5_trace_1 ++ []
def dkwX5_trace_0 : List UInt8 := [27, 155, 0, 26, 27, 16, 20, 162, 0, 20, 27, 42, 180, 1, 43, 162, 0, 12, 42, 180, 0, 102, 27, 46]
abbrev dktX5_trace_0 : List UInt8 := dkwX5_trace_0 ++ dktX5_trace_1
theorem dksX5_trace_0 : cX5_trace.data.toList.drop 0 = dktX5_trace_0 := by decide +kernel
theorem dksX5_trace_1 : cX5_trace.data.toList.drop 24 = dktX5_trace_1 := dk_seg dksX5_trace_0 24 rfl rfl
theorem dX5_trace_0 : decode cX5_trace 0 = .ok (.iload_n 1, 1) := dk_27 (dk_at dksX5_trace_0 0 rfl rfl)
theorem dX5_trace_1 : decode cX5_trace 1 = .ok (.ifCond .lt 26, 3) := dk_155 0 26 (dk_at dksX5_trace_0 1 rfl rfl)
theorem dX5_trace_4 : decode cX5_trace 4 = .ok (.iload_n 1, 1) := dk_27 (dk_at dksX5_trace_0 4 rfl rfl)
theorem dX5_trace_5 : decode cX5_trace 5 = .ok (.bipush 20, 2) := dk_16 20 (dk_at dksX5_trace_0 5 rfl rfl)
theorem dX5_trace_7 : decode cX5_trace 7 = .ok (.if_icmp .ge 20, 3) := dk_162 0 20 (dk_at dksX5_trace_0 7 rfl rfl)
theorem dX5_trace_10 : decode cX5_trace 10 = .ok (.iload_n 1, 1) := dk_27 (dk_at dksX5_trace_0 10 rfl rfl)
theorem dX5_trace_11 : decode cX5_trace 11 = .ok (.aload_n 0, 1) := dk_42 (dk_at dksX5_trace_0 11 rfl rfl)
theorem dX5_trace_12 : decode cX5_trace 12 = .ok (.getfield 299, 3) := dk_180 1 43 (dk_at dksX5_trace_0 12 rfl rfl)
theorem dX5_trace_15 : decode cX5_trace 15 = .ok (.if_icmp .ge 12, 3) := dk_162 0 12 (dk_at dksX5_trace_0 15 rfl rfl)
theorem dX5_trace_18 : decode cX5_trace 18 = .ok (.aload_n 0, 1) := dk_42 (dk_at dksX5_trace_0 18 rfl rfl)
theorem dX5_trace_19 : decode cX5_trace 19 = .ok (.getfield 102, 3) := dk_180 0 102 (dk_at dksX5_trace_0 19 rfl rfl)
theorem dX5_trace_22 : decode cX5_trace 22 = .ok (.iload_n 1, 1) := dk_27 (dk_at dksX5_trace_0 22 rfl rfl)
theorem dX5_trace_23 : decode cX5_trace 23 = .ok (.iaload, 1) := dk_46 (dk_at dksX5_trace_0 23 rfl rfl)
theorem dX5_trace_24 : decode cX5_trace 24 = .ok (.goto 4, 3) := dk_167 0 4 (dk_at dksX5_trace_1 0 rfl rfl)
theorem dX5_trace_27 : decode cX5_trace 27 = .ok (.iconst (-1), 1) := dk_2 (dk_at dksX5_trace_1 3 rfl rfl)
theorem dX5_trace_28 : decode cX5_trace 28 = .ok (.ireturn, 1) := dk_172 (dk_at dksX5_trace_1 4 rfl rfl)
abbrev cX5_image : ByteArray := prog_22_method_86_code
def yX5_image : MethodName := ⟨RX5, "image", "()I"⟩
def dkwX5_image_0 : List UInt8 := [42, 4, 181, 1, 58, 42, 42, 180, 0, 90, 3, 182, 0, 188, 42, 180, 0, 105, 172]
abbrev dktX5_image_0 : List UInt8 := dkwX5_image_0 ++ []
theorem dksX5_image_0 : cX5_image.data.toList.drop 0 = dktX5_image_0 := by decide +kernel
theorem dX5_image_0 : decode cX5_image 0 = .ok (.aload_n 0, 1) := dk_42 (dk_at dksX5_image_0 0 rfl rfl)
theorem dX5_image_1 : decode cX5_image 1 = .ok (.iconst 1, 1) := dk_4 (dk_at dksX5_image_0 1 rfl rfl)
theorem dX5_image_2 : decode cX5_image 2 = .ok (.putfield 314, 3) := dk_181 1 58 (dk_at dksX5_image_0 2 rfl rfl)
theorem dX5_image_5 : decode cX5_image 5 = .ok (.aload_n 0, 1) := dk_42 (dk_at dksX5_image_0 5 rfl rfl)
theorem dX5_image_6 : decode cX5_image 6 = .ok (.aload_n 0, 1) := dk_42 (dk_at dksX5_image_0 6 rfl rfl)
theorem dX5_image_7 : decode cX5_image 7 = .ok (.getfield 90, 3) := dk_180 0 90 (dk_at dksX5_image_0 7 rfl rfl)
theorem dX5_image_10 : decode cX5_image 10 = .ok (.iconst 0, 1) := dk_3 (dk_at dksX5_image_0 10 rfl rfl)
theorem dX5_image_11 : decode cX5_image 11 = .ok (.invokevirtual 188, 3) := dk_182 0 188 (dk_at dksX5_image_0 11 rfl rfl)
theorem dX5_image_14 : decode cX5_image 14 = .ok (.aload_n 0, 1) := dk_42 (dk_at dksX5_image_0 14 rfl rfl)
theorem dX5_image_15 : decode cX5_image 15 = .ok (.getfield 105, 3) := dk_180 0 105 (dk_at dksX5_image_0 15 rfl rfl)
theorem dX5_image_18 : decode cX5_image 18 = .ok (.ireturn, 1) := dk_172 (dk_at dksX5_image_0 18 rfl rfl)
abbrev cX5_restore : ByteArray := prog_22_method_87_code
def yX5_restore : MethodName := ⟨RX5, "restore", "()I"⟩
def dkwX5_restore_2 : List UInt8 := [180, 0, 105, 161, 0, 10, 42, 180, 0, 56, 27, 3, 79, 132, 1, 1, 167, 255, 217, 42, 180, 0, 105, 172]
abbrev dktX5_restore_2 : List UInt8 := dkwX5_restore_2 ++ []
def dkwX5_restore_1 : List UInt8 := [60, 27, 16, 8, 162, 0, 39, 42, 180, 0, 56, 27, 46, 5, 160, 0, 23, 42, 180, 0, 65, 27, 46, 42]
abbrev dktX5_restore_1 : List UInt8 := dkwX5_restore_1 ++ dktX5_restore_2
def dkwX5_restore_0 : List UInt8 := [42, 180, 1, 58, 154, 0, 10, 42, 16, 250, 182, 0, 112, 172, 42, 42, 180, 0, 90, 4, 182, 0, 188, 3]
abbrev dktX5_restore_0 : List UInt8 := dkwX5_restore_0 ++ dktX5_restore_1
theorem dksX5_restore_0 : cX5_restore.data.toList.drop 0 = dktX5_restore_0 := by decide +kernel
theorem dksX5_restore_1 : cX5_restore.data.toList.drop 24 = dktX5_restore_1 := dk_seg dksX5_restore_0 24 rfl rfl
theorem dksX5_restore_2 : cX5_restore.data.toList.drop 48 = dktX5_restore_2 := dk_seg dksX5_restore_1 24 rfl rfl
theorem dX5_restore_0 : decode cX5_restore 0 = .ok (.aload_n 0, 1) := dk_42 (dk_at dksX5_restore_0 0 rfl rfl)
theorem dX5_restore_1 : decode cX5_restore 1 = .ok (.getfield 314, 3) := dk_180 1 58 (dk_at dksX5_restore_0 1 rfl rfl)
theorem dX5_restore_4 : decode cX5_restore 4 = .ok (.ifCond .ne 10, 3) := dk_154 0 10 (dk_at dksX5_restore_0 4 rfl rfl)
theorem dX5_restore_7 : decode cX5_restore 7 = .ok (.aload_n 0, 1) := dk_42 (dk_at dksX5_restore_0 7 rfl rfl)
theorem dX5_restore_8 : decode cX5_restore 8 = .ok (.bipush (-6), 2) := dk_16 250 (dk_at dksX5_restore_0 8 rfl rfl)
theorem dX5_restore_10 : decode cX5_restore 10 = .ok (.invokevirtual 112, 3) := dk_182 0 112 (dk_at dksX5_restore_0 10 rfl rfl)
theorem dX5_restore_13 : decode cX5_restore 13 = .ok (.ireturn, 1) := dk_172 (dk_at dksX5_restore_0 13 rfl rfl)
theorem dX5_restore_14 : decode cX5_restore 14 = .ok (.aload_n 0, 1) := dk_42 (dk_at dksX5_restore_0 14 rfl rfl)
theorem dX5_restore_15 : decode cX5_restore 15 = .ok (.aload_n 0, 1) := dk_42 (dk_at dksX5_restore_0 15 rfl rfl)
theorem dX5_restore_16 : decode cX5_restore 16 = .ok (.getfield 90, 3) := dk_180 0 90 (dk_at dksX5_restore_0 16 rfl rfl)
theorem dX5_restore_19 : decode cX5_restore 19 = .ok (.iconst 1, 1) := dk_4 (dk_at dksX5_restore_0 19 rfl rfl)
theorem dX5_restore_20 : decode cX5_restore 20 = .ok (.invokevirtual 188, 3) := dk_182 0 188 (dk_at dksX5_restore_0 20 rfl rfl)
theorem dX5_restore_23 : decode cX5_restore 23 = .ok (.iconst 0, 1) := dk_3 (dk_at dksX5_restore_0 23 rfl rfl)
theorem dX5_restore_24 : decode cX5_restore 24 = .ok (.istore_n 1, 1) := dk_60 (dk_at dksX5_restore_1 0 rfl rfl)
theorem dX5_restore_25 : decode cX5_restore 25 = .ok (.iload_n 1, 1) := dk_27 (dk_at dksX5_restore_1 1 rfl rfl)
theorem dX5_restore_26 : decode cX5_restore 26 = .ok (.bipush 8, 2) := dk_16 8 (dk_at dksX5_restore_1 2 rfl rfl)
theorem dX5_restore_28 : decode cX5_restore 28 = .ok (.if_icmp .ge 39, 3) := dk_162 0 39 (dk_at dksX5_restore_1 4 rfl rfl)
theorem dX5_restore_31 : decode cX5_restore 31 = .ok (.aload_n 0, 1) := dk_42 (dk_at dksX5_restore_1 7 rfl rfl)
theorem dX5_restore_32 : decode cX5_restore 32 = .ok (.getfield 56, 3) := dk_180 0 56 (dk_at dksX5_restore_1 8 rfl rfl)
theorem dX5_restore_35 : decode cX5_restore 35 = .ok (.iload_n 1, 1) := dk_27 (dk_at dksX5_restore_1 11 rfl rfl)
theorem dX5_restore_36 : decode cX5_restore 36 = .ok (.iaload, 1) := dk_46 (dk_at dksX5_restore_1 12 rfl rfl)
theorem dX5_restore_37 : decode cX5_restore 37 = .ok (.iconst 2, 1) := dk_5 (dk_at dksX5_restore_1 13 rfl rfl)
theorem dX5_restore_38 : decode cX5_restore 38 = .ok (.if_icmp .ne 23, 3) := dk_160 0 23 (dk_at dksX5_restore_1 14 rfl rfl)
theorem dX5_restore_41 : decode cX5_restore 41 = .ok (.aload_n 0, 1) := dk_42 (dk_at dksX5_restore_1 17 rfl rfl)
theorem dX5_restore_42 : decode cX5_restore 42 = .ok (.getfield 65, 3) := dk_180 0 65 (dk_at dksX5_restore_1 18 rfl rfl)
theorem dX5_restore_45 : decode cX5_restore 45 = .ok (.iload_n 1, 1) := dk_27 (dk_at dksX5_restore_1 21 rfl rfl)
theorem dX5_restore_46 : decode cX5_restore 46 = .ok (.iaload, 1) := dk_46 (dk_at dksX5_restore_1 22 rfl rfl)
theorem dX5_restore_47 : decode cX5_restore 47 = .ok (.aload_n 0, 1) := dk_42 (dk_at dksX5_restore_1 23 rfl rfl)
theorem dX5_restore_48 : decode cX5_restore 48 = .ok (.getfield 105, 3) := dk_180 0 105 (dk_at dksX5_restore_2 0 rfl rfl)
theorem dX5_restore_51 : decode cX5_restore 51 = .ok (.if_icmp .lt 10, 3) := dk_161 0 10 (dk_at dksX5_restore_2 3 rfl rfl)
theorem dX5_restore_54 : decode cX5_restore 54 = .ok (.aload_n 0, 1) := dk_42 (dk_at dksX5_restore_2 6 rfl rfl)
theorem dX5_restore_55 : decode cX5_restore 55 = .ok (.getfield 56, 3) := dk_180 0 56 (dk_at dksX5_restore_2 7 rfl rfl)
theorem dX5_restore_58 : decode cX5_restore 58 = .ok (.iload_n 1, 1) := dk_27 (dk_at dksX5_restore_2 10 rfl rfl)
theorem dX5_restore_59 : decode cX5_restore 59 = .ok (.iconst 0, 1) := dk_3 (dk_at dksX5_restore_2 11 rfl rfl)
theorem dX5_restore_60 : decode cX5_restore 60 = .ok (.iastore, 1) := dk_79 (dk_at dksX5_restore_2 12 rfl rfl)
theorem dX5_restore_61 : decode cX5_restore 61 = .ok (.iinc 1 1, 3) := dk_132 1 1 (dk_at dksX5_restore_2 13 rfl rfl)
theorem dX5_restore_64 : decode cX5_restore 64 = .ok (.goto (-39), 3) := dk_167 255 217 (dk_at dksX5_restore_2 16 rfl rfl)
theorem dX5_restore_67 : decode cX5_restore 67 = .ok (.aload_n 0, 1) := dk_42 (dk_at dksX5_restore_2 19 rfl rfl)
theorem dX5_restore_68 : decode cX5_restore 68 = .ok (.getfield 105, 3) := dk_180 0 105 (dk_at dksX5_restore_2 20 rfl rfl)
theorem dX5_restore_71 : decode cX5_restore 71 = .ok (.ireturn, 1) := dk_172 (dk_at dksX5_restore_2 23 rfl rfl)
abbrev cX5_status : ByteArray := prog_22_method_88_code
def yX5_status : MethodName := ⟨RX5, "status", "(I)I"⟩
def dkwX5_status_5 : List UInt8 := [167, 0, 4, 2, 172]
abbrev dktX5_status_5 : List UInt8 := dkwX5_status_5 ++ []
def dkwX5_status_4 : List UInt8 := [172, 42, 180, 1, 43, 172, 27, 5, 161, 0, 19, 27, 16, 7, 163, 0, 13, 42, 27, 5, 100, 182, 0, 136]
abbrev dktX5_status_4 : List UInt8 := dkwX5_status_4 ++ dktX5_status_5
def dkwX5_status_3 : List UInt8 := [42, 180, 0, 105, 172, 42, 182, 0, 249, 172, 42, 180, 0, 13, 172, 42, 180, 0, 25, 172, 42, 180, 0, 28]
abbrev dktX5_status_3 : List UInt8 := dkwX5_status_3 ++ dktX5_status_4
def dkwX5_status_2 : List UInt8 := [171, 0, 0, 0, 0, 0, 89, 0, 0, 0, 6, 0, 0, 0, 0, 0, 0, 0, 59, 0, 0, 0, 1, 0, 0, 0, 64, 0, 0, 0, 8, 0, 0, 0, 69, 0, 0, 0, 9, 0, 0, 0, 74, 0, 0, 0, 10, 0, 0, 0, 79, 0, 0, 0, 21, 0, 0, 0, 84]
abbrev dktX5_status_2 : List UInt8 := dkwX5_status_2 ++ dktX5_status_3
def dkwX5_status_1 : List UInt8 := [16, 18, 161, 0, 19, 27, 16, 20, 163, 0, 13, 42, 180, 0, 53, 27, 16, 18, 100, 46, 172, 27]
abbrev dktX5_status_1 : List UInt8 := dkwX5_status_1 ++ dktX5_status_2
def dkwX5_status_0 : List UInt8 := [27, 16, 11, 161, 0, 19, 27, 16, 17, 163, 0, 13, 42, 180, 0, 34, 27, 16, 10, 100, 46, 172, 27]
abbrev dktX5_status_0 : List UInt8 := dkwX5_status_0 ++ dktX5_status_1
theorem dksX5_status_0 : cX5_status.data.toList.drop 0 = dktX5_status_0 := by decide +kernel
theorem dksX5_status_1 : cX5_status.data.toList.drop 23 = dktX5_status_1 := dk_seg dksX5_status_0 23 rfl rfl
theorem dksX5_status_2 : cX5_status.data.toList.drop 45 = dktX5_status_2 := dk_seg dksX5_status_1 22 rfl rfl
theorem dksX5_status_3 : cX5_status.data.toList.drop 104 = dktX5_status_3 := dk_seg dksX5_status_2 59 rfl rfl
theorem dksX5_status_4 : cX5_status.data.toList.drop 128 = dktX5_status_4 := dk_seg dksX5_status_3 24 rfl rfl
theorem dksX5_status_5 : cX5_status.data.toList.drop 152 = dktX5_status_5 := dk_seg dksX5_status_4 24 rfl rfl
theorem dX5_status_0 : decode cX5_status 0 = .ok (.iload_n 1, 1) := dk_27 (dk_at dksX5_status_0 0 rfl rfl)
theorem dX5_status_1 : decode cX5_status 1 = .ok (.bipush 11, 2) := dk_16 11 (dk_at dksX5_status_0 1 rfl rfl)
theorem dX5_status_3 : decode cX5_status 3 = .ok (.if_icmp .lt 19, 3) := dk_161 0 19 (dk_at dksX5_status_0 3 rfl rfl)
theorem dX5_status_6 : decode cX5_status 6 = .ok (.iload_n 1, 1) := dk_27 (dk_at dksX5_status_0 6 rfl rfl)
theorem dX5_status_7 : decode cX5_status 7 = .ok (.bipush 17, 2) := dk_16 17 (dk_at dksX5_status_0 7 rfl rfl)
theorem dX5_status_9 : decode cX5_status 9 = .ok (.if_icmp .gt 13, 3) := dk_163 0 13 (dk_at dksX5_status_0 9 rfl rfl)
theorem dX5_status_12 : decode cX5_status 12 = .ok (.aload_n 0, 1) := dk_42 (dk_at dksX5_status_0 12 rfl rfl)
theorem dX5_status_13 : decode cX5_status 13 = .ok (.getfield 34, 3) := dk_180 0 34 (dk_at dksX5_status_0 13 rfl rfl)
theorem dX5_status_16 : decode cX5_status 16 = .ok (.iload_n 1, 1) := dk_27 (dk_at dksX5_status_0 16 rfl rfl)
theorem dX5_status_17 : decode cX5_status 17 = .ok (.bipush 10, 2) := dk_16 10 (dk_at dksX5_status_0 17 rfl rfl)
theorem dX5_status_19 : decode cX5_status 19 = .ok (.isub, 1) := dk_100 (dk_at dksX5_status_0 19 rfl rfl)
theorem dX5_status_20 : decode cX5_status 20 = .ok (.iaload, 1) := dk_46 (dk_at dksX5_status_0 20 rfl rfl)
theorem dX5_status_21 : decode cX5_status 21 = .ok (.ireturn, 1) := dk_172 (dk_at dksX5_status_0 21 rfl rfl)
theorem dX5_status_22 : decode cX5_status 22 = .ok (.iload_n 1, 1) := dk_27 (dk_at dksX5_status_0 22 rfl rfl)
theorem dX5_status_23 : decode cX5_status 23 = .ok (.bipush 18, 2) := dk_16 18 (dk_at dksX5_status_1 0 rfl rfl)
theorem dX5_status_25 : decode cX5_status 25 = .ok (.if_icmp .lt 19, 3) := dk_161 0 19 (dk_at dksX5_status_1 2 rfl rfl)
theorem dX5_status_28 : decode cX5_status 28 = .ok (.iload_n 1, 1) := dk_27 (dk_at dksX5_status_1 5 rfl rfl)
theorem dX5_status_29 : decode cX5_status 29 = .ok (.bipush 20, 2) := dk_16 20 (dk_at dksX5_status_1 6 rfl rfl)
theorem dX5_status_31 : decode cX5_status 31 = .ok (.if_icmp .gt 13, 3) := dk_163 0 13 (dk_at dksX5_status_1 8 rfl rfl)
theorem dX5_status_34 : decode cX5_status 34 = .ok (.aload_n 0, 1) := dk_42 (dk_at dksX5_status_1 11 rfl rfl)
theorem dX5_status_35 : decode cX5_status 35 = .ok (.getfield 53, 3) := dk_180 0 53 (dk_at dksX5_status_1 12 rfl rfl)
theorem dX5_status_38 : decode cX5_status 38 = .ok (.iload_n 1, 1) := dk_27 (dk_at dksX5_status_1 15 rfl rfl)
theorem dX5_status_39 : decode cX5_status 39 = .ok (.bipush 18, 2) := dk_16 18 (dk_at dksX5_status_1 16 rfl rfl)
theorem dX5_status_41 : decode cX5_status 41 = .ok (.isub, 1) := dk_100 (dk_at dksX5_status_1 18 rfl rfl)
theorem dX5_status_42 : decode cX5_status 42 = .ok (.iaload, 1) := dk_46 (dk_at dksX5_status_1 19 rfl rfl)
theorem dX5_status_43 : decode cX5_status 43 = .ok (.ireturn, 1) := dk_172 (dk_at dksX5_status_1 20 rfl rfl)
theorem dX5_status_44 : decode cX5_status 44 = .ok (.iload_n 1, 1) := dk_27 (dk_at dksX5_status_1 21 rfl rfl)
theorem dX5_status_45 : decode cX5_status 45 = .ok (.lookupswitch 89 #[(0, 59), (1, 64), (8, 69), (9, 74), (10, 79), (21, 84)], 59) := by decide +kernel
theorem dX5_status_104 : decode cX5_status 104 = .ok (.aload_n 0, 1) := dk_42 (dk_at dksX5_status_3 0 rfl rfl)
theorem dX5_status_105 : decode cX5_status 105 = .ok (.getfield 105, 3) := dk_180 0 105 (dk_at dksX5_status_3 1 rfl rfl)
theorem dX5_status_108 : decode cX5_status 108 = .ok (.ireturn, 1) := dk_172 (dk_at dksX5_status_3 4 rfl rfl)
theorem dX5_status_109 : decode cX5_status 109 = .ok (.aload_n 0, 1) := dk_42 (dk_at dksX5_status_3 5 rfl rfl)
theorem dX5_status_110 : decode cX5_status 110 = .ok (.invokevirtual 249, 3) := dk_182 0 249 (dk_at dksX5_status_3 6 rfl rfl)
theorem dX5_status_113 : decode cX5_status 113 = .ok (.ireturn, 1) := dk_172 (dk_at dksX5_status_3 9 rfl rfl)
theorem dX5_status_114 : decode cX5_status 114 = .ok (.aload_n 0, 1) := dk_42 (dk_at dksX5_status_3 10 rfl rfl)
theorem dX5_status_115 : decode cX5_status 115 = .ok (.getfield 13, 3) := dk_180 0 13 (dk_at dksX5_status_3 11 rfl rfl)
theorem dX5_status_118 : decode cX5_status 118 = .ok (.ireturn, 1) := dk_172 (dk_at dksX5_status_3 14 rfl rfl)
theorem dX5_status_119 : decode cX5_status 119 = .ok (.aload_n 0, 1) := dk_42 (dk_at dksX5_status_3 15 rfl rfl)
theorem dX5_status_120 : decode cX5_status 120 = .ok (.getfield 25, 3) := dk_180 0 25 (dk_at dksX5_status_3 16 rfl rfl)
theorem dX5_status_123 : decode cX5_status 123 = .ok (.ireturn, 1) := dk_172 (dk_at dksX5_status_3 19 rfl rfl)
theorem dX5_status_124 : decode cX5_status 124 = .ok (.aload_n 0, 1) := dk_42 (dk_at dksX5_status_3 20 rfl rfl)
theorem dX5_status_125 : decode cX5_status 125 = .ok (.getfield 28, 3) := dk_180 0 28 (dk_at dksX5_status_3 21 rfl rfl)
theorem dX5_status_128 : decode cX5_status 128 = .ok (.ireturn, 1) := dk_172 (dk_at dksX5_status_4 0 rfl rfl)
theorem dX5_status_129 : decode cX5_status 129 = .ok (.aload_n 0, 1) := dk_42 (dk_at dksX5_status_4 1 rfl rfl)
theorem dX5_status_130 : decode cX5_status 130 = .ok (.getfield 299, 3) := dk_180 1 43 (dk_at dksX5_status_4 2 rfl rfl)
theorem dX5_status_133 : decode cX5_status 133 = .ok (.ireturn, 1) := dk_172 (dk_at dksX5_status_4 5 rfl rfl)
theorem dX5_status_134 : decode cX5_status 134 = .ok (.iload_n 1, 1) := dk_27 (dk_at dksX5_status_4 6 rfl rfl)
theorem dX5_status_135 : decode cX5_status 135 = .ok (.iconst 2, 1) := dk_5 (dk_at dksX5_status_4 7 rfl rfl)
theorem dX5_status_136 : decode cX5_status 136 = .ok (.if_icmp .lt 19, 3) := dk_161 0 19 (dk_at dksX5_status_4 8 rfl rfl)
theorem dX5_status_139 : decode cX5_status 139 = .ok (.iload_n 1, 1) := dk_27 (dk_at dksX5_status_4 11 rfl rfl)
theorem dX5_status_140 : decode cX5_status 140 = .ok (.bipush 7, 2) := dk_16 7 (dk_at dksX5_status_4 12 rfl rfl)
theorem dX5_status_142 : decode cX5_status 142 = .ok (.if_icmp .gt 13, 3) := dk_163 0 13 (dk_at dksX5_status_4 14 rfl rfl)
theorem dX5_status_145 : decode cX5_status 145 = .ok (.aload_n 0, 1) := dk_42 (dk_at dksX5_status_4 17 rfl rfl)
theorem dX5_status_146 : decode cX5_status 146 = .ok (.iload_n 1, 1) := dk_27 (dk_at dksX5_status_4 18 rfl rfl)
theorem dX5_status_147 : decode cX5_status 147 = .ok (.iconst 2, 1) := dk_5 (dk_at dksX5_status_4 19 rfl rfl)
theorem dX5_status_148 : decode cX5_status 148 = .ok (.isub, 1) := dk_100 (dk_at dksX5_status_4 20 rfl rfl)
theorem dX5_status_149 : decode cX5_status 149 = .ok (.invokevirtual 136, 3) := dk_182 0 136 (dk_at dksX5_status_4 21 rfl rfl)
theorem dX5_status_152 : decode cX5_status 152 = .ok (.goto 4, 3) := dk_167 0 4 (dk_at dksX5_status_5 0 rfl rfl)
theorem dX5_status_155 : decode cX5_status 155 = .ok (.iconst (-1), 1) := dk_2 (dk_at dksX5_status_5 3 rfl rfl)
theorem dX5_status_156 : decode cX5_status 156 = .ok (.ireturn, 1) := dk_172 (dk_at dksX5_status_5 4 rfl rfl)
theorem q85 : (Jvm.Cond.initialized "HamsterWeekendsModel") ∈ lw_all := lw_g (lw_at lw_m1 6 rfl) rfl
theorem q1322 : (Jvm.Cond.instantiable "HamsterWeekendsModel" (49 : Nat)) ∈ lw_all := lw_g (lw_at lw_m6 43 rfl) rfl
theorem q1324 : (Jvm.Cond.instanceMethod ({ cls := "HamsterWeekendsModel", name := "<init>", desc := "()V" } : Jvm.MethodName)) ∈ lw_all := lw_g (lw_at lw_m6 45 rfl) rfl
theorem q1325 : (Jvm.Cond.code ({ cls := "HamsterWeekendsModel", name := "<init>", desc := "()V" } : Jvm.MethodName) prog_22_method_1_code (1 : Nat) (Option.none : Option Jvm.ClassFile.FieldType)) ∈ lw_all := lw_g (lw_at lw_m6 46 rfl) rfl
theorem q1326 : (Jvm.Cond.methodLink "HamsterWeekendsModel" (1 : Nat) ({ cls := "java/lang/Object", name := "<init>", desc := "()V" } : Jvm.MethodName)) ∈ lw_all := lw_g (lw_at lw_m6 47 rfl) rfl
theorem q1327 : (Jvm.Cond.fieldLink "HamsterWeekendsModel" (105 : Nat) "HamsterWeekendsModel" "many" "I") ∈ lw_all := lw_g (lw_at lw_m6 48 rfl) rfl
theorem q1328 : (Jvm.Cond.fieldLink "HamsterWeekendsModel" (7 : Nat) "HamsterWeekendsModel" "weight" "I") ∈ lw_all := lw_g (lw_at lw_m6 49 rfl) rfl
theorem q1329 : (Jvm.Cond.fieldLink "HamsterWeekendsModel" (126 : Nat) "HamsterWeekendsModel" "fright" "I") ∈ lw_all := lw_g (lw_at lw_m6 50 rfl) rfl
theorem q1330 : (Jvm.Cond.fieldLink "HamsterWeekendsModel" (129 : Nat) "HamsterWeekendsModel" "age" "I") ∈ lw_all := lw_g (lw_at lw_m6 51 rfl) rfl
theorem q1331 : (Jvm.Cond.fieldLink "HamsterWeekendsModel" (13 : Nat) "HamsterWeekendsModel" "pets" "I") ∈ lw_all := lw_g (lw_at lw_m6 52 rfl) rfl
theorem q1332 : (Jvm.Cond.fieldLink "HamsterWeekendsModel" (16 : Nat) "HamsterWeekendsModel" "feed" "I") ∈ lw_all := lw_g (lw_at lw_m6 53 rfl) rfl
theorem q1333 : (Jvm.Cond.fieldLink "HamsterWeekendsModel" (19 : Nat) "HamsterWeekendsModel" "life" "I") ∈ lw_all := lw_g (lw_at lw_m6 54 rfl) rfl
theorem q1334 : (Jvm.Cond.fieldLink "HamsterWeekendsModel" (22 : Nat) "HamsterWeekendsModel" "low" "I") ∈ lw_all := lw_g (lw_at lw_m6 55 rfl) rfl
theorem q1335 : (Jvm.Cond.fieldLink "HamsterWeekendsModel" (25 : Nat) "HamsterWeekendsModel" "last" "I") ∈ lw_all := lw_g (lw_at lw_m6 56 rfl) rfl
theorem q1336 : (Jvm.Cond.fieldLink "HamsterWeekendsModel" (28 : Nat) "HamsterWeekendsModel" "seed" "I") ∈ lw_all := lw_g (lw_at lw_m6 57 rfl) rfl
theorem q1337 : (Jvm.Cond.fieldLink "HamsterWeekendsModel" (31 : Nat) "HamsterWeekendsModel" "fault" "I") ∈ lw_all := lw_g (lw_at lw_m6 58 rfl) rfl
theorem q1338 : (Jvm.Cond.fieldLink "HamsterWeekendsModel" (34 : Nat) "HamsterWeekendsModel" "refused" "[I") ∈ lw_all := lw_g (lw_at lw_m6 59 rfl) rfl
theorem q1339 : (Jvm.Cond.fieldLink "HamsterWeekendsModel" (38 : Nat) "HamsterWeekendsModel" "kind" "[I") ∈ lw_all := lw_g (lw_at lw_m6 60 rfl) rfl
theorem q1340 : (Jvm.Cond.fieldLink "HamsterWeekendsModel" (41 : Nat) "HamsterWeekendsModel" "part" "[I") ∈ lw_all := lw_g (lw_at lw_m6 61 rfl) rfl
theorem q1341 : (Jvm.Cond.fieldLink "HamsterWeekendsModel" (44 : Nat) "HamsterWeekendsModel" "marks" "[I") ∈ lw_all := lw_g (lw_at lw_m6 62 rfl) rfl
theorem q1342 : (Jvm.Cond.fieldLink "HamsterWeekendsModel" (47 : Nat) "HamsterWeekendsModel" "ill" "[I") ∈ lw_all := lw_g (lw_at lw_m6 63 rfl) rfl
theorem q1343 : (Jvm.Cond.fieldLink "HamsterWeekendsModel" (50 : Nat) "HamsterWeekendsModel" "had" "[I") ∈ lw_all := lw_g (lw_at lw_m6 64 rfl) rfl
theorem q1344 : (Jvm.Cond.fieldLink "HamsterWeekendsModel" (53 : Nat) "HamsterWeekendsModel" "deaths" "[I") ∈ lw_all := lw_g (lw_at lw_m6 65 rfl) rfl
theorem q1345 : (Jvm.Cond.fieldLink "HamsterWeekendsModel" (56 : Nat) "HamsterWeekendsModel" "held" "[I") ∈ lw_all := lw_g (lw_at lw_m6 66 rfl) rfl
theorem q1346 : (Jvm.Cond.fieldLink "HamsterWeekendsModel" (59 : Nat) "HamsterWeekendsModel" "sort" "[I") ∈ lw_all := lw_g (lw_at lw_m6 67 rfl) rfl
theorem q1347 : (Jvm.Cond.fieldLink "HamsterWeekendsModel" (62 : Nat) "HamsterWeekendsModel" "size" "[I") ∈ lw_all := lw_g (lw_at lw_m6 68 rfl) rfl
theorem q1348 : (Jvm.Cond.fieldLink "HamsterWeekendsModel" (65 : Nat) "HamsterWeekendsModel" "shown" "[I") ∈ lw_all := lw_g (lw_at lw_m6 69 rfl) rfl
theorem q1349 : (Jvm.Cond.fieldLink "HamsterWeekendsModel" (68 : Nat) "HamsterWeekendsModel" "cells" "[J") ∈ lw_all := lw_g (lw_at lw_m6 70 rfl) rfl
theorem q1350 : (Jvm.Cond.fieldLink "HamsterWeekendsModel" (72 : Nat) "HamsterWeekendsModel" "carried" "[J") ∈ lw_all := lw_g (lw_at lw_m6 71 rfl) rfl
theorem q1351 : (Jvm.Cond.fieldLink "HamsterWeekendsModel" (75 : Nat) "HamsterWeekendsModel" "least" "[I") ∈ lw_all := lw_g (lw_at lw_m6 72 rfl) rfl
theorem q1352 : (Jvm.Cond.fieldLink "HamsterWeekendsModel" (78 : Nat) "HamsterWeekendsModel" "greatest" "[I") ∈ lw_all := lw_g (lw_at lw_m6 73 rfl) rfl
theorem q1353 : (Jvm.Cond.fieldLink "HamsterWeekendsModel" (81 : Nat) "HamsterWeekendsModel" "words" "[I") ∈ lw_all := lw_g (lw_at lw_m6 74 rfl) rfl
theorem q1354 : (Jvm.Cond.fieldLink "HamsterWeekendsModel" (84 : Nat) "HamsterWeekendsModel" "tell" "[I") ∈ lw_all := lw_g (lw_at lw_m6 75 rfl) rfl
theorem q1355 : (Jvm.Cond.fieldLink "HamsterWeekendsModel" (152 : Nat) "HamsterWeekendsModel" "base" "I") ∈ lw_all := lw_g (lw_at lw_m6 76 rfl) rfl
theorem q1356 : (Jvm.Cond.fieldLink "HamsterWeekendsModel" (146 : Nat) "HamsterWeekendsModel" "at" "I") ∈ lw_all := lw_g (lw_at lw_m6 77 rfl) rfl
theorem q1357 : (Jvm.Cond.fieldLink "HamsterWeekendsModel" (149 : Nat) "HamsterWeekendsModel" "end" "I") ∈ lw_all := lw_g (lw_at lw_m6 78 rfl) rfl
theorem q1358 : (Jvm.Cond.fieldLink "HamsterWeekendsModel" (155 : Nat) "HamsterWeekendsModel" "number" "I") ∈ lw_all := lw_g (lw_at lw_m6 79 rfl) rfl
theorem q1359 : (Jvm.Cond.fieldLink "HamsterWeekendsModel" (143 : Nat) "HamsterWeekendsModel" "wrongAt" "I") ∈ lw_all := lw_g (lw_at lw_m6 80 rfl) rfl
theorem q1360 : (Jvm.Cond.fieldLink "HamsterWeekendsModel" (87 : Nat) "HamsterWeekendsModel" "was" "[I") ∈ lw_all := lw_g (lw_at lw_m6 81 rfl) rfl
theorem q1361 : (Jvm.Cond.fieldLink "HamsterWeekendsModel" (90 : Nat) "HamsterWeekendsModel" "kept" "[I") ∈ lw_all := lw_g (lw_at lw_m6 82 rfl) rfl
theorem q1362 : (Jvm.Cond.fieldLink "HamsterWeekendsModel" (195 : Nat) "HamsterWeekendsModel" "heft" "I") ∈ lw_all := lw_g (lw_at lw_m6 83 rfl) rfl
theorem q1363 : (Jvm.Cond.fieldLink "HamsterWeekendsModel" (198 : Nat) "HamsterWeekendsModel" "alarm" "I") ∈ lw_all := lw_g (lw_at lw_m6 84 rfl) rfl
theorem q1364 : (Jvm.Cond.fieldLink "HamsterWeekendsModel" (201 : Nat) "HamsterWeekendsModel" "old" "I") ∈ lw_all := lw_g (lw_at lw_m6 85 rfl) rfl
theorem q1365 : (Jvm.Cond.fieldLink "HamsterWeekendsModel" (204 : Nat) "HamsterWeekendsModel" "died" "I") ∈ lw_all := lw_g (lw_at lw_m6 86 rfl) rfl
theorem q1366 : (Jvm.Cond.fieldLink "HamsterWeekendsModel" (207 : Nat) "HamsterWeekendsModel" "ofWhat" "I") ∈ lw_all := lw_g (lw_at lw_m6 87 rfl) rfl
theorem q1367 : (Jvm.Cond.fieldLink "HamsterWeekendsModel" (210 : Nat) "HamsterWeekendsModel" "heavy" "I") ∈ lw_all := lw_g (lw_at lw_m6 88 rfl) rfl
theorem q1368 : (Jvm.Cond.fieldLink "HamsterWeekendsModel" (93 : Nat) "HamsterWeekendsModel" "order" "[I") ∈ lw_all := lw_g (lw_at lw_m6 89 rfl) rfl
theorem q1369 : (Jvm.Cond.fieldLink "HamsterWeekendsModel" (96 : Nat) "HamsterWeekendsModel" "best" "[I") ∈ lw_all := lw_g (lw_at lw_m6 90 rfl) rfl
theorem q1370 : (Jvm.Cond.fieldLink "HamsterWeekendsModel" (255 : Nat) "HamsterWeekendsModel" "fewest" "I") ∈ lw_all := lw_g (lw_at lw_m6 91 rfl) rfl
theorem q1371 : (Jvm.Cond.fieldLink "HamsterWeekendsModel" (258 : Nat) "HamsterWeekendsModel" "leanest" "I") ∈ lw_all := lw_g (lw_at lw_m6 92 rfl) rfl
theorem q1372 : (Jvm.Cond.fieldLink "HamsterWeekendsModel" (99 : Nat) "HamsterWeekendsModel" "blamed" "[I") ∈ lw_all := lw_g (lw_at lw_m6 93 rfl) rfl
theorem q1373 : (Jvm.Cond.fieldLink "HamsterWeekendsModel" (102 : Nat) "HamsterWeekendsModel" "trace" "[I") ∈ lw_all := lw_g (lw_at lw_m6 94 rfl) rfl
theorem q1374 : (Jvm.Cond.fieldLink "HamsterWeekendsModel" (299 : Nat) "HamsterWeekendsModel" "ran" "I") ∈ lw_all := lw_g (lw_at lw_m6 95 rfl) rfl
theorem q1375 : (Jvm.Cond.fieldLink "HamsterWeekendsModel" (314 : Nat) "HamsterWeekendsModel" "isKept" "Z") ∈ lw_all := lw_g (lw_at lw_m6 96 rfl) rfl
theorem q1376 : (Jvm.Cond.lays "HamsterWeekendsModel" "HamsterWeekendsModel" "many" "I") ∈ lw_all := lw_g (lw_at lw_m6 97 rfl) rfl
theorem q1377 : (Jvm.Cond.soleField "HamsterWeekendsModel" "many") ∈ lw_all := lw_g (lw_at lw_m6 98 rfl) rfl
theorem q1378 : (Jvm.Cond.lays "HamsterWeekendsModel" "HamsterWeekendsModel" "weight" "I") ∈ lw_all := lw_g (lw_at lw_m6 99 rfl) rfl
theorem q1379 : (Jvm.Cond.soleField "HamsterWeekendsModel" "weight") ∈ lw_all := lw_g (lw_at lw_m6 100 rfl) rfl
theorem q1380 : (Jvm.Cond.lays "HamsterWeekendsModel" "HamsterWeekendsModel" "fright" "I") ∈ lw_all := lw_g (lw_at lw_m6 101 rfl) rfl
theorem q1381 : (Jvm.Cond.soleField "HamsterWeekendsModel" "fright") ∈ lw_all := lw_g (lw_at lw_m6 102 rfl) rfl
theorem q1382 : (Jvm.Cond.lays "HamsterWeekendsModel" "HamsterWeekendsModel" "age" "I") ∈ lw_all := lw_g (lw_at lw_m6 103 rfl) rfl
theorem q1383 : (Jvm.Cond.soleField "HamsterWeekendsModel" "age") ∈ lw_all := lw_g (lw_at lw_m6 104 rfl) rfl
theorem q1384 : (Jvm.Cond.lays "HamsterWeekendsModel" "HamsterWeekendsModel" "pets" "I") ∈ lw_all := lw_g (lw_at lw_m6 105 rfl) rfl
theorem q1385 : (Jvm.Cond.soleField "HamsterWeekendsModel" "pets") ∈ lw_all := lw_g (lw_at lw_m6 106 rfl) rfl
theorem q1386 : (Jvm.Cond.lays "HamsterWeekendsModel" "HamsterWeekendsModel" "feed" "I") ∈ lw_all := lw_g (lw_at lw_m6 107 rfl) rfl
theorem q1387 : (Jvm.Cond.soleField "HamsterWeekendsModel" "feed") ∈ lw_all := lw_g (lw_at lw_m6 108 rfl) rfl
theorem q1388 : (Jvm.Cond.lays "HamsterWeekendsModel" "HamsterWeekendsModel" "life" "I") ∈ lw_all := lw_g (lw_at lw_m6 109 rfl) rfl
theorem q1389 : (Jvm.Cond.soleField "HamsterWeekendsModel" "life") ∈ lw_all := lw_g (lw_at lw_m6 110 rfl) rfl
theorem q1390 : (Jvm.Cond.lays "HamsterWeekendsModel" "HamsterWeekendsModel" "low" "I") ∈ lw_all := lw_g (lw_at lw_m6 111 rfl) rfl
theorem q1391 : (Jvm.Cond.soleField "HamsterWeekendsModel" "low") ∈ lw_all := lw_g (lw_at lw_m6 112 rfl) rfl
theorem q1392 : (Jvm.Cond.lays "HamsterWeekendsModel" "HamsterWeekendsModel" "last" "I") ∈ lw_all := lw_g (lw_at lw_m6 113 rfl) rfl
theorem q1393 : (Jvm.Cond.soleField "HamsterWeekendsModel" "last") ∈ lw_all := lw_g (lw_at lw_m6 114 rfl) rfl
theorem q1394 : (Jvm.Cond.lays "HamsterWeekendsModel" "HamsterWeekendsModel" "seed" "I") ∈ lw_all := lw_g (lw_at lw_m6 115 rfl) rfl
theorem q1395 : (Jvm.Cond.soleField "HamsterWeekendsModel" "seed") ∈ lw_all := lw_g (lw_at lw_m6 116 rfl) rfl
theorem q1396 : (Jvm.Cond.lays "HamsterWeekendsModel" "HamsterWeekendsModel" "fault" "I") ∈ lw_all := lw_g (lw_at lw_m6 117 rfl) rfl
theorem q1397 : (Jvm.Cond.soleField "HamsterWeekendsModel" "fault") ∈ lw_all := lw_g (lw_at lw_m6 118 rfl) rfl
theorem q1398 : (Jvm.Cond.laysFinal "HamsterWeekendsModel" "HamsterWeekendsModel" "refused" "[I") ∈ lw_all := lw_g (lw_at lw_m6 119 rfl) rfl
theorem q1399 : (Jvm.Cond.soleField "HamsterWeekendsModel" "refused") ∈ lw_all := lw_g (lw_at lw_m6 120 rfl) rfl
theorem q1400 : (Jvm.Cond.laysFinal "HamsterWeekendsModel" "HamsterWeekendsModel" "kind" "[I") ∈ lw_all := lw_g (lw_at lw_m6 121 rfl) rfl
theorem q1401 : (Jvm.Cond.soleField "HamsterWeekendsModel" "kind") ∈ lw_all := lw_g (lw_at lw_m6 122 rfl) rfl
theorem q1402 : (Jvm.Cond.laysFinal "HamsterWeekendsModel" "HamsterWeekendsModel" "part" "[I") ∈ lw_all := lw_g (lw_at lw_m6 123 rfl) rfl
theorem q1403 : (Jvm.Cond.soleField "HamsterWeekendsModel" "part") ∈ lw_all := lw_g (lw_at lw_m6 124 rfl) rfl
theorem q1404 : (Jvm.Cond.laysFinal "HamsterWeekendsModel" "HamsterWeekendsModel" "marks" "[I") ∈ lw_all := lw_g (lw_at lw_m6 125 rfl) rfl
theorem q1405 : (Jvm.Cond.soleField "HamsterWeekendsModel" "marks") ∈ lw_all := lw_g (lw_at lw_m6 126 rfl) rfl
theorem q1406 : (Jvm.Cond.laysFinal "HamsterWeekendsModel" "HamsterWeekendsModel" "ill" "[I") ∈ lw_all := lw_g (lw_at lw_m6 127 rfl) rfl
theorem q1407 : (Jvm.Cond.soleField "HamsterWeekendsModel" "ill") ∈ lw_all := lw_g (lw_at lw_m6 128 rfl) rfl
theorem q1408 : (Jvm.Cond.laysFinal "HamsterWeekendsModel" "HamsterWeekendsModel" "had" "[I") ∈ lw_all := lw_g (lw_at lw_m6 129 rfl) rfl
theorem q1409 : (Jvm.Cond.soleField "HamsterWeekendsModel" "had") ∈ lw_all := lw_g (lw_at lw_m6 130 rfl) rfl
theorem q1410 : (Jvm.Cond.laysFinal "HamsterWeekendsModel" "HamsterWeekendsModel" "deaths" "[I") ∈ lw_all := lw_g (lw_at lw_m6 131 rfl) rfl
theorem q1411 : (Jvm.Cond.soleField "HamsterWeekendsModel" "deaths") ∈ lw_all := lw_g (lw_at lw_m6 132 rfl) rfl
theorem q1412 : (Jvm.Cond.laysFinal "HamsterWeekendsModel" "HamsterWeekendsModel" "held" "[I") ∈ lw_all := lw_g (lw_at lw_m6 133 rfl) rfl
theorem q1413 : (Jvm.Cond.soleField "HamsterWeekendsModel" "held") ∈ lw_all := lw_g (lw_at lw_m6 134 rfl) rfl
theorem q1414 : (Jvm.Cond.laysFinal "HamsterWeekendsModel" "HamsterWeekendsModel" "sort" "[I") ∈ lw_all := lw_g (lw_at lw_m6 135 rfl) rfl
theorem q1415 : (Jvm.Cond.soleField "HamsterWeekendsModel" "sort") ∈ lw_all := lw_g (lw_at lw_m6 136 rfl) rfl
theorem q1416 : (Jvm.Cond.laysFinal "HamsterWeekendsModel" "HamsterWeekendsModel" "size" "[I") ∈ lw_all := lw_g (lw_at lw_m6 137 rfl) rfl
theorem q1417 : (Jvm.Cond.soleField "HamsterWeekendsModel" "size") ∈ lw_all := lw_g (lw_at lw_m6 138 rfl) rfl
theorem q1418 : (Jvm.Cond.laysFinal "HamsterWeekendsModel" "HamsterWeekendsModel" "shown" "[I") ∈ lw_all := lw_g (lw_at lw_m6 139 rfl) rfl
theorem q1419 : (Jvm.Cond.soleField "HamsterWeekendsModel" "shown") ∈ lw_all := lw_g (lw_at lw_m6 140 rfl) rfl
theorem q1420 : (Jvm.Cond.laysFinal "HamsterWeekendsModel" "HamsterWeekendsModel" "cells" "[J") ∈ lw_all := lw_g (lw_at lw_m6 141 rfl) rfl
theorem q1421 : (Jvm.Cond.soleField "HamsterWeekendsModel" "cells") ∈ lw_all := lw_g (lw_at lw_m6 142 rfl) rfl
theorem q1422 : (Jvm.Cond.laysFinal "HamsterWeekendsModel" "HamsterWeekendsModel" "carried" "[J") ∈ lw_all := lw_g (lw_at lw_m6 143 rfl) rfl
theorem q1423 : (Jvm.Cond.soleField "HamsterWeekendsModel" "carried") ∈ lw_all := lw_g (lw_at lw_m6 144 rfl) rfl
theorem q1424 : (Jvm.Cond.laysFinal "HamsterWeekendsModel" "HamsterWeekendsModel" "least" "[I") ∈ lw_all := lw_g (lw_at lw_m6 145 rfl) rfl
theorem q1425 : (Jvm.Cond.soleField "HamsterWeekendsModel" "least") ∈ lw_all := lw_g (lw_at lw_m6 146 rfl) rfl
theorem q1426 : (Jvm.Cond.laysFinal "HamsterWeekendsModel" "HamsterWeekendsModel" "greatest" "[I") ∈ lw_all := lw_g (lw_at lw_m6 147 rfl) rfl
theorem q1427 : (Jvm.Cond.soleField "HamsterWeekendsModel" "greatest") ∈ lw_all := lw_g (lw_at lw_m6 148 rfl) rfl
theorem q1428 : (Jvm.Cond.laysFinal "HamsterWeekendsModel" "HamsterWeekendsModel" "words" "[I") ∈ lw_all := lw_g (lw_at lw_m6 149 rfl) rfl
theorem q1429 : (Jvm.Cond.soleField "HamsterWeekendsModel" "words") ∈ lw_all := lw_g (lw_at lw_m6 150 rfl) rfl
theorem q1430 : (Jvm.Cond.laysFinal "HamsterWeekendsModel" "HamsterWeekendsModel" "tell" "[I") ∈ lw_all := lw_g (lw_at lw_m6 151 rfl) rfl
theorem q1431 : (Jvm.Cond.soleField "HamsterWeekendsModel" "tell") ∈ lw_all := lw_g (lw_at lw_m6 152 rfl) rfl
theorem q1432 : (Jvm.Cond.lays "HamsterWeekendsModel" "HamsterWeekendsModel" "base" "I") ∈ lw_all := lw_g (lw_at lw_m6 153 rfl) rfl
theorem q1433 : (Jvm.Cond.soleField "HamsterWeekendsModel" "base") ∈ lw_all := lw_g (lw_at lw_m6 154 rfl) rfl
theorem q1434 : (Jvm.Cond.lays "HamsterWeekendsModel" "HamsterWeekendsModel" "at" "I") ∈ lw_all := lw_g (lw_at lw_m6 155 rfl) rfl
theorem q1435 : (Jvm.Cond.soleField "HamsterWeekendsModel" "at") ∈ lw_all := lw_g (lw_at lw_m6 156 rfl) rfl
theorem q1436 : (Jvm.Cond.lays "HamsterWeekendsModel" "HamsterWeekendsModel" "end" "I") ∈ lw_all := lw_g (lw_at lw_m6 157 rfl) rfl
theorem q1437 : (Jvm.Cond.soleField "HamsterWeekendsModel" "end") ∈ lw_all := lw_g (lw_at lw_m6 158 rfl) rfl
theorem q1438 : (Jvm.Cond.lays "HamsterWeekendsModel" "HamsterWeekendsModel" "number" "I") ∈ lw_all := lw_g (lw_at lw_m6 159 rfl) rfl
theorem q1439 : (Jvm.Cond.soleField "HamsterWeekendsModel" "number") ∈ lw_all := lw_g (lw_at lw_m6 160 rfl) rfl
theorem q1440 : (Jvm.Cond.lays "HamsterWeekendsModel" "HamsterWeekendsModel" "wrongAt" "I") ∈ lw_all := lw_g (lw_at lw_m6 161 rfl) rfl
theorem q1441 : (Jvm.Cond.soleField "HamsterWeekendsModel" "wrongAt") ∈ lw_all := lw_g (lw_at lw_m6 162 rfl) rfl
theorem q1442 : (Jvm.Cond.laysFinal "HamsterWeekendsModel" "HamsterWeekendsModel" "was" "[I") ∈ lw_all := lw_g (lw_at lw_m6 163 rfl) rfl
theorem q1443 : (Jvm.Cond.soleField "HamsterWeekendsModel" "was") ∈ lw_all := lw_g (lw_at lw_m6 164 rfl) rfl
theorem q1444 : (Jvm.Cond.laysFinal "HamsterWeekendsModel" "HamsterWeekendsModel" "kept" "[I") ∈ lw_all := lw_g (lw_at lw_m6 165 rfl) rfl
theorem q1445 : (Jvm.Cond.soleField "HamsterWeekendsModel" "kept") ∈ lw_all := lw_g (lw_at lw_m6 166 rfl) rfl
theorem q1446 : (Jvm.Cond.lays "HamsterWeekendsModel" "HamsterWeekendsModel" "heft" "I") ∈ lw_all := lw_g (lw_at lw_m6 167 rfl) rfl
theorem q1447 : (Jvm.Cond.soleField "HamsterWeekendsModel" "heft") ∈ lw_all := lw_g (lw_at lw_m6 168 rfl) rfl
theorem q1448 : (Jvm.Cond.lays "HamsterWeekendsModel" "HamsterWeekendsModel" "alarm" "I") ∈ lw_all := lw_g (lw_at lw_m6 169 rfl) rfl
theorem q1449 : (Jvm.Cond.soleField "HamsterWeekendsModel" "alarm") ∈ lw_all := lw_g (lw_at lw_m6 170 rfl) rfl
theorem q1450 : (Jvm.Cond.lays "HamsterWeekendsModel" "HamsterWeekendsModel" "old" "I") ∈ lw_all := lw_g (lw_at lw_m6 171 rfl) rfl
theorem q1451 : (Jvm.Cond.soleField "HamsterWeekendsModel" "old") ∈ lw_all := lw_g (lw_at lw_m6 172 rfl) rfl
theorem q1452 : (Jvm.Cond.lays "HamsterWeekendsModel" "HamsterWeekendsModel" "died" "I") ∈ lw_all := lw_g (lw_at lw_m6 173 rfl) rfl
theorem q1453 : (Jvm.Cond.soleField "HamsterWeekendsModel" "died") ∈ lw_all := lw_g (lw_at lw_m6 174 rfl) rfl
theorem q1454 : (Jvm.Cond.lays "HamsterWeekendsModel" "HamsterWeekendsModel" "ofWhat" "I") ∈ lw_all := lw_g (lw_at lw_m6 175 rfl) rfl
theorem q1455 : (Jvm.Cond.soleField "HamsterWeekendsModel" "ofWhat") ∈ lw_all := lw_g (lw_at lw_m6 176 rfl) rfl
theorem q1456 : (Jvm.Cond.lays "HamsterWeekendsModel" "HamsterWeekendsModel" "heavy" "I") ∈ lw_all := lw_g (lw_at lw_m6 177 rfl) rfl
theorem q1457 : (Jvm.Cond.soleField "HamsterWeekendsModel" "heavy") ∈ lw_all := lw_g (lw_at lw_m6 178 rfl) rfl
theorem q1458 : (Jvm.Cond.laysFinal "HamsterWeekendsModel" "HamsterWeekendsModel" "order" "[I") ∈ lw_all := lw_g (lw_at lw_m6 179 rfl) rfl
theorem q1459 : (Jvm.Cond.soleField "HamsterWeekendsModel" "order") ∈ lw_all := lw_g (lw_at lw_m6 180 rfl) rfl
theorem q1460 : (Jvm.Cond.laysFinal "HamsterWeekendsModel" "HamsterWeekendsModel" "best" "[I") ∈ lw_all := lw_g (lw_at lw_m6 181 rfl) rfl
theorem q1461 : (Jvm.Cond.soleField "HamsterWeekendsModel" "best") ∈ lw_all := lw_g (lw_at lw_m6 182 rfl) rfl
theorem q1462 : (Jvm.Cond.lays "HamsterWeekendsModel" "HamsterWeekendsModel" "fewest" "I") ∈ lw_all := lw_g (lw_at lw_m6 183 rfl) rfl
theorem q1463 : (Jvm.Cond.soleField "HamsterWeekendsModel" "fewest") ∈ lw_all := lw_g (lw_at lw_m6 184 rfl) rfl
theorem q1464 : (Jvm.Cond.lays "HamsterWeekendsModel" "HamsterWeekendsModel" "leanest" "I") ∈ lw_all := lw_g (lw_at lw_m6 185 rfl) rfl
theorem q1465 : (Jvm.Cond.soleField "HamsterWeekendsModel" "leanest") ∈ lw_all := lw_g (lw_at lw_m6 186 rfl) rfl
theorem q1466 : (Jvm.Cond.laysFinal "HamsterWeekendsModel" "HamsterWeekendsModel" "blamed" "[I") ∈ lw_all := lw_g (lw_at lw_m6 187 rfl) rfl
theorem q1467 : (Jvm.Cond.soleField "HamsterWeekendsModel" "blamed") ∈ lw_all := lw_g (lw_at lw_m6 188 rfl) rfl
theorem q1468 : (Jvm.Cond.laysFinal "HamsterWeekendsModel" "HamsterWeekendsModel" "trace" "[I") ∈ lw_all := lw_g (lw_at lw_m6 189 rfl) rfl
theorem q1469 : (Jvm.Cond.soleField "HamsterWeekendsModel" "trace") ∈ lw_all := lw_g (lw_at lw_m6 190 rfl) rfl
theorem q1470 : (Jvm.Cond.lays "HamsterWeekendsModel" "HamsterWeekendsModel" "ran" "I") ∈ lw_all := lw_g (lw_at lw_m6 191 rfl) rfl
theorem q1471 : (Jvm.Cond.soleField "HamsterWeekendsModel" "ran") ∈ lw_all := lw_g (lw_at lw_m6 192 rfl) rfl
theorem q1472 : (Jvm.Cond.lays "HamsterWeekendsModel" "HamsterWeekendsModel" "isKept" "Z") ∈ lw_all := lw_g (lw_at lw_m6 193 rfl) rfl
theorem q1473 : (Jvm.Cond.soleField "HamsterWeekendsModel" "isKept") ∈ lw_all := lw_g (lw_at lw_m6 194 rfl) rfl
theorem q1474 : (Jvm.Cond.superclass "HamsterWeekendsModel" "java/lang/Object") ∈ lw_all := lw_g (lw_at lw_m6 195 rfl) rfl
theorem q1476 : (Jvm.Cond.instanceMethod ({ cls := "HamsterWeekendsModel", name := "row", desc := "(III)I" } : Jvm.MethodName)) ∈ lw_all := lw_g (lw_at lw_m6 197 rfl) rfl
theorem q1477 : (Jvm.Cond.selects "HamsterWeekendsModel" ({ cls := "HamsterWeekendsModel", name := "row", desc := "(III)I" } : Jvm.MethodName) ({ cls := "HamsterWeekendsModel", name := "row", desc := "(III)I" } : Jvm.MethodName)) ∈ lw_all := lw_g (lw_at lw_m6 198 rfl) rfl
theorem q1478 : (Jvm.Cond.code ({ cls := "HamsterWeekendsModel", name := "row", desc := "(III)I" } : Jvm.MethodName) prog_22_method_8_code (5 : Nat) (Option.some Jvm.ClassFile.FieldType.int)) ∈ lw_all := lw_g (lw_at lw_m6 199 rfl) rfl
theorem q1479 : (Jvm.Cond.methodLink "HamsterWeekendsModel" (108 : Nat) ({ cls := "HamsterWeekendsModel", name := "isShelf", desc := "(I)Z" } : Jvm.MethodName)) ∈ lw_all := lw_g (lw_at lw_m6 200 rfl) rfl
theorem q1480 : (Jvm.Cond.privateMethod ({ cls := "HamsterWeekendsModel", name := "isShelf", desc := "(I)Z" } : Jvm.MethodName)) ∈ lw_tbl := lw_at lw_m6 201 rfl
theorem q1481 : (Jvm.Cond.instanceMethod ({ cls := "HamsterWeekendsModel", name := "isShelf", desc := "(I)Z" } : Jvm.MethodName)) ∈ lw_all := lw_g (lw_at lw_m6 202 rfl) rfl
theorem q1482 : (Jvm.Cond.code ({ cls := "HamsterWeekendsModel", name := "isShelf", desc := "(I)Z" } : Jvm.MethodName) prog_22_method_5_code (2 : Nat) (Option.some Jvm.ClassFile.FieldType.boolean)) ∈ lw_all := lw_g (lw_at lw_m6 203 rfl) rfl
theorem q1483 : (Jvm.Cond.methodLink "HamsterWeekendsModel" (112 : Nat) ({ cls := "HamsterWeekendsModel", name := "no", desc := "(I)I" } : Jvm.MethodName)) ∈ lw_all := lw_g (lw_at lw_m6 204 rfl) rfl
theorem q1484 : (Jvm.Cond.privateMethod ({ cls := "HamsterWeekendsModel", name := "no", desc := "(I)I" } : Jvm.MethodName)) ∈ lw_tbl := lw_at lw_m6 205 rfl
theorem q1485 : (Jvm.Cond.instanceMethod ({ cls := "HamsterWeekendsModel", name := "no", desc := "(I)I" } : Jvm.MethodName)) ∈ lw_all := lw_g (lw_at lw_m6 206 rfl) rfl
theorem q1486 : (Jvm.Cond.code ({ cls := "HamsterWeekendsModel", name := "no", desc := "(I)I" } : Jvm.MethodName) prog_22_method_2_code (2 : Nat) (Option.some Jvm.ClassFile.FieldType.int)) ∈ lw_all := lw_g (lw_at lw_m6 207 rfl) rfl
theorem q1488 : (Jvm.Cond.instanceMethod ({ cls := "HamsterWeekendsModel", name := "set", desc := "(IIJ)I" } : Jvm.MethodName)) ∈ lw_all := lw_g (lw_at lw_m6 209 rfl) rfl
theorem q1489 : (Jvm.Cond.selects "HamsterWeekendsModel" ({ cls := "HamsterWeekendsModel", name := "set", desc := "(IIJ)I" } : Jvm.MethodName) ({ cls := "HamsterWeekendsModel", name := "set", desc := "(IIJ)I" } : Jvm.MethodName)) ∈ lw_all := lw_g (lw_at lw_m6 210 rfl) rfl
theorem q1490 : (Jvm.Cond.code ({ cls := "HamsterWeekendsModel", name := "set", desc := "(IIJ)I" } : Jvm.MethodName) prog_22_method_9_code (5 : Nat) (Option.some Jvm.ClassFile.FieldType.int)) ∈ lw_all := lw_g (lw_at lw_m6 211 rfl) rfl
theorem q1492 : (Jvm.Cond.instanceMethod ({ cls := "HamsterWeekendsModel", name := "copy", desc := "(IIIII)I" } : Jvm.MethodName)) ∈ lw_all := lw_g (lw_at lw_m6 213 rfl) rfl
theorem q1493 : (Jvm.Cond.selects "HamsterWeekendsModel" ({ cls := "HamsterWeekendsModel", name := "copy", desc := "(IIIII)I" } : Jvm.MethodName) ({ cls := "HamsterWeekendsModel", name := "copy", desc := "(IIIII)I" } : Jvm.MethodName)) ∈ lw_all := lw_g (lw_at lw_m6 214 rfl) rfl
theorem q1494 : (Jvm.Cond.code ({ cls := "HamsterWeekendsModel", name := "copy", desc := "(IIIII)I" } : Jvm.MethodName) prog_22_method_10_code (7 : Nat) (Option.some Jvm.ClassFile.FieldType.int)) ∈ lw_all := lw_g (lw_at lw_m6 215 rfl) rfl
theorem q1496 : (Jvm.Cond.instanceMethod ({ cls := "HamsterWeekendsModel", name := "element", desc := "(II)J" } : Jvm.MethodName)) ∈ lw_all := lw_g (lw_at lw_m6 217 rfl) rfl
theorem q1497 : (Jvm.Cond.selects "HamsterWeekendsModel" ({ cls := "HamsterWeekendsModel", name := "element", desc := "(II)J" } : Jvm.MethodName) ({ cls := "HamsterWeekendsModel", name := "element", desc := "(II)J" } : Jvm.MethodName)) ∈ lw_all := lw_g (lw_at lw_m6 218 rfl) rfl
theorem q1498 : (Jvm.Cond.code ({ cls := "HamsterWeekendsModel", name := "element", desc := "(II)J" } : Jvm.MethodName) prog_22_method_11_code (3 : Nat) (Option.some Jvm.ClassFile.FieldType.long)) ∈ lw_all := lw_g (lw_at lw_m6 219 rfl) rfl
theorem q1500 : (Jvm.Cond.instanceMethod ({ cls := "HamsterWeekendsModel", name := "show", desc := "(II)I" } : Jvm.MethodName)) ∈ lw_all := lw_g (lw_at lw_m6 221 rfl) rfl
theorem q1501 : (Jvm.Cond.selects "HamsterWeekendsModel" ({ cls := "HamsterWeekendsModel", name := "show", desc := "(II)I" } : Jvm.MethodName) ({ cls := "HamsterWeekendsModel", name := "show", desc := "(II)I" } : Jvm.MethodName)) ∈ lw_all := lw_g (lw_at lw_m6 222 rfl) rfl
theorem q1502 : (Jvm.Cond.code ({ cls := "HamsterWeekendsModel", name := "show", desc := "(II)I" } : Jvm.MethodName) prog_22_method_12_code (3 : Nat) (Option.some Jvm.ClassFile.FieldType.int)) ∈ lw_all := lw_g (lw_at lw_m6 223 rfl) rfl
theorem q1503 : (Jvm.Cond.methodLink "HamsterWeekendsModel" (116 : Nat) ({ cls := "HamsterWeekendsModel", name := "isHome", desc := "(I)Z" } : Jvm.MethodName)) ∈ lw_all := lw_g (lw_at lw_m6 224 rfl) rfl
theorem q1504 : (Jvm.Cond.privateMethod ({ cls := "HamsterWeekendsModel", name := "isHome", desc := "(I)Z" } : Jvm.MethodName)) ∈ lw_tbl := lw_at lw_m6 225 rfl
theorem q1505 : (Jvm.Cond.instanceMethod ({ cls := "HamsterWeekendsModel", name := "isHome", desc := "(I)Z" } : Jvm.MethodName)) ∈ lw_all := lw_g (lw_at lw_m6 226 rfl) rfl
theorem q1506 : (Jvm.Cond.code ({ cls := "HamsterWeekendsModel", name := "isHome", desc := "(I)Z" } : Jvm.MethodName) prog_22_method_6_code (2 : Nat) (Option.some Jvm.ClassFile.FieldType.boolean)) ∈ lw_all := lw_g (lw_at lw_m6 227 rfl) rfl
theorem q1508 : (Jvm.Cond.instanceMethod ({ cls := "HamsterWeekendsModel", name := "holds", desc := "(I)I" } : Jvm.MethodName)) ∈ lw_all := lw_g (lw_at lw_m6 229 rfl) rfl
theorem q1509 : (Jvm.Cond.selects "HamsterWeekendsModel" ({ cls := "HamsterWeekendsModel", name := "holds", desc := "(I)I" } : Jvm.MethodName) ({ cls := "HamsterWeekendsModel", name := "holds", desc := "(I)I" } : Jvm.MethodName)) ∈ lw_all := lw_g (lw_at lw_m6 230 rfl) rfl
theorem q1510 : (Jvm.Cond.code ({ cls := "HamsterWeekendsModel", name := "holds", desc := "(I)I" } : Jvm.MethodName) prog_22_method_13_code (2 : Nat) (Option.some Jvm.ClassFile.FieldType.int)) ∈ lw_all := lw_g (lw_at lw_m6 231 rfl) rfl
theorem q1512 : (Jvm.Cond.instanceMethod ({ cls := "HamsterWeekendsModel", name := "says", desc := "(II)I" } : Jvm.MethodName)) ∈ lw_all := lw_g (lw_at lw_m6 233 rfl) rfl
theorem q1513 : (Jvm.Cond.selects "HamsterWeekendsModel" ({ cls := "HamsterWeekendsModel", name := "says", desc := "(II)I" } : Jvm.MethodName) ({ cls := "HamsterWeekendsModel", name := "says", desc := "(II)I" } : Jvm.MethodName)) ∈ lw_all := lw_g (lw_at lw_m6 234 rfl) rfl
theorem q1514 : (Jvm.Cond.code ({ cls := "HamsterWeekendsModel", name := "says", desc := "(II)I" } : Jvm.MethodName) prog_22_method_14_code (7 : Nat) (Option.some Jvm.ClassFile.FieldType.int)) ∈ lw_all := lw_g (lw_at lw_m6 235 rfl) rfl
theorem q1516 : (Jvm.Cond.instanceMethod ({ cls := "HamsterWeekendsModel", name := "home", desc := "(II)I" } : Jvm.MethodName)) ∈ lw_all := lw_g (lw_at lw_m6 237 rfl) rfl
theorem q1517 : (Jvm.Cond.selects "HamsterWeekendsModel" ({ cls := "HamsterWeekendsModel", name := "home", desc := "(II)I" } : Jvm.MethodName) ({ cls := "HamsterWeekendsModel", name := "home", desc := "(II)I" } : Jvm.MethodName)) ∈ lw_all := lw_g (lw_at lw_m6 238 rfl) rfl
theorem q1518 : (Jvm.Cond.code ({ cls := "HamsterWeekendsModel", name := "home", desc := "(II)I" } : Jvm.MethodName) prog_22_method_19_code (3 : Nat) (Option.some Jvm.ClassFile.FieldType.int)) ∈ lw_all := lw_g (lw_at lw_m6 239 rfl) rfl
theorem q1519 : (Jvm.Cond.methodLink "HamsterWeekendsModel" (122 : Nat) ({ cls := "HamsterWeekendsModel", name := "adds", desc := "(II)I" } : Jvm.MethodName)) ∈ lw_all := lw_g (lw_at lw_m7 0 rfl) rfl
theorem q1520 : (Jvm.Cond.privateMethod ({ cls := "HamsterWeekendsModel", name := "adds", desc := "(II)I" } : Jvm.MethodName)) ∈ lw_tbl := lw_at lw_m7 1 rfl
theorem q1521 : (Jvm.Cond.instanceMethod ({ cls := "HamsterWeekendsModel", name := "adds", desc := "(II)I" } : Jvm.MethodName)) ∈ lw_all := lw_g (lw_at lw_m7 2 rfl) rfl
theorem q1522 : (Jvm.Cond.code ({ cls := "HamsterWeekendsModel", name := "adds", desc := "(II)I" } : Jvm.MethodName) prog_22_method_18_code (3 : Nat) (Option.some Jvm.ClassFile.FieldType.int)) ∈ lw_all := lw_g (lw_at lw_m7 3 rfl) rfl
theorem q1524 : (Jvm.Cond.instanceMethod ({ cls := "HamsterWeekendsModel", name := "homeOf", desc := "(II)I" } : Jvm.MethodName)) ∈ lw_all := lw_g (lw_at lw_m7 5 rfl) rfl
theorem q1525 : (Jvm.Cond.selects "HamsterWeekendsModel" ({ cls := "HamsterWeekendsModel", name := "homeOf", desc := "(II)I" } : Jvm.MethodName) ({ cls := "HamsterWeekendsModel", name := "homeOf", desc := "(II)I" } : Jvm.MethodName)) ∈ lw_all := lw_g (lw_at lw_m7 6 rfl) rfl
theorem q1526 : (Jvm.Cond.code ({ cls := "HamsterWeekendsModel", name := "homeOf", desc := "(II)I" } : Jvm.MethodName) prog_22_method_20_code (3 : Nat) (Option.some Jvm.ClassFile.FieldType.int)) ∈ lw_all := lw_g (lw_at lw_m7 7 rfl) rfl
theorem q1528 : (Jvm.Cond.instanceMethod ({ cls := "HamsterWeekendsModel", name := "marks", desc := "(II)I" } : Jvm.MethodName)) ∈ lw_all := lw_g (lw_at lw_m7 9 rfl) rfl
theorem q1529 : (Jvm.Cond.selects "HamsterWeekendsModel" ({ cls := "HamsterWeekendsModel", name := "marks", desc := "(II)I" } : Jvm.MethodName) ({ cls := "HamsterWeekendsModel", name := "marks", desc := "(II)I" } : Jvm.MethodName)) ∈ lw_all := lw_g (lw_at lw_m7 10 rfl) rfl
theorem q1530 : (Jvm.Cond.code ({ cls := "HamsterWeekendsModel", name := "marks", desc := "(II)I" } : Jvm.MethodName) prog_22_method_21_code (4 : Nat) (Option.some Jvm.ClassFile.FieldType.int)) ∈ lw_all := lw_g (lw_at lw_m7 11 rfl) rfl
theorem q1532 : (Jvm.Cond.instanceMethod ({ cls := "HamsterWeekendsModel", name := "allergic", desc := "(IZ)I" } : Jvm.MethodName)) ∈ lw_all := lw_g (lw_at lw_m7 13 rfl) rfl
theorem q1533 : (Jvm.Cond.selects "HamsterWeekendsModel" ({ cls := "HamsterWeekendsModel", name := "allergic", desc := "(IZ)I" } : Jvm.MethodName) ({ cls := "HamsterWeekendsModel", name := "allergic", desc := "(IZ)I" } : Jvm.MethodName)) ∈ lw_all := lw_g (lw_at lw_m7 14 rfl) rfl
theorem q1534 : (Jvm.Cond.code ({ cls := "HamsterWeekendsModel", name := "allergic", desc := "(IZ)I" } : Jvm.MethodName) prog_22_method_22_code (4 : Nat) (Option.some Jvm.ClassFile.FieldType.int)) ∈ lw_all := lw_g (lw_at lw_m7 15 rfl) rfl
theorem q1536 : (Jvm.Cond.instanceMethod ({ cls := "HamsterWeekendsModel", name := "ask", desc := "(II)I" } : Jvm.MethodName)) ∈ lw_all := lw_g (lw_at lw_m7 17 rfl) rfl
theorem q1537 : (Jvm.Cond.selects "HamsterWeekendsModel" ({ cls := "HamsterWeekendsModel", name := "ask", desc := "(II)I" } : Jvm.MethodName) ({ cls := "HamsterWeekendsModel", name := "ask", desc := "(II)I" } : Jvm.MethodName)) ∈ lw_all := lw_g (lw_at lw_m7 18 rfl) rfl
theorem q1538 : (Jvm.Cond.code ({ cls := "HamsterWeekendsModel", name := "ask", desc := "(II)I" } : Jvm.MethodName) prog_22_method_26_code (4 : Nat) (Option.some Jvm.ClassFile.FieldType.int)) ∈ lw_all := lw_g (lw_at lw_m7 19 rfl) rfl
theorem q1539 : (Jvm.Cond.methodLink "HamsterWeekendsModel" (132 : Nat) ({ cls := "HamsterWeekendsModel", name := "isAsked", desc := "(II)Z" } : Jvm.MethodName)) ∈ lw_all := lw_g (lw_at lw_m7 20 rfl) rfl
theorem q1540 : (Jvm.Cond.privateMethod ({ cls := "HamsterWeekendsModel", name := "isAsked", desc := "(II)Z" } : Jvm.MethodName)) ∈ lw_tbl := lw_at lw_m7 21 rfl
theorem q1541 : (Jvm.Cond.instanceMethod ({ cls := "HamsterWeekendsModel", name := "isAsked", desc := "(II)Z" } : Jvm.MethodName)) ∈ lw_all := lw_g (lw_at lw_m7 22 rfl) rfl
theorem q1542 : (Jvm.Cond.code ({ cls := "HamsterWeekendsModel", name := "isAsked", desc := "(II)Z" } : Jvm.MethodName) prog_22_method_23_code (3 : Nat) (Option.some Jvm.ClassFile.FieldType.boolean)) ∈ lw_all := lw_g (lw_at lw_m7 23 rfl) rfl
theorem q1543 : (Jvm.Cond.methodLink "HamsterWeekendsModel" (136 : Nat) ({ cls := "HamsterWeekendsModel", name := "told", desc := "(I)I" } : Jvm.MethodName)) ∈ lw_all := lw_g (lw_at lw_m7 24 rfl) rfl
theorem q1544 : (Jvm.Cond.privateMethod ({ cls := "HamsterWeekendsModel", name := "told", desc := "(I)I" } : Jvm.MethodName)) ∈ lw_tbl := lw_at lw_m7 25 rfl
theorem q1545 : (Jvm.Cond.instanceMethod ({ cls := "HamsterWeekendsModel", name := "told", desc := "(I)I" } : Jvm.MethodName)) ∈ lw_all := lw_g (lw_at lw_m7 26 rfl) rfl
theorem q1546 : (Jvm.Cond.code ({ cls := "HamsterWeekendsModel", name := "told", desc := "(I)I" } : Jvm.MethodName) prog_22_method_24_code (2 : Nat) (Option.some Jvm.ClassFile.FieldType.int)) ∈ lw_all := lw_g (lw_at lw_m7 27 rfl) rfl
theorem q1547 : (Jvm.Cond.methodLink "HamsterWeekendsModel" (139 : Nat) ({ cls := "HamsterWeekendsModel", name := "tells", desc := "(II)V" } : Jvm.MethodName)) ∈ lw_all := lw_g (lw_at lw_m7 28 rfl) rfl
theorem q1548 : (Jvm.Cond.privateMethod ({ cls := "HamsterWeekendsModel", name := "tells", desc := "(II)V" } : Jvm.MethodName)) ∈ lw_tbl := lw_at lw_m7 29 rfl
theorem q1549 : (Jvm.Cond.instanceMethod ({ cls := "HamsterWeekendsModel", name := "tells", desc := "(II)V" } : Jvm.MethodName)) ∈ lw_all := lw_g (lw_at lw_m7 30 rfl) rfl
theorem q1550 : (Jvm.Cond.code ({ cls := "HamsterWeekendsModel", name := "tells", desc := "(II)V" } : Jvm.MethodName) prog_22_method_25_code (3 : Nat) (Option.none : Option Jvm.ClassFile.FieldType)) ∈ lw_all := lw_g (lw_at lw_m7 31 rfl) rfl
theorem q1552 : (Jvm.Cond.instanceMethod ({ cls := "HamsterWeekendsModel", name := "classOf", desc := "(I)I" } : Jvm.MethodName)) ∈ lw_all := lw_g (lw_at lw_m7 33 rfl) rfl
theorem q1553 : (Jvm.Cond.selects "HamsterWeekendsModel" ({ cls := "HamsterWeekendsModel", name := "classOf", desc := "(I)I" } : Jvm.MethodName) ({ cls := "HamsterWeekendsModel", name := "classOf", desc := "(I)I" } : Jvm.MethodName)) ∈ lw_all := lw_g (lw_at lw_m7 34 rfl) rfl
theorem q1554 : (Jvm.Cond.code ({ cls := "HamsterWeekendsModel", name := "classOf", desc := "(I)I" } : Jvm.MethodName) prog_22_method_36_code (5 : Nat) (Option.some Jvm.ClassFile.FieldType.int)) ∈ lw_all := lw_g (lw_at lw_m7 35 rfl) rfl
theorem q1555 : (Jvm.Cond.methodLink "HamsterWeekendsModel" (119 : Nat) ({ cls := "HamsterWeekendsModel", name := "wanted", desc := "(I)I" } : Jvm.MethodName)) ∈ lw_all := lw_g (lw_at lw_m7 36 rfl) rfl
theorem q1556 : (Jvm.Cond.privateMethod ({ cls := "HamsterWeekendsModel", name := "wanted", desc := "(I)I" } : Jvm.MethodName)) ∈ lw_tbl := lw_at lw_m7 37 rfl
theorem q1557 : (Jvm.Cond.instanceMethod ({ cls := "HamsterWeekendsModel", name := "wanted", desc := "(I)I" } : Jvm.MethodName)) ∈ lw_all := lw_g (lw_at lw_m7 38 rfl) rfl
theorem q1558 : (Jvm.Cond.code ({ cls := "HamsterWeekendsModel", name := "wanted", desc := "(I)I" } : Jvm.MethodName) prog_22_method_15_code (2 : Nat) (Option.some Jvm.ClassFile.FieldType.int)) ∈ lw_all := lw_g (lw_at lw_m7 39 rfl) rfl
theorem q1559 : (Jvm.Cond.methodLink "HamsterWeekendsModel" (188 : Nat) ({ cls := "HamsterWeekendsModel", name := "all", desc := "([IZ)V" } : Jvm.MethodName)) ∈ lw_all := lw_g (lw_at lw_m7 40 rfl) rfl
theorem q1560 : (Jvm.Cond.privateMethod ({ cls := "HamsterWeekendsModel", name := "all", desc := "([IZ)V" } : Jvm.MethodName)) ∈ lw_tbl := lw_at lw_m7 41 rfl
theorem q1561 : (Jvm.Cond.instanceMethod ({ cls := "HamsterWeekendsModel", name := "all", desc := "([IZ)V" } : Jvm.MethodName)) ∈ lw_all := lw_g (lw_at lw_m7 42 rfl) rfl
theorem q1562 : (Jvm.Cond.code ({ cls := "HamsterWeekendsModel", name := "all", desc := "([IZ)V" } : Jvm.MethodName) prog_22_method_35_code (5 : Nat) (Option.none : Option Jvm.ClassFile.FieldType)) ∈ lw_all := lw_g (lw_at lw_m7 43 rfl) rfl
theorem q1563 : (Jvm.Cond.methodLink "HamsterWeekendsModel" (184 : Nat) ({ cls := "HamsterWeekendsModel", name := "carries", desc := "([II[IIZ)I" } : Jvm.MethodName)) ∈ lw_all := lw_g (lw_at lw_m7 44 rfl) rfl
theorem q1564 : (Jvm.Cond.privateMethod ({ cls := "HamsterWeekendsModel", name := "carries", desc := "([II[IIZ)I" } : Jvm.MethodName)) ∈ lw_tbl := lw_at lw_m7 45 rfl
theorem q1565 : (Jvm.Cond.instanceMethod ({ cls := "HamsterWeekendsModel", name := "carries", desc := "([II[IIZ)I" } : Jvm.MethodName)) ∈ lw_all := lw_g (lw_at lw_m7 46 rfl) rfl
theorem q1566 : (Jvm.Cond.code ({ cls := "HamsterWeekendsModel", name := "carries", desc := "([II[IIZ)I" } : Jvm.MethodName) prog_22_method_34_code (7 : Nat) (Option.some Jvm.ClassFile.FieldType.int)) ∈ lw_all := lw_g (lw_at lw_m7 47 rfl) rfl
theorem q1567 : (Jvm.Cond.methodLink "HamsterWeekendsModel" (192 : Nat) ({ cls := "HamsterWeekendsModel", name := "item", desc := "()Z" } : Jvm.MethodName)) ∈ lw_all := lw_g (lw_at lw_m7 48 rfl) rfl
theorem q1568 : (Jvm.Cond.privateMethod ({ cls := "HamsterWeekendsModel", name := "item", desc := "()Z" } : Jvm.MethodName)) ∈ lw_tbl := lw_at lw_m7 49 rfl
theorem q1569 : (Jvm.Cond.instanceMethod ({ cls := "HamsterWeekendsModel", name := "item", desc := "()Z" } : Jvm.MethodName)) ∈ lw_all := lw_g (lw_at lw_m7 50 rfl) rfl
theorem q1570 : (Jvm.Cond.code ({ cls := "HamsterWeekendsModel", name := "item", desc := "()Z" } : Jvm.MethodName) prog_22_method_33_code (4 : Nat) (Option.some Jvm.ClassFile.FieldType.boolean)) ∈ lw_all := lw_g (lw_at lw_m7 51 rfl) rfl
theorem q1571 : (Jvm.Cond.methodLink "HamsterWeekendsModel" (168 : Nat) ({ cls := "HamsterWeekendsModel", name := "isWordAt", desc := "(I)Z" } : Jvm.MethodName)) ∈ lw_all := lw_g (lw_at lw_m7 52 rfl) rfl
theorem q1572 : (Jvm.Cond.privateMethod ({ cls := "HamsterWeekendsModel", name := "isWordAt", desc := "(I)Z" } : Jvm.MethodName)) ∈ lw_tbl := lw_at lw_m7 53 rfl
theorem q1573 : (Jvm.Cond.instanceMethod ({ cls := "HamsterWeekendsModel", name := "isWordAt", desc := "(I)Z" } : Jvm.MethodName)) ∈ lw_all := lw_g (lw_at lw_m7 54 rfl) rfl
theorem q1574 : (Jvm.Cond.code ({ cls := "HamsterWeekendsModel", name := "isWordAt", desc := "(I)Z" } : Jvm.MethodName) prog_22_method_28_code (4 : Nat) (Option.some Jvm.ClassFile.FieldType.boolean)) ∈ lw_all := lw_g (lw_at lw_m7 55 rfl) rfl
theorem q1575 : (Jvm.Cond.methodLink "HamsterWeekendsModel" (162 : Nat) ({ cls := "HamsterWeekendsModel", name := "wrong", desc := "(I)Z" } : Jvm.MethodName)) ∈ lw_all := lw_g (lw_at lw_m7 56 rfl) rfl
theorem q1576 : (Jvm.Cond.privateMethod ({ cls := "HamsterWeekendsModel", name := "wrong", desc := "(I)Z" } : Jvm.MethodName)) ∈ lw_tbl := lw_at lw_m7 57 rfl
theorem q1577 : (Jvm.Cond.instanceMethod ({ cls := "HamsterWeekendsModel", name := "wrong", desc := "(I)Z" } : Jvm.MethodName)) ∈ lw_all := lw_g (lw_at lw_m7 58 rfl) rfl
theorem q1578 : (Jvm.Cond.code ({ cls := "HamsterWeekendsModel", name := "wrong", desc := "(I)Z" } : Jvm.MethodName) prog_22_method_27_code (2 : Nat) (Option.some Jvm.ClassFile.FieldType.boolean)) ∈ lw_all := lw_g (lw_at lw_m7 59 rfl) rfl
theorem q1579 : (Jvm.Cond.methodLink "HamsterWeekendsModel" (171 : Nat) ({ cls := "HamsterWeekendsModel", name := "word", desc := "()I" } : Jvm.MethodName)) ∈ lw_all := lw_g (lw_at lw_m7 60 rfl) rfl
theorem q1580 : (Jvm.Cond.privateMethod ({ cls := "HamsterWeekendsModel", name := "word", desc := "()I" } : Jvm.MethodName)) ∈ lw_tbl := lw_at lw_m7 61 rfl
theorem q1581 : (Jvm.Cond.instanceMethod ({ cls := "HamsterWeekendsModel", name := "word", desc := "()I" } : Jvm.MethodName)) ∈ lw_all := lw_g (lw_at lw_m7 62 rfl) rfl
theorem q1582 : (Jvm.Cond.code ({ cls := "HamsterWeekendsModel", name := "word", desc := "()I" } : Jvm.MethodName) prog_22_method_29_code (6 : Nat) (Option.some Jvm.ClassFile.FieldType.int)) ∈ lw_all := lw_g (lw_at lw_m7 63 rfl) rfl
theorem q1583 : (Jvm.Cond.methodLink "HamsterWeekendsModel" (175 : Nat) ({ cls := "HamsterWeekendsModel", name := "reads", desc := "()Z" } : Jvm.MethodName)) ∈ lw_all := lw_g (lw_at lw_m7 64 rfl) rfl
theorem q1584 : (Jvm.Cond.privateMethod ({ cls := "HamsterWeekendsModel", name := "reads", desc := "()Z" } : Jvm.MethodName)) ∈ lw_tbl := lw_at lw_m7 65 rfl
theorem q1585 : (Jvm.Cond.instanceMethod ({ cls := "HamsterWeekendsModel", name := "reads", desc := "()Z" } : Jvm.MethodName)) ∈ lw_all := lw_g (lw_at lw_m7 66 rfl) rfl
theorem q1586 : (Jvm.Cond.code ({ cls := "HamsterWeekendsModel", name := "reads", desc := "()Z" } : Jvm.MethodName) prog_22_method_31_code (2 : Nat) (Option.some Jvm.ClassFile.FieldType.boolean)) ∈ lw_all := lw_g (lw_at lw_m7 67 rfl) rfl
theorem q1587 : (Jvm.Cond.methodLink "HamsterWeekendsModel" (158 : Nat) ({ cls := "HamsterWeekendsModel", name := "isDigit", desc := "()Z" } : Jvm.MethodName)) ∈ lw_all := lw_g (lw_at lw_m7 68 rfl) rfl
theorem q1588 : (Jvm.Cond.privateMethod ({ cls := "HamsterWeekendsModel", name := "isDigit", desc := "()Z" } : Jvm.MethodName)) ∈ lw_tbl := lw_at lw_m7 69 rfl
theorem q1589 : (Jvm.Cond.instanceMethod ({ cls := "HamsterWeekendsModel", name := "isDigit", desc := "()Z" } : Jvm.MethodName)) ∈ lw_all := lw_g (lw_at lw_m7 70 rfl) rfl
theorem q1590 : (Jvm.Cond.code ({ cls := "HamsterWeekendsModel", name := "isDigit", desc := "()Z" } : Jvm.MethodName) prog_22_method_30_code (1 : Nat) (Option.some Jvm.ClassFile.FieldType.boolean)) ∈ lw_all := lw_g (lw_at lw_m7 71 rfl) rfl
theorem q1591 : (Jvm.Cond.methodLink "HamsterWeekendsModel" (178 : Nat) ({ cls := "HamsterWeekendsModel", name := "isSo", desc := "(II)Z" } : Jvm.MethodName)) ∈ lw_all := lw_g (lw_at lw_m7 72 rfl) rfl
theorem q1592 : (Jvm.Cond.privateMethod ({ cls := "HamsterWeekendsModel", name := "isSo", desc := "(II)Z" } : Jvm.MethodName)) ∈ lw_tbl := lw_at lw_m7 73 rfl
theorem q1593 : (Jvm.Cond.instanceMethod ({ cls := "HamsterWeekendsModel", name := "isSo", desc := "(II)Z" } : Jvm.MethodName)) ∈ lw_all := lw_g (lw_at lw_m7 74 rfl) rfl
theorem q1594 : (Jvm.Cond.code ({ cls := "HamsterWeekendsModel", name := "isSo", desc := "(II)Z" } : Jvm.MethodName) prog_22_method_32_code (3 : Nat) (Option.some Jvm.ClassFile.FieldType.boolean)) ∈ lw_all := lw_g (lw_at lw_m7 75 rfl) rfl
theorem q1595 : (Jvm.Cond.methodLink "HamsterWeekendsModel" (165 : Nat) ({ cls := "HamsterWeekendsModel", name := "may", desc := "(I)Z" } : Jvm.MethodName)) ∈ lw_all := lw_g (lw_at lw_m7 76 rfl) rfl
theorem q1596 : (Jvm.Cond.privateMethod ({ cls := "HamsterWeekendsModel", name := "may", desc := "(I)Z" } : Jvm.MethodName)) ∈ lw_tbl := lw_at lw_m7 77 rfl
theorem q1597 : (Jvm.Cond.instanceMethod ({ cls := "HamsterWeekendsModel", name := "may", desc := "(I)Z" } : Jvm.MethodName)) ∈ lw_all := lw_g (lw_at lw_m7 78 rfl) rfl
theorem q1598 : (Jvm.Cond.code ({ cls := "HamsterWeekendsModel", name := "may", desc := "(I)Z" } : Jvm.MethodName) prog_22_method_44_code (2 : Nat) (Option.some Jvm.ClassFile.FieldType.boolean)) ∈ lw_all := lw_g (lw_at lw_m7 79 rfl) rfl
theorem q1599 : (Jvm.Cond.methodLink "HamsterWeekendsModel" (181 : Nat) ({ cls := "HamsterWeekendsModel", name := "weekInTruth", desc := "(I)Z" } : Jvm.MethodName)) ∈ lw_all := lw_g (lw_at lw_m7 80 rfl) rfl
theorem q1600 : (Jvm.Cond.privateMethod ({ cls := "HamsterWeekendsModel", name := "weekInTruth", desc := "(I)Z" } : Jvm.MethodName)) ∈ lw_tbl := lw_at lw_m7 81 rfl
theorem q1601 : (Jvm.Cond.instanceMethod ({ cls := "HamsterWeekendsModel", name := "weekInTruth", desc := "(I)Z" } : Jvm.MethodName)) ∈ lw_all := lw_g (lw_at lw_m7 82 rfl) rfl
theorem q1602 : (Jvm.Cond.code ({ cls := "HamsterWeekendsModel", name := "weekInTruth", desc := "(I)Z" } : Jvm.MethodName) prog_22_method_73_code (3 : Nat) (Option.some Jvm.ClassFile.FieldType.boolean)) ∈ lw_all := lw_g (lw_at lw_m7 83 rfl) rfl
theorem q1603 : (Jvm.Cond.methodLink "HamsterWeekendsModel" (243 : Nat) ({ cls := "HamsterWeekendsModel", name := "begins", desc := "()V" } : Jvm.MethodName)) ∈ lw_all := lw_g (lw_at lw_m7 84 rfl) rfl
theorem q1604 : (Jvm.Cond.privateMethod ({ cls := "HamsterWeekendsModel", name := "begins", desc := "()V" } : Jvm.MethodName)) ∈ lw_tbl := lw_at lw_m7 85 rfl
theorem q1605 : (Jvm.Cond.instanceMethod ({ cls := "HamsterWeekendsModel", name := "begins", desc := "()V" } : Jvm.MethodName)) ∈ lw_all := lw_g (lw_at lw_m7 86 rfl) rfl
theorem q1606 : (Jvm.Cond.code ({ cls := "HamsterWeekendsModel", name := "begins", desc := "()V" } : Jvm.MethodName) prog_22_method_38_code (1 : Nat) (Option.none : Option Jvm.ClassFile.FieldType)) ∈ lw_all := lw_g (lw_at lw_m7 87 rfl) rfl
theorem q1607 : (Jvm.Cond.methodLink "HamsterWeekendsModel" (246 : Nat) ({ cls := "HamsterWeekendsModel", name := "goes", desc := "(I)Z" } : Jvm.MethodName)) ∈ lw_all := lw_g (lw_at lw_m7 88 rfl) rfl
theorem q1608 : (Jvm.Cond.privateMethod ({ cls := "HamsterWeekendsModel", name := "goes", desc := "(I)Z" } : Jvm.MethodName)) ∈ lw_tbl := lw_at lw_m7 89 rfl
theorem q1609 : (Jvm.Cond.instanceMethod ({ cls := "HamsterWeekendsModel", name := "goes", desc := "(I)Z" } : Jvm.MethodName)) ∈ lw_all := lw_g (lw_at lw_m7 90 rfl) rfl
theorem q1610 : (Jvm.Cond.code ({ cls := "HamsterWeekendsModel", name := "goes", desc := "(I)Z" } : Jvm.MethodName) prog_22_method_43_code (2 : Nat) (Option.some Jvm.ClassFile.FieldType.boolean)) ∈ lw_all := lw_g (lw_at lw_m7 91 rfl) rfl
theorem q1611 : (Jvm.Cond.methodLink "HamsterWeekendsModel" (219 : Nat) ({ cls := "HamsterWeekendsModel", name := "school", desc := "()V" } : Jvm.MethodName)) ∈ lw_all := lw_g (lw_at lw_m7 92 rfl) rfl
theorem q1612 : (Jvm.Cond.privateMethod ({ cls := "HamsterWeekendsModel", name := "school", desc := "()V" } : Jvm.MethodName)) ∈ lw_tbl := lw_at lw_m7 93 rfl
theorem q1613 : (Jvm.Cond.instanceMethod ({ cls := "HamsterWeekendsModel", name := "school", desc := "()V" } : Jvm.MethodName)) ∈ lw_all := lw_g (lw_at lw_m7 94 rfl) rfl
theorem q1614 : (Jvm.Cond.code ({ cls := "HamsterWeekendsModel", name := "school", desc := "()V" } : Jvm.MethodName) prog_22_method_41_code (2 : Nat) (Option.none : Option Jvm.ClassFile.FieldType)) ∈ lw_all := lw_g (lw_at lw_m7 95 rfl) rfl
theorem q1615 : (Jvm.Cond.methodLink "HamsterWeekendsModel" (213 : Nat) ({ cls := "HamsterWeekendsModel", name := "normOf", desc := "(I)I" } : Jvm.MethodName)) ∈ lw_all := lw_g (lw_at lw_m7 96 rfl) rfl
theorem q1616 : (Jvm.Cond.privateMethod ({ cls := "HamsterWeekendsModel", name := "normOf", desc := "(I)I" } : Jvm.MethodName)) ∈ lw_tbl := lw_at lw_m7 97 rfl
theorem q1617 : (Jvm.Cond.instanceMethod ({ cls := "HamsterWeekendsModel", name := "normOf", desc := "(I)I" } : Jvm.MethodName)) ∈ lw_all := lw_g (lw_at lw_m7 98 rfl) rfl
theorem q1618 : (Jvm.Cond.code ({ cls := "HamsterWeekendsModel", name := "normOf", desc := "(I)I" } : Jvm.MethodName) prog_22_method_39_code (3 : Nat) (Option.some Jvm.ClassFile.FieldType.int)) ∈ lw_all := lw_g (lw_at lw_m7 99 rfl) rfl
theorem q1619 : (Jvm.Cond.methodLink "HamsterWeekendsModel" (222 : Nat) ({ cls := "HamsterWeekendsModel", name := "weekend", desc := "(II)V" } : Jvm.MethodName)) ∈ lw_all := lw_g (lw_at lw_m7 100 rfl) rfl
theorem q1620 : (Jvm.Cond.privateMethod ({ cls := "HamsterWeekendsModel", name := "weekend", desc := "(II)V" } : Jvm.MethodName)) ∈ lw_tbl := lw_at lw_m7 101 rfl
theorem q1621 : (Jvm.Cond.instanceMethod ({ cls := "HamsterWeekendsModel", name := "weekend", desc := "(II)V" } : Jvm.MethodName)) ∈ lw_all := lw_g (lw_at lw_m7 102 rfl) rfl
theorem q1622 : (Jvm.Cond.code ({ cls := "HamsterWeekendsModel", name := "weekend", desc := "(II)V" } : Jvm.MethodName) prog_22_method_42_code (3 : Nat) (Option.none : Option Jvm.ClassFile.FieldType)) ∈ lw_all := lw_g (lw_at lw_m7 103 rfl) rfl
theorem q1623 : (Jvm.Cond.methodLink "HamsterWeekendsModel" (216 : Nat) ({ cls := "HamsterWeekendsModel", name := "bound", desc := "(II)I" } : Jvm.MethodName)) ∈ lw_all := lw_g (lw_at lw_m7 104 rfl) rfl
theorem q1624 : (Jvm.Cond.privateMethod ({ cls := "HamsterWeekendsModel", name := "bound", desc := "(II)I" } : Jvm.MethodName)) ∈ lw_tbl := lw_at lw_m7 105 rfl
theorem q1625 : (Jvm.Cond.instanceMethod ({ cls := "HamsterWeekendsModel", name := "bound", desc := "(II)I" } : Jvm.MethodName)) ∈ lw_all := lw_g (lw_at lw_m7 106 rfl) rfl
theorem q1626 : (Jvm.Cond.code ({ cls := "HamsterWeekendsModel", name := "bound", desc := "(II)I" } : Jvm.MethodName) prog_22_method_40_code (3 : Nat) (Option.some Jvm.ClassFile.FieldType.int)) ∈ lw_all := lw_g (lw_at lw_m7 107 rfl) rfl
theorem q1628 : (Jvm.Cond.instanceMethod ({ cls := "HamsterWeekendsModel", name := "fault", desc := "()I" } : Jvm.MethodName)) ∈ lw_all := lw_g (lw_at lw_m7 109 rfl) rfl
theorem q1629 : (Jvm.Cond.selects "HamsterWeekendsModel" ({ cls := "HamsterWeekendsModel", name := "fault", desc := "()I" } : Jvm.MethodName) ({ cls := "HamsterWeekendsModel", name := "fault", desc := "()I" } : Jvm.MethodName)) ∈ lw_all := lw_g (lw_at lw_m7 110 rfl) rfl
theorem q1630 : (Jvm.Cond.code ({ cls := "HamsterWeekendsModel", name := "fault", desc := "()I" } : Jvm.MethodName) prog_22_method_37_code (1 : Nat) (Option.some Jvm.ClassFile.FieldType.int)) ∈ lw_all := lw_g (lw_at lw_m7 111 rfl) rfl
theorem q1632 : (Jvm.Cond.instanceMethod ({ cls := "HamsterWeekendsModel", name := "norm", desc := "(I)I" } : Jvm.MethodName)) ∈ lw_all := lw_g (lw_at lw_m7 113 rfl) rfl
theorem q1633 : (Jvm.Cond.selects "HamsterWeekendsModel" ({ cls := "HamsterWeekendsModel", name := "norm", desc := "(I)I" } : Jvm.MethodName) ({ cls := "HamsterWeekendsModel", name := "norm", desc := "(I)I" } : Jvm.MethodName)) ∈ lw_all := lw_g (lw_at lw_m7 114 rfl) rfl
theorem q1634 : (Jvm.Cond.code ({ cls := "HamsterWeekendsModel", name := "norm", desc := "(I)I" } : Jvm.MethodName) prog_22_method_47_code (2 : Nat) (Option.some Jvm.ClassFile.FieldType.int)) ∈ lw_all := lw_g (lw_at lw_m7 115 rfl) rfl
theorem q1636 : (Jvm.Cond.instanceMethod ({ cls := "HamsterWeekendsModel", name := "judge", desc := "(II)I" } : Jvm.MethodName)) ∈ lw_all := lw_g (lw_at lw_m7 117 rfl) rfl
theorem q1637 : (Jvm.Cond.selects "HamsterWeekendsModel" ({ cls := "HamsterWeekendsModel", name := "judge", desc := "(II)I" } : Jvm.MethodName) ({ cls := "HamsterWeekendsModel", name := "judge", desc := "(II)I" } : Jvm.MethodName)) ∈ lw_all := lw_g (lw_at lw_m7 118 rfl) rfl
theorem q1638 : (Jvm.Cond.code ({ cls := "HamsterWeekendsModel", name := "judge", desc := "(II)I" } : Jvm.MethodName) prog_22_method_51_code (4 : Nat) (Option.some Jvm.ClassFile.FieldType.int)) ∈ lw_all := lw_g (lw_at lw_m7 119 rfl) rfl
theorem q1639 : (Jvm.Cond.methodLink "HamsterWeekendsModel" (231 : Nat) ({ cls := "HamsterWeekendsModel", name := "barsOf", desc := "(II)I" } : Jvm.MethodName)) ∈ lw_all := lw_g (lw_at lw_m7 120 rfl) rfl
theorem q1640 : (Jvm.Cond.privateMethod ({ cls := "HamsterWeekendsModel", name := "barsOf", desc := "(II)I" } : Jvm.MethodName)) ∈ lw_tbl := lw_at lw_m7 121 rfl
theorem q1641 : (Jvm.Cond.instanceMethod ({ cls := "HamsterWeekendsModel", name := "barsOf", desc := "(II)I" } : Jvm.MethodName)) ∈ lw_all := lw_g (lw_at lw_m7 122 rfl) rfl
theorem q1642 : (Jvm.Cond.code ({ cls := "HamsterWeekendsModel", name := "barsOf", desc := "(II)I" } : Jvm.MethodName) prog_22_method_49_code (4 : Nat) (Option.some Jvm.ClassFile.FieldType.int)) ∈ lw_all := lw_g (lw_at lw_m7 123 rfl) rfl
theorem q1643 : (Jvm.Cond.methodLink "HamsterWeekendsModel" (228 : Nat) ({ cls := "HamsterWeekendsModel", name := "bars", desc := "(II)I" } : Jvm.MethodName)) ∈ lw_all := lw_g (lw_at lw_m7 124 rfl) rfl
theorem q1644 : (Jvm.Cond.privateMethod ({ cls := "HamsterWeekendsModel", name := "bars", desc := "(II)I" } : Jvm.MethodName)) ∈ lw_tbl := lw_at lw_m7 125 rfl
theorem q1645 : (Jvm.Cond.instanceMethod ({ cls := "HamsterWeekendsModel", name := "bars", desc := "(II)I" } : Jvm.MethodName)) ∈ lw_all := lw_g (lw_at lw_m7 126 rfl) rfl
theorem q1646 : (Jvm.Cond.code ({ cls := "HamsterWeekendsModel", name := "bars", desc := "(II)I" } : Jvm.MethodName) prog_22_method_17_code (4 : Nat) (Option.some Jvm.ClassFile.FieldType.int)) ∈ lw_all := lw_g (lw_at lw_m7 127 rfl) rfl
theorem q1647 : (Jvm.Cond.methodLink "HamsterWeekendsModel" (237 : Nat) ({ cls := "HamsterWeekendsModel", name := "noTen", desc := "(I)I" } : Jvm.MethodName)) ∈ lw_all := lw_g (lw_at lw_m7 128 rfl) rfl
theorem q1648 : (Jvm.Cond.privateMethod ({ cls := "HamsterWeekendsModel", name := "noTen", desc := "(I)I" } : Jvm.MethodName)) ∈ lw_tbl := lw_at lw_m7 129 rfl
theorem q1649 : (Jvm.Cond.instanceMethod ({ cls := "HamsterWeekendsModel", name := "noTen", desc := "(I)I" } : Jvm.MethodName)) ∈ lw_all := lw_g (lw_at lw_m7 130 rfl) rfl
theorem q1650 : (Jvm.Cond.code ({ cls := "HamsterWeekendsModel", name := "noTen", desc := "(I)I" } : Jvm.MethodName) prog_22_method_3_code (2 : Nat) (Option.some Jvm.ClassFile.FieldType.int)) ∈ lw_all := lw_g (lw_at lw_m7 131 rfl) rfl
theorem q1651 : (Jvm.Cond.methodLink "HamsterWeekendsModel" (234 : Nat) ({ cls := "HamsterWeekendsModel", name := "wrongIn", desc := "(II)I" } : Jvm.MethodName)) ∈ lw_all := lw_g (lw_at lw_m7 132 rfl) rfl
theorem q1652 : (Jvm.Cond.privateMethod ({ cls := "HamsterWeekendsModel", name := "wrongIn", desc := "(II)I" } : Jvm.MethodName)) ∈ lw_tbl := lw_at lw_m7 133 rfl
theorem q1653 : (Jvm.Cond.instanceMethod ({ cls := "HamsterWeekendsModel", name := "wrongIn", desc := "(II)I" } : Jvm.MethodName)) ∈ lw_all := lw_g (lw_at lw_m7 134 rfl) rfl
theorem q1654 : (Jvm.Cond.code ({ cls := "HamsterWeekendsModel", name := "wrongIn", desc := "(II)I" } : Jvm.MethodName) prog_22_method_48_code (4 : Nat) (Option.some Jvm.ClassFile.FieldType.int)) ∈ lw_all := lw_g (lw_at lw_m7 135 rfl) rfl
theorem q1655 : (Jvm.Cond.methodLink "HamsterWeekendsModel" (225 : Nat) ({ cls := "HamsterWeekendsModel", name := "intAt", desc := "(II)I" } : Jvm.MethodName)) ∈ lw_all := lw_g (lw_at lw_m7 136 rfl) rfl
theorem q1656 : (Jvm.Cond.privateMethod ({ cls := "HamsterWeekendsModel", name := "intAt", desc := "(II)I" } : Jvm.MethodName)) ∈ lw_tbl := lw_at lw_m7 137 rfl
theorem q1657 : (Jvm.Cond.instanceMethod ({ cls := "HamsterWeekendsModel", name := "intAt", desc := "(II)I" } : Jvm.MethodName)) ∈ lw_all := lw_g (lw_at lw_m7 138 rfl) rfl
theorem q1658 : (Jvm.Cond.code ({ cls := "HamsterWeekendsModel", name := "intAt", desc := "(II)I" } : Jvm.MethodName) prog_22_method_16_code (3 : Nat) (Option.some Jvm.ClassFile.FieldType.int)) ∈ lw_all := lw_g (lw_at lw_m7 139 rfl) rfl
theorem q1660 : (Jvm.Cond.instanceMethod ({ cls := "HamsterWeekendsModel", name := "behind", desc := "(III)I" } : Jvm.MethodName)) ∈ lw_all := lw_g (lw_at lw_m7 141 rfl) rfl
theorem q1661 : (Jvm.Cond.selects "HamsterWeekendsModel" ({ cls := "HamsterWeekendsModel", name := "behind", desc := "(III)I" } : Jvm.MethodName) ({ cls := "HamsterWeekendsModel", name := "behind", desc := "(III)I" } : Jvm.MethodName)) ∈ lw_all := lw_g (lw_at lw_m7 142 rfl) rfl
theorem q1662 : (Jvm.Cond.code ({ cls := "HamsterWeekendsModel", name := "behind", desc := "(III)I" } : Jvm.MethodName) prog_22_method_52_code (6 : Nat) (Option.some Jvm.ClassFile.FieldType.int)) ∈ lw_all := lw_g (lw_at lw_m7 143 rfl) rfl
theorem q1663 : (Jvm.Cond.methodLink "HamsterWeekendsModel" (240 : Nat) ({ cls := "HamsterWeekendsModel", name := "barsRight", desc := "(II)I" } : Jvm.MethodName)) ∈ lw_all := lw_g (lw_at lw_m7 144 rfl) rfl
theorem q1664 : (Jvm.Cond.privateMethod ({ cls := "HamsterWeekendsModel", name := "barsRight", desc := "(II)I" } : Jvm.MethodName)) ∈ lw_tbl := lw_at lw_m7 145 rfl
theorem q1665 : (Jvm.Cond.instanceMethod ({ cls := "HamsterWeekendsModel", name := "barsRight", desc := "(II)I" } : Jvm.MethodName)) ∈ lw_all := lw_g (lw_at lw_m7 146 rfl) rfl
theorem q1666 : (Jvm.Cond.code ({ cls := "HamsterWeekendsModel", name := "barsRight", desc := "(II)I" } : Jvm.MethodName) prog_22_method_50_code (4 : Nat) (Option.some Jvm.ClassFile.FieldType.int)) ∈ lw_all := lw_g (lw_at lw_m7 147 rfl) rfl
theorem q1668 : (Jvm.Cond.instanceMethod ({ cls := "HamsterWeekendsModel", name := "whose", desc := "(I)I" } : Jvm.MethodName)) ∈ lw_all := lw_g (lw_at lw_m7 149 rfl) rfl
theorem q1669 : (Jvm.Cond.selects "HamsterWeekendsModel" ({ cls := "HamsterWeekendsModel", name := "whose", desc := "(I)I" } : Jvm.MethodName) ({ cls := "HamsterWeekendsModel", name := "whose", desc := "(I)I" } : Jvm.MethodName)) ∈ lw_all := lw_g (lw_at lw_m7 150 rfl) rfl
theorem q1670 : (Jvm.Cond.code ({ cls := "HamsterWeekendsModel", name := "whose", desc := "(I)I" } : Jvm.MethodName) prog_22_method_54_code (2 : Nat) (Option.some Jvm.ClassFile.FieldType.int)) ∈ lw_all := lw_g (lw_at lw_m7 151 rfl) rfl
theorem q1671 : (Jvm.Cond.methodLink "HamsterWeekendsModel" (249 : Nat) ({ cls := "HamsterWeekendsModel", name := "mays", desc := "()I" } : Jvm.MethodName)) ∈ lw_all := lw_g (lw_at lw_m7 152 rfl) rfl
theorem q1672 : (Jvm.Cond.privateMethod ({ cls := "HamsterWeekendsModel", name := "mays", desc := "()I" } : Jvm.MethodName)) ∈ lw_tbl := lw_at lw_m7 153 rfl
theorem q1673 : (Jvm.Cond.instanceMethod ({ cls := "HamsterWeekendsModel", name := "mays", desc := "()I" } : Jvm.MethodName)) ∈ lw_all := lw_g (lw_at lw_m7 154 rfl) rfl
theorem q1674 : (Jvm.Cond.code ({ cls := "HamsterWeekendsModel", name := "mays", desc := "()I" } : Jvm.MethodName) prog_22_method_45_code (3 : Nat) (Option.some Jvm.ClassFile.FieldType.int)) ∈ lw_all := lw_g (lw_at lw_m7 155 rfl) rfl
theorem q1675 : (Jvm.Cond.methodLink "HamsterWeekendsModel" (252 : Nat) ({ cls := "HamsterWeekendsModel", name := "turn", desc := "(I)I" } : Jvm.MethodName)) ∈ lw_all := lw_g (lw_at lw_m7 156 rfl) rfl
theorem q1676 : (Jvm.Cond.privateMethod ({ cls := "HamsterWeekendsModel", name := "turn", desc := "(I)I" } : Jvm.MethodName)) ∈ lw_tbl := lw_at lw_m7 157 rfl
theorem q1677 : (Jvm.Cond.instanceMethod ({ cls := "HamsterWeekendsModel", name := "turn", desc := "(I)I" } : Jvm.MethodName)) ∈ lw_all := lw_g (lw_at lw_m7 158 rfl) rfl
theorem q1678 : (Jvm.Cond.code ({ cls := "HamsterWeekendsModel", name := "turn", desc := "(I)I" } : Jvm.MethodName) prog_22_method_53_code (5 : Nat) (Option.some Jvm.ClassFile.FieldType.int)) ∈ lw_all := lw_g (lw_at lw_m7 159 rfl) rfl
theorem q1680 : (Jvm.Cond.instanceMethod ({ cls := "HamsterWeekendsModel", name := "order", desc := "(I)I" } : Jvm.MethodName)) ∈ lw_all := lw_g (lw_at lw_m7 161 rfl) rfl
theorem q1681 : (Jvm.Cond.selects "HamsterWeekendsModel" ({ cls := "HamsterWeekendsModel", name := "order", desc := "(I)I" } : Jvm.MethodName) ({ cls := "HamsterWeekendsModel", name := "order", desc := "(I)I" } : Jvm.MethodName)) ∈ lw_all := lw_g (lw_at lw_m7 162 rfl) rfl
theorem q1682 : (Jvm.Cond.code ({ cls := "HamsterWeekendsModel", name := "order", desc := "(I)I" } : Jvm.MethodName) prog_22_method_58_code (2 : Nat) (Option.some Jvm.ClassFile.FieldType.int)) ∈ lw_all := lw_g (lw_at lw_m7 163 rfl) rfl
theorem q1683 : (Jvm.Cond.methodLink "HamsterWeekendsModel" (272 : Nat) ({ cls := "HamsterWeekendsModel", name := "ordered", desc := "()I" } : Jvm.MethodName)) ∈ lw_all := lw_g (lw_at lw_m7 164 rfl) rfl
theorem q1684 : (Jvm.Cond.privateMethod ({ cls := "HamsterWeekendsModel", name := "ordered", desc := "()I" } : Jvm.MethodName)) ∈ lw_tbl := lw_at lw_m7 165 rfl
theorem q1685 : (Jvm.Cond.instanceMethod ({ cls := "HamsterWeekendsModel", name := "ordered", desc := "()I" } : Jvm.MethodName)) ∈ lw_all := lw_g (lw_at lw_m7 166 rfl) rfl
theorem q1686 : (Jvm.Cond.code ({ cls := "HamsterWeekendsModel", name := "ordered", desc := "()I" } : Jvm.MethodName) prog_22_method_57_code (2 : Nat) (Option.some Jvm.ClassFile.FieldType.int)) ∈ lw_all := lw_g (lw_at lw_m7 167 rfl) rfl
theorem q1687 : (Jvm.Cond.methodLink "HamsterWeekendsModel" (268 : Nat) ({ cls := "HamsterWeekendsModel", name := "orders", desc := "(III)V" } : Jvm.MethodName)) ∈ lw_all := lw_g (lw_at lw_m7 168 rfl) rfl
theorem q1688 : (Jvm.Cond.privateMethod ({ cls := "HamsterWeekendsModel", name := "orders", desc := "(III)V" } : Jvm.MethodName)) ∈ lw_tbl := lw_at lw_m7 169 rfl
theorem q1689 : (Jvm.Cond.instanceMethod ({ cls := "HamsterWeekendsModel", name := "orders", desc := "(III)V" } : Jvm.MethodName)) ∈ lw_all := lw_g (lw_at lw_m7 170 rfl) rfl
theorem q1690 : (Jvm.Cond.code ({ cls := "HamsterWeekendsModel", name := "orders", desc := "(III)V" } : Jvm.MethodName) prog_22_method_56_code (5 : Nat) (Option.none : Option Jvm.ClassFile.FieldType)) ∈ lw_all := lw_g (lw_at lw_m7 171 rfl) rfl
theorem q1691 : (Jvm.Cond.methodLink "HamsterWeekendsModel" (261 : Nat) ({ cls := "HamsterWeekendsModel", name := "tries", desc := "(I)V" } : Jvm.MethodName)) ∈ lw_all := lw_g (lw_at lw_m7 172 rfl) rfl
theorem q1692 : (Jvm.Cond.privateMethod ({ cls := "HamsterWeekendsModel", name := "tries", desc := "(I)V" } : Jvm.MethodName)) ∈ lw_tbl := lw_at lw_m7 173 rfl
theorem q1693 : (Jvm.Cond.instanceMethod ({ cls := "HamsterWeekendsModel", name := "tries", desc := "(I)V" } : Jvm.MethodName)) ∈ lw_all := lw_g (lw_at lw_m7 174 rfl) rfl
theorem q1694 : (Jvm.Cond.code ({ cls := "HamsterWeekendsModel", name := "tries", desc := "(I)V" } : Jvm.MethodName) prog_22_method_55_code (4 : Nat) (Option.none : Option Jvm.ClassFile.FieldType)) ∈ lw_all := lw_g (lw_at lw_m7 175 rfl) rfl
theorem q1695 : (Jvm.Cond.methodLink "HamsterWeekendsModel" (265 : Nat) ({ cls := "HamsterWeekendsModel", name := "mayAt", desc := "(I)I" } : Jvm.MethodName)) ∈ lw_all := lw_g (lw_at lw_m7 176 rfl) rfl
theorem q1696 : (Jvm.Cond.privateMethod ({ cls := "HamsterWeekendsModel", name := "mayAt", desc := "(I)I" } : Jvm.MethodName)) ∈ lw_tbl := lw_at lw_m7 177 rfl
theorem q1697 : (Jvm.Cond.instanceMethod ({ cls := "HamsterWeekendsModel", name := "mayAt", desc := "(I)I" } : Jvm.MethodName)) ∈ lw_all := lw_g (lw_at lw_m7 178 rfl) rfl
theorem q1698 : (Jvm.Cond.code ({ cls := "HamsterWeekendsModel", name := "mayAt", desc := "(I)I" } : Jvm.MethodName) prog_22_method_46_code (4 : Nat) (Option.some Jvm.ClassFile.FieldType.int)) ∈ lw_all := lw_g (lw_at lw_m7 179 rfl) rfl
theorem q1700 : (Jvm.Cond.instanceMethod ({ cls := "HamsterWeekendsModel", name := "least", desc := "()I" } : Jvm.MethodName)) ∈ lw_all := lw_g (lw_at lw_m7 181 rfl) rfl
theorem q1701 : (Jvm.Cond.selects "HamsterWeekendsModel" ({ cls := "HamsterWeekendsModel", name := "least", desc := "()I" } : Jvm.MethodName) ({ cls := "HamsterWeekendsModel", name := "least", desc := "()I" } : Jvm.MethodName)) ∈ lw_all := lw_g (lw_at lw_m7 182 rfl) rfl
theorem q1702 : (Jvm.Cond.code ({ cls := "HamsterWeekendsModel", name := "least", desc := "()I" } : Jvm.MethodName) prog_22_method_59_code (1 : Nat) (Option.some Jvm.ClassFile.FieldType.int)) ∈ lw_all := lw_g (lw_at lw_m7 183 rfl) rfl
theorem q1704 : (Jvm.Cond.instanceMethod ({ cls := "HamsterWeekendsModel", name := "was", desc := "(II)I" } : Jvm.MethodName)) ∈ lw_all := lw_g (lw_at lw_m7 185 rfl) rfl
theorem q1705 : (Jvm.Cond.selects "HamsterWeekendsModel" ({ cls := "HamsterWeekendsModel", name := "was", desc := "(II)I" } : Jvm.MethodName) ({ cls := "HamsterWeekendsModel", name := "was", desc := "(II)I" } : Jvm.MethodName)) ∈ lw_all := lw_g (lw_at lw_m7 186 rfl) rfl
theorem q1706 : (Jvm.Cond.code ({ cls := "HamsterWeekendsModel", name := "was", desc := "(II)I" } : Jvm.MethodName) prog_22_method_60_code (6 : Nat) (Option.some Jvm.ClassFile.FieldType.int)) ∈ lw_all := lw_g (lw_at lw_m7 187 rfl) rfl
theorem q1707 : (Jvm.Cond.methodLink "HamsterWeekendsModel" (275 : Nat) ({ cls := "HamsterWeekendsModel", name := "isWeight", desc := "(I)Z" } : Jvm.MethodName)) ∈ lw_all := lw_g (lw_at lw_m7 188 rfl) rfl
theorem q1708 : (Jvm.Cond.privateMethod ({ cls := "HamsterWeekendsModel", name := "isWeight", desc := "(I)Z" } : Jvm.MethodName)) ∈ lw_tbl := lw_at lw_m7 189 rfl
theorem q1709 : (Jvm.Cond.instanceMethod ({ cls := "HamsterWeekendsModel", name := "isWeight", desc := "(I)Z" } : Jvm.MethodName)) ∈ lw_all := lw_g (lw_at lw_m7 190 rfl) rfl
theorem q1710 : (Jvm.Cond.code ({ cls := "HamsterWeekendsModel", name := "isWeight", desc := "(I)Z" } : Jvm.MethodName) prog_22_method_7_code (2 : Nat) (Option.some Jvm.ClassFile.FieldType.boolean)) ∈ lw_all := lw_g (lw_at lw_m7 191 rfl) rfl
theorem q1712 : (Jvm.Cond.instanceMethod ({ cls := "HamsterWeekendsModel", name := "fit", desc := "(I)I" } : Jvm.MethodName)) ∈ lw_all := lw_g (lw_at lw_m7 193 rfl) rfl
theorem q1713 : (Jvm.Cond.selects "HamsterWeekendsModel" ({ cls := "HamsterWeekendsModel", name := "fit", desc := "(I)I" } : Jvm.MethodName) ({ cls := "HamsterWeekendsModel", name := "fit", desc := "(I)I" } : Jvm.MethodName)) ∈ lw_all := lw_g (lw_at lw_m7 194 rfl) rfl
theorem q1714 : (Jvm.Cond.code ({ cls := "HamsterWeekendsModel", name := "fit", desc := "(I)I" } : Jvm.MethodName) prog_22_method_61_code (4 : Nat) (Option.some Jvm.ClassFile.FieldType.int)) ∈ lw_all := lw_g (lw_at lw_m7 195 rfl) rfl
theorem q1716 : (Jvm.Cond.instanceMethod ({ cls := "HamsterWeekendsModel", name := "chance", desc := "(I)I" } : Jvm.MethodName)) ∈ lw_all := lw_g (lw_at lw_m7 197 rfl) rfl
theorem q1717 : (Jvm.Cond.selects "HamsterWeekendsModel" ({ cls := "HamsterWeekendsModel", name := "chance", desc := "(I)I" } : Jvm.MethodName) ({ cls := "HamsterWeekendsModel", name := "chance", desc := "(I)I" } : Jvm.MethodName)) ∈ lw_all := lw_g (lw_at lw_m7 198 rfl) rfl
theorem q1718 : (Jvm.Cond.code ({ cls := "HamsterWeekendsModel", name := "chance", desc := "(I)I" } : Jvm.MethodName) prog_22_method_64_code (2 : Nat) (Option.some Jvm.ClassFile.FieldType.int)) ∈ lw_all := lw_g (lw_at lw_m7 199 rfl) rfl
theorem q1719 : (Jvm.Cond.methodLink "HamsterWeekendsModel" (278 : Nat) ({ cls := "HamsterWeekendsModel", name := "isFew", desc := "(I)Z" } : Jvm.MethodName)) ∈ lw_all := lw_g (lw_at lw_m7 200 rfl) rfl
theorem q1720 : (Jvm.Cond.privateMethod ({ cls := "HamsterWeekendsModel", name := "isFew", desc := "(I)Z" } : Jvm.MethodName)) ∈ lw_tbl := lw_at lw_m7 201 rfl
theorem q1721 : (Jvm.Cond.instanceMethod ({ cls := "HamsterWeekendsModel", name := "isFew", desc := "(I)Z" } : Jvm.MethodName)) ∈ lw_all := lw_g (lw_at lw_m7 202 rfl) rfl
theorem q1722 : (Jvm.Cond.code ({ cls := "HamsterWeekendsModel", name := "isFew", desc := "(I)Z" } : Jvm.MethodName) prog_22_method_63_code (2 : Nat) (Option.some Jvm.ClassFile.FieldType.boolean)) ∈ lw_all := lw_g (lw_at lw_m7 203 rfl) rfl
theorem q1723 : (Jvm.Cond.methodLink "HamsterWeekendsModel" (281 : Nat) ({ cls := "HamsterWeekendsModel", name := "dying", desc := "(I)I" } : Jvm.MethodName)) ∈ lw_all := lw_g (lw_at lw_m7 204 rfl) rfl
theorem q1724 : (Jvm.Cond.privateMethod ({ cls := "HamsterWeekendsModel", name := "dying", desc := "(I)I" } : Jvm.MethodName)) ∈ lw_tbl := lw_at lw_m7 205 rfl
theorem q1725 : (Jvm.Cond.instanceMethod ({ cls := "HamsterWeekendsModel", name := "dying", desc := "(I)I" } : Jvm.MethodName)) ∈ lw_all := lw_g (lw_at lw_m7 206 rfl) rfl
theorem q1726 : (Jvm.Cond.code ({ cls := "HamsterWeekendsModel", name := "dying", desc := "(I)I" } : Jvm.MethodName) prog_22_method_62_code (9 : Nat) (Option.some Jvm.ClassFile.FieldType.int)) ∈ lw_all := lw_g (lw_at lw_m7 207 rfl) rfl
theorem q1728 : (Jvm.Cond.instanceMethod ({ cls := "HamsterWeekendsModel", name := "last", desc := "(III)I" } : Jvm.MethodName)) ∈ lw_all := lw_g (lw_at lw_m7 209 rfl) rfl
theorem q1729 : (Jvm.Cond.selects "HamsterWeekendsModel" ({ cls := "HamsterWeekendsModel", name := "last", desc := "(III)I" } : Jvm.MethodName) ({ cls := "HamsterWeekendsModel", name := "last", desc := "(III)I" } : Jvm.MethodName)) ∈ lw_all := lw_g (lw_at lw_m7 210 rfl) rfl
theorem q1730 : (Jvm.Cond.code ({ cls := "HamsterWeekendsModel", name := "last", desc := "(III)I" } : Jvm.MethodName) prog_22_method_65_code (5 : Nat) (Option.some Jvm.ClassFile.FieldType.int)) ∈ lw_all := lw_g (lw_at lw_m7 211 rfl) rfl
theorem q1732 : (Jvm.Cond.instanceMethod ({ cls := "HamsterWeekendsModel", name := "carried", desc := "(II)I" } : Jvm.MethodName)) ∈ lw_all := lw_g (lw_at lw_m7 213 rfl) rfl
theorem q1733 : (Jvm.Cond.selects "HamsterWeekendsModel" ({ cls := "HamsterWeekendsModel", name := "carried", desc := "(II)I" } : Jvm.MethodName) ({ cls := "HamsterWeekendsModel", name := "carried", desc := "(II)I" } : Jvm.MethodName)) ∈ lw_all := lw_g (lw_at lw_m7 214 rfl) rfl
theorem q1734 : (Jvm.Cond.code ({ cls := "HamsterWeekendsModel", name := "carried", desc := "(II)I" } : Jvm.MethodName) prog_22_method_66_code (6 : Nat) (Option.some Jvm.ClassFile.FieldType.int)) ∈ lw_all := lw_g (lw_at lw_m7 215 rfl) rfl
theorem q1735 : (Jvm.Cond.methodLink "HamsterWeekendsModel" (284 : Nat) ({ cls := "HamsterWeekendsModel", name := "noFar", desc := "(I)I" } : Jvm.MethodName)) ∈ lw_all := lw_g (lw_at lw_m7 216 rfl) rfl
theorem q1736 : (Jvm.Cond.privateMethod ({ cls := "HamsterWeekendsModel", name := "noFar", desc := "(I)I" } : Jvm.MethodName)) ∈ lw_tbl := lw_at lw_m7 217 rfl
theorem q1737 : (Jvm.Cond.instanceMethod ({ cls := "HamsterWeekendsModel", name := "noFar", desc := "(I)I" } : Jvm.MethodName)) ∈ lw_all := lw_g (lw_at lw_m7 218 rfl) rfl
theorem q1738 : (Jvm.Cond.code ({ cls := "HamsterWeekendsModel", name := "noFar", desc := "(I)I" } : Jvm.MethodName) prog_22_method_4_code (2 : Nat) (Option.some Jvm.ClassFile.FieldType.int)) ∈ lw_all := lw_g (lw_at lw_m7 219 rfl) rfl
theorem q1740 : (Jvm.Cond.instanceMethod ({ cls := "HamsterWeekendsModel", name := "leastFeed", desc := "(III)I" } : Jvm.MethodName)) ∈ lw_all := lw_g (lw_at lw_m7 221 rfl) rfl
theorem q1741 : (Jvm.Cond.selects "HamsterWeekendsModel" ({ cls := "HamsterWeekendsModel", name := "leastFeed", desc := "(III)I" } : Jvm.MethodName) ({ cls := "HamsterWeekendsModel", name := "leastFeed", desc := "(III)I" } : Jvm.MethodName)) ∈ lw_all := lw_g (lw_at lw_m7 222 rfl) rfl
theorem q1742 : (Jvm.Cond.code ({ cls := "HamsterWeekendsModel", name := "leastFeed", desc := "(III)I" } : Jvm.MethodName) prog_22_method_68_code (7 : Nat) (Option.some Jvm.ClassFile.FieldType.int)) ∈ lw_all := lw_g (lw_at lw_m7 223 rfl) rfl
theorem q1743 : (Jvm.Cond.methodLink "HamsterWeekendsModel" (287 : Nat) ({ cls := "HamsterWeekendsModel", name := "isFed", desc := "(III)Z" } : Jvm.MethodName)) ∈ lw_all := lw_g (lw_at lw_m7 224 rfl) rfl
theorem q1744 : (Jvm.Cond.privateMethod ({ cls := "HamsterWeekendsModel", name := "isFed", desc := "(III)Z" } : Jvm.MethodName)) ∈ lw_tbl := lw_at lw_m7 225 rfl
theorem q1745 : (Jvm.Cond.instanceMethod ({ cls := "HamsterWeekendsModel", name := "isFed", desc := "(III)Z" } : Jvm.MethodName)) ∈ lw_all := lw_g (lw_at lw_m7 226 rfl) rfl
theorem q1746 : (Jvm.Cond.code ({ cls := "HamsterWeekendsModel", name := "isFed", desc := "(III)Z" } : Jvm.MethodName) prog_22_method_67_code (5 : Nat) (Option.some Jvm.ClassFile.FieldType.boolean)) ∈ lw_all := lw_g (lw_at lw_m7 227 rfl) rfl
theorem q1748 : (Jvm.Cond.instanceMethod ({ cls := "HamsterWeekendsModel", name := "lasts", desc := "()I" } : Jvm.MethodName)) ∈ lw_all := lw_g (lw_at lw_m7 229 rfl) rfl
theorem q1749 : (Jvm.Cond.selects "HamsterWeekendsModel" ({ cls := "HamsterWeekendsModel", name := "lasts", desc := "()I" } : Jvm.MethodName) ({ cls := "HamsterWeekendsModel", name := "lasts", desc := "()I" } : Jvm.MethodName)) ∈ lw_all := lw_g (lw_at lw_m7 230 rfl) rfl
theorem q1750 : (Jvm.Cond.code ({ cls := "HamsterWeekendsModel", name := "lasts", desc := "()I" } : Jvm.MethodName) prog_22_method_69_code (2 : Nat) (Option.some Jvm.ClassFile.FieldType.int)) ∈ lw_all := lw_g (lw_at lw_m7 231 rfl) rfl
theorem q1752 : (Jvm.Cond.instanceMethod ({ cls := "HamsterWeekendsModel", name := "noticed", desc := "(III)I" } : Jvm.MethodName)) ∈ lw_all := lw_g (lw_at lw_m7 233 rfl) rfl
theorem q1753 : (Jvm.Cond.selects "HamsterWeekendsModel" ({ cls := "HamsterWeekendsModel", name := "noticed", desc := "(III)I" } : Jvm.MethodName) ({ cls := "HamsterWeekendsModel", name := "noticed", desc := "(III)I" } : Jvm.MethodName)) ∈ lw_all := lw_g (lw_at lw_m7 234 rfl) rfl
theorem q1754 : (Jvm.Cond.code ({ cls := "HamsterWeekendsModel", name := "noticed", desc := "(III)I" } : Jvm.MethodName) prog_22_method_70_code (8 : Nat) (Option.some Jvm.ClassFile.FieldType.int)) ∈ lw_all := lw_g (lw_at lw_m7 235 rfl) rfl
theorem q1756 : (Jvm.Cond.instanceMethod ({ cls := "HamsterWeekendsModel", name := "swap", desc := "(II)I" } : Jvm.MethodName)) ∈ lw_all := lw_g (lw_at lw_m7 237 rfl) rfl
theorem q1757 : (Jvm.Cond.selects "HamsterWeekendsModel" ({ cls := "HamsterWeekendsModel", name := "swap", desc := "(II)I" } : Jvm.MethodName) ({ cls := "HamsterWeekendsModel", name := "swap", desc := "(II)I" } : Jvm.MethodName)) ∈ lw_all := lw_g (lw_at lw_m7 238 rfl) rfl
theorem q1758 : (Jvm.Cond.code ({ cls := "HamsterWeekendsModel", name := "swap", desc := "(II)I" } : Jvm.MethodName) prog_22_method_72_code (9 : Nat) (Option.some Jvm.ClassFile.FieldType.int)) ∈ lw_all := lw_g (lw_at lw_m7 239 rfl) rfl
theorem q1759 : (Jvm.Cond.methodLink "HamsterWeekendsModel" (291 : Nat) ({ cls := "HamsterWeekendsModel", name := "swapped", desc := "(IIII)V" } : Jvm.MethodName)) ∈ lw_all := lw_g (lw_at lw_m8 0 rfl) rfl
theorem q1760 : (Jvm.Cond.privateMethod ({ cls := "HamsterWeekendsModel", name := "swapped", desc := "(IIII)V" } : Jvm.MethodName)) ∈ lw_tbl := lw_at lw_m8 1 rfl
theorem q1761 : (Jvm.Cond.instanceMethod ({ cls := "HamsterWeekendsModel", name := "swapped", desc := "(IIII)V" } : Jvm.MethodName)) ∈ lw_all := lw_g (lw_at lw_m8 2 rfl) rfl
theorem q1762 : (Jvm.Cond.code ({ cls := "HamsterWeekendsModel", name := "swapped", desc := "(IIII)V" } : Jvm.MethodName) prog_22_method_71_code (6 : Nat) (Option.none : Option Jvm.ClassFile.FieldType)) ∈ lw_all := lw_g (lw_at lw_m8 3 rfl) rfl
theorem q1764 : (Jvm.Cond.instanceMethod ({ cls := "HamsterWeekendsModel", name := "week", desc := "(I)I" } : Jvm.MethodName)) ∈ lw_all := lw_g (lw_at lw_m8 5 rfl) rfl
theorem q1765 : (Jvm.Cond.selects "HamsterWeekendsModel" ({ cls := "HamsterWeekendsModel", name := "week", desc := "(I)I" } : Jvm.MethodName) ({ cls := "HamsterWeekendsModel", name := "week", desc := "(I)I" } : Jvm.MethodName)) ∈ lw_all := lw_g (lw_at lw_m8 6 rfl) rfl
theorem q1766 : (Jvm.Cond.code ({ cls := "HamsterWeekendsModel", name := "week", desc := "(I)I" } : Jvm.MethodName) prog_22_method_74_code (2 : Nat) (Option.some Jvm.ClassFile.FieldType.int)) ∈ lw_all := lw_g (lw_at lw_m8 7 rfl) rfl
theorem q1768 : (Jvm.Cond.instanceMethod ({ cls := "HamsterWeekendsModel", name := "weeks", desc := "(II)I" } : Jvm.MethodName)) ∈ lw_all := lw_g (lw_at lw_m8 9 rfl) rfl
theorem q1769 : (Jvm.Cond.selects "HamsterWeekendsModel" ({ cls := "HamsterWeekendsModel", name := "weeks", desc := "(II)I" } : Jvm.MethodName) ({ cls := "HamsterWeekendsModel", name := "weeks", desc := "(II)I" } : Jvm.MethodName)) ∈ lw_all := lw_g (lw_at lw_m8 10 rfl) rfl
theorem q1770 : (Jvm.Cond.code ({ cls := "HamsterWeekendsModel", name := "weeks", desc := "(II)I" } : Jvm.MethodName) prog_22_method_75_code (5 : Nat) (Option.some Jvm.ClassFile.FieldType.int)) ∈ lw_all := lw_g (lw_at lw_m8 11 rfl) rfl
theorem q1772 : (Jvm.Cond.instanceMethod ({ cls := "HamsterWeekendsModel", name := "term", desc := "(I)I" } : Jvm.MethodName)) ∈ lw_all := lw_g (lw_at lw_m8 13 rfl) rfl
theorem q1773 : (Jvm.Cond.selects "HamsterWeekendsModel" ({ cls := "HamsterWeekendsModel", name := "term", desc := "(I)I" } : Jvm.MethodName) ({ cls := "HamsterWeekendsModel", name := "term", desc := "(I)I" } : Jvm.MethodName)) ∈ lw_all := lw_g (lw_at lw_m8 14 rfl) rfl
theorem q1774 : (Jvm.Cond.code ({ cls := "HamsterWeekendsModel", name := "term", desc := "(I)I" } : Jvm.MethodName) prog_22_method_77_code (4 : Nat) (Option.some Jvm.ClassFile.FieldType.int)) ∈ lw_all := lw_g (lw_at lw_m8 15 rfl) rfl
theorem q1775 : (Jvm.Cond.methodLink "HamsterWeekendsModel" (296 : Nat) ({ cls := "HamsterWeekendsModel", name := "draw", desc := "(I)I" } : Jvm.MethodName)) ∈ lw_all := lw_g (lw_at lw_m8 16 rfl) rfl
theorem q1776 : (Jvm.Cond.privateMethod ({ cls := "HamsterWeekendsModel", name := "draw", desc := "(I)I" } : Jvm.MethodName)) ∈ lw_tbl := lw_at lw_m8 17 rfl
theorem q1777 : (Jvm.Cond.instanceMethod ({ cls := "HamsterWeekendsModel", name := "draw", desc := "(I)I" } : Jvm.MethodName)) ∈ lw_all := lw_g (lw_at lw_m8 18 rfl) rfl
theorem q1778 : (Jvm.Cond.code ({ cls := "HamsterWeekendsModel", name := "draw", desc := "(I)I" } : Jvm.MethodName) prog_22_method_76_code (2 : Nat) (Option.some Jvm.ClassFile.FieldType.int)) ∈ lw_all := lw_g (lw_at lw_m8 19 rfl) rfl
theorem q1779 : (Jvm.Cond.constant "HamsterWeekendsModel" (295 : Nat) (1103515245 : Int32)) ∈ lw_all := lw_g (lw_at lw_m8 20 rfl) rfl
theorem q1781 : (Jvm.Cond.instanceMethod ({ cls := "HamsterWeekendsModel", name := "anew", desc := "()I" } : Jvm.MethodName)) ∈ lw_all := lw_g (lw_at lw_m8 22 rfl) rfl
theorem q1782 : (Jvm.Cond.selects "HamsterWeekendsModel" ({ cls := "HamsterWeekendsModel", name := "anew", desc := "()I" } : Jvm.MethodName) ({ cls := "HamsterWeekendsModel", name := "anew", desc := "()I" } : Jvm.MethodName)) ∈ lw_all := lw_g (lw_at lw_m8 23 rfl) rfl
theorem q1783 : (Jvm.Cond.code ({ cls := "HamsterWeekendsModel", name := "anew", desc := "()I" } : Jvm.MethodName) prog_22_method_78_code (3 : Nat) (Option.some Jvm.ClassFile.FieldType.int)) ∈ lw_all := lw_g (lw_at lw_m8 24 rfl) rfl
theorem q1785 : (Jvm.Cond.instanceMethod ({ cls := "HamsterWeekendsModel", name := "seed", desc := "(I)I" } : Jvm.MethodName)) ∈ lw_all := lw_g (lw_at lw_m8 26 rfl) rfl
theorem q1786 : (Jvm.Cond.selects "HamsterWeekendsModel" ({ cls := "HamsterWeekendsModel", name := "seed", desc := "(I)I" } : Jvm.MethodName) ({ cls := "HamsterWeekendsModel", name := "seed", desc := "(I)I" } : Jvm.MethodName)) ∈ lw_all := lw_g (lw_at lw_m8 27 rfl) rfl
theorem q1787 : (Jvm.Cond.code ({ cls := "HamsterWeekendsModel", name := "seed", desc := "(I)I" } : Jvm.MethodName) prog_22_method_79_code (3 : Nat) (Option.some Jvm.ClassFile.FieldType.int)) ∈ lw_all := lw_g (lw_at lw_m8 28 rfl) rfl
theorem q1789 : (Jvm.Cond.instanceMethod ({ cls := "HamsterWeekendsModel", name := "act", desc := "(III)I" } : Jvm.MethodName)) ∈ lw_all := lw_g (lw_at lw_m8 30 rfl) rfl
theorem q1790 : (Jvm.Cond.selects "HamsterWeekendsModel" ({ cls := "HamsterWeekendsModel", name := "act", desc := "(III)I" } : Jvm.MethodName) ({ cls := "HamsterWeekendsModel", name := "act", desc := "(III)I" } : Jvm.MethodName)) ∈ lw_all := lw_g (lw_at lw_m8 31 rfl) rfl
theorem q1791 : (Jvm.Cond.code ({ cls := "HamsterWeekendsModel", name := "act", desc := "(III)I" } : Jvm.MethodName) prog_22_method_84_code (4 : Nat) (Option.some Jvm.ClassFile.FieldType.int)) ∈ lw_all := lw_g (lw_at lw_m8 32 rfl) rfl
theorem q1792 : (Jvm.Cond.methodLink "HamsterWeekendsModel" (305 : Nat) ({ cls := "HamsterWeekendsModel", name := "feeding", desc := "(II)I" } : Jvm.MethodName)) ∈ lw_all := lw_g (lw_at lw_m8 33 rfl) rfl
theorem q1793 : (Jvm.Cond.privateMethod ({ cls := "HamsterWeekendsModel", name := "feeding", desc := "(II)I" } : Jvm.MethodName)) ∈ lw_tbl := lw_at lw_m8 34 rfl
theorem q1794 : (Jvm.Cond.instanceMethod ({ cls := "HamsterWeekendsModel", name := "feeding", desc := "(II)I" } : Jvm.MethodName)) ∈ lw_all := lw_g (lw_at lw_m8 35 rfl) rfl
theorem q1795 : (Jvm.Cond.code ({ cls := "HamsterWeekendsModel", name := "feeding", desc := "(II)I" } : Jvm.MethodName) prog_22_method_81_code (5 : Nat) (Option.some Jvm.ClassFile.FieldType.int)) ∈ lw_all := lw_g (lw_at lw_m8 36 rfl) rfl
theorem q1796 : (Jvm.Cond.methodLink "HamsterWeekendsModel" (302 : Nat) ({ cls := "HamsterWeekendsModel", name := "body", desc := "(I)V" } : Jvm.MethodName)) ∈ lw_all := lw_g (lw_at lw_m8 37 rfl) rfl
theorem q1797 : (Jvm.Cond.privateMethod ({ cls := "HamsterWeekendsModel", name := "body", desc := "(I)V" } : Jvm.MethodName)) ∈ lw_tbl := lw_at lw_m8 38 rfl
theorem q1798 : (Jvm.Cond.instanceMethod ({ cls := "HamsterWeekendsModel", name := "body", desc := "(I)V" } : Jvm.MethodName)) ∈ lw_all := lw_g (lw_at lw_m8 39 rfl) rfl
theorem q1799 : (Jvm.Cond.code ({ cls := "HamsterWeekendsModel", name := "body", desc := "(I)V" } : Jvm.MethodName) prog_22_method_80_code (2 : Nat) (Option.none : Option Jvm.ClassFile.FieldType)) ∈ lw_all := lw_g (lw_at lw_m8 40 rfl) rfl
theorem q1800 : (Jvm.Cond.methodLink "HamsterWeekendsModel" (308 : Nat) ({ cls := "HamsterWeekendsModel", name := "weighing", desc := "(II)I" } : Jvm.MethodName)) ∈ lw_all := lw_g (lw_at lw_m8 41 rfl) rfl
theorem q1801 : (Jvm.Cond.privateMethod ({ cls := "HamsterWeekendsModel", name := "weighing", desc := "(II)I" } : Jvm.MethodName)) ∈ lw_tbl := lw_at lw_m8 42 rfl
theorem q1802 : (Jvm.Cond.instanceMethod ({ cls := "HamsterWeekendsModel", name := "weighing", desc := "(II)I" } : Jvm.MethodName)) ∈ lw_all := lw_g (lw_at lw_m8 43 rfl) rfl
theorem q1803 : (Jvm.Cond.code ({ cls := "HamsterWeekendsModel", name := "weighing", desc := "(II)I" } : Jvm.MethodName) prog_22_method_82_code (7 : Nat) (Option.some Jvm.ClassFile.FieldType.int)) ∈ lw_all := lw_g (lw_at lw_m8 44 rfl) rfl
theorem q1804 : (Jvm.Cond.methodLink "HamsterWeekendsModel" (311 : Nat) ({ cls := "HamsterWeekendsModel", name := "writing", desc := "(II)I" } : Jvm.MethodName)) ∈ lw_all := lw_g (lw_at lw_m8 45 rfl) rfl
theorem q1805 : (Jvm.Cond.privateMethod ({ cls := "HamsterWeekendsModel", name := "writing", desc := "(II)I" } : Jvm.MethodName)) ∈ lw_tbl := lw_at lw_m8 46 rfl
theorem q1806 : (Jvm.Cond.instanceMethod ({ cls := "HamsterWeekendsModel", name := "writing", desc := "(II)I" } : Jvm.MethodName)) ∈ lw_all := lw_g (lw_at lw_m8 47 rfl) rfl
theorem q1807 : (Jvm.Cond.code ({ cls := "HamsterWeekendsModel", name := "writing", desc := "(II)I" } : Jvm.MethodName) prog_22_method_83_code (5 : Nat) (Option.some Jvm.ClassFile.FieldType.int)) ∈ lw_all := lw_g (lw_at lw_m8 48 rfl) rfl
theorem q1809 : (Jvm.Cond.instanceMethod ({ cls := "HamsterWeekendsModel", name := "trace", desc := "(I)I" } : Jvm.MethodName)) ∈ lw_all := lw_g (lw_at lw_m8 50 rfl) rfl
theorem q1810 : (Jvm.Cond.selects "HamsterWeekendsModel" ({ cls := "HamsterWeekendsModel", name := "trace", desc := "(I)I" } : Jvm.MethodName) ({ cls := "HamsterWeekendsModel", name := "trace", desc := "(I)I" } : Jvm.MethodName)) ∈ lw_all := lw_g (lw_at lw_m8 51 rfl) rfl
theorem q1811 : (Jvm.Cond.code ({ cls := "HamsterWeekendsModel", name := "trace", desc := "(I)I" } : Jvm.MethodName) prog_22_method_85_code (2 : Nat) (Option.some Jvm.ClassFile.FieldType.int)) ∈ lw_all := lw_g (lw_at lw_m8 52 rfl) rfl
theorem q1813 : (Jvm.Cond.instanceMethod ({ cls := "HamsterWeekendsModel", name := "image", desc := "()I" } : Jvm.MethodName)) ∈ lw_all := lw_g (lw_at lw_m8 54 rfl) rfl
theorem q1814 : (Jvm.Cond.selects "HamsterWeekendsModel" ({ cls := "HamsterWeekendsModel", name := "image", desc := "()I" } : Jvm.MethodName) ({ cls := "HamsterWeekendsModel", name := "image", desc := "()I" } : Jvm.MethodName)) ∈ lw_all := lw_g (lw_at lw_m8 55 rfl) rfl
theorem q1815 : (Jvm.Cond.code ({ cls := "HamsterWeekendsModel", name := "image", desc := "()I" } : Jvm.MethodName) prog_22_method_86_code (1 : Nat) (Option.some Jvm.ClassFile.FieldType.int)) ∈ lw_all := lw_g (lw_at lw_m8 56 rfl) rfl
theorem q1817 : (Jvm.Cond.instanceMethod ({ cls := "HamsterWeekendsModel", name := "restore", desc := "()I" } : Jvm.MethodName)) ∈ lw_all := lw_g (lw_at lw_m8 58 rfl) rfl
theorem q1818 : (Jvm.Cond.selects "HamsterWeekendsModel" ({ cls := "HamsterWeekendsModel", name := "restore", desc := "()I" } : Jvm.MethodName) ({ cls := "HamsterWeekendsModel", name := "restore", desc := "()I" } : Jvm.MethodName)) ∈ lw_all := lw_g (lw_at lw_m8 59 rfl) rfl
theorem q1819 : (Jvm.Cond.code ({ cls := "HamsterWeekendsModel", name := "restore", desc := "()I" } : Jvm.MethodName) prog_22_method_87_code (2 : Nat) (Option.some Jvm.ClassFile.FieldType.int)) ∈ lw_all := lw_g (lw_at lw_m8 60 rfl) rfl
theorem q1821 : (Jvm.Cond.instanceMethod ({ cls := "HamsterWeekendsModel", name := "status", desc := "(I)I" } : Jvm.MethodName)) ∈ lw_all := lw_g (lw_at lw_m8 62 rfl) rfl
theorem q1822 : (Jvm.Cond.selects "HamsterWeekendsModel" ({ cls := "HamsterWeekendsModel", name := "status", desc := "(I)I" } : Jvm.MethodName) ({ cls := "HamsterWeekendsModel", name := "status", desc := "(I)I" } : Jvm.MethodName)) ∈ lw_all := lw_g (lw_at lw_m8 63 rfl) rfl
theorem q1823 : (Jvm.Cond.code ({ cls := "HamsterWeekendsModel", name := "status", desc := "(I)I" } : Jvm.MethodName) prog_22_method_88_code (2 : Nat) (Option.some Jvm.ClassFile.FieldType.int)) ∈ lw_all := lw_g (lw_at lw_m8 64 rfl) rfl
theorem in_X5 : ∀ w ∈ wsX50, w ∈ lw_all := lw_in wsX50 [1376, 1378, 1380, 1382, 1384, 1386, 1388, 1390, 1392, 1394, 1396, 1398, 1400, 1402, 1404, 1406, 1408, 1410, 1412, 1414, 1416, 1418, 1420, 1422, 1424, 1426, 1428, 1430, 1432, 1434, 1436, 1438, 1440, 1442, 1444, 1446, 1448, 1450, 1452, 1454, 1456, 1458, 1460, 1462, 1464, 1466, 1468, 1470, 1472] (by decide +kernel) (by decide +kernel)
