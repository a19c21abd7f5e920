/-! NoFartherThanAThrowModel -/
set_option maxRecDepth 100000
def RX5 : String := "NoFartherThanAThrowModel"
def TX5 : u_T := fun k => match k with
  | 0 => ("NoFartherThanAThrowModel", "things", "I", false)
  | 1 => ("NoFartherThanAThrowModel", "people", "I", false)
  | 2 => ("NoFartherThanAThrowModel", "wants", "I", false)
  | 3 => ("NoFartherThanAThrowModel", "along", "I", false)
  | 4 => ("NoFartherThanAThrowModel", "riverFrom", "I", false)
  | 5 => ("NoFartherThanAThrowModel", "riverTo", "I", false)
  | 6 => ("NoFartherThanAThrowModel", "wind", "I", false)
  | 7 => ("NoFartherThanAThrowModel", "seed", "I", false)
  | 8 => ("NoFartherThanAThrowModel", "done", "I", false)
  | 9 => ("NoFartherThanAThrowModel", "fault", "I", false)
  | 10 => ("NoFartherThanAThrowModel", "refused", "[I", true)
  | 11 => ("NoFartherThanAThrowModel", "kind", "[I", true)
  | 12 => ("NoFartherThanAThrowModel", "weight", "[I", true)
  | 13 => ("NoFartherThanAThrowModel", "extra", "[I", true)
  | 14 => ("NoFartherThanAThrowModel", "step", "[I", true)
  | 15 => ("NoFartherThanAThrowModel", "had", "[I", true)
  | 16 => ("NoFartherThanAThrowModel", "broken", "[I", true)
  | 17 => ("NoFartherThanAThrowModel", "strength", "[I", true)
  | 18 => ("NoFartherThanAThrowModel", "tired", "[I", true)
  | 19 => ("NoFartherThanAThrowModel", "wThing", "[I", true)
  | 20 => ("NoFartherThanAThrowModel", "wStep", "[I", true)
  | 21 => ("NoFartherThanAThrowModel", "wWorth", "[I", true)
  | 22 => ("NoFartherThanAThrowModel", "held", "[I", true)
  | 23 => ("NoFartherThanAThrowModel", "sort", "[I", true)
  | 24 => ("NoFartherThanAThrowModel", "size", "[I", true)
  | 25 => ("NoFartherThanAThrowModel", "shown", "[I", true)
  | 26 => ("NoFartherThanAThrowModel", "cells", "[J", true)
  | 27 => ("NoFartherThanAThrowModel", "carried", "[J", true)
  | 28 => ("NoFartherThanAThrowModel", "words", "[I", true)
  | 29 => ("NoFartherThanAThrowModel", "tell", "[I", true)
  | 30 => ("NoFartherThanAThrowModel", "base", "I", false)
  | 31 => ("NoFartherThanAThrowModel", "at", "I", false)
  | 32 => ("NoFartherThanAThrowModel", "end", "I", false)
  | 33 => ("NoFartherThanAThrowModel", "told", "I", false)
  | 34 => ("NoFartherThanAThrowModel", "wrongAt", "I", false)
  | 35 => ("NoFartherThanAThrowModel", "was", "[I", true)
  | 36 => ("NoFartherThanAThrowModel", "kept", "[I", true)
  | 37 => ("NoFartherThanAThrowModel", "aside", "[I", true)
  | 38 => ("NoFartherThanAThrowModel", "ends", "[I", true)
  | 39 => ("NoFartherThanAThrowModel", "fars", "[I", true)
  | 40 => ("NoFartherThanAThrowModel", "now", "[I", true)
  | 41 => ("NoFartherThanAThrowModel", "then", "[I", true)
  | 42 => ("NoFartherThanAThrowModel", "brings", "[I", true)
  | 43 => ("NoFartherThanAThrowModel", "sets", "[I", true)
  | 44 => ("NoFartherThanAThrowModel", "gives", "[I", true)
  | 45 => ("NoFartherThanAThrowModel", "best", "[I", true)
  | 46 => ("NoFartherThanAThrowModel", "bestWorth", "I", false)
  | 47 => ("NoFartherThanAThrowModel", "trace", "[I", true)
  | 48 => ("NoFartherThanAThrowModel", "ran", "I", false)
  | _ => ("NoFartherThanAThrowModel", "isKept", "Z", false)
def tyX5 : Nat → FieldType := fun k => match k with
  | 0 => .int
  | 1 => .int
  | 2 => .int
  | 3 => .int
  | 4 => .int
  | 5 => .int
  | 6 => .int
  | 7 => .int
  | 8 => .int
  | 9 => .int
  | 10 => .array .int
  | 11 => .array .int
  | 12 => .array .int
  | 13 => .array .int
  | 14 => .array .int
  | 15 => .array .int
  | 16 => .array .int
  | 17 => .array .int
  | 18 => .array .int
  | 19 => .array .int
  | 20 => .array .int
  | 21 => .array .int
  | 22 => .array .int
  | 23 => .array .int
  | 24 => .array .int
  | 25 => .array .int
  | 26 => .array .long
  | 27 => .array .long
  | 28 => .array .int
  | 29 => .array .int
  | 30 => .int
  | 31 => .int
  | 32 => .int
  | 33 => .int
  | 34 => .int
  | 35 => .array .int
  | 36 => .array .int
  | 37 => .array .int
  | 38 => .array .int
  | 39 => .array .int
  | 40 => .array .int
  | 41 => .array .int
  | 42 => .array .int
  | 43 => .array .int
  | 44 => .array .int
  | 45 => .array .int
  | 46 => .int
  | 47 => .array .int
  | 48 => .int
  | _ => .boolean
abbrev wsX50 : List Cond := u_ws RX5 TX5 50
set_option maxRecDepth 100000 in
theorem nmX5 : ∀ a, a < 50 → ∀ b, b < 50 → a ≠ b → (TX5 a).2.1 ≠ (TX5 b).2.1 := by decide +kernel
set_option maxRecDepth 100000 in
theorem tyX5_ok : ∀ k, k < 50 → parseFieldDescriptor (TX5 k).2.2.1 = some (tyX5 k) := by decide +kernel
abbrev cX5_init : ByteArray := prog_22_method_1_code
def yX5_init : MethodName := ⟨RX5, "<init>", "()V"⟩
def dkwX5_init_20 : List UInt8 := [16, 8, 188, 10, 181, 0, 111, 42, 16, 20, 188, 10, 181, 0, 114, 177]
abbrev dktX5_init_20 : List UInt8 := dkwX5_init_20 ++ []
def dkwX5_init_19 : List UInt8 := [17, 4, 0, 188, 10, 181, 0, 102, 42, 7, 188, 10, 181, 0, 105, 42, 16, 8, 188, 10, 181, 0, 108, 42]
abbrev dktX5_init_19 : List UInt8 := dkwX5_init_19 ++ dktX5_init_20
def dkwX5_init_18 : List UInt8 := [188, 10, 181, 0, 93, 42, 16, 9, 188, 10, 181, 0, 96, 42, 16, 9, 188, 10, 181, 0, 99, 42]
abbrev dktX5_init_18 : List UInt8 := dkwX5_init_18 ++ dktX5_init_19
def dkwX5_init_17 : List UInt8 := [181, 0, 84, 42, 16, 90, 188, 10, 181, 0, 87, 42, 17, 1, 0, 188, 10, 181, 0, 90, 42, 16, 8]
abbrev dktX5_init_17 : List UInt8 := dkwX5_init_17 ++ dktX5_init_18
def dkwX5_init_16 : List UInt8 := [181, 0, 75, 42, 7, 188, 10, 181, 0, 78, 42, 16, 90, 188, 10, 181, 0, 81, 42, 16, 90, 188, 10]
abbrev dktX5_init_16 : List UInt8 := dkwX5_init_16 ++ dktX5_init_17
def dkwX5_init_15 : List UInt8 := [16, 33, 16, 110, 79, 89, 16, 34, 16, 100, 79, 89, 16, 35, 16, 32, 79, 89, 16, 36, 3, 79]
abbrev dktX5_init_15 : List UInt8 := dkwX5_init_15 ++ dktX5_init_16
def dkwX5_init_14 : List UInt8 := [16, 29, 16, 32, 79, 89, 16, 30, 3, 79, 89, 16, 31, 16, 119, 79, 89, 16, 32, 16, 105, 79, 89]
abbrev dktX5_init_14 : List UInt8 := dkwX5_init_14 ++ dktX5_init_15
def dkwX5_init_13 : List UInt8 := [16, 25, 16, 105, 79, 89, 16, 26, 16, 118, 79, 89, 16, 27, 16, 101, 79, 89, 16, 28, 16, 114, 79, 89]
abbrev dktX5_init_13 : List UInt8 := dkwX5_init_13 ++ dktX5_init_14
def dkwX5_init_12 : List UInt8 := [16, 21, 16, 103, 79, 89, 16, 22, 16, 32, 79, 89, 16, 23, 3, 79, 89, 16, 24, 16, 114, 79, 89]
abbrev dktX5_init_12 : List UInt8 := dkwX5_init_12 ++ dktX5_init_13
def dkwX5_init_11 : List UInt8 := [89, 16, 17, 3, 79, 89, 16, 18, 16, 108, 79, 89, 16, 19, 16, 111, 79, 89, 16, 20, 16, 110, 79, 89]
abbrev dktX5_init_11 : List UInt8 := dkwX5_init_11 ++ dktX5_init_12
def dkwX5_init_10 : List UInt8 := [89, 16, 13, 16, 97, 79, 89, 16, 14, 16, 110, 79, 89, 16, 15, 16, 116, 79, 89, 16, 16, 16, 32, 79]
abbrev dktX5_init_10 : List UInt8 := dkwX5_init_10 ++ dktX5_init_11
def dkwX5_init_9 : List UInt8 := [79, 89, 16, 9, 16, 110, 79, 89, 16, 10, 16, 32, 79, 89, 16, 11, 3, 79, 89, 16, 12, 16, 119, 79]
abbrev dktX5_init_9 : List UInt8 := dkwX5_init_9 ++ dktX5_init_10
def dkwX5_init_8 : List UInt8 := [16, 103, 79, 89, 8, 16, 32, 79, 89, 16, 6, 3, 79, 89, 16, 7, 16, 109, 79, 89, 16, 8, 16, 97]
abbrev dktX5_init_8 : List UInt8 := dkwX5_init_8 ++ dktX5_init_9
def dkwX5_init_7 : List UInt8 := [188, 10, 89, 3, 16, 116, 79, 89, 4, 16, 104, 79, 89, 5, 16, 105, 79, 89, 6, 16, 110, 79, 89, 7]
abbrev dktX5_init_7 : List UInt8 := dkwX5_init_7 ++ dktX5_init_8
def dkwX5_init_6 : List UInt8 := [181, 0, 65, 42, 17, 5, 0, 188, 11, 181, 0, 68, 42, 17, 0, 160, 188, 11, 181, 0, 72, 42, 16, 37]
abbrev dktX5_init_6 : List UInt8 := dkwX5_init_6 ++ dktX5_init_7
def dkwX5_init_5 : List UInt8 := [181, 0, 56, 42, 16, 8, 188, 10, 181, 0, 59, 42, 16, 8, 188, 10, 181, 0, 62, 42, 16, 8, 188, 10]
abbrev dktX5_init_5 : List UInt8 := dkwX5_init_5 ++ dktX5_init_6
def dkwX5_init_4 : List UInt8 := [188, 10, 181, 0, 47, 42, 7, 188, 10, 181, 0, 50, 42, 7, 188, 10, 181, 0, 53, 42, 16, 8, 188, 10]
abbrev dktX5_init_4 : List UInt8 := dkwX5_init_4 ++ dktX5_init_5
def dkwX5_init_3 : List UInt8 := [188, 10, 181, 0, 38, 42, 16, 8, 188, 10, 181, 0, 41, 42, 16, 8, 188, 10, 181, 0, 44, 42, 7]
abbrev dktX5_init_3 : List UInt8 := dkwX5_init_3 ++ dktX5_init_4
def dkwX5_init_2 : List UInt8 := [188, 10, 181, 0, 29, 42, 16, 8, 188, 10, 181, 0, 32, 42, 16, 8, 188, 10, 181, 0, 35, 42, 16, 8]
abbrev dktX5_init_2 : List UInt8 := dkwX5_init_2 ++ dktX5_init_3
def dkwX5_init_1 : List UInt8 := [188, 10, 181, 0, 19, 42, 16, 8, 188, 10, 181, 0, 23, 42, 16, 8, 188, 10, 181, 0, 26, 42, 16, 8]
abbrev dktX5_init_1 : List UInt8 := dkwX5_init_1 ++ dktX5_init_2
def dkwX5_init_0 : List UInt8 := [42, 183, 0, 1, 42, 16, 60, 181, 0, 7, 42, 4, 181, 0, 13, 42, 2, 181, 0, 16, 42, 16, 8]
abbrev dktX5_init_0 : List UInt8 := dkwX5_init_0 ++ dktX5_init_1
theorem dksX5_init_0 : cX5_init.data.toList.drop 0 = dktX5_init_0 := by decide +kernel
theorem dksX5_init_1 : cX5_init.data.toList.drop 23 = dktX5_init_1 := dk_seg dksX5_init_0 23 rfl rfl
theorem dksX5_init_2 : cX5_init.data.toList.drop 47 = dktX5_init_2 := dk_seg dksX5_init_1 24 rfl rfl
theorem dksX5_init_3 : cX5_init.data.toList.drop 71 = dktX5_init_3 := dk_seg dksX5_init_2 24 rfl rfl
theorem dksX5_init_4 : cX5_init.data.toList.drop 94 = dktX5_init_4 := dk_seg dksX5_init_3 23 rfl rfl
theorem dksX5_init_5 : cX5_init.data.toList.drop 118 = dktX5_init_5 := dk_seg dksX5_init_4 24 rfl rfl
theorem dksX5_init_6 : cX5_init.data.toList.drop 142 = dktX5_init_6 := dk_seg dksX5_init_5 24 rfl rfl
theorem dksX5_init_7 : cX5_init.data.toList.drop 166 = dktX5_init_7 := dk_seg dksX5_init_6 24 rfl rfl
theorem dksX5_init_8 : cX5_init.data.toList.drop 190 = dktX5_init_8 := dk_seg dksX5_init_7 24 rfl rfl
theorem dksX5_init_9 : cX5_init.data.toList.drop 214 = dktX5_init_9 := dk_seg dksX5_init_8 24 rfl rfl
theorem dksX5_init_10 : cX5_init.data.toList.drop 238 = dktX5_init_10 := dk_seg dksX5_init_9 24 rfl rfl
theorem dksX5_init_11 : cX5_init.data.toList.drop 262 = dktX5_init_11 := dk_seg dksX5_init_10 24 rfl rfl
theorem dksX5_init_12 : cX5_init.data.toList.drop 286 = dktX5_init_12 := dk_seg dksX5_init_11 24 rfl rfl
theorem dksX5_init_13 : cX5_init.data.toList.drop 309 = dktX5_init_13 := dk_seg dksX5_init_12 23 rfl rfl
theorem dksX5_init_14 : cX5_init.data.toList.drop 333 = dktX5_init_14 := dk_seg dksX5_init_13 24 rfl rfl
theorem dksX5_init_15 : cX5_init.data.toList.drop 356 = dktX5_init_15 := dk_seg dksX5_init_14 23 rfl rfl
theorem dksX5_init_16 : cX5_init.data.toList.drop 378 = dktX5_init_16 := dk_seg dksX5_init_15 22 rfl rfl
theorem dksX5_init_17 : cX5_init.data.toList.drop 401 = dktX5_init_17 := dk_seg dksX5_init_16 23 rfl rfl
theorem dksX5_init_18 : cX5_init.data.toList.drop 424 = dktX5_init_18 := dk_seg dksX5_init_17 23 rfl rfl
theorem dksX5_init_19 : cX5_init.data.toList.drop 446 = dktX5_init_19 := dk_seg dksX5_init_18 22 rfl rfl
theorem dksX5_init_20 : cX5_init.data.toList.drop 470 = dktX5_init_20 := dk_seg dksX5_init_19 24 rfl rfl
theorem dX5_init_0 : decode cX5_init 0 = .ok (.aload_n 0, 1) := dk_42 (dk_at dksX5_init_0 0 rfl rfl)
theorem dX5_init_1 : decode cX5_init 1 = .ok (.invokespecial 1, 3) := dk_183 0 1 (dk_at dksX5_init_0 1 rfl rfl)
theorem dX5_init_4 : decode cX5_init 4 = .ok (.aload_n 0, 1) := dk_42 (dk_at dksX5_init_0 4 rfl rfl)
theorem dX5_init_5 : decode cX5_init 5 = .ok (.bipush 60, 2) := dk_16 60 (dk_at dksX5_init_0 5 rfl rfl)
theorem dX5_init_7 : decode cX5_init 7 = .ok (.putfield 7, 3) := dk_181 0 7 (dk_at dksX5_init_0 7 rfl rfl)
theorem dX5_init_10 : decode cX5_init 10 = .ok (.aload_n 0, 1) := dk_42 (dk_at dksX5_init_0 10 rfl rfl)
theorem dX5_init_11 : decode cX5_init 11 = .ok (.iconst 1, 1) := dk_4 (dk_at dksX5_init_0 11 rfl rfl)
theorem dX5_init_12 : decode cX5_init 12 = .ok (.putfield 13, 3) := dk_181 0 13 (dk_at dksX5_init_0 12 rfl rfl)
theorem dX5_init_15 : decode cX5_init 15 = .ok (.aload_n 0, 1) := dk_42 (dk_at dksX5_init_0 15 rfl rfl)
theorem dX5_init_16 : decode cX5_init 16 = .ok (.iconst (-1), 1) := dk_2 (dk_at dksX5_init_0 16 rfl rfl)
theorem dX5_init_17 : decode cX5_init 17 = .ok (.putfield 16, 3) := dk_181 0 16 (dk_at dksX5_init_0 17 rfl rfl)
theorem dX5_init_20 : decode cX5_init 20 = .ok (.aload_n 0, 1) := dk_42 (dk_at dksX5_init_0 20 rfl rfl)
theorem dX5_init_21 : decode cX5_init 21 = .ok (.bipush 8, 2) := dk_16 8 (dk_at dksX5_init_0 21 rfl rfl)
theorem dX5_init_23 : decode cX5_init 23 = .ok (.newarray .int, 2) := dk_188_10 (dk_at dksX5_init_1 0 rfl rfl)
theorem dX5_init_25 : decode cX5_init 25 = .ok (.putfield 19, 3) := dk_181 0 19 (dk_at dksX5_init_1 2 rfl rfl)
theorem dX5_init_28 : decode cX5_init 28 = .ok (.aload_n 0, 1) := dk_42 (dk_at dksX5_init_1 5 rfl rfl)
theorem dX5_init_29 : decode cX5_init 29 = .ok (.bipush 8, 2) := dk_16 8 (dk_at dksX5_init_1 6 rfl rfl)
theorem dX5_init_31 : decode cX5_init 31 = .ok (.newarray .int, 2) := dk_188_10 (dk_at dksX5_init_1 8 rfl rfl)
theorem dX5_init_33 : decode cX5_init 33 = .ok (.putfield 23, 3) := dk_181 0 23 (dk_at dksX5_init_1 10 rfl rfl)
theorem dX5_init_36 : decode cX5_init 36 = .ok (.aload_n 0, 1) := dk_42 (dk_at dksX5_init_1 13 rfl rfl)
theorem dX5_init_37 : decode cX5_init 37 = .ok (.bipush 8, 2) := dk_16 8 (dk_at dksX5_init_1 14 rfl rfl)
theorem dX5_init_39 : decode cX5_init 39 = .ok (.newarray .int, 2) := dk_188_10 (dk_at dksX5_init_1 16 rfl rfl)
theorem dX5_init_41 : decode cX5_init 41 = .ok (.putfield 26, 3) := dk_181 0 26 (dk_at dksX5_init_1 18 rfl rfl)
theorem dX5_init_44 : decode cX5_init 44 = .ok (.aload_n 0, 1) := dk_42 (dk_at dksX5_init_1 21 rfl rfl)
theorem dX5_init_45 : decode cX5_init 45 = .ok (.bipush 8, 2) := dk_16 8 (dk_at dksX5_init_1 22 rfl rfl)
theorem dX5_init_47 : decode cX5_init 47 = .ok (.newarray .int, 2) := dk_188_10 (dk_at dksX5_init_2 0 rfl rfl)
theorem dX5_init_49 : decode cX5_init 49 = .ok (.putfield 29, 3) := dk_181 0 29 (dk_at dksX5_init_2 2 rfl rfl)
theorem dX5_init_52 : decode cX5_init 52 = .ok (.aload_n 0, 1) := dk_42 (dk_at dksX5_init_2 5 rfl rfl)
theorem dX5_init_53 : decode cX5_init 53 = .ok (.bipush 8, 2) := dk_16 8 (dk_at dksX5_init_2 6 rfl rfl)
theorem dX5_init_55 : decode cX5_init 55 = .ok (.newarray .int, 2) := dk_188_10 (dk_at dksX5_init_2 8 rfl rfl)
theorem dX5_init_57 : decode cX5_init 57 = .ok (.putfield 32, 3) := dk_181 0 32 (dk_at dksX5_init_2 10 rfl rfl)
theorem dX5_init_60 : decode cX5_init 60 = .ok (.aload_n 0, 1) := dk_42 (dk_at dksX5_init_2 13 rfl rfl)
theorem dX5_init_61 : decode cX5_init 61 = .ok (.bipush 8, 2) := dk_16 8 (dk_at dksX5_init_2 14 rfl rfl)
theorem dX5_init_63 : decode cX5_init 63 = .ok (.newarray .int, 2) := dk_188_10 (dk_at dksX5_init_2 16 rfl rfl)
theorem dX5_init_65 : decode cX5_init 65 = .ok (.putfield 35, 3) := dk_181 0 35 (dk_at dksX5_init_2 18 rfl rfl)
theorem dX5_init_68 : decode cX5_init 68 = .ok (.aload_n 0, 1) := dk_42 (dk_at dksX5_init_2 21 rfl rfl)
theorem dX5_init_69 : decode cX5_init 69 = .ok (.bipush 8, 2) := dk_16 8 (dk_at dksX5_init_2 22 rfl rfl)
theorem dX5_init_71 : decode cX5_init 71 = .ok (.newarray .int, 2) := dk_188_10 (dk_at dksX5_init_3 0 rfl rfl)
theorem dX5_init_73 : decode cX5_init 73 = .ok (.putfield 38, 3) := dk_181 0 38 (dk_at dksX5_init_3 2 rfl rfl)
theorem dX5_init_76 : decode cX5_init 76 = .ok (.aload_n 0, 1) := dk_42 (dk_at dksX5_init_3 5 rfl rfl)
theorem dX5_init_77 : decode cX5_init 77 = .ok (.bipush 8, 2) := dk_16 8 (dk_at dksX5_init_3 6 rfl rfl)
theorem dX5_init_79 : decode cX5_init 79 = .ok (.newarray .int, 2) := dk_188_10 (dk_at dksX5_init_3 8 rfl rfl)
theorem dX5_init_81 : decode cX5_init 81 = .ok (.putfield 41, 3) := dk_181 0 41 (dk_at dksX5_init_3 10 rfl rfl)
theorem dX5_init_84 : decode cX5_init 84 = .ok (.aload_n 0, 1) := dk_42 (dk_at dksX5_init_3 13 rfl rfl)
theorem dX5_init_85 : decode cX5_init 85 = .ok (.bipush 8, 2) := dk_16 8 (dk_at dksX5_init_3 14 rfl rfl)
theorem dX5_init_87 : decode cX5_init 87 = .ok (.newarray .int, 2) := dk_188_10 (dk_at dksX5_init_3 16 rfl rfl)
theorem dX5_init_89 : decode cX5_init 89 = .ok (.putfield 44, 3) := dk_181 0 44 (dk_at dksX5_init_3 18 rfl rfl)
theorem dX5_init_92 : decode cX5_init 92 = .ok (.aload_n 0, 1) := dk_42 (dk_at dksX5_init_3 21 rfl rfl)
theorem dX5_init_93 : decode cX5_init 93 = .ok (.iconst 4, 1) := dk_7 (dk_at dksX5_init_3 22 rfl rfl)
theorem dX5_init_94 : decode cX5_init 94 = .ok (.newarray .int, 2) := dk_188_10 (dk_at dksX5_init_4 0 rfl rfl)
theorem dX5_init_96 : decode cX5_init 96 = .ok (.putfield 47, 3) := dk_181 0 47 (dk_at dksX5_init_4 2 rfl rfl)
theorem dX5_init_99 : decode cX5_init 99 = .ok (.aload_n 0, 1) := dk_42 (dk_at dksX5_init_4 5 rfl rfl)
theorem dX5_init_100 : decode cX5_init 100 = .ok (.iconst 4, 1) := dk_7 (dk_at dksX5_init_4 6 rfl rfl)
theorem dX5_init_101 : decode cX5_init 101 = .ok (.newarray .int, 2) := dk_188_10 (dk_at dksX5_init_4 7 rfl rfl)
theorem dX5_init_103 : decode cX5_init 103 = .ok (.putfield 50, 3) := dk_181 0 50 (dk_at dksX5_init_4 9 rfl rfl)
theorem dX5_init_106 : decode cX5_init 106 = .ok (.aload_n 0, 1) := dk_42 (dk_at dksX5_init_4 12 rfl rfl)
theorem dX5_init_107 : decode cX5_init 107 = .ok (.iconst 4, 1) := dk_7 (dk_at dksX5_init_4 13 rfl rfl)
theorem dX5_init_108 : decode cX5_init 108 = .ok (.newarray .int, 2) := dk_188_10 (dk_at dksX5_init_4 14 rfl rfl)
theorem dX5_init_110 : decode cX5_init 110 = .ok (.putfield 53, 3) := dk_181 0 53 (dk_at dksX5_init_4 16 rfl rfl)
theorem dX5_init_113 : decode cX5_init 113 = .ok (.aload_n 0, 1) := dk_42 (dk_at dksX5_init_4 19 rfl rfl)
theorem dX5_init_114 : decode cX5_init 114 = .ok (.bipush 8, 2) := dk_16 8 (dk_at dksX5_init_4 20 rfl rfl)
theorem dX5_init_116 : decode cX5_init 116 = .ok (.newarray .int, 2) := dk_188_10 (dk_at dksX5_init_4 22 rfl rfl)
theorem dX5_init_118 : decode cX5_init 118 = .ok (.putfield 56, 3) := dk_181 0 56 (dk_at dksX5_init_5 0 rfl rfl)
theorem dX5_init_121 : decode cX5_init 121 = .ok (.aload_n 0, 1) := dk_42 (dk_at dksX5_init_5 3 rfl rfl)
theorem dX5_init_122 : decode cX5_init 122 = .ok (.bipush 8, 2) := dk_16 8 (dk_at dksX5_init_5 4 rfl rfl)
theorem dX5_init_124 : decode cX5_init 124 = .ok (.newarray .int, 2) := dk_188_10 (dk_at dksX5_init_5 6 rfl rfl)
theorem dX5_init_126 : decode cX5_init 126 = .ok (.putfield 59, 3) := dk_181 0 59 (dk_at dksX5_init_5 8 rfl rfl)
theorem dX5_init_129 : decode cX5_init 129 = .ok (.aload_n 0, 1) := dk_42 (dk_at dksX5_init_5 11 rfl rfl)
theorem dX5_init_130 : decode cX5_init 130 = .ok (.bipush 8, 2) := dk_16 8 (dk_at dksX5_init_5 12 rfl rfl)
theorem dX5_init_132 : decode cX5_init 132 = .ok (.newarray .int, 2) := dk_188_10 (dk_at dksX5_init_5 14 rfl rfl)
theorem dX5_init_134 : decode cX5_init 134 = .ok (.putfield 62, 3) := dk_181 0 62 (dk_at dksX5_init_5 16 rfl rfl)
theorem dX5_init_137 : decode cX5_init 137 = .ok (.aload_n 0, 1) := dk_42 (dk_at dksX5_init_5 19 rfl rfl)
theorem dX5_init_138 : decode cX5_init 138 = .ok (.bipush 8, 2) := dk_16 8 (dk_at dksX5_init_5 20 rfl rfl)
theorem dX5_init_140 : decode cX5_init 140 = .ok (.newarray .int, 2) := dk_188_10 (dk_at dksX5_init_5 22 rfl rfl)
theorem dX5_init_142 : decode cX5_init 142 = .ok (.putfield 65, 3) := dk_181 0 65 (dk_at dksX5_init_6 0 rfl rfl)
theorem dX5_init_145 : decode cX5_init 145 = .ok (.aload_n 0, 1) := dk_42 (dk_at dksX5_init_6 3 rfl rfl)
theorem dX5_init_146 : decode cX5_init 146 = .ok (.sipush 1280, 3) := dk_17 5 0 (dk_at dksX5_init_6 4 rfl rfl)
theorem dX5_init_149 : decode cX5_init 149 = .ok (.newarray .long, 2) := dk_188_11 (dk_at dksX5_init_6 7 rfl rfl)
theorem dX5_init_151 : decode cX5_init 151 = .ok (.putfield 68, 3) := dk_181 0 68 (dk_at dksX5_init_6 9 rfl rfl)
theorem dX5_init_154 : decode cX5_init 154 = .ok (.aload_n 0, 1) := dk_42 (dk_at dksX5_init_6 12 rfl rfl)
theorem dX5_init_155 : decode cX5_init 155 = .ok (.sipush 160, 3) := dk_17 0 160 (dk_at dksX5_init_6 13 rfl rfl)
theorem dX5_init_158 : decode cX5_init 158 = .ok (.newarray .long, 2) := dk_188_11 (dk_at dksX5_init_6 16 rfl rfl)
theorem dX5_init_160 : decode cX5_init 160 = .ok (.putfield 72, 3) := dk_181 0 72 (dk_at dksX5_init_6 18 rfl rfl)
theorem dX5_init_163 : decode cX5_init 163 = .ok (.aload_n 0, 1) := dk_42 (dk_at dksX5_init_6 21 rfl rfl)
theorem dX5_init_164 : decode cX5_init 164 = .ok (.bipush 37, 2) := dk_16 37 (dk_at dksX5_init_6 22 rfl rfl)
theorem dX5_init_166 : decode cX5_init 166 = .ok (.newarray .int, 2) := dk_188_10 (dk_at dksX5_init_7 0 rfl rfl)
theorem dX5_init_168 : decode cX5_init 168 = .ok (.dup, 1) := dk_89 (dk_at dksX5_init_7 2 rfl rfl)
theorem dX5_init_169 : decode cX5_init 169 = .ok (.iconst 0, 1) := dk_3 (dk_at dksX5_init_7 3 rfl rfl)
theorem dX5_init_170 : decode cX5_init 170 = .ok (.bipush 116, 2) := dk_16 116 (dk_at dksX5_init_7 4 rfl rfl)
theorem dX5_init_172 : decode cX5_init 172 = .ok (.iastore, 1) := dk_79 (dk_at dksX5_init_7 6 rfl rfl)
theorem dX5_init_173 : decode cX5_init 173 = .ok (.dup, 1) := dk_89 (dk_at dksX5_init_7 7 rfl rfl)
theorem dX5_init_174 : decode cX5_init 174 = .ok (.iconst 1, 1) := dk_4 (dk_at dksX5_init_7 8 rfl rfl)
theorem dX5_init_175 : decode cX5_init 175 = .ok (.bipush 104, 2) := dk_16 104 (dk_at dksX5_init_7 9 rfl rfl)
theorem dX5_init_177 : decode cX5_init 177 = .ok (.iastore, 1) := dk_79 (dk_at dksX5_init_7 11 rfl rfl)
theorem dX5_init_178 : decode cX5_init 178 = .ok (.dup, 1) := dk_89 (dk_at dksX5_init_7 12 rfl rfl)
theorem dX5_init_179 : decode cX5_init 179 = .ok (.iconst 2, 1) := dk_5 (dk_at dksX5_init_7 13 rfl rfl)
theorem dX5_init_180 : decode cX5_init 180 = .ok (.bipush 105, 2) := dk_16 105 (dk_at dksX5_init_7 14 rfl rfl)
theorem dX5_init_182 : decode cX5_init 182 = .ok (.iastore, 1) := dk_79 (dk_at dksX5_init_7 16 rfl rfl)
theorem dX5_init_183 : decode cX5_init 183 = .ok (.dup, 1) := dk_89 (dk_at dksX5_init_7 17 rfl rfl)
theorem dX5_init_184 : decode cX5_init 184 = .ok (.iconst 3, 1) := dk_6 (dk_at dksX5_init_7 18 rfl rfl)
theorem dX5_init_185 : decode cX5_init 185 = .ok (.bipush 110, 2) := dk_16 110 (dk_at dksX5_init_7 19 rfl rfl)
theorem dX5_init_187 : decode cX5_init 187 = .ok (.iastore, 1) := dk_79 (dk_at dksX5_init_7 21 rfl rfl)
theorem dX5_init_188 : decode cX5_init 188 = .ok (.dup, 1) := dk_89 (dk_at dksX5_init_7 22 rfl rfl)
theorem dX5_init_189 : decode cX5_init 189 = .ok (.iconst 4, 1) := dk_7 (dk_at dksX5_init_7 23 rfl rfl)
theorem dX5_init_190 : decode cX5_init 190 = .ok (.bipush 103, 2) := dk_16 103 (dk_at dksX5_init_8 0 rfl rfl)
theorem dX5_init_192 : decode cX5_init 192 = .ok (.iastore, 1) := dk_79 (dk_at dksX5_init_8 2 rfl rfl)
theorem dX5_init_193 : decode cX5_init 193 = .ok (.dup, 1) := dk_89 (dk_at dksX5_init_8 3 rfl rfl)
theorem dX5_init_194 : decode cX5_init 194 = .ok (.iconst 5, 1) := dk_8 (dk_at dksX5_init_8 4 rfl rfl)
theorem dX5_init_195 : decode cX5_init 195 = .ok (.bipush 32, 2) := dk_16 32 (dk_at dksX5_init_8 5 rfl rfl)
theorem dX5_init_197 : decode cX5_init 197 = .ok (.iastore, 1) := dk_79 (dk_at dksX5_init_8 7 rfl rfl)
theorem dX5_init_198 : decode cX5_init 198 = .ok (.dup, 1) := dk_89 (dk_at dksX5_init_8 8 rfl rfl)
theorem dX5_init_199 : decode cX5_init 199 = .ok (.bipush 6, 2) := dk_16 6 (dk_at dksX5_init_8 9 rfl rfl)
theorem dX5_init_201 : decode cX5_init 201 = .ok (.iconst 0, 1) := dk_3 (dk_at dksX5_init_8 11 rfl rfl)
theorem dX5_init_202 : decode cX5_init 202 = .ok (.iastore, 1) := dk_79 (dk_at dksX5_init_8 12 rfl rfl)
theorem dX5_init_203 : decode cX5_init 203 = .ok (.dup, 1) := dk_89 (dk_at dksX5_init_8 13 rfl rfl)
theorem dX5_init_204 : decode cX5_init 204 = .ok (.bipush 7, 2) := dk_16 7 (dk_at dksX5_init_8 14 rfl rfl)
theorem dX5_init_206 : decode cX5_init 206 = .ok (.bipush 109, 2) := dk_16 109 (dk_at dksX5_init_8 16 rfl rfl)
theorem dX5_init_208 : decode cX5_init 208 = .ok (.iastore, 1) := dk_79 (dk_at dksX5_init_8 18 rfl rfl)
theorem dX5_init_209 : decode cX5_init 209 = .ok (.dup, 1) := dk_89 (dk_at dksX5_init_8 19 rfl rfl)
theorem dX5_init_210 : decode cX5_init 210 = .ok (.bipush 8, 2) := dk_16 8 (dk_at dksX5_init_8 20 rfl rfl)
theorem dX5_init_212 : decode cX5_init 212 = .ok (.bipush 97, 2) := dk_16 97 (dk_at dksX5_init_8 22 rfl rfl)
theorem dX5_init_214 : decode cX5_init 214 = .ok (.iastore, 1) := dk_79 (dk_at dksX5_init_9 0 rfl rfl)
theorem dX5_init_215 : decode cX5_init 215 = .ok (.dup, 1) := dk_89 (dk_at dksX5_init_9 1 rfl rfl)
theorem dX5_init_216 : decode cX5_init 216 = .ok (.bipush 9, 2) := dk_16 9 (dk_at dksX5_init_9 2 rfl rfl)
theorem dX5_init_218 : decode cX5_init 218 = .ok (.bipush 110, 2) := dk_16 110 (dk_at dksX5_init_9 4 rfl rfl)
theorem dX5_init_220 : decode cX5_init 220 = .ok (.iastore, 1) := dk_79 (dk_at dksX5_init_9 6 rfl rfl)
theorem dX5_init_221 : decode cX5_init 221 = .ok (.dup, 1) := dk_89 (dk_at dksX5_init_9 7 rfl rfl)
theorem dX5_init_222 : decode cX5_init 222 = .ok (.bipush 10, 2) := dk_16 10 (dk_at dksX5_init_9 8 rfl rfl)
theorem dX5_init_224 : decode cX5_init 224 = .ok (.bipush 32, 2) := dk_16 32 (dk_at dksX5_init_9 10 rfl rfl)
theorem dX5_init_226 : decode cX5_init 226 = .ok (.iastore, 1) := dk_79 (dk_at dksX5_init_9 12 rfl rfl)
theorem dX5_init_227 : decode cX5_init 227 = .ok (.dup, 1) := dk_89 (dk_at dksX5_init_9 13 rfl rfl)
theorem dX5_init_228 : decode cX5_init 228 = .ok (.bipush 11, 2) := dk_16 11 (dk_at dksX5_init_9 14 rfl rfl)
theorem dX5_init_230 : decode cX5_init 230 = .ok (.iconst 0, 1) := dk_3 (dk_at dksX5_init_9 16 rfl rfl)
theorem dX5_init_231 : decode cX5_init 231 = .ok (.iastore, 1) := dk_79 (dk_at dksX5_init_9 17 rfl rfl)
theorem dX5_init_232 : decode cX5_init 232 = .ok (.dup, 1) := dk_89 (dk_at dksX5_init_9 18 rfl rfl)
theorem dX5_init_233 : decode cX5_init 233 = .ok (.bipush 12, 2) := dk_16 12 (dk_at dksX5_init_9 19 rfl rfl)
theorem dX5_init_235 : decode cX5_init 235 = .ok (.bipush 119, 2) := dk_16 119 (dk_at dksX5_init_9 21 rfl rfl)
theorem dX5_init_237 : decode cX5_init 237 = .ok (.iastore, 1) := dk_79 (dk_at dksX5_init_9 23 rfl rfl)
theorem dX5_init_238 : decode cX5_init 238 = .ok (.dup, 1) := dk_89 (dk_at dksX5_init_10 0 rfl rfl)
theorem dX5_init_239 : decode cX5_init 239 = .ok (.bipush 13, 2) := dk_16 13 (dk_at dksX5_init_10 1 rfl rfl)
theorem dX5_init_241 : decode cX5_init 241 = .ok (.bipush 97, 2) := dk_16 97 (dk_at dksX5_init_10 3 rfl rfl)
theorem dX5_init_243 : decode cX5_init 243 = .ok (.iastore, 1) := dk_79 (dk_at dksX5_init_10 5 rfl rfl)
theorem dX5_init_244 : decode cX5_init 244 = .ok (.dup, 1) := dk_89 (dk_at dksX5_init_10 6 rfl rfl)
theorem dX5_init_245 : decode cX5_init 245 = .ok (.bipush 14, 2) := dk_16 14 (dk_at dksX5_init_10 7 rfl rfl)
theorem dX5_init_247 : decode cX5_init 247 = .ok (.bipush 110, 2) := dk_16 110 (dk_at dksX5_init_10 9 rfl rfl)
theorem dX5_init_249 : decode cX5_init 249 = .ok (.iastore, 1) := dk_79 (dk_at dksX5_init_10 11 rfl rfl)
theorem dX5_init_250 : decode cX5_init 250 = .ok (.dup, 1) := dk_89 (dk_at dksX5_init_10 12 rfl rfl)
theorem dX5_init_251 : decode cX5_init 251 = .ok (.bipush 15, 2) := dk_16 15 (dk_at dksX5_init_10 13 rfl rfl)
theorem dX5_init_253 : decode cX5_init 253 = .ok (.bipush 116, 2) := dk_16 116 (dk_at dksX5_init_10 15 rfl rfl)
theorem dX5_init_255 : decode cX5_init 255 = .ok (.iastore, 1) := dk_79 (dk_at dksX5_init_10 17 rfl rfl)
theorem dX5_init_256 : decode cX5_init 256 = .ok (.dup, 1) := dk_89 (dk_at dksX5_init_10 18 rfl rfl)
theorem dX5_init_257 : decode cX5_init 257 = .ok (.bipush 16, 2) := dk_16 16 (dk_at dksX5_init_10 19 rfl rfl)
theorem dX5_init_259 : decode cX5_init 259 = .ok (.bipush 32, 2) := dk_16 32 (dk_at dksX5_init_10 21 rfl rfl)
theorem dX5_init_261 : decode cX5_init 261 = .ok (.iastore, 1) := dk_79 (dk_at dksX5_init_10 23 rfl rfl)
theorem dX5_init_262 : decode cX5_init 262 = .ok (.dup, 1) := dk_89 (dk_at dksX5_init_11 0 rfl rfl)
theorem dX5_init_263 : decode cX5_init 263 = .ok (.bipush 17, 2) := dk_16 17 (dk_at dksX5_init_11 1 rfl rfl)
theorem dX5_init_265 : decode cX5_init 265 = .ok (.iconst 0, 1) := dk_3 (dk_at dksX5_init_11 3 rfl rfl)
theorem dX5_init_266 : decode cX5_init 266 = .ok (.iastore, 1) := dk_79 (dk_at dksX5_init_11 4 rfl rfl)
theorem dX5_init_267 : decode cX5_init 267 = .ok (.dup, 1) := dk_89 (dk_at dksX5_init_11 5 rfl rfl)
theorem dX5_init_268 : decode cX5_init 268 = .ok (.bipush 18, 2) := dk_16 18 (dk_at dksX5_init_11 6 rfl rfl)
theorem dX5_init_270 : decode cX5_init 270 = .ok (.bipush 108, 2) := dk_16 108 (dk_at dksX5_init_11 8 rfl rfl)
theorem dX5_init_272 : decode cX5_init 272 = .ok (.iastore, 1) := dk_79 (dk_at dksX5_init_11 10 rfl rfl)
theorem dX5_init_273 : decode cX5_init 273 = .ok (.dup, 1) := dk_89 (dk_at dksX5_init_11 11 rfl rfl)
theorem dX5_init_274 : decode cX5_init 274 = .ok (.bipush 19, 2) := dk_16 19 (dk_at dksX5_init_11 12 rfl rfl)
theorem dX5_init_276 : decode cX5_init 276 = .ok (.bipush 111, 2) := dk_16 111 (dk_at dksX5_init_11 14 rfl rfl)
theorem dX5_init_278 : decode cX5_init 278 = .ok (.iastore, 1) := dk_79 (dk_at dksX5_init_11 16 rfl rfl)
theorem dX5_init_279 : decode cX5_init 279 = .ok (.dup, 1) := dk_89 (dk_at dksX5_init_11 17 rfl rfl)
theorem dX5_init_280 : decode cX5_init 280 = .ok (.bipush 20, 2) := dk_16 20 (dk_at dksX5_init_11 18 rfl rfl)
theorem dX5_init_282 : decode cX5_init 282 = .ok (.bipush 110, 2) := dk_16 110 (dk_at dksX5_init_11 20 rfl rfl)
theorem dX5_init_284 : decode cX5_init 284 = .ok (.iastore, 1) := dk_79 (dk_at dksX5_init_11 22 rfl rfl)
theorem dX5_init_285 : decode cX5_init 285 = .ok (.dup, 1) := dk_89 (dk_at dksX5_init_11 23 rfl rfl)
theorem dX5_init_286 : decode cX5_init 286 = .ok (.bipush 21, 2) := dk_16 21 (dk_at dksX5_init_12 0 rfl rfl)
theorem dX5_init_288 : decode cX5_init 288 = .ok (.bipush 103, 2) := dk_16 103 (dk_at dksX5_init_12 2 rfl rfl)
theorem dX5_init_290 : decode cX5_init 290 = .ok (.iastore, 1) := dk_79 (dk_at dksX5_init_12 4 rfl rfl)
theorem dX5_init_291 : decode cX5_init 291 = .ok (.dup, 1) := dk_89 (dk_at dksX5_init_12 5 rfl rfl)
theorem dX5_init_292 : decode cX5_init 292 = .ok (.bipush 22, 2) := dk_16 22 (dk_at dksX5_init_12 6 rfl rfl)
theorem dX5_init_294 : decode cX5_init 294 = .ok (.bipush 32, 2) := dk_16 32 (dk_at dksX5_init_12 8 rfl rfl)
theorem dX5_init_296 : decode cX5_init 296 = .ok (.iastore, 1) := dk_79 (dk_at dksX5_init_12 10 rfl rfl)
theorem dX5_init_297 : decode cX5_init 297 = .ok (.dup, 1) := dk_89 (dk_at dksX5_init_12 11 rfl rfl)
theorem dX5_init_298 : decode cX5_init 298 = .ok (.bipush 23, 2) := dk_16 23 (dk_at dksX5_init_12 12 rfl rfl)
theorem dX5_init_300 : decode cX5_init 300 = .ok (.iconst 0, 1) := dk_3 (dk_at dksX5_init_12 14 rfl rfl)
theorem dX5_init_301 : decode cX5_init 301 = .ok (.iastore, 1) := dk_79 (dk_at dksX5_init_12 15 rfl rfl)
theorem dX5_init_302 : decode cX5_init 302 = .ok (.dup, 1) := dk_89 (dk_at dksX5_init_12 16 rfl rfl)
theorem dX5_init_303 : decode cX5_init 303 = .ok (.bipush 24, 2) := dk_16 24 (dk_at dksX5_init_12 17 rfl rfl)
theorem dX5_init_305 : decode cX5_init 305 = .ok (.bipush 114, 2) := dk_16 114 (dk_at dksX5_init_12 19 rfl rfl)
theorem dX5_init_307 : decode cX5_init 307 = .ok (.iastore, 1) := dk_79 (dk_at dksX5_init_12 21 rfl rfl)
theorem dX5_init_308 : decode cX5_init 308 = .ok (.dup, 1) := dk_89 (dk_at dksX5_init_12 22 rfl rfl)
theorem dX5_init_309 : decode cX5_init 309 = .ok (.bipush 25, 2) := dk_16 25 (dk_at dksX5_init_13 0 rfl rfl)
theorem dX5_init_311 : decode cX5_init 311 = .ok (.bipush 105, 2) := dk_16 105 (dk_at dksX5_init_13 2 rfl rfl)
theorem dX5_init_313 : decode cX5_init 313 = .ok (.iastore, 1) := dk_79 (dk_at dksX5_init_13 4 rfl rfl)
theorem dX5_init_314 : decode cX5_init 314 = .ok (.dup, 1) := dk_89 (dk_at dksX5_init_13 5 rfl rfl)
theorem dX5_init_315 : decode cX5_init 315 = .ok (.bipush 26, 2) := dk_16 26 (dk_at dksX5_init_13 6 rfl rfl)
theorem dX5_init_317 : decode cX5_init 317 = .ok (.bipush 118, 2) := dk_16 118 (dk_at dksX5_init_13 8 rfl rfl)
theorem dX5_init_319 : decode cX5_init 319 = .ok (.iastore, 1) := dk_79 (dk_at dksX5_init_13 10 rfl rfl)
theorem dX5_init_320 : decode cX5_init 320 = .ok (.dup, 1) := dk_89 (dk_at dksX5_init_13 11 rfl rfl)
theorem dX5_init_321 : decode cX5_init 321 = .ok (.bipush 27, 2) := dk_16 27 (dk_at dksX5_init_13 12 rfl rfl)
theorem dX5_init_323 : decode cX5_init 323 = .ok (.bipush 101, 2) := dk_16 101 (dk_at dksX5_init_13 14 rfl rfl)
theorem dX5_init_325 : decode cX5_init 325 = .ok (.iastore, 1) := dk_79 (dk_at dksX5_init_13 16 rfl rfl)
theorem dX5_init_326 : decode cX5_init 326 = .ok (.dup, 1) := dk_89 (dk_at dksX5_init_13 17 rfl rfl)
theorem dX5_init_327 : decode cX5_init 327 = .ok (.bipush 28, 2) := dk_16 28 (dk_at dksX5_init_13 18 rfl rfl)
theorem dX5_init_329 : decode cX5_init 329 = .ok (.bipush 114, 2) := dk_16 114 (dk_at dksX5_init_13 20 rfl rfl)
theorem dX5_init_331 : decode cX5_init 331 = .ok (.iastore, 1) := dk_79 (dk_at dksX5_init_13 22 rfl rfl)
theorem dX5_init_332 : decode cX5_init 332 = .ok (.dup, 1) := dk_89 (dk_at dksX5_init_13 23 rfl rfl)
theorem dX5_init_333 : decode cX5_init 333 = .ok (.bipush 29, 2) := dk_16 29 (dk_at dksX5_init_14 0 rfl rfl)
theorem dX5_init_335 : decode cX5_init 335 = .ok (.bipush 32, 2) := dk_16 32 (dk_at dksX5_init_14 2 rfl rfl)
theorem dX5_init_337 : decode cX5_init 337 = .ok (.iastore, 1) := dk_79 (dk_at dksX5_init_14 4 rfl rfl)
theorem dX5_init_338 : decode cX5_init 338 = .ok (.dup, 1) := dk_89 (dk_at dksX5_init_14 5 rfl rfl)
theorem dX5_init_339 : decode cX5_init 339 = .ok (.bipush 30, 2) := dk_16 30 (dk_at dksX5_init_14 6 rfl rfl)
theorem dX5_init_341 : decode cX5_init 341 = .ok (.iconst 0, 1) := dk_3 (dk_at dksX5_init_14 8 rfl rfl)
theorem dX5_init_342 : decode cX5_init 342 = .ok (.iastore, 1) := dk_79 (dk_at dksX5_init_14 9 rfl rfl)
theorem dX5_init_343 : decode cX5_init 343 = .ok (.dup, 1) := dk_89 (dk_at dksX5_init_14 10 rfl rfl)
theorem dX5_init_344 : decode cX5_init 344 = .ok (.bipush 31, 2) := dk_16 31 (dk_at dksX5_init_14 11 rfl rfl)
theorem dX5_init_346 : decode cX5_init 346 = .ok (.bipush 119, 2) := dk_16 119 (dk_at dksX5_init_14 13 rfl rfl)
theorem dX5_init_348 : decode cX5_init 348 = .ok (.iastore, 1) := dk_79 (dk_at dksX5_init_14 15 rfl rfl)
theorem dX5_init_349 : decode cX5_init 349 = .ok (.dup, 1) := dk_89 (dk_at dksX5_init_14 16 rfl rfl)
theorem dX5_init_350 : decode cX5_init 350 = .ok (.bipush 32, 2) := dk_16 32 (dk_at dksX5_init_14 17 rfl rfl)
theorem dX5_init_352 : decode cX5_init 352 = .ok (.bipush 105, 2) := dk_16 105 (dk_at dksX5_init_14 19 rfl rfl)
theorem dX5_init_354 : decode cX5_init 354 = .ok (.iastore, 1) := dk_79 (dk_at dksX5_init_14 21 rfl rfl)
theorem dX5_init_355 : decode cX5_init 355 = .ok (.dup, 1) := dk_89 (dk_at dksX5_init_14 22 rfl rfl)
theorem dX5_init_356 : decode cX5_init 356 = .ok (.bipush 33, 2) := dk_16 33 (dk_at dksX5_init_15 0 rfl rfl)
theorem dX5_init_358 : decode cX5_init 358 = .ok (.bipush 110, 2) := dk_16 110 (dk_at dksX5_init_15 2 rfl rfl)
theorem dX5_init_360 : decode cX5_init 360 = .ok (.iastore, 1) := dk_79 (dk_at dksX5_init_15 4 rfl rfl)
theorem dX5_init_361 : decode cX5_init 361 = .ok (.dup, 1) := dk_89 (dk_at dksX5_init_15 5 rfl rfl)
theorem dX5_init_362 : decode cX5_init 362 = .ok (.bipush 34, 2) := dk_16 34 (dk_at dksX5_init_15 6 rfl rfl)
theorem dX5_init_364 : decode cX5_init 364 = .ok (.bipush 100, 2) := dk_16 100 (dk_at dksX5_init_15 8 rfl rfl)
theorem dX5_init_366 : decode cX5_init 366 = .ok (.iastore, 1) := dk_79 (dk_at dksX5_init_15 10 rfl rfl)
theorem dX5_init_367 : decode cX5_init 367 = .ok (.dup, 1) := dk_89 (dk_at dksX5_init_15 11 rfl rfl)
theorem dX5_init_368 : decode cX5_init 368 = .ok (.bipush 35, 2) := dk_16 35 (dk_at dksX5_init_15 12 rfl rfl)
theorem dX5_init_370 : decode cX5_init 370 = .ok (.bipush 32, 2) := dk_16 32 (dk_at dksX5_init_15 14 rfl rfl)
theorem dX5_init_372 : decode cX5_init 372 = .ok (.iastore, 1) := dk_79 (dk_at dksX5_init_15 16 rfl rfl)
theorem dX5_init_373 : decode cX5_init 373 = .ok (.dup, 1) := dk_89 (dk_at dksX5_init_15 17 rfl rfl)
theorem dX5_init_374 : decode cX5_init 374 = .ok (.bipush 36, 2) := dk_16 36 (dk_at dksX5_init_15 18 rfl rfl)
theorem dX5_init_376 : decode cX5_init 376 = .ok (.iconst 0, 1) := dk_3 (dk_at dksX5_init_15 20 rfl rfl)
theorem dX5_init_377 : decode cX5_init 377 = .ok (.iastore, 1) := dk_79 (dk_at dksX5_init_15 21 rfl rfl)
theorem dX5_init_378 : decode cX5_init 378 = .ok (.putfield 75, 3) := dk_181 0 75 (dk_at dksX5_init_16 0 rfl rfl)
theorem dX5_init_381 : decode cX5_init 381 = .ok (.aload_n 0, 1) := dk_42 (dk_at dksX5_init_16 3 rfl rfl)
theorem dX5_init_382 : decode cX5_init 382 = .ok (.iconst 4, 1) := dk_7 (dk_at dksX5_init_16 4 rfl rfl)
theorem dX5_init_383 : decode cX5_init 383 = .ok (.newarray .int, 2) := dk_188_10 (dk_at dksX5_init_16 5 rfl rfl)
theorem dX5_init_385 : decode cX5_init 385 = .ok (.putfield 78, 3) := dk_181 0 78 (dk_at dksX5_init_16 7 rfl rfl)
theorem dX5_init_388 : decode cX5_init 388 = .ok (.aload_n 0, 1) := dk_42 (dk_at dksX5_init_16 10 rfl rfl)
theorem dX5_init_389 : decode cX5_init 389 = .ok (.bipush 90, 2) := dk_16 90 (dk_at dksX5_init_16 11 rfl rfl)
theorem dX5_init_391 : decode cX5_init 391 = .ok (.newarray .int, 2) := dk_188_10 (dk_at dksX5_init_16 13 rfl rfl)
theorem dX5_init_393 : decode cX5_init 393 = .ok (.putfield 81, 3) := dk_181 0 81 (dk_at dksX5_init_16 15 rfl rfl)
theorem dX5_init_396 : decode cX5_init 396 = .ok (.aload_n 0, 1) := dk_42 (dk_at dksX5_init_16 18 rfl rfl)
theorem dX5_init_397 : decode cX5_init 397 = .ok (.bipush 90, 2) := dk_16 90 (dk_at dksX5_init_16 19 rfl rfl)
theorem dX5_init_399 : decode cX5_init 399 = .ok (.newarray .int, 2) := dk_188_10 (dk_at dksX5_init_16 21 rfl rfl)
theorem dX5_init_401 : decode cX5_init 401 = .ok (.putfield 84, 3) := dk_181 0 84 (dk_at dksX5_init_17 0 rfl rfl)
theorem dX5_init_404 : decode cX5_init 404 = .ok (.aload_n 0, 1) := dk_42 (dk_at dksX5_init_17 3 rfl rfl)
theorem dX5_init_405 : decode cX5_init 405 = .ok (.bipush 90, 2) := dk_16 90 (dk_at dksX5_init_17 4 rfl rfl)
theorem dX5_init_407 : decode cX5_init 407 = .ok (.newarray .int, 2) := dk_188_10 (dk_at dksX5_init_17 6 rfl rfl)
theorem dX5_init_409 : decode cX5_init 409 = .ok (.putfield 87, 3) := dk_181 0 87 (dk_at dksX5_init_17 8 rfl rfl)
theorem dX5_init_412 : decode cX5_init 412 = .ok (.aload_n 0, 1) := dk_42 (dk_at dksX5_init_17 11 rfl rfl)
theorem dX5_init_413 : decode cX5_init 413 = .ok (.sipush 256, 3) := dk_17 1 0 (dk_at dksX5_init_17 12 rfl rfl)
theorem dX5_init_416 : decode cX5_init 416 = .ok (.newarray .int, 2) := dk_188_10 (dk_at dksX5_init_17 15 rfl rfl)
theorem dX5_init_418 : decode cX5_init 418 = .ok (.putfield 90, 3) := dk_181 0 90 (dk_at dksX5_init_17 17 rfl rfl)
theorem dX5_init_421 : decode cX5_init 421 = .ok (.aload_n 0, 1) := dk_42 (dk_at dksX5_init_17 20 rfl rfl)
theorem dX5_init_422 : decode cX5_init 422 = .ok (.bipush 8, 2) := dk_16 8 (dk_at dksX5_init_17 21 rfl rfl)
theorem dX5_init_424 : decode cX5_init 424 = .ok (.newarray .int, 2) := dk_188_10 (dk_at dksX5_init_18 0 rfl rfl)
theorem dX5_init_426 : decode cX5_init 426 = .ok (.putfield 93, 3) := dk_181 0 93 (dk_at dksX5_init_18 2 rfl rfl)
theorem dX5_init_429 : decode cX5_init 429 = .ok (.aload_n 0, 1) := dk_42 (dk_at dksX5_init_18 5 rfl rfl)
theorem dX5_init_430 : decode cX5_init 430 = .ok (.bipush 9, 2) := dk_16 9 (dk_at dksX5_init_18 6 rfl rfl)
theorem dX5_init_432 : decode cX5_init 432 = .ok (.newarray .int, 2) := dk_188_10 (dk_at dksX5_init_18 8 rfl rfl)
theorem dX5_init_434 : decode cX5_init 434 = .ok (.putfield 96, 3) := dk_181 0 96 (dk_at dksX5_init_18 10 rfl rfl)
theorem dX5_init_437 : decode cX5_init 437 = .ok (.aload_n 0, 1) := dk_42 (dk_at dksX5_init_18 13 rfl rfl)
theorem dX5_init_438 : decode cX5_init 438 = .ok (.bipush 9, 2) := dk_16 9 (dk_at dksX5_init_18 14 rfl rfl)
theorem dX5_init_440 : decode cX5_init 440 = .ok (.newarray .int, 2) := dk_188_10 (dk_at dksX5_init_18 16 rfl rfl)
theorem dX5_init_442 : decode cX5_init 442 = .ok (.putfield 99, 3) := dk_181 0 99 (dk_at dksX5_init_18 18 rfl rfl)
theorem dX5_init_445 : decode cX5_init 445 = .ok (.aload_n 0, 1) := dk_42 (dk_at dksX5_init_18 21 rfl rfl)
theorem dX5_init_446 : decode cX5_init 446 = .ok (.sipush 1024, 3) := dk_17 4 0 (dk_at dksX5_init_19 0 rfl rfl)
theorem dX5_init_449 : decode cX5_init 449 = .ok (.newarray .int, 2) := dk_188_10 (dk_at dksX5_init_19 3 rfl rfl)
theorem dX5_init_451 : decode cX5_init 451 = .ok (.putfield 102, 3) := dk_181 0 102 (dk_at dksX5_init_19 5 rfl rfl)
theorem dX5_init_454 : decode cX5_init 454 = .ok (.aload_n 0, 1) := dk_42 (dk_at dksX5_init_19 8 rfl rfl)
theorem dX5_init_455 : decode cX5_init 455 = .ok (.iconst 4, 1) := dk_7 (dk_at dksX5_init_19 9 rfl rfl)
theorem dX5_init_456 : decode cX5_init 456 = .ok (.newarray .int, 2) := dk_188_10 (dk_at dksX5_init_19 10 rfl rfl)
theorem dX5_init_458 : decode cX5_init 458 = .ok (.putfield 105, 3) := dk_181 0 105 (dk_at dksX5_init_19 12 rfl rfl)
theorem dX5_init_461 : decode cX5_init 461 = .ok (.aload_n 0, 1) := dk_42 (dk_at dksX5_init_19 15 rfl rfl)
theorem dX5_init_462 : decode cX5_init 462 = .ok (.bipush 8, 2) := dk_16 8 (dk_at dksX5_init_19 16 rfl rfl)
theorem dX5_init_464 : decode cX5_init 464 = .ok (.newarray .int, 2) := dk_188_10 (dk_at dksX5_init_19 18 rfl rfl)
theorem dX5_init_466 : decode cX5_init 466 = .ok (.putfield 108, 3) := dk_181 0 108 (dk_at dksX5_init_19 20 rfl rfl)
theorem dX5_init_469 : decode cX5_init 469 = .ok (.aload_n 0, 1) := dk_42 (dk_at dksX5_init_19 23 rfl rfl)
theorem dX5_init_470 : decode cX5_init 470 = .ok (.bipush 8, 2) := dk_16 8 (dk_at dksX5_init_20 0 rfl rfl)
theorem dX5_init_472 : decode cX5_init 472 = .ok (.newarray .int, 2) := dk_188_10 (dk_at dksX5_init_20 2 rfl rfl)
theorem dX5_init_474 : decode cX5_init 474 = .ok (.putfield 111, 3) := dk_181 0 111 (dk_at dksX5_init_20 4 rfl rfl)
theorem dX5_init_477 : decode cX5_init 477 = .ok (.aload_n 0, 1) := dk_42 (dk_at dksX5_init_20 7 rfl rfl)
theorem dX5_init_478 : decode cX5_init 478 = .ok (.bipush 20, 2) := dk_16 20 (dk_at dksX5_init_20 8 rfl rfl)
theorem dX5_init_480 : decode cX5_init 480 = .ok (.newarray .int, 2) := dk_188_10 (dk_at dksX5_init_20 10 rfl rfl)
theorem dX5_init_482 : decode cX5_init 482 = .ok (.putfield 114, 3) := dk_181 0 114 (dk_at dksX5_init_20 12 rfl rfl)
theorem dX5_init_485 : decode cX5_init 485 = .ok (.return_, 1) := dk_177 (dk_at dksX5_init_20 15 rfl rfl)
abbrev cX5_row : ByteArray := prog_22_method_10_code
def yX5_row : MethodName := ⟨RX5, "row", "(III)I"⟩
def dkwX5_row_4 : List UInt8 := [27, 104, 21, 4, 96, 9, 80, 132, 4, 1, 167, 255, 231, 4, 172]
abbrev dktX5_row_4 : List UInt8 := dkwX5_row_4 ++ []
def dkwX5_row_3 : List UInt8 := [180, 0, 62, 27, 29, 79, 3, 54, 4, 21, 4, 17, 0, 160, 162, 0, 23, 42, 180, 0, 68, 17, 0, 160]
abbrev dktX5_row_3 : List UInt8 := dkwX5_row_3 ++ dktX5_row_4
def dkwX5_row_2 : List UInt8 := [42, 16, 249, 182, 0, 136, 172, 42, 180, 0, 56, 27, 4, 79, 42, 180, 0, 59, 27, 28, 79, 42]
abbrev dktX5_row_2 : List UInt8 := dkwX5_row_2 ++ dktX5_row_3
def dkwX5_row_1 : List UInt8 := [172, 28, 155, 0, 8, 28, 6, 164, 0, 10, 42, 16, 250, 182, 0, 136, 172, 29, 17, 0, 160, 164, 0, 10]
abbrev dktX5_row_1 : List UInt8 := dkwX5_row_1 ++ dktX5_row_2
def dkwX5_row_0 : List UInt8 := [42, 27, 182, 0, 133, 154, 0, 9, 42, 2, 182, 0, 136, 172, 29, 156, 0, 10, 42, 16, 252, 182, 0, 136]
abbrev dktX5_row_0 : List UInt8 := dkwX5_row_0 ++ dktX5_row_1
theorem dksX5_row_0 : cX5_row.data.toList.drop 0 = dktX5_row_0 := by decide +kernel
theorem dksX5_row_1 : cX5_row.data.toList.drop 24 = dktX5_row_1 := dk_seg dksX5_row_0 24 rfl rfl
theorem dksX5_row_2 : cX5_row.data.toList.drop 48 = dktX5_row_2 := dk_seg dksX5_row_1 24 rfl rfl
theorem dksX5_row_3 : cX5_row.data.toList.drop 70 = dktX5_row_3 := dk_seg dksX5_row_2 22 rfl rfl
theorem dksX5_row_4 : cX5_row.data.toList.drop 94 = dktX5_row_4 := dk_seg dksX5_row_3 24 rfl rfl
theorem dX5_row_0 : decode cX5_row 0 = .ok (.aload_n 0, 1) := dk_42 (dk_at dksX5_row_0 0 rfl rfl)
theorem dX5_row_1 : decode cX5_row 1 = .ok (.iload_n 1, 1) := dk_27 (dk_at dksX5_row_0 1 rfl rfl)
theorem dX5_row_2 : decode cX5_row 2 = .ok (.invokevirtual 133, 3) := dk_182 0 133 (dk_at dksX5_row_0 2 rfl rfl)
theorem dX5_row_5 : decode cX5_row 5 = .ok (.ifCond .ne 9, 3) := dk_154 0 9 (dk_at dksX5_row_0 5 rfl rfl)
theorem dX5_row_8 : decode cX5_row 8 = .ok (.aload_n 0, 1) := dk_42 (dk_at dksX5_row_0 8 rfl rfl)
theorem dX5_row_9 : decode cX5_row 9 = .ok (.iconst (-1), 1) := dk_2 (dk_at dksX5_row_0 9 rfl rfl)
theorem dX5_row_10 : decode cX5_row 10 = .ok (.invokevirtual 136, 3) := dk_182 0 136 (dk_at dksX5_row_0 10 rfl rfl)
theorem dX5_row_13 : decode cX5_row 13 = .ok (.ireturn, 1) := dk_172 (dk_at dksX5_row_0 13 rfl rfl)
theorem dX5_row_14 : decode cX5_row 14 = .ok (.iload_n 3, 1) := dk_29 (dk_at dksX5_row_0 14 rfl rfl)
theorem dX5_row_15 : decode cX5_row 15 = .ok (.ifCond .ge 10, 3) := dk_156 0 10 (dk_at dksX5_row_0 15 rfl rfl)
theorem dX5_row_18 : decode cX5_row 18 = .ok (.aload_n 0, 1) := dk_42 (dk_at dksX5_row_0 18 rfl rfl)
theorem dX5_row_19 : decode cX5_row 19 = .ok (.bipush (-4), 2) := dk_16 252 (dk_at dksX5_row_0 19 rfl rfl)
theorem dX5_row_21 : decode cX5_row 21 = .ok (.invokevirtual 136, 3) := dk_182 0 136 (dk_at dksX5_row_0 21 rfl rfl)
theorem dX5_row_24 : decode cX5_row 24 = .ok (.ireturn, 1) := dk_172 (dk_at dksX5_row_1 0 rfl rfl)
theorem dX5_row_25 : decode cX5_row 25 = .ok (.iload_n 2, 1) := dk_28 (dk_at dksX5_row_1 1 rfl rfl)
theorem dX5_row_26 : decode cX5_row 26 = .ok (.ifCond .lt 8, 3) := dk_155 0 8 (dk_at dksX5_row_1 2 rfl rfl)
theorem dX5_row_29 : decode cX5_row 29 = .ok (.iload_n 2, 1) := dk_28 (dk_at dksX5_row_1 5 rfl rfl)
theorem dX5_row_30 : decode cX5_row 30 = .ok (.iconst 3, 1) := dk_6 (dk_at dksX5_row_1 6 rfl rfl)
theorem dX5_row_31 : decode cX5_row 31 = .ok (.if_icmp .le 10, 3) := dk_164 0 10 (dk_at dksX5_row_1 7 rfl rfl)
theorem dX5_row_34 : decode cX5_row 34 = .ok (.aload_n 0, 1) := dk_42 (dk_at dksX5_row_1 10 rfl rfl)
theorem dX5_row_35 : decode cX5_row 35 = .ok (.bipush (-6), 2) := dk_16 250 (dk_at dksX5_row_1 11 rfl rfl)
theorem dX5_row_37 : decode cX5_row 37 = .ok (.invokevirtual 136, 3) := dk_182 0 136 (dk_at dksX5_row_1 13 rfl rfl)
theorem dX5_row_40 : decode cX5_row 40 = .ok (.ireturn, 1) := dk_172 (dk_at dksX5_row_1 16 rfl rfl)
theorem dX5_row_41 : decode cX5_row 41 = .ok (.iload_n 3, 1) := dk_29 (dk_at dksX5_row_1 17 rfl rfl)
theorem dX5_row_42 : decode cX5_row 42 = .ok (.sipush 160, 3) := dk_17 0 160 (dk_at dksX5_row_1 18 rfl rfl)
theorem dX5_row_45 : decode cX5_row 45 = .ok (.if_icmp .le 10, 3) := dk_164 0 10 (dk_at dksX5_row_1 21 rfl rfl)
theorem dX5_row_48 : decode cX5_row 48 = .ok (.aload_n 0, 1) := dk_42 (dk_at dksX5_row_2 0 rfl rfl)
theorem dX5_row_49 : decode cX5_row 49 = .ok (.bipush (-7), 2) := dk_16 249 (dk_at dksX5_row_2 1 rfl rfl)
theorem dX5_row_51 : decode cX5_row 51 = .ok (.invokevirtual 136, 3) := dk_182 0 136 (dk_at dksX5_row_2 3 rfl rfl)
theorem dX5_row_54 : decode cX5_row 54 = .ok (.ireturn, 1) := dk_172 (dk_at dksX5_row_2 6 rfl rfl)
theorem dX5_row_55 : decode cX5_row 55 = .ok (.aload_n 0, 1) := dk_42 (dk_at dksX5_row_2 7 rfl rfl)
theorem dX5_row_56 : decode cX5_row 56 = .ok (.getfield 56, 3) := dk_180 0 56 (dk_at dksX5_row_2 8 rfl rfl)
theorem dX5_row_59 : decode cX5_row 59 = .ok (.iload_n 1, 1) := dk_27 (dk_at dksX5_row_2 11 rfl rfl)
theorem dX5_row_60 : decode cX5_row 60 = .ok (.iconst 1, 1) := dk_4 (dk_at dksX5_row_2 12 rfl rfl)
theorem dX5_row_61 : decode cX5_row 61 = .ok (.iastore, 1) := dk_79 (dk_at dksX5_row_2 13 rfl rfl)
theorem dX5_row_62 : decode cX5_row 62 = .ok (.aload_n 0, 1) := dk_42 (dk_at dksX5_row_2 14 rfl rfl)
theorem dX5_row_63 : decode cX5_row 63 = .ok (.getfield 59, 3) := dk_180 0 59 (dk_at dksX5_row_2 15 rfl rfl)
theorem dX5_row_66 : decode cX5_row 66 = .ok (.iload_n 1, 1) := dk_27 (dk_at dksX5_row_2 18 rfl rfl)
theorem dX5_row_67 : decode cX5_row 67 = .ok (.iload_n 2, 1) := dk_28 (dk_at dksX5_row_2 19 rfl rfl)
theorem dX5_row_68 : decode cX5_row 68 = .ok (.iastore, 1) := dk_79 (dk_at dksX5_row_2 20 rfl rfl)
theorem dX5_row_69 : decode cX5_row 69 = .ok (.aload_n 0, 1) := dk_42 (dk_at dksX5_row_2 21 rfl rfl)
theorem dX5_row_70 : decode cX5_row 70 = .ok (.getfield 62, 3) := dk_180 0 62 (dk_at dksX5_row_3 0 rfl rfl)
theorem dX5_row_73 : decode cX5_row 73 = .ok (.iload_n 1, 1) := dk_27 (dk_at dksX5_row_3 3 rfl rfl)
theorem dX5_row_74 : decode cX5_row 74 = .ok (.iload_n 3, 1) := dk_29 (dk_at dksX5_row_3 4 rfl rfl)
theorem dX5_row_75 : decode cX5_row 75 = .ok (.iastore, 1) := dk_79 (dk_at dksX5_row_3 5 rfl rfl)
theorem dX5_row_76 : decode cX5_row 76 = .ok (.iconst 0, 1) := dk_3 (dk_at dksX5_row_3 6 rfl rfl)
theorem dX5_row_77 : decode cX5_row 77 = .ok (.istore 4, 2) := dk_54 4 (dk_at dksX5_row_3 7 rfl rfl)
theorem dX5_row_79 : decode cX5_row 79 = .ok (.iload 4, 2) := dk_21 4 (dk_at dksX5_row_3 9 rfl rfl)
theorem dX5_row_81 : decode cX5_row 81 = .ok (.sipush 160, 3) := dk_17 0 160 (dk_at dksX5_row_3 11 rfl rfl)
theorem dX5_row_84 : decode cX5_row 84 = .ok (.if_icmp .ge 23, 3) := dk_162 0 23 (dk_at dksX5_row_3 14 rfl rfl)
theorem dX5_row_87 : decode cX5_row 87 = .ok (.aload_n 0, 1) := dk_42 (dk_at dksX5_row_3 17 rfl rfl)
theorem dX5_row_88 : decode cX5_row 88 = .ok (.getfield 68, 3) := dk_180 0 68 (dk_at dksX5_row_3 18 rfl rfl)
theorem dX5_row_91 : decode cX5_row 91 = .ok (.sipush 160, 3) := dk_17 0 160 (dk_at dksX5_row_3 21 rfl rfl)
theorem dX5_row_94 : decode cX5_row 94 = .ok (.iload_n 1, 1) := dk_27 (dk_at dksX5_row_4 0 rfl rfl)
theorem dX5_row_95 : decode cX5_row 95 = .ok (.imul, 1) := dk_104 (dk_at dksX5_row_4 1 rfl rfl)
theorem dX5_row_96 : decode cX5_row 96 = .ok (.iload 4, 2) := dk_21 4 (dk_at dksX5_row_4 2 rfl rfl)
theorem dX5_row_98 : decode cX5_row 98 = .ok (.iadd, 1) := dk_96 (dk_at dksX5_row_4 4 rfl rfl)
theorem dX5_row_99 : decode cX5_row 99 = .ok (.lconst 0, 1) := dk_9 (dk_at dksX5_row_4 5 rfl rfl)
theorem dX5_row_100 : decode cX5_row 100 = .ok (.lastore, 1) := dk_80 (dk_at dksX5_row_4 6 rfl rfl)
theorem dX5_row_101 : decode cX5_row 101 = .ok (.iinc 4 1, 3) := dk_132 4 1 (dk_at dksX5_row_4 7 rfl rfl)
theorem dX5_row_104 : decode cX5_row 104 = .ok (.goto (-25), 3) := dk_167 255 231 (dk_at dksX5_row_4 10 rfl rfl)
theorem dX5_row_107 : decode cX5_row 107 = .ok (.iconst 1, 1) := dk_4 (dk_at dksX5_row_4 13 rfl rfl)
theorem dX5_row_108 : decode cX5_row 108 = .ok (.ireturn, 1) := dk_172 (dk_at dksX5_row_4 14 rfl rfl)
abbrev cX5_isShelf : ByteArray := prog_22_method_4_code
def yX5_isShelf : MethodName := ⟨RX5, "isShelf", "(I)Z"⟩
def dkwX5_isShelf_0 : List UInt8 := [27, 155, 0, 13, 27, 16, 8, 162, 0, 7, 4, 167, 0, 4, 3, 172]
abbrev dktX5_isShelf_0 : List UInt8 := dkwX5_isShelf_0 ++ []
theorem dksX5_isShelf_0 : cX5_isShelf.data.toList.drop 0 = dktX5_isShelf_0 := by decide +kernel
theorem dX5_isShelf_0 : decode cX5_isShelf 0 = .ok (.iload_n 1, 1) := dk_27 (dk_at dksX5_isShelf_0 0 rfl rfl)
theorem dX5_isShelf_1 : decode cX5_isShelf 1 = .ok (.ifCond .lt 13, 3) := dk_155 0 13 (dk_at dksX5_isShelf_0 1 rfl rfl)
theorem dX5_isShelf_4 : decode cX5_isShelf 4 = .ok (.iload_n 1, 1) := dk_27 (dk_at dksX5_isShelf_0 4 rfl rfl)
theorem dX5_isShelf_5 : decode cX5_isShelf 5 = .ok (.bipush 8, 2) := dk_16 8 (dk_at dksX5_isShelf_0 5 rfl rfl)
theorem dX5_isShelf_7 : decode cX5_isShelf 7 = .ok (.if_icmp .ge 7, 3) := dk_162 0 7 (dk_at dksX5_isShelf_0 7 rfl rfl)
theorem dX5_isShelf_10 : decode cX5_isShelf 10 = .ok (.iconst 1, 1) := dk_4 (dk_at dksX5_isShelf_0 10 rfl rfl)
theorem dX5_isShelf_11 : decode cX5_isShelf 11 = .ok (.goto 4, 3) := dk_167 0 4 (dk_at dksX5_isShelf_0 11 rfl rfl)
theorem dX5_isShelf_14 : decode cX5_isShelf 14 = .ok (.iconst 0, 1) := dk_3 (dk_at dksX5_isShelf_0 14 rfl rfl)
theorem dX5_isShelf_15 : decode cX5_isShelf 15 = .ok (.ireturn, 1) := dk_172 (dk_at dksX5_isShelf_0 15 rfl rfl)
abbrev cX5_no : ByteArray := prog_22_method_2_code
def yX5_no : MethodName := ⟨RX5, "no", "(I)I"⟩
def dkwX5_no_0 : List UInt8 := [42, 180, 0, 19, 27, 116, 92, 46, 4, 96, 79, 27, 172]
abbrev dktX5_no_0 : List UInt8 := dkwX5_no_0 ++ []
theorem dksX5_no_0 : cX5_no.data.toList.drop 0 = dktX5_no_0 := by decide +kernel
theorem dX5_no_0 : decode cX5_no 0 = .ok (.aload_n 0, 1) := dk_42 (dk_at dksX5_no_0 0 rfl rfl)
theorem dX5_no_1 : decode cX5_no 1 = .ok (.getfield 19, 3) := dk_180 0 19 (dk_at dksX5_no_0 1 rfl rfl)
theorem dX5_no_4 : decode cX5_no 4 = .ok (.iload_n 1, 1) := dk_27 (dk_at dksX5_no_0 4 rfl rfl)
theorem dX5_no_5 : decode cX5_no 5 = .ok (.ineg, 1) := dk_116 (dk_at dksX5_no_0 5 rfl rfl)
theorem dX5_no_6 : decode cX5_no 6 = .ok (.dup2, 1) := dk_92 (dk_at dksX5_no_0 6 rfl rfl)
theorem dX5_no_7 : decode cX5_no 7 = .ok (.iaload, 1) := dk_46 (dk_at dksX5_no_0 7 rfl rfl)
theorem dX5_no_8 : decode cX5_no 8 = .ok (.iconst 1, 1) := dk_4 (dk_at dksX5_no_0 8 rfl rfl)
theorem dX5_no_9 : decode cX5_no 9 = .ok (.iadd, 1) := dk_96 (dk_at dksX5_no_0 9 rfl rfl)
theorem dX5_no_10 : decode cX5_no 10 = .ok (.iastore, 1) := dk_79 (dk_at dksX5_no_0 10 rfl rfl)
theorem dX5_no_11 : decode cX5_no 11 = .ok (.iload_n 1, 1) := dk_27 (dk_at dksX5_no_0 11 rfl rfl)
theorem dX5_no_12 : decode cX5_no 12 = .ok (.ireturn, 1) := dk_172 (dk_at dksX5_no_0 12 rfl rfl)
abbrev cX5_set : ByteArray := prog_22_method_11_code
def yX5_set : MethodName := ⟨RX5, "set", "(IIJ)I"⟩
def dkwX5_set_5 : List UInt8 := [160, 0, 9, 33, 136, 133, 167, 0, 4, 33, 80, 4, 172]
abbrev dktX5_set_5 : List UInt8 := dkwX5_set_5 ++ []
def dkwX5_set_4 : List UInt8 := [180, 0, 59, 27, 46, 4, 160, 0, 10, 33, 136, 147, 133, 167, 0, 20, 42, 180, 0, 59, 27, 46, 5]
abbrev dktX5_set_4 : List UInt8 := dkwX5_set_4 ++ dktX5_set_5
def dkwX5_set_3 : List UInt8 := [17, 0, 160, 27, 104, 28, 96, 42, 180, 0, 59, 27, 46, 154, 0, 10, 33, 136, 145, 133, 167, 0, 37, 42]
abbrev dktX5_set_3 : List UInt8 := dkwX5_set_3 ++ dktX5_set_4
def dkwX5_set_2 : List UInt8 := [155, 0, 13, 28, 42, 180, 0, 62, 27, 46, 161, 0, 10, 42, 16, 251, 182, 0, 136, 172, 42, 180, 0, 68]
abbrev dktX5_set_2 : List UInt8 := dkwX5_set_2 ++ dktX5_set_3
def dkwX5_set_1 : List UInt8 := [42, 16, 254, 182, 0, 136, 172, 42, 180, 0, 56, 27, 46, 154, 0, 10, 42, 16, 253, 182, 0, 136, 172, 28]
abbrev dktX5_set_1 : List UInt8 := dkwX5_set_1 ++ dktX5_set_2
def dkwX5_set_0 : List UInt8 := [42, 27, 182, 0, 133, 154, 0, 9, 42, 2, 182, 0, 136, 172, 42, 180, 0, 56, 27, 46, 5, 160, 0, 10]
abbrev dktX5_set_0 : List UInt8 := dkwX5_set_0 ++ dktX5_set_1
theorem dksX5_set_0 : cX5_set.data.toList.drop 0 = dktX5_set_0 := by decide +kernel
theorem dksX5_set_1 : cX5_set.data.toList.drop 24 = dktX5_set_1 := dk_seg dksX5_set_0 24 rfl rfl
theorem dksX5_set_2 : cX5_set.data.toList.drop 48 = dktX5_set_2 := dk_seg dksX5_set_1 24 rfl rfl
theorem dksX5_set_3 : cX5_set.data.toList.drop 72 = dktX5_set_3 := dk_seg dksX5_set_2 24 rfl rfl
theorem dksX5_set_4 : cX5_set.data.toList.drop 96 = dktX5_set_4 := dk_seg dksX5_set_3 24 rfl rfl
theorem dksX5_set_5 : cX5_set.data.toList.drop 119 = dktX5_set_5 := dk_seg dksX5_set_4 23 rfl rfl
theorem dX5_set_0 : decode cX5_set 0 = .ok (.aload_n 0, 1) := dk_42 (dk_at dksX5_set_0 0 rfl rfl)
theorem dX5_set_1 : decode cX5_set 1 = .ok (.iload_n 1, 1) := dk_27 (dk_at dksX5_set_0 1 rfl rfl)
theorem dX5_set_2 : decode cX5_set 2 = .ok (.invokevirtual 133, 3) := dk_182 0 133 (dk_at dksX5_set_0 2 rfl rfl)
theorem dX5_set_5 : decode cX5_set 5 = .ok (.ifCond .ne 9, 3) := dk_154 0 9 (dk_at dksX5_set_0 5 rfl rfl)
theorem dX5_set_8 : decode cX5_set 8 = .ok (.aload_n 0, 1) := dk_42 (dk_at dksX5_set_0 8 rfl rfl)
theorem dX5_set_9 : decode cX5_set 9 = .ok (.iconst (-1), 1) := dk_2 (dk_at dksX5_set_0 9 rfl rfl)
theorem dX5_set_10 : decode cX5_set 10 = .ok (.invokevirtual 136, 3) := dk_182 0 136 (dk_at dksX5_set_0 10 rfl rfl)
theorem dX5_set_13 : decode cX5_set 13 = .ok (.ireturn, 1) := dk_172 (dk_at dksX5_set_0 13 rfl rfl)
theorem dX5_set_14 : decode cX5_set 14 = .ok (.aload_n 0, 1) := dk_42 (dk_at dksX5_set_0 14 rfl rfl)
theorem dX5_set_15 : decode cX5_set 15 = .ok (.getfield 56, 3) := dk_180 0 56 (dk_at dksX5_set_0 15 rfl rfl)
theorem dX5_set_18 : decode cX5_set 18 = .ok (.iload_n 1, 1) := dk_27 (dk_at dksX5_set_0 18 rfl rfl)
theorem dX5_set_19 : decode cX5_set 19 = .ok (.iaload, 1) := dk_46 (dk_at dksX5_set_0 19 rfl rfl)
theorem dX5_set_20 : decode cX5_set 20 = .ok (.iconst 2, 1) := dk_5 (dk_at dksX5_set_0 20 rfl rfl)
theorem dX5_set_21 : decode cX5_set 21 = .ok (.if_icmp .ne 10, 3) := dk_160 0 10 (dk_at dksX5_set_0 21 rfl rfl)
theorem dX5_set_24 : decode cX5_set 24 = .ok (.aload_n 0, 1) := dk_42 (dk_at dksX5_set_1 0 rfl rfl)
theorem dX5_set_25 : decode cX5_set 25 = .ok (.bipush (-2), 2) := dk_16 254 (dk_at dksX5_set_1 1 rfl rfl)
theorem dX5_set_27 : decode cX5_set 27 = .ok (.invokevirtual 136, 3) := dk_182 0 136 (dk_at dksX5_set_1 3 rfl rfl)
theorem dX5_set_30 : decode cX5_set 30 = .ok (.ireturn, 1) := dk_172 (dk_at dksX5_set_1 6 rfl rfl)
theorem dX5_set_31 : decode cX5_set 31 = .ok (.aload_n 0, 1) := dk_42 (dk_at dksX5_set_1 7 rfl rfl)
theorem dX5_set_32 : decode cX5_set 32 = .ok (.getfield 56, 3) := dk_180 0 56 (dk_at dksX5_set_1 8 rfl rfl)
theorem dX5_set_35 : decode cX5_set 35 = .ok (.iload_n 1, 1) := dk_27 (dk_at dksX5_set_1 11 rfl rfl)
theorem dX5_set_36 : decode cX5_set 36 = .ok (.iaload, 1) := dk_46 (dk_at dksX5_set_1 12 rfl rfl)
theorem dX5_set_37 : decode cX5_set 37 = .ok (.ifCond .ne 10, 3) := dk_154 0 10 (dk_at dksX5_set_1 13 rfl rfl)
theorem dX5_set_40 : decode cX5_set 40 = .ok (.aload_n 0, 1) := dk_42 (dk_at dksX5_set_1 16 rfl rfl)
theorem dX5_set_41 : decode cX5_set 41 = .ok (.bipush (-3), 2) := dk_16 253 (dk_at dksX5_set_1 17 rfl rfl)
theorem dX5_set_43 : decode cX5_set 43 = .ok (.invokevirtual 136, 3) := dk_182 0 136 (dk_at dksX5_set_1 19 rfl rfl)
theorem dX5_set_46 : decode cX5_set 46 = .ok (.ireturn, 1) := dk_172 (dk_at dksX5_set_1 22 rfl rfl)
theorem dX5_set_47 : decode cX5_set 47 = .ok (.iload_n 2, 1) := dk_28 (dk_at dksX5_set_1 23 rfl rfl)
theorem dX5_set_48 : decode cX5_set 48 = .ok (.ifCond .lt 13, 3) := dk_155 0 13 (dk_at dksX5_set_2 0 rfl rfl)
theorem dX5_set_51 : decode cX5_set 51 = .ok (.iload_n 2, 1) := dk_28 (dk_at dksX5_set_2 3 rfl rfl)
theorem dX5_set_52 : decode cX5_set 52 = .ok (.aload_n 0, 1) := dk_42 (dk_at dksX5_set_2 4 rfl rfl)
theorem dX5_set_53 : decode cX5_set 53 = .ok (.getfield 62, 3) := dk_180 0 62 (dk_at dksX5_set_2 5 rfl rfl)
theorem dX5_set_56 : decode cX5_set 56 = .ok (.iload_n 1, 1) := dk_27 (dk_at dksX5_set_2 8 rfl rfl)
theorem dX5_set_57 : decode cX5_set 57 = .ok (.iaload, 1) := dk_46 (dk_at dksX5_set_2 9 rfl rfl)
theorem dX5_set_58 : decode cX5_set 58 = .ok (.if_icmp .lt 10, 3) := dk_161 0 10 (dk_at dksX5_set_2 10 rfl rfl)
theorem dX5_set_61 : decode cX5_set 61 = .ok (.aload_n 0, 1) := dk_42 (dk_at dksX5_set_2 13 rfl rfl)
theorem dX5_set_62 : decode cX5_set 62 = .ok (.bipush (-5), 2) := dk_16 251 (dk_at dksX5_set_2 14 rfl rfl)
theorem dX5_set_64 : decode cX5_set 64 = .ok (.invokevirtual 136, 3) := dk_182 0 136 (dk_at dksX5_set_2 16 rfl rfl)
theorem dX5_set_67 : decode cX5_set 67 = .ok (.ireturn, 1) := dk_172 (dk_at dksX5_set_2 19 rfl rfl)
theorem dX5_set_68 : decode cX5_set 68 = .ok (.aload_n 0, 1) := dk_42 (dk_at dksX5_set_2 20 rfl rfl)
theorem dX5_set_69 : decode cX5_set 69 = .ok (.getfield 68, 3) := dk_180 0 68 (dk_at dksX5_set_2 21 rfl rfl)
theorem dX5_set_72 : decode cX5_set 72 = .ok (.sipush 160, 3) := dk_17 0 160 (dk_at dksX5_set_3 0 rfl rfl)
theorem dX5_set_75 : decode cX5_set 75 = .ok (.iload_n 1, 1) := dk_27 (dk_at dksX5_set_3 3 rfl rfl)
theorem dX5_set_76 : decode cX5_set 76 = .ok (.imul, 1) := dk_104 (dk_at dksX5_set_3 4 rfl rfl)
theorem dX5_set_77 : decode cX5_set 77 = .ok (.iload_n 2, 1) := dk_28 (dk_at dksX5_set_3 5 rfl rfl)
theorem dX5_set_78 : decode cX5_set 78 = .ok (.iadd, 1) := dk_96 (dk_at dksX5_set_3 6 rfl rfl)
theorem dX5_set_79 : decode cX5_set 79 = .ok (.aload_n 0, 1) := dk_42 (dk_at dksX5_set_3 7 rfl rfl)
theorem dX5_set_80 : decode cX5_set 80 = .ok (.getfield 59, 3) := dk_180 0 59 (dk_at dksX5_set_3 8 rfl rfl)
theorem dX5_set_83 : decode cX5_set 83 = .ok (.iload_n 1, 1) := dk_27 (dk_at dksX5_set_3 11 rfl rfl)
theorem dX5_set_84 : decode cX5_set 84 = .ok (.iaload, 1) := dk_46 (dk_at dksX5_set_3 12 rfl rfl)
theorem dX5_set_85 : decode cX5_set 85 = .ok (.ifCond .ne 10, 3) := dk_154 0 10 (dk_at dksX5_set_3 13 rfl rfl)
theorem dX5_set_88 : decode cX5_set 88 = .ok (.lload_n 3, 1) := dk_33 (dk_at dksX5_set_3 16 rfl rfl)
theorem dX5_set_89 : decode cX5_set 89 = .ok (.l2i, 1) := dk_136 (dk_at dksX5_set_3 17 rfl rfl)
theorem dX5_set_90 : decode cX5_set 90 = .ok (.i2b, 1) := dk_145 (dk_at dksX5_set_3 18 rfl rfl)
theorem dX5_set_91 : decode cX5_set 91 = .ok (.i2l, 1) := dk_133 (dk_at dksX5_set_3 19 rfl rfl)
theorem dX5_set_92 : decode cX5_set 92 = .ok (.goto 37, 3) := dk_167 0 37 (dk_at dksX5_set_3 20 rfl rfl)
theorem dX5_set_95 : decode cX5_set 95 = .ok (.aload_n 0, 1) := dk_42 (dk_at dksX5_set_3 23 rfl rfl)
theorem dX5_set_96 : decode cX5_set 96 = .ok (.getfield 59, 3) := dk_180 0 59 (dk_at dksX5_set_4 0 rfl rfl)
theorem dX5_set_99 : decode cX5_set 99 = .ok (.iload_n 1, 1) := dk_27 (dk_at dksX5_set_4 3 rfl rfl)
theorem dX5_set_100 : decode cX5_set 100 = .ok (.iaload, 1) := dk_46 (dk_at dksX5_set_4 4 rfl rfl)
theorem dX5_set_101 : decode cX5_set 101 = .ok (.iconst 1, 1) := dk_4 (dk_at dksX5_set_4 5 rfl rfl)
theorem dX5_set_102 : decode cX5_set 102 = .ok (.if_icmp .ne 10, 3) := dk_160 0 10 (dk_at dksX5_set_4 6 rfl rfl)
theorem dX5_set_105 : decode cX5_set 105 = .ok (.lload_n 3, 1) := dk_33 (dk_at dksX5_set_4 9 rfl rfl)
theorem dX5_set_106 : decode cX5_set 106 = .ok (.l2i, 1) := dk_136 (dk_at dksX5_set_4 10 rfl rfl)
theorem dX5_set_107 : decode cX5_set 107 = .ok (.i2s, 1) := dk_147 (dk_at dksX5_set_4 11 rfl rfl)
theorem dX5_set_108 : decode cX5_set 108 = .ok (.i2l, 1) := dk_133 (dk_at dksX5_set_4 12 rfl rfl)
theorem dX5_set_109 : decode cX5_set 109 = .ok (.goto 20, 3) := dk_167 0 20 (dk_at dksX5_set_4 13 rfl rfl)
theorem dX5_set_112 : decode cX5_set 112 = .ok (.aload_n 0, 1) := dk_42 (dk_at dksX5_set_4 16 rfl rfl)
theorem dX5_set_113 : decode cX5_set 113 = .ok (.getfield 59, 3) := dk_180 0 59 (dk_at dksX5_set_4 17 rfl rfl)
theorem dX5_set_116 : decode cX5_set 116 = .ok (.iload_n 1, 1) := dk_27 (dk_at dksX5_set_4 20 rfl rfl)
theorem dX5_set_117 : decode cX5_set 117 = .ok (.iaload, 1) := dk_46 (dk_at dksX5_set_4 21 rfl rfl)
theorem dX5_set_118 : decode cX5_set 118 = .ok (.iconst 2, 1) := dk_5 (dk_at dksX5_set_4 22 rfl rfl)
theorem dX5_set_119 : decode cX5_set 119 = .ok (.if_icmp .ne 9, 3) := dk_160 0 9 (dk_at dksX5_set_5 0 rfl rfl)
theorem dX5_set_122 : decode cX5_set 122 = .ok (.lload_n 3, 1) := dk_33 (dk_at dksX5_set_5 3 rfl rfl)
theorem dX5_set_123 : decode cX5_set 123 = .ok (.l2i, 1) := dk_136 (dk_at dksX5_set_5 4 rfl rfl)
theorem dX5_set_124 : decode cX5_set 124 = .ok (.i2l, 1) := dk_133 (dk_at dksX5_set_5 5 rfl rfl)
theorem dX5_set_125 : decode cX5_set 125 = .ok (.goto 4, 3) := dk_167 0 4 (dk_at dksX5_set_5 6 rfl rfl)
theorem dX5_set_128 : decode cX5_set 128 = .ok (.lload_n 3, 1) := dk_33 (dk_at dksX5_set_5 9 rfl rfl)
theorem dX5_set_129 : decode cX5_set 129 = .ok (.lastore, 1) := dk_80 (dk_at dksX5_set_5 10 rfl rfl)
theorem dX5_set_130 : decode cX5_set 130 = .ok (.iconst 1, 1) := dk_4 (dk_at dksX5_set_5 11 rfl rfl)
theorem dX5_set_131 : decode cX5_set 131 = .ok (.ireturn, 1) := dk_172 (dk_at dksX5_set_5 12 rfl rfl)
abbrev cX5_copy : ByteArray := prog_22_method_12_code
def yX5_copy : MethodName := ⟨RX5, "copy", "(IIIII)I"⟩
def dkwX5_copy_10 : List UInt8 := [132, 6, 1, 167, 255, 223, 4, 172]
abbrev dktX5_copy_10 : List UInt8 := dkwX5_copy_10 ++ []
def dkwX5_copy_9 : List UInt8 := [42, 180, 0, 68, 17, 0, 160, 28, 104, 21, 4, 96, 21, 6, 96, 42, 180, 0, 72, 21, 6, 47, 80]
abbrev dktX5_copy_9 : List UInt8 := dkwX5_copy_9 ++ dktX5_copy_10
def dkwX5_copy_8 : List UInt8 := [104, 29, 96, 21, 6, 96, 47, 80, 132, 6, 1, 167, 255, 224, 3, 54, 6, 21, 6, 21, 5, 162, 0, 32]
abbrev dktX5_copy_8 : List UInt8 := dkwX5_copy_8 ++ dktX5_copy_9
def dkwX5_copy_7 : List UInt8 := [3, 54, 6, 21, 6, 21, 5, 162, 0, 31, 42, 180, 0, 72, 21, 6, 42, 180, 0, 68, 17, 0, 160, 27]
abbrev dktX5_copy_7 : List UInt8 := dkwX5_copy_7 ++ dktX5_copy_8
def dkwX5_copy_6 : List UInt8 := [163, 0, 17, 21, 4, 42, 180, 0, 62, 28, 46, 21, 5, 100, 164, 0, 10, 42, 16, 251, 182, 0, 136, 172]
abbrev dktX5_copy_6 : List UInt8 := dkwX5_copy_6 ++ dktX5_copy_7
def dkwX5_copy_5 : List UInt8 := [182, 0, 136, 172, 29, 155, 0, 35, 21, 4, 155, 0, 30, 29, 42, 180, 0, 62, 27, 46, 21, 5, 100]
abbrev dktX5_copy_5 : List UInt8 := dkwX5_copy_5 ++ dktX5_copy_6
def dkwX5_copy_4 : List UInt8 := [42, 180, 0, 56, 28, 46, 154, 0, 10, 42, 16, 253, 182, 0, 136, 172, 21, 5, 156, 0, 10, 42, 16, 252]
abbrev dktX5_copy_4 : List UInt8 := dkwX5_copy_4 ++ dktX5_copy_5
def dkwX5_copy_3 : List UInt8 := [180, 0, 59, 28, 46, 159, 0, 10, 42, 16, 254, 182, 0, 136, 172, 42, 180, 0, 56, 27, 46, 153, 0, 12]
abbrev dktX5_copy_3 : List UInt8 := dkwX5_copy_3 ++ dktX5_copy_4
def dkwX5_copy_2 : List UInt8 := [46, 4, 160, 0, 35, 42, 180, 0, 56, 28, 46, 4, 160, 0, 25, 42, 180, 0, 59, 27, 46, 42]
abbrev dktX5_copy_2 : List UInt8 := dkwX5_copy_2 ++ dktX5_copy_3
def dkwX5_copy_1 : List UInt8 := [180, 0, 56, 27, 46, 5, 159, 0, 48, 42, 180, 0, 56, 28, 46, 5, 159, 0, 38, 42, 180, 0, 56, 27]
abbrev dktX5_copy_1 : List UInt8 := dkwX5_copy_1 ++ dktX5_copy_2
def dkwX5_copy_0 : List UInt8 := [42, 27, 182, 0, 133, 153, 0, 11, 42, 28, 182, 0, 133, 154, 0, 9, 42, 2, 182, 0, 136, 172, 42]
abbrev dktX5_copy_0 : List UInt8 := dkwX5_copy_0 ++ dktX5_copy_1
theorem dksX5_copy_0 : cX5_copy.data.toList.drop 0 = dktX5_copy_0 := by decide +kernel
theorem dksX5_copy_1 : cX5_copy.data.toList.drop 23 = dktX5_copy_1 := dk_seg dksX5_copy_0 23 rfl rfl
theorem dksX5_copy_2 : cX5_copy.data.toList.drop 47 = dktX5_copy_2 := dk_seg dksX5_copy_1 24 rfl rfl
theorem dksX5_copy_3 : cX5_copy.data.toList.drop 69 = dktX5_copy_3 := dk_seg dksX5_copy_2 22 rfl rfl
theorem dksX5_copy_4 : cX5_copy.data.toList.drop 93 = dktX5_copy_4 := dk_seg dksX5_copy_3 24 rfl rfl
theorem dksX5_copy_5 : cX5_copy.data.toList.drop 117 = dktX5_copy_5 := dk_seg dksX5_copy_4 24 rfl rfl
theorem dksX5_copy_6 : cX5_copy.data.toList.drop 140 = dktX5_copy_6 := dk_seg dksX5_copy_5 23 rfl rfl
theorem dksX5_copy_7 : cX5_copy.data.toList.drop 164 = dktX5_copy_7 := dk_seg dksX5_copy_6 24 rfl rfl
theorem dksX5_copy_8 : cX5_copy.data.toList.drop 188 = dktX5_copy_8 := dk_seg dksX5_copy_7 24 rfl rfl
theorem dksX5_copy_9 : cX5_copy.data.toList.drop 212 = dktX5_copy_9 := dk_seg dksX5_copy_8 24 rfl rfl
theorem dksX5_copy_10 : cX5_copy.data.toList.drop 235 = dktX5_copy_10 := dk_seg dksX5_copy_9 23 rfl rfl
theorem dX5_copy_0 : decode cX5_copy 0 = .ok (.aload_n 0, 1) := dk_42 (dk_at dksX5_copy_0 0 rfl rfl)
theorem dX5_copy_1 : decode cX5_copy 1 = .ok (.iload_n 1, 1) := dk_27 (dk_at dksX5_copy_0 1 rfl rfl)
theorem dX5_copy_2 : decode cX5_copy 2 = .ok (.invokevirtual 133, 3) := dk_182 0 133 (dk_at dksX5_copy_0 2 rfl rfl)
theorem dX5_copy_5 : decode cX5_copy 5 = .ok (.ifCond .eq 11, 3) := dk_153 0 11 (dk_at dksX5_copy_0 5 rfl rfl)
theorem dX5_copy_8 : decode cX5_copy 8 = .ok (.aload_n 0, 1) := dk_42 (dk_at dksX5_copy_0 8 rfl rfl)
theorem dX5_copy_9 : decode cX5_copy 9 = .ok (.iload_n 2, 1) := dk_28 (dk_at dksX5_copy_0 9 rfl rfl)
theorem dX5_copy_10 : decode cX5_copy 10 = .ok (.invokevirtual 133, 3) := dk_182 0 133 (dk_at dksX5_copy_0 10 rfl rfl)
theorem dX5_copy_13 : decode cX5_copy 13 = .ok (.ifCond .ne 9, 3) := dk_154 0 9 (dk_at dksX5_copy_0 13 rfl rfl)
theorem dX5_copy_16 : decode cX5_copy 16 = .ok (.aload_n 0, 1) := dk_42 (dk_at dksX5_copy_0 16 rfl rfl)
theorem dX5_copy_17 : decode cX5_copy 17 = .ok (.iconst (-1), 1) := dk_2 (dk_at dksX5_copy_0 17 rfl rfl)
theorem dX5_copy_18 : decode cX5_copy 18 = .ok (.invokevirtual 136, 3) := dk_182 0 136 (dk_at dksX5_copy_0 18 rfl rfl)
theorem dX5_copy_21 : decode cX5_copy 21 = .ok (.ireturn, 1) := dk_172 (dk_at dksX5_copy_0 21 rfl rfl)
theorem dX5_copy_22 : decode cX5_copy 22 = .ok (.aload_n 0, 1) := dk_42 (dk_at dksX5_copy_0 22 rfl rfl)
theorem dX5_copy_23 : decode cX5_copy 23 = .ok (.getfield 56, 3) := dk_180 0 56 (dk_at dksX5_copy_1 0 rfl rfl)
theorem dX5_copy_26 : decode cX5_copy 26 = .ok (.iload_n 1, 1) := dk_27 (dk_at dksX5_copy_1 3 rfl rfl)
theorem dX5_copy_27 : decode cX5_copy 27 = .ok (.iaload, 1) := dk_46 (dk_at dksX5_copy_1 4 rfl rfl)
theorem dX5_copy_28 : decode cX5_copy 28 = .ok (.iconst 2, 1) := dk_5 (dk_at dksX5_copy_1 5 rfl rfl)
theorem dX5_copy_29 : decode cX5_copy 29 = .ok (.if_icmp .eq 48, 3) := dk_159 0 48 (dk_at dksX5_copy_1 6 rfl rfl)
theorem dX5_copy_32 : decode cX5_copy 32 = .ok (.aload_n 0, 1) := dk_42 (dk_at dksX5_copy_1 9 rfl rfl)
theorem dX5_copy_33 : decode cX5_copy 33 = .ok (.getfield 56, 3) := dk_180 0 56 (dk_at dksX5_copy_1 10 rfl rfl)
theorem dX5_copy_36 : decode cX5_copy 36 = .ok (.iload_n 2, 1) := dk_28 (dk_at dksX5_copy_1 13 rfl rfl)
theorem dX5_copy_37 : decode cX5_copy 37 = .ok (.iaload, 1) := dk_46 (dk_at dksX5_copy_1 14 rfl rfl)
theorem dX5_copy_38 : decode cX5_copy 38 = .ok (.iconst 2, 1) := dk_5 (dk_at dksX5_copy_1 15 rfl rfl)
theorem dX5_copy_39 : decode cX5_copy 39 = .ok (.if_icmp .eq 38, 3) := dk_159 0 38 (dk_at dksX5_copy_1 16 rfl rfl)
theorem dX5_copy_42 : decode cX5_copy 42 = .ok (.aload_n 0, 1) := dk_42 (dk_at dksX5_copy_1 19 rfl rfl)
theorem dX5_copy_43 : decode cX5_copy 43 = .ok (.getfield 56, 3) := dk_180 0 56 (dk_at dksX5_copy_1 20 rfl rfl)
theorem dX5_copy_46 : decode cX5_copy 46 = .ok (.iload_n 1, 1) := dk_27 (dk_at dksX5_copy_1 23 rfl rfl)
theorem dX5_copy_47 : decode cX5_copy 47 = .ok (.iaload, 1) := dk_46 (dk_at dksX5_copy_2 0 rfl rfl)
theorem dX5_copy_48 : decode cX5_copy 48 = .ok (.iconst 1, 1) := dk_4 (dk_at dksX5_copy_2 1 rfl rfl)
theorem dX5_copy_49 : decode cX5_copy 49 = .ok (.if_icmp .ne 35, 3) := dk_160 0 35 (dk_at dksX5_copy_2 2 rfl rfl)
theorem dX5_copy_52 : decode cX5_copy 52 = .ok (.aload_n 0, 1) := dk_42 (dk_at dksX5_copy_2 5 rfl rfl)
theorem dX5_copy_53 : decode cX5_copy 53 = .ok (.getfield 56, 3) := dk_180 0 56 (dk_at dksX5_copy_2 6 rfl rfl)
theorem dX5_copy_56 : decode cX5_copy 56 = .ok (.iload_n 2, 1) := dk_28 (dk_at dksX5_copy_2 9 rfl rfl)
theorem dX5_copy_57 : decode cX5_copy 57 = .ok (.iaload, 1) := dk_46 (dk_at dksX5_copy_2 10 rfl rfl)
theorem dX5_copy_58 : decode cX5_copy 58 = .ok (.iconst 1, 1) := dk_4 (dk_at dksX5_copy_2 11 rfl rfl)
theorem dX5_copy_59 : decode cX5_copy 59 = .ok (.if_icmp .ne 25, 3) := dk_160 0 25 (dk_at dksX5_copy_2 12 rfl rfl)
theorem dX5_copy_62 : decode cX5_copy 62 = .ok (.aload_n 0, 1) := dk_42 (dk_at dksX5_copy_2 15 rfl rfl)
theorem dX5_copy_63 : decode cX5_copy 63 = .ok (.getfield 59, 3) := dk_180 0 59 (dk_at dksX5_copy_2 16 rfl rfl)
theorem dX5_copy_66 : decode cX5_copy 66 = .ok (.iload_n 1, 1) := dk_27 (dk_at dksX5_copy_2 19 rfl rfl)
theorem dX5_copy_67 : decode cX5_copy 67 = .ok (.iaload, 1) := dk_46 (dk_at dksX5_copy_2 20 rfl rfl)
theorem dX5_copy_68 : decode cX5_copy 68 = .ok (.aload_n 0, 1) := dk_42 (dk_at dksX5_copy_2 21 rfl rfl)
theorem dX5_copy_69 : decode cX5_copy 69 = .ok (.getfield 59, 3) := dk_180 0 59 (dk_at dksX5_copy_3 0 rfl rfl)
theorem dX5_copy_72 : decode cX5_copy 72 = .ok (.iload_n 2, 1) := dk_28 (dk_at dksX5_copy_3 3 rfl rfl)
theorem dX5_copy_73 : decode cX5_copy 73 = .ok (.iaload, 1) := dk_46 (dk_at dksX5_copy_3 4 rfl rfl)
theorem dX5_copy_74 : decode cX5_copy 74 = .ok (.if_icmp .eq 10, 3) := dk_159 0 10 (dk_at dksX5_copy_3 5 rfl rfl)
theorem dX5_copy_77 : decode cX5_copy 77 = .ok (.aload_n 0, 1) := dk_42 (dk_at dksX5_copy_3 8 rfl rfl)
theorem dX5_copy_78 : decode cX5_copy 78 = .ok (.bipush (-2), 2) := dk_16 254 (dk_at dksX5_copy_3 9 rfl rfl)
theorem dX5_copy_80 : decode cX5_copy 80 = .ok (.invokevirtual 136, 3) := dk_182 0 136 (dk_at dksX5_copy_3 11 rfl rfl)
theorem dX5_copy_83 : decode cX5_copy 83 = .ok (.ireturn, 1) := dk_172 (dk_at dksX5_copy_3 14 rfl rfl)
theorem dX5_copy_84 : decode cX5_copy 84 = .ok (.aload_n 0, 1) := dk_42 (dk_at dksX5_copy_3 15 rfl rfl)
theorem dX5_copy_85 : decode cX5_copy 85 = .ok (.getfield 56, 3) := dk_180 0 56 (dk_at dksX5_copy_3 16 rfl rfl)
theorem dX5_copy_88 : decode cX5_copy 88 = .ok (.iload_n 1, 1) := dk_27 (dk_at dksX5_copy_3 19 rfl rfl)
theorem dX5_copy_89 : decode cX5_copy 89 = .ok (.iaload, 1) := dk_46 (dk_at dksX5_copy_3 20 rfl rfl)
theorem dX5_copy_90 : decode cX5_copy 90 = .ok (.ifCond .eq 12, 3) := dk_153 0 12 (dk_at dksX5_copy_3 21 rfl rfl)
theorem dX5_copy_93 : decode cX5_copy 93 = .ok (.aload_n 0, 1) := dk_42 (dk_at dksX5_copy_4 0 rfl rfl)
theorem dX5_copy_94 : decode cX5_copy 94 = .ok (.getfield 56, 3) := dk_180 0 56 (dk_at dksX5_copy_4 1 rfl rfl)
theorem dX5_copy_97 : decode cX5_copy 97 = .ok (.iload_n 2, 1) := dk_28 (dk_at dksX5_copy_4 4 rfl rfl)
theorem dX5_copy_98 : decode cX5_copy 98 = .ok (.iaload, 1) := dk_46 (dk_at dksX5_copy_4 5 rfl rfl)
theorem dX5_copy_99 : decode cX5_copy 99 = .ok (.ifCond .ne 10, 3) := dk_154 0 10 (dk_at dksX5_copy_4 6 rfl rfl)
theorem dX5_copy_102 : decode cX5_copy 102 = .ok (.aload_n 0, 1) := dk_42 (dk_at dksX5_copy_4 9 rfl rfl)
theorem dX5_copy_103 : decode cX5_copy 103 = .ok (.bipush (-3), 2) := dk_16 253 (dk_at dksX5_copy_4 10 rfl rfl)
theorem dX5_copy_105 : decode cX5_copy 105 = .ok (.invokevirtual 136, 3) := dk_182 0 136 (dk_at dksX5_copy_4 12 rfl rfl)
theorem dX5_copy_108 : decode cX5_copy 108 = .ok (.ireturn, 1) := dk_172 (dk_at dksX5_copy_4 15 rfl rfl)
theorem dX5_copy_109 : decode cX5_copy 109 = .ok (.iload 5, 2) := dk_21 5 (dk_at dksX5_copy_4 16 rfl rfl)
theorem dX5_copy_111 : decode cX5_copy 111 = .ok (.ifCond .ge 10, 3) := dk_156 0 10 (dk_at dksX5_copy_4 18 rfl rfl)
theorem dX5_copy_114 : decode cX5_copy 114 = .ok (.aload_n 0, 1) := dk_42 (dk_at dksX5_copy_4 21 rfl rfl)
theorem dX5_copy_115 : decode cX5_copy 115 = .ok (.bipush (-4), 2) := dk_16 252 (dk_at dksX5_copy_4 22 rfl rfl)
theorem dX5_copy_117 : decode cX5_copy 117 = .ok (.invokevirtual 136, 3) := dk_182 0 136 (dk_at dksX5_copy_5 0 rfl rfl)
theorem dX5_copy_120 : decode cX5_copy 120 = .ok (.ireturn, 1) := dk_172 (dk_at dksX5_copy_5 3 rfl rfl)
theorem dX5_copy_121 : decode cX5_copy 121 = .ok (.iload_n 3, 1) := dk_29 (dk_at dksX5_copy_5 4 rfl rfl)
theorem dX5_copy_122 : decode cX5_copy 122 = .ok (.ifCond .lt 35, 3) := dk_155 0 35 (dk_at dksX5_copy_5 5 rfl rfl)
theorem dX5_copy_125 : decode cX5_copy 125 = .ok (.iload 4, 2) := dk_21 4 (dk_at dksX5_copy_5 8 rfl rfl)
theorem dX5_copy_127 : decode cX5_copy 127 = .ok (.ifCond .lt 30, 3) := dk_155 0 30 (dk_at dksX5_copy_5 10 rfl rfl)
theorem dX5_copy_130 : decode cX5_copy 130 = .ok (.iload_n 3, 1) := dk_29 (dk_at dksX5_copy_5 13 rfl rfl)
theorem dX5_copy_131 : decode cX5_copy 131 = .ok (.aload_n 0, 1) := dk_42 (dk_at dksX5_copy_5 14 rfl rfl)
theorem dX5_copy_132 : decode cX5_copy 132 = .ok (.getfield 62, 3) := dk_180 0 62 (dk_at dksX5_copy_5 15 rfl rfl)
theorem dX5_copy_135 : decode cX5_copy 135 = .ok (.iload_n 1, 1) := dk_27 (dk_at dksX5_copy_5 18 rfl rfl)
theorem dX5_copy_136 : decode cX5_copy 136 = .ok (.iaload, 1) := dk_46 (dk_at dksX5_copy_5 19 rfl rfl)
theorem dX5_copy_137 : decode cX5_copy 137 = .ok (.iload 5, 2) := dk_21 5 (dk_at dksX5_copy_5 20 rfl rfl)
theorem dX5_copy_139 : decode cX5_copy 139 = .ok (.isub, 1) := dk_100 (dk_at dksX5_copy_5 22 rfl rfl)
theorem dX5_copy_140 : decode cX5_copy 140 = .ok (.if_icmp .gt 17, 3) := dk_163 0 17 (dk_at dksX5_copy_6 0 rfl rfl)
theorem dX5_copy_143 : decode cX5_copy 143 = .ok (.iload 4, 2) := dk_21 4 (dk_at dksX5_copy_6 3 rfl rfl)
theorem dX5_copy_145 : decode cX5_copy 145 = .ok (.aload_n 0, 1) := dk_42 (dk_at dksX5_copy_6 5 rfl rfl)
theorem dX5_copy_146 : decode cX5_copy 146 = .ok (.getfield 62, 3) := dk_180 0 62 (dk_at dksX5_copy_6 6 rfl rfl)
theorem dX5_copy_149 : decode cX5_copy 149 = .ok (.iload_n 2, 1) := dk_28 (dk_at dksX5_copy_6 9 rfl rfl)
theorem dX5_copy_150 : decode cX5_copy 150 = .ok (.iaload, 1) := dk_46 (dk_at dksX5_copy_6 10 rfl rfl)
theorem dX5_copy_151 : decode cX5_copy 151 = .ok (.iload 5, 2) := dk_21 5 (dk_at dksX5_copy_6 11 rfl rfl)
theorem dX5_copy_153 : decode cX5_copy 153 = .ok (.isub, 1) := dk_100 (dk_at dksX5_copy_6 13 rfl rfl)
theorem dX5_copy_154 : decode cX5_copy 154 = .ok (.if_icmp .le 10, 3) := dk_164 0 10 (dk_at dksX5_copy_6 14 rfl rfl)
theorem dX5_copy_157 : decode cX5_copy 157 = .ok (.aload_n 0, 1) := dk_42 (dk_at dksX5_copy_6 17 rfl rfl)
theorem dX5_copy_158 : decode cX5_copy 158 = .ok (.bipush (-5), 2) := dk_16 251 (dk_at dksX5_copy_6 18 rfl rfl)
theorem dX5_copy_160 : decode cX5_copy 160 = .ok (.invokevirtual 136, 3) := dk_182 0 136 (dk_at dksX5_copy_6 20 rfl rfl)
theorem dX5_copy_163 : decode cX5_copy 163 = .ok (.ireturn, 1) := dk_172 (dk_at dksX5_copy_6 23 rfl rfl)
theorem dX5_copy_164 : decode cX5_copy 164 = .ok (.iconst 0, 1) := dk_3 (dk_at dksX5_copy_7 0 rfl rfl)
theorem dX5_copy_165 : decode cX5_copy 165 = .ok (.istore 6, 2) := dk_54 6 (dk_at dksX5_copy_7 1 rfl rfl)
theorem dX5_copy_167 : decode cX5_copy 167 = .ok (.iload 6, 2) := dk_21 6 (dk_at dksX5_copy_7 3 rfl rfl)
theorem dX5_copy_169 : decode cX5_copy 169 = .ok (.iload 5, 2) := dk_21 5 (dk_at dksX5_copy_7 5 rfl rfl)
theorem dX5_copy_171 : decode cX5_copy 171 = .ok (.if_icmp .ge 31, 3) := dk_162 0 31 (dk_at dksX5_copy_7 7 rfl rfl)
theorem dX5_copy_174 : decode cX5_copy 174 = .ok (.aload_n 0, 1) := dk_42 (dk_at dksX5_copy_7 10 rfl rfl)
theorem dX5_copy_175 : decode cX5_copy 175 = .ok (.getfield 72, 3) := dk_180 0 72 (dk_at dksX5_copy_7 11 rfl rfl)
theorem dX5_copy_178 : decode cX5_copy 178 = .ok (.iload 6, 2) := dk_21 6 (dk_at dksX5_copy_7 14 rfl rfl)
theorem dX5_copy_180 : decode cX5_copy 180 = .ok (.aload_n 0, 1) := dk_42 (dk_at dksX5_copy_7 16 rfl rfl)
theorem dX5_copy_181 : decode cX5_copy 181 = .ok (.getfield 68, 3) := dk_180 0 68 (dk_at dksX5_copy_7 17 rfl rfl)
theorem dX5_copy_184 : decode cX5_copy 184 = .ok (.sipush 160, 3) := dk_17 0 160 (dk_at dksX5_copy_7 20 rfl rfl)
theorem dX5_copy_187 : decode cX5_copy 187 = .ok (.iload_n 1, 1) := dk_27 (dk_at dksX5_copy_7 23 rfl rfl)
theorem dX5_copy_188 : decode cX5_copy 188 = .ok (.imul, 1) := dk_104 (dk_at dksX5_copy_8 0 rfl rfl)
theorem dX5_copy_189 : decode cX5_copy 189 = .ok (.iload_n 3, 1) := dk_29 (dk_at dksX5_copy_8 1 rfl rfl)
theorem dX5_copy_190 : decode cX5_copy 190 = .ok (.iadd, 1) := dk_96 (dk_at dksX5_copy_8 2 rfl rfl)
theorem dX5_copy_191 : decode cX5_copy 191 = .ok (.iload 6, 2) := dk_21 6 (dk_at dksX5_copy_8 3 rfl rfl)
theorem dX5_copy_193 : decode cX5_copy 193 = .ok (.iadd, 1) := dk_96 (dk_at dksX5_copy_8 5 rfl rfl)
theorem dX5_copy_194 : decode cX5_copy 194 = .ok (.laload, 1) := dk_47 (dk_at dksX5_copy_8 6 rfl rfl)
theorem dX5_copy_195 : decode cX5_copy 195 = .ok (.lastore, 1) := dk_80 (dk_at dksX5_copy_8 7 rfl rfl)
theorem dX5_copy_196 : decode cX5_copy 196 = .ok (.iinc 6 1, 3) := dk_132 6 1 (dk_at dksX5_copy_8 8 rfl rfl)
theorem dX5_copy_199 : decode cX5_copy 199 = .ok (.goto (-32), 3) := dk_167 255 224 (dk_at dksX5_copy_8 11 rfl rfl)
theorem dX5_copy_202 : decode cX5_copy 202 = .ok (.iconst 0, 1) := dk_3 (dk_at dksX5_copy_8 14 rfl rfl)
theorem dX5_copy_203 : decode cX5_copy 203 = .ok (.istore 6, 2) := dk_54 6 (dk_at dksX5_copy_8 15 rfl rfl)
theorem dX5_copy_205 : decode cX5_copy 205 = .ok (.iload 6, 2) := dk_21 6 (dk_at dksX5_copy_8 17 rfl rfl)
theorem dX5_copy_207 : decode cX5_copy 207 = .ok (.iload 5, 2) := dk_21 5 (dk_at dksX5_copy_8 19 rfl rfl)
theorem dX5_copy_209 : decode cX5_copy 209 = .ok (.if_icmp .ge 32, 3) := dk_162 0 32 (dk_at dksX5_copy_8 21 rfl rfl)
theorem dX5_copy_212 : decode cX5_copy 212 = .ok (.aload_n 0, 1) := dk_42 (dk_at dksX5_copy_9 0 rfl rfl)
theorem dX5_copy_213 : decode cX5_copy 213 = .ok (.getfield 68, 3) := dk_180 0 68 (dk_at dksX5_copy_9 1 rfl rfl)
theorem dX5_copy_216 : decode cX5_copy 216 = .ok (.sipush 160, 3) := dk_17 0 160 (dk_at dksX5_copy_9 4 rfl rfl)
theorem dX5_copy_219 : decode cX5_copy 219 = .ok (.iload_n 2, 1) := dk_28 (dk_at dksX5_copy_9 7 rfl rfl)
theorem dX5_copy_220 : decode cX5_copy 220 = .ok (.imul, 1) := dk_104 (dk_at dksX5_copy_9 8 rfl rfl)
theorem dX5_copy_221 : decode cX5_copy 221 = .ok (.iload 4, 2) := dk_21 4 (dk_at dksX5_copy_9 9 rfl rfl)
theorem dX5_copy_223 : decode cX5_copy 223 = .ok (.iadd, 1) := dk_96 (dk_at dksX5_copy_9 11 rfl rfl)
theorem dX5_copy_224 : decode cX5_copy 224 = .ok (.iload 6, 2) := dk_21 6 (dk_at dksX5_copy_9 12 rfl rfl)
theorem dX5_copy_226 : decode cX5_copy 226 = .ok (.iadd, 1) := dk_96 (dk_at dksX5_copy_9 14 rfl rfl)
theorem dX5_copy_227 : decode cX5_copy 227 = .ok (.aload_n 0, 1) := dk_42 (dk_at dksX5_copy_9 15 rfl rfl)
theorem dX5_copy_228 : decode cX5_copy 228 = .ok (.getfield 72, 3) := dk_180 0 72 (dk_at dksX5_copy_9 16 rfl rfl)
theorem dX5_copy_231 : decode cX5_copy 231 = .ok (.iload 6, 2) := dk_21 6 (dk_at dksX5_copy_9 19 rfl rfl)
theorem dX5_copy_233 : decode cX5_copy 233 = .ok (.laload, 1) := dk_47 (dk_at dksX5_copy_9 21 rfl rfl)
theorem dX5_copy_234 : decode cX5_copy 234 = .ok (.lastore, 1) := dk_80 (dk_at dksX5_copy_9 22 rfl rfl)
theorem dX5_copy_235 : decode cX5_copy 235 = .ok (.iinc 6 1, 3) := dk_132 6 1 (dk_at dksX5_copy_10 0 rfl rfl)
theorem dX5_copy_238 : decode cX5_copy 238 = .ok (.goto (-33), 3) := dk_167 255 223 (dk_at dksX5_copy_10 3 rfl rfl)
theorem dX5_copy_241 : decode cX5_copy 241 = .ok (.iconst 1, 1) := dk_4 (dk_at dksX5_copy_10 6 rfl rfl)
theorem dX5_copy_242 : decode cX5_copy 242 = .ok (.ireturn, 1) := dk_172 (dk_at dksX5_copy_10 7 rfl rfl)
abbrev cX5_element : ByteArray := prog_22_method_13_code
def yX5_element : MethodName := ⟨RX5, "element", "(II)J"⟩
def dkwX5_element_2 : List UInt8 := [173]
abbrev dktX5_element_2 : List UInt8 := dkwX5_element_2 ++ []
def dkwX5_element_1 : List UInt8 := [180, 0, 62, 27, 46, 162, 0, 18, 42, 180, 0, 68, 17, 0, 160, 27, 104, 28, 96, 47, 167, 0, 4, 9]
abbrev dktX5_element_1 : List UInt8 := dkwX5_element_1 ++ dktX5_element_2
def dkwX5_element_0 : List UInt8 := [42, 27, 182, 0, 133, 153, 0, 42, 42, 180, 0, 56, 27, 46, 4, 160, 0, 32, 28, 155, 0, 28, 28, 42]
abbrev dktX5_element_0 : List UInt8 := dkwX5_element_0 ++ dktX5_element_1
theorem dksX5_element_0 : cX5_element.data.toList.drop 0 = dktX5_element_0 := by decide +kernel
theorem dksX5_element_1 : cX5_element.data.toList.drop 24 = dktX5_element_1 := dk_seg dksX5_element_0 24 rfl rfl
theorem dksX5_element_2 : cX5_element.data.toList.drop 48 = dktX5_element_2 := dk_seg dksX5_element_1 24 rfl rfl
theorem dX5_element_0 : decode cX5_element 0 = .ok (.aload_n 0, 1) := dk_42 (dk_at dksX5_element_0 0 rfl rfl)
theorem dX5_element_1 : decode cX5_element 1 = .ok (.iload_n 1, 1) := dk_27 (dk_at dksX5_element_0 1 rfl rfl)
theorem dX5_element_2 : decode cX5_element 2 = .ok (.invokevirtual 133, 3) := dk_182 0 133 (dk_at dksX5_element_0 2 rfl rfl)
theorem dX5_element_5 : decode cX5_element 5 = .ok (.ifCond .eq 42, 3) := dk_153 0 42 (dk_at dksX5_element_0 5 rfl rfl)
theorem dX5_element_8 : decode cX5_element 8 = .ok (.aload_n 0, 1) := dk_42 (dk_at dksX5_element_0 8 rfl rfl)
theorem dX5_element_9 : decode cX5_element 9 = .ok (.getfield 56, 3) := dk_180 0 56 (dk_at dksX5_element_0 9 rfl rfl)
theorem dX5_element_12 : decode cX5_element 12 = .ok (.iload_n 1, 1) := dk_27 (dk_at dksX5_element_0 12 rfl rfl)
theorem dX5_element_13 : decode cX5_element 13 = .ok (.iaload, 1) := dk_46 (dk_at dksX5_element_0 13 rfl rfl)
theorem dX5_element_14 : decode cX5_element 14 = .ok (.iconst 1, 1) := dk_4 (dk_at dksX5_element_0 14 rfl rfl)
theorem dX5_element_15 : decode cX5_element 15 = .ok (.if_icmp .ne 32, 3) := dk_160 0 32 (dk_at dksX5_element_0 15 rfl rfl)
theorem dX5_element_18 : decode cX5_element 18 = .ok (.iload_n 2, 1) := dk_28 (dk_at dksX5_element_0 18 rfl rfl)
theorem dX5_element_19 : decode cX5_element 19 = .ok (.ifCond .lt 28, 3) := dk_155 0 28 (dk_at dksX5_element_0 19 rfl rfl)
theorem dX5_element_22 : decode cX5_element 22 = .ok (.iload_n 2, 1) := dk_28 (dk_at dksX5_element_0 22 rfl rfl)
theorem dX5_element_23 : decode cX5_element 23 = .ok (.aload_n 0, 1) := dk_42 (dk_at dksX5_element_0 23 rfl rfl)
theorem dX5_element_24 : decode cX5_element 24 = .ok (.getfield 62, 3) := dk_180 0 62 (dk_at dksX5_element_1 0 rfl rfl)
theorem dX5_element_27 : decode cX5_element 27 = .ok (.iload_n 1, 1) := dk_27 (dk_at dksX5_element_1 3 rfl rfl)
theorem dX5_element_28 : decode cX5_element 28 = .ok (.iaload, 1) := dk_46 (dk_at dksX5_element_1 4 rfl rfl)
theorem dX5_element_29 : decode cX5_element 29 = .ok (.if_icmp .ge 18, 3) := dk_162 0 18 (dk_at dksX5_element_1 5 rfl rfl)
theorem dX5_element_32 : decode cX5_element 32 = .ok (.aload_n 0, 1) := dk_42 (dk_at dksX5_element_1 8 rfl rfl)
theorem dX5_element_33 : decode cX5_element 33 = .ok (.getfield 68, 3) := dk_180 0 68 (dk_at dksX5_element_1 9 rfl rfl)
theorem dX5_element_36 : decode cX5_element 36 = .ok (.sipush 160, 3) := dk_17 0 160 (dk_at dksX5_element_1 12 rfl rfl)
theorem dX5_element_39 : decode cX5_element 39 = .ok (.iload_n 1, 1) := dk_27 (dk_at dksX5_element_1 15 rfl rfl)
theorem dX5_element_40 : decode cX5_element 40 = .ok (.imul, 1) := dk_104 (dk_at dksX5_element_1 16 rfl rfl)
theorem dX5_element_41 : decode cX5_element 41 = .ok (.iload_n 2, 1) := dk_28 (dk_at dksX5_element_1 17 rfl rfl)
theorem dX5_element_42 : decode cX5_element 42 = .ok (.iadd, 1) := dk_96 (dk_at dksX5_element_1 18 rfl rfl)
theorem dX5_element_43 : decode cX5_element 43 = .ok (.laload, 1) := dk_47 (dk_at dksX5_element_1 19 rfl rfl)
theorem dX5_element_44 : decode cX5_element 44 = .ok (.goto 4, 3) := dk_167 0 4 (dk_at dksX5_element_1 20 rfl rfl)
theorem dX5_element_47 : decode cX5_element 47 = .ok (.lconst 0, 1) := dk_9 (dk_at dksX5_element_1 23 rfl rfl)
theorem dX5_element_48 : decode cX5_element 48 = .ok (.lreturn, 1) := dk_173 (dk_at dksX5_element_2 0 rfl rfl)
abbrev cX5_show : ByteArray := prog_22_method_14_code
def yX5_show : MethodName := ⟨RX5, "show", "(II)I"⟩
def dkwX5_show_2 : List UInt8 := [27, 28, 79, 28, 2, 160, 0, 7, 3, 167, 0, 4, 4, 172]
abbrev dktX5_show_2 : List UInt8 := dkwX5_show_2 ++ []
def dkwX5_show_1 : List UInt8 := [182, 0, 136, 172, 42, 180, 0, 56, 27, 28, 2, 160, 0, 7, 3, 167, 0, 4, 5, 79, 42, 180, 0, 65]
abbrev dktX5_show_1 : List UInt8 := dkwX5_show_1 ++ dktX5_show_2
def dkwX5_show_0 : List UInt8 := [42, 27, 182, 0, 133, 153, 0, 16, 28, 2, 159, 0, 17, 42, 28, 182, 0, 140, 154, 0, 9, 42, 2]
abbrev dktX5_show_0 : List UInt8 := dkwX5_show_0 ++ dktX5_show_1
theorem dksX5_show_0 : cX5_show.data.toList.drop 0 = dktX5_show_0 := by decide +kernel
theorem dksX5_show_1 : cX5_show.data.toList.drop 23 = dktX5_show_1 := dk_seg dksX5_show_0 23 rfl rfl
theorem dksX5_show_2 : cX5_show.data.toList.drop 47 = dktX5_show_2 := dk_seg dksX5_show_1 24 rfl rfl
theorem dX5_show_0 : decode cX5_show 0 = .ok (.aload_n 0, 1) := dk_42 (dk_at dksX5_show_0 0 rfl rfl)
theorem dX5_show_1 : decode cX5_show 1 = .ok (.iload_n 1, 1) := dk_27 (dk_at dksX5_show_0 1 rfl rfl)
theorem dX5_show_2 : decode cX5_show 2 = .ok (.invokevirtual 133, 3) := dk_182 0 133 (dk_at dksX5_show_0 2 rfl rfl)
theorem dX5_show_5 : decode cX5_show 5 = .ok (.ifCond .eq 16, 3) := dk_153 0 16 (dk_at dksX5_show_0 5 rfl rfl)
theorem dX5_show_8 : decode cX5_show 8 = .ok (.iload_n 2, 1) := dk_28 (dk_at dksX5_show_0 8 rfl rfl)
theorem dX5_show_9 : decode cX5_show 9 = .ok (.iconst (-1), 1) := dk_2 (dk_at dksX5_show_0 9 rfl rfl)
theorem dX5_show_10 : decode cX5_show 10 = .ok (.if_icmp .eq 17, 3) := dk_159 0 17 (dk_at dksX5_show_0 10 rfl rfl)
theorem dX5_show_13 : decode cX5_show 13 = .ok (.aload_n 0, 1) := dk_42 (dk_at dksX5_show_0 13 rfl rfl)
theorem dX5_show_14 : decode cX5_show 14 = .ok (.iload_n 2, 1) := dk_28 (dk_at dksX5_show_0 14 rfl rfl)
theorem dX5_show_15 : decode cX5_show 15 = .ok (.invokevirtual 140, 3) := dk_182 0 140 (dk_at dksX5_show_0 15 rfl rfl)
theorem dX5_show_18 : decode cX5_show 18 = .ok (.ifCond .ne 9, 3) := dk_154 0 9 (dk_at dksX5_show_0 18 rfl rfl)
theorem dX5_show_21 : decode cX5_show 21 = .ok (.aload_n 0, 1) := dk_42 (dk_at dksX5_show_0 21 rfl rfl)
theorem dX5_show_22 : decode cX5_show 22 = .ok (.iconst (-1), 1) := dk_2 (dk_at dksX5_show_0 22 rfl rfl)
theorem dX5_show_23 : decode cX5_show 23 = .ok (.invokevirtual 136, 3) := dk_182 0 136 (dk_at dksX5_show_1 0 rfl rfl)
theorem dX5_show_26 : decode cX5_show 26 = .ok (.ireturn, 1) := dk_172 (dk_at dksX5_show_1 3 rfl rfl)
theorem dX5_show_27 : decode cX5_show 27 = .ok (.aload_n 0, 1) := dk_42 (dk_at dksX5_show_1 4 rfl rfl)
theorem dX5_show_28 : decode cX5_show 28 = .ok (.getfield 56, 3) := dk_180 0 56 (dk_at dksX5_show_1 5 rfl rfl)
theorem dX5_show_31 : decode cX5_show 31 = .ok (.iload_n 1, 1) := dk_27 (dk_at dksX5_show_1 8 rfl rfl)
theorem dX5_show_32 : decode cX5_show 32 = .ok (.iload_n 2, 1) := dk_28 (dk_at dksX5_show_1 9 rfl rfl)
theorem dX5_show_33 : decode cX5_show 33 = .ok (.iconst (-1), 1) := dk_2 (dk_at dksX5_show_1 10 rfl rfl)
theorem dX5_show_34 : decode cX5_show 34 = .ok (.if_icmp .ne 7, 3) := dk_160 0 7 (dk_at dksX5_show_1 11 rfl rfl)
theorem dX5_show_37 : decode cX5_show 37 = .ok (.iconst 0, 1) := dk_3 (dk_at dksX5_show_1 14 rfl rfl)
theorem dX5_show_38 : decode cX5_show 38 = .ok (.goto 4, 3) := dk_167 0 4 (dk_at dksX5_show_1 15 rfl rfl)
theorem dX5_show_41 : decode cX5_show 41 = .ok (.iconst 2, 1) := dk_5 (dk_at dksX5_show_1 18 rfl rfl)
theorem dX5_show_42 : decode cX5_show 42 = .ok (.iastore, 1) := dk_79 (dk_at dksX5_show_1 19 rfl rfl)
theorem dX5_show_43 : decode cX5_show 43 = .ok (.aload_n 0, 1) := dk_42 (dk_at dksX5_show_1 20 rfl rfl)
theorem dX5_show_44 : decode cX5_show 44 = .ok (.getfield 65, 3) := dk_180 0 65 (dk_at dksX5_show_1 21 rfl rfl)
theorem dX5_show_47 : decode cX5_show 47 = .ok (.iload_n 1, 1) := dk_27 (dk_at dksX5_show_2 0 rfl rfl)
theorem dX5_show_48 : decode cX5_show 48 = .ok (.iload_n 2, 1) := dk_28 (dk_at dksX5_show_2 1 rfl rfl)
theorem dX5_show_49 : decode cX5_show 49 = .ok (.iastore, 1) := dk_79 (dk_at dksX5_show_2 2 rfl rfl)
theorem dX5_show_50 : decode cX5_show 50 = .ok (.iload_n 2, 1) := dk_28 (dk_at dksX5_show_2 3 rfl rfl)
theorem dX5_show_51 : decode cX5_show 51 = .ok (.iconst (-1), 1) := dk_2 (dk_at dksX5_show_2 4 rfl rfl)
theorem dX5_show_52 : decode cX5_show 52 = .ok (.if_icmp .ne 7, 3) := dk_160 0 7 (dk_at dksX5_show_2 5 rfl rfl)
theorem dX5_show_55 : decode cX5_show 55 = .ok (.iconst 0, 1) := dk_3 (dk_at dksX5_show_2 8 rfl rfl)
theorem dX5_show_56 : decode cX5_show 56 = .ok (.goto 4, 3) := dk_167 0 4 (dk_at dksX5_show_2 9 rfl rfl)
theorem dX5_show_59 : decode cX5_show 59 = .ok (.iconst 1, 1) := dk_4 (dk_at dksX5_show_2 12 rfl rfl)
theorem dX5_show_60 : decode cX5_show 60 = .ok (.ireturn, 1) := dk_172 (dk_at dksX5_show_2 13 rfl rfl)
abbrev cX5_isThing : ByteArray := prog_22_method_5_code
def yX5_isThing : MethodName := ⟨RX5, "isThing", "(I)Z"⟩
def dkwX5_isThing_0 : List UInt8 := [27, 155, 0, 15, 27, 42, 180, 0, 117, 162, 0, 7, 4, 167, 0, 4, 3, 172]
abbrev dktX5_isThing_0 : List UInt8 := dkwX5_isThing_0 ++ []
theorem dksX5_isThing_0 : cX5_isThing.data.toList.drop 0 = dktX5_isThing_0 := by decide +kernel
theorem dX5_isThing_0 : decode cX5_isThing 0 = .ok (.iload_n 1, 1) := dk_27 (dk_at dksX5_isThing_0 0 rfl rfl)
theorem dX5_isThing_1 : decode cX5_isThing 1 = .ok (.ifCond .lt 15, 3) := dk_155 0 15 (dk_at dksX5_isThing_0 1 rfl rfl)
theorem dX5_isThing_4 : decode cX5_isThing 4 = .ok (.iload_n 1, 1) := dk_27 (dk_at dksX5_isThing_0 4 rfl rfl)
theorem dX5_isThing_5 : decode cX5_isThing 5 = .ok (.aload_n 0, 1) := dk_42 (dk_at dksX5_isThing_0 5 rfl rfl)
theorem dX5_isThing_6 : decode cX5_isThing 6 = .ok (.getfield 117, 3) := dk_180 0 117 (dk_at dksX5_isThing_0 6 rfl rfl)
theorem dX5_isThing_9 : decode cX5_isThing 9 = .ok (.if_icmp .ge 7, 3) := dk_162 0 7 (dk_at dksX5_isThing_0 9 rfl rfl)
theorem dX5_isThing_12 : decode cX5_isThing 12 = .ok (.iconst 1, 1) := dk_4 (dk_at dksX5_isThing_0 12 rfl rfl)
theorem dX5_isThing_13 : decode cX5_isThing 13 = .ok (.goto 4, 3) := dk_167 0 4 (dk_at dksX5_isThing_0 13 rfl rfl)
theorem dX5_isThing_16 : decode cX5_isThing 16 = .ok (.iconst 0, 1) := dk_3 (dk_at dksX5_isThing_0 16 rfl rfl)
theorem dX5_isThing_17 : decode cX5_isThing 17 = .ok (.ireturn, 1) := dk_172 (dk_at dksX5_isThing_0 17 rfl rfl)
abbrev cX5_holds : ByteArray := prog_22_method_15_code
def yX5_holds : MethodName := ⟨RX5, "holds", "(I)I"⟩
def dkwX5_holds_1 : List UInt8 := [46, 4, 160, 0, 15, 16, 100, 42, 180, 0, 59, 27, 46, 96, 167, 0, 9, 42, 180, 0, 65, 27, 46, 172]
abbrev dktX5_holds_1 : List UInt8 := dkwX5_holds_1 ++ []
def dkwX5_holds_0 : List UInt8 := [42, 27, 182, 0, 133, 153, 0, 12, 42, 180, 0, 56, 27, 46, 154, 0, 5, 2, 172, 42, 180, 0, 56, 27]
abbrev dktX5_holds_0 : List UInt8 := dkwX5_holds_0 ++ dktX5_holds_1
theorem dksX5_holds_0 : cX5_holds.data.toList.drop 0 = dktX5_holds_0 := by decide +kernel
theorem dksX5_holds_1 : cX5_holds.data.toList.drop 24 = dktX5_holds_1 := dk_seg dksX5_holds_0 24 rfl rfl
theorem dX5_holds_0 : decode cX5_holds 0 = .ok (.aload_n 0, 1) := dk_42 (dk_at dksX5_holds_0 0 rfl rfl)
theorem dX5_holds_1 : decode cX5_holds 1 = .ok (.iload_n 1, 1) := dk_27 (dk_at dksX5_holds_0 1 rfl rfl)
theorem dX5_holds_2 : decode cX5_holds 2 = .ok (.invokevirtual 133, 3) := dk_182 0 133 (dk_at dksX5_holds_0 2 rfl rfl)
theorem dX5_holds_5 : decode cX5_holds 5 = .ok (.ifCond .eq 12, 3) := dk_153 0 12 (dk_at dksX5_holds_0 5 rfl rfl)
theorem dX5_holds_8 : decode cX5_holds 8 = .ok (.aload_n 0, 1) := dk_42 (dk_at dksX5_holds_0 8 rfl rfl)
theorem dX5_holds_9 : decode cX5_holds 9 = .ok (.getfield 56, 3) := dk_180 0 56 (dk_at dksX5_holds_0 9 rfl rfl)
theorem dX5_holds_12 : decode cX5_holds 12 = .ok (.iload_n 1, 1) := dk_27 (dk_at dksX5_holds_0 12 rfl rfl)
theorem dX5_holds_13 : decode cX5_holds 13 = .ok (.iaload, 1) := dk_46 (dk_at dksX5_holds_0 13 rfl rfl)
theorem dX5_holds_14 : decode cX5_holds 14 = .ok (.ifCond .ne 5, 3) := dk_154 0 5 (dk_at dksX5_holds_0 14 rfl rfl)
theorem dX5_holds_17 : decode cX5_holds 17 = .ok (.iconst (-1), 1) := dk_2 (dk_at dksX5_holds_0 17 rfl rfl)
theorem dX5_holds_18 : decode cX5_holds 18 = .ok (.ireturn, 1) := dk_172 (dk_at dksX5_holds_0 18 rfl rfl)
theorem dX5_holds_19 : decode cX5_holds 19 = .ok (.aload_n 0, 1) := dk_42 (dk_at dksX5_holds_0 19 rfl rfl)
theorem dX5_holds_20 : decode cX5_holds 20 = .ok (.getfield 56, 3) := dk_180 0 56 (dk_at dksX5_holds_0 20 rfl rfl)
theorem dX5_holds_23 : decode cX5_holds 23 = .ok (.iload_n 1, 1) := dk_27 (dk_at dksX5_holds_0 23 rfl rfl)
theorem dX5_holds_24 : decode cX5_holds 24 = .ok (.iaload, 1) := dk_46 (dk_at dksX5_holds_1 0 rfl rfl)
theorem dX5_holds_25 : decode cX5_holds 25 = .ok (.iconst 1, 1) := dk_4 (dk_at dksX5_holds_1 1 rfl rfl)
theorem dX5_holds_26 : decode cX5_holds 26 = .ok (.if_icmp .ne 15, 3) := dk_160 0 15 (dk_at dksX5_holds_1 2 rfl rfl)
theorem dX5_holds_29 : decode cX5_holds 29 = .ok (.bipush 100, 2) := dk_16 100 (dk_at dksX5_holds_1 5 rfl rfl)
theorem dX5_holds_31 : decode cX5_holds 31 = .ok (.aload_n 0, 1) := dk_42 (dk_at dksX5_holds_1 7 rfl rfl)
theorem dX5_holds_32 : decode cX5_holds 32 = .ok (.getfield 59, 3) := dk_180 0 59 (dk_at dksX5_holds_1 8 rfl rfl)
theorem dX5_holds_35 : decode cX5_holds 35 = .ok (.iload_n 1, 1) := dk_27 (dk_at dksX5_holds_1 11 rfl rfl)
theorem dX5_holds_36 : decode cX5_holds 36 = .ok (.iaload, 1) := dk_46 (dk_at dksX5_holds_1 12 rfl rfl)
theorem dX5_holds_37 : decode cX5_holds 37 = .ok (.iadd, 1) := dk_96 (dk_at dksX5_holds_1 13 rfl rfl)
theorem dX5_holds_38 : decode cX5_holds 38 = .ok (.goto 9, 3) := dk_167 0 9 (dk_at dksX5_holds_1 14 rfl rfl)
theorem dX5_holds_41 : decode cX5_holds 41 = .ok (.aload_n 0, 1) := dk_42 (dk_at dksX5_holds_1 17 rfl rfl)
theorem dX5_holds_42 : decode cX5_holds 42 = .ok (.getfield 65, 3) := dk_180 0 65 (dk_at dksX5_holds_1 18 rfl rfl)
theorem dX5_holds_45 : decode cX5_holds 45 = .ok (.iload_n 1, 1) := dk_27 (dk_at dksX5_holds_1 21 rfl rfl)
theorem dX5_holds_46 : decode cX5_holds 46 = .ok (.iaload, 1) := dk_46 (dk_at dksX5_holds_1 22 rfl rfl)
theorem dX5_holds_47 : decode cX5_holds 47 = .ok (.ireturn, 1) := dk_172 (dk_at dksX5_holds_1 23 rfl rfl)
abbrev cX5_says : ByteArray := prog_22_method_16_code
def yX5_says : MethodName := ⟨RX5, "says", "(II)I"⟩
def dkwX5_says_7 : List UInt8 := [29, 46, 172]
abbrev dktX5_says_7 : List UInt8 := dkwX5_says_7 ++ []
def dkwX5_says_6 : List UInt8 := [28, 5, 159, 0, 8, 28, 6, 160, 0, 13, 42, 16, 9, 29, 182, 0, 143, 167, 0, 9, 42, 180, 0, 29]
abbrev dktX5_says_6 : List UInt8 := dkwX5_says_6 ++ dktX5_says_7
def dkwX5_says_5 : List UInt8 := [172, 28, 154, 0, 10, 42, 180, 0, 26, 29, 46, 172, 28, 7, 160, 0, 10, 42, 180, 0, 38, 29, 46, 172]
abbrev dktX5_says_5 : List UInt8 := dkwX5_says_5 ++ dktX5_says_6
def dkwX5_says_4 : List UInt8 := [21, 4, 16, 6, 159, 0, 21, 28, 5, 160, 0, 9, 21, 4, 6, 159, 0, 10, 42, 16, 254, 182, 0, 136]
abbrev dktX5_says_4 : List UInt8 := dkwX5_says_4 ++ dktX5_says_5
def dkwX5_says_3 : List UInt8 := [54, 4, 28, 153, 0, 45, 28, 21, 4, 159, 0, 39, 28, 4, 160, 0, 16, 21, 4, 8, 159, 0, 28]
abbrev dktX5_says_3 : List UInt8 := dkwX5_says_3 ++ dktX5_says_4
def dkwX5_says_2 : List UInt8 := [154, 0, 10, 42, 16, 253, 182, 0, 136, 172, 42, 180, 0, 65, 27, 46, 62, 42, 180, 0, 23, 29, 46]
abbrev dktX5_says_2 : List UInt8 := dkwX5_says_2 ++ dktX5_says_3
def dkwX5_says_1 : List UInt8 := [42, 180, 0, 56, 27, 46, 4, 160, 0, 10, 42, 16, 254, 182, 0, 136, 172, 42, 180, 0, 56, 27, 46]
abbrev dktX5_says_1 : List UInt8 := dkwX5_says_1 ++ dktX5_says_2
def dkwX5_says_0 : List UInt8 := [42, 27, 182, 0, 133, 153, 0, 13, 28, 155, 0, 9, 28, 16, 6, 164, 0, 9, 42, 2, 182, 0, 136, 172]
abbrev dktX5_says_0 : List UInt8 := dkwX5_says_0 ++ dktX5_says_1
theorem dksX5_says_0 : cX5_says.data.toList.drop 0 = dktX5_says_0 := by decide +kernel
theorem dksX5_says_1 : cX5_says.data.toList.drop 24 = dktX5_says_1 := dk_seg dksX5_says_0 24 rfl rfl
theorem dksX5_says_2 : cX5_says.data.toList.drop 47 = dktX5_says_2 := dk_seg dksX5_says_1 23 rfl rfl
theorem dksX5_says_3 : cX5_says.data.toList.drop 70 = dktX5_says_3 := dk_seg dksX5_says_2 23 rfl rfl
theorem dksX5_says_4 : cX5_says.data.toList.drop 93 = dktX5_says_4 := dk_seg dksX5_says_3 23 rfl rfl
theorem dksX5_says_5 : cX5_says.data.toList.drop 117 = dktX5_says_5 := dk_seg dksX5_says_4 24 rfl rfl
theorem dksX5_says_6 : cX5_says.data.toList.drop 141 = dktX5_says_6 := dk_seg dksX5_says_5 24 rfl rfl
theorem dksX5_says_7 : cX5_says.data.toList.drop 165 = dktX5_says_7 := dk_seg dksX5_says_6 24 rfl rfl
theorem dX5_says_0 : decode cX5_says 0 = .ok (.aload_n 0, 1) := dk_42 (dk_at dksX5_says_0 0 rfl rfl)
theorem dX5_says_1 : decode cX5_says 1 = .ok (.iload_n 1, 1) := dk_27 (dk_at dksX5_says_0 1 rfl rfl)
theorem dX5_says_2 : decode cX5_says 2 = .ok (.invokevirtual 133, 3) := dk_182 0 133 (dk_at dksX5_says_0 2 rfl rfl)
theorem dX5_says_5 : decode cX5_says 5 = .ok (.ifCond .eq 13, 3) := dk_153 0 13 (dk_at dksX5_says_0 5 rfl rfl)
theorem dX5_says_8 : decode cX5_says 8 = .ok (.iload_n 2, 1) := dk_28 (dk_at dksX5_says_0 8 rfl rfl)
theorem dX5_says_9 : decode cX5_says 9 = .ok (.ifCond .lt 9, 3) := dk_155 0 9 (dk_at dksX5_says_0 9 rfl rfl)
theorem dX5_says_12 : decode cX5_says 12 = .ok (.iload_n 2, 1) := dk_28 (dk_at dksX5_says_0 12 rfl rfl)
theorem dX5_says_13 : decode cX5_says 13 = .ok (.bipush 6, 2) := dk_16 6 (dk_at dksX5_says_0 13 rfl rfl)
theorem dX5_says_15 : decode cX5_says 15 = .ok (.if_icmp .le 9, 3) := dk_164 0 9 (dk_at dksX5_says_0 15 rfl rfl)
theorem dX5_says_18 : decode cX5_says 18 = .ok (.aload_n 0, 1) := dk_42 (dk_at dksX5_says_0 18 rfl rfl)
theorem dX5_says_19 : decode cX5_says 19 = .ok (.iconst (-1), 1) := dk_2 (dk_at dksX5_says_0 19 rfl rfl)
theorem dX5_says_20 : decode cX5_says 20 = .ok (.invokevirtual 136, 3) := dk_182 0 136 (dk_at dksX5_says_0 20 rfl rfl)
theorem dX5_says_23 : decode cX5_says 23 = .ok (.ireturn, 1) := dk_172 (dk_at dksX5_says_0 23 rfl rfl)
theorem dX5_says_24 : decode cX5_says 24 = .ok (.aload_n 0, 1) := dk_42 (dk_at dksX5_says_1 0 rfl rfl)
theorem dX5_says_25 : decode cX5_says 25 = .ok (.getfield 56, 3) := dk_180 0 56 (dk_at dksX5_says_1 1 rfl rfl)
theorem dX5_says_28 : decode cX5_says 28 = .ok (.iload_n 1, 1) := dk_27 (dk_at dksX5_says_1 4 rfl rfl)
theorem dX5_says_29 : decode cX5_says 29 = .ok (.iaload, 1) := dk_46 (dk_at dksX5_says_1 5 rfl rfl)
theorem dX5_says_30 : decode cX5_says 30 = .ok (.iconst 1, 1) := dk_4 (dk_at dksX5_says_1 6 rfl rfl)
theorem dX5_says_31 : decode cX5_says 31 = .ok (.if_icmp .ne 10, 3) := dk_160 0 10 (dk_at dksX5_says_1 7 rfl rfl)
theorem dX5_says_34 : decode cX5_says 34 = .ok (.aload_n 0, 1) := dk_42 (dk_at dksX5_says_1 10 rfl rfl)
theorem dX5_says_35 : decode cX5_says 35 = .ok (.bipush (-2), 2) := dk_16 254 (dk_at dksX5_says_1 11 rfl rfl)
theorem dX5_says_37 : decode cX5_says 37 = .ok (.invokevirtual 136, 3) := dk_182 0 136 (dk_at dksX5_says_1 13 rfl rfl)
theorem dX5_says_40 : decode cX5_says 40 = .ok (.ireturn, 1) := dk_172 (dk_at dksX5_says_1 16 rfl rfl)
theorem dX5_says_41 : decode cX5_says 41 = .ok (.aload_n 0, 1) := dk_42 (dk_at dksX5_says_1 17 rfl rfl)
theorem dX5_says_42 : decode cX5_says 42 = .ok (.getfield 56, 3) := dk_180 0 56 (dk_at dksX5_says_1 18 rfl rfl)
theorem dX5_says_45 : decode cX5_says 45 = .ok (.iload_n 1, 1) := dk_27 (dk_at dksX5_says_1 21 rfl rfl)
theorem dX5_says_46 : decode cX5_says 46 = .ok (.iaload, 1) := dk_46 (dk_at dksX5_says_1 22 rfl rfl)
theorem dX5_says_47 : decode cX5_says 47 = .ok (.ifCond .ne 10, 3) := dk_154 0 10 (dk_at dksX5_says_2 0 rfl rfl)
theorem dX5_says_50 : decode cX5_says 50 = .ok (.aload_n 0, 1) := dk_42 (dk_at dksX5_says_2 3 rfl rfl)
theorem dX5_says_51 : decode cX5_says 51 = .ok (.bipush (-3), 2) := dk_16 253 (dk_at dksX5_says_2 4 rfl rfl)
theorem dX5_says_53 : decode cX5_says 53 = .ok (.invokevirtual 136, 3) := dk_182 0 136 (dk_at dksX5_says_2 6 rfl rfl)
theorem dX5_says_56 : decode cX5_says 56 = .ok (.ireturn, 1) := dk_172 (dk_at dksX5_says_2 9 rfl rfl)
theorem dX5_says_57 : decode cX5_says 57 = .ok (.aload_n 0, 1) := dk_42 (dk_at dksX5_says_2 10 rfl rfl)
theorem dX5_says_58 : decode cX5_says 58 = .ok (.getfield 65, 3) := dk_180 0 65 (dk_at dksX5_says_2 11 rfl rfl)
theorem dX5_says_61 : decode cX5_says 61 = .ok (.iload_n 1, 1) := dk_27 (dk_at dksX5_says_2 14 rfl rfl)
theorem dX5_says_62 : decode cX5_says 62 = .ok (.iaload, 1) := dk_46 (dk_at dksX5_says_2 15 rfl rfl)
theorem dX5_says_63 : decode cX5_says 63 = .ok (.istore_n 3, 1) := dk_62 (dk_at dksX5_says_2 16 rfl rfl)
theorem dX5_says_64 : decode cX5_says 64 = .ok (.aload_n 0, 1) := dk_42 (dk_at dksX5_says_2 17 rfl rfl)
theorem dX5_says_65 : decode cX5_says 65 = .ok (.getfield 23, 3) := dk_180 0 23 (dk_at dksX5_says_2 18 rfl rfl)
theorem dX5_says_68 : decode cX5_says 68 = .ok (.iload_n 3, 1) := dk_29 (dk_at dksX5_says_2 21 rfl rfl)
theorem dX5_says_69 : decode cX5_says 69 = .ok (.iaload, 1) := dk_46 (dk_at dksX5_says_2 22 rfl rfl)
theorem dX5_says_70 : decode cX5_says 70 = .ok (.istore 4, 2) := dk_54 4 (dk_at dksX5_says_3 0 rfl rfl)
theorem dX5_says_72 : decode cX5_says 72 = .ok (.iload_n 2, 1) := dk_28 (dk_at dksX5_says_3 2 rfl rfl)
theorem dX5_says_73 : decode cX5_says 73 = .ok (.ifCond .eq 45, 3) := dk_153 0 45 (dk_at dksX5_says_3 3 rfl rfl)
theorem dX5_says_76 : decode cX5_says 76 = .ok (.iload_n 2, 1) := dk_28 (dk_at dksX5_says_3 6 rfl rfl)
theorem dX5_says_77 : decode cX5_says 77 = .ok (.iload 4, 2) := dk_21 4 (dk_at dksX5_says_3 7 rfl rfl)
theorem dX5_says_79 : decode cX5_says 79 = .ok (.if_icmp .eq 39, 3) := dk_159 0 39 (dk_at dksX5_says_3 9 rfl rfl)
theorem dX5_says_82 : decode cX5_says 82 = .ok (.iload_n 2, 1) := dk_28 (dk_at dksX5_says_3 12 rfl rfl)
theorem dX5_says_83 : decode cX5_says 83 = .ok (.iconst 1, 1) := dk_4 (dk_at dksX5_says_3 13 rfl rfl)
theorem dX5_says_84 : decode cX5_says 84 = .ok (.if_icmp .ne 16, 3) := dk_160 0 16 (dk_at dksX5_says_3 14 rfl rfl)
theorem dX5_says_87 : decode cX5_says 87 = .ok (.iload 4, 2) := dk_21 4 (dk_at dksX5_says_3 17 rfl rfl)
theorem dX5_says_89 : decode cX5_says 89 = .ok (.iconst 5, 1) := dk_8 (dk_at dksX5_says_3 19 rfl rfl)
theorem dX5_says_90 : decode cX5_says 90 = .ok (.if_icmp .eq 28, 3) := dk_159 0 28 (dk_at dksX5_says_3 20 rfl rfl)
theorem dX5_says_93 : decode cX5_says 93 = .ok (.iload 4, 2) := dk_21 4 (dk_at dksX5_says_4 0 rfl rfl)
theorem dX5_says_95 : decode cX5_says 95 = .ok (.bipush 6, 2) := dk_16 6 (dk_at dksX5_says_4 2 rfl rfl)
theorem dX5_says_97 : decode cX5_says 97 = .ok (.if_icmp .eq 21, 3) := dk_159 0 21 (dk_at dksX5_says_4 4 rfl rfl)
theorem dX5_says_100 : decode cX5_says 100 = .ok (.iload_n 2, 1) := dk_28 (dk_at dksX5_says_4 7 rfl rfl)
theorem dX5_says_101 : decode cX5_says 101 = .ok (.iconst 2, 1) := dk_5 (dk_at dksX5_says_4 8 rfl rfl)
theorem dX5_says_102 : decode cX5_says 102 = .ok (.if_icmp .ne 9, 3) := dk_160 0 9 (dk_at dksX5_says_4 9 rfl rfl)
theorem dX5_says_105 : decode cX5_says 105 = .ok (.iload 4, 2) := dk_21 4 (dk_at dksX5_says_4 12 rfl rfl)
theorem dX5_says_107 : decode cX5_says 107 = .ok (.iconst 3, 1) := dk_6 (dk_at dksX5_says_4 14 rfl rfl)
theorem dX5_says_108 : decode cX5_says 108 = .ok (.if_icmp .eq 10, 3) := dk_159 0 10 (dk_at dksX5_says_4 15 rfl rfl)
theorem dX5_says_111 : decode cX5_says 111 = .ok (.aload_n 0, 1) := dk_42 (dk_at dksX5_says_4 18 rfl rfl)
theorem dX5_says_112 : decode cX5_says 112 = .ok (.bipush (-2), 2) := dk_16 254 (dk_at dksX5_says_4 19 rfl rfl)
theorem dX5_says_114 : decode cX5_says 114 = .ok (.invokevirtual 136, 3) := dk_182 0 136 (dk_at dksX5_says_4 21 rfl rfl)
theorem dX5_says_117 : decode cX5_says 117 = .ok (.ireturn, 1) := dk_172 (dk_at dksX5_says_5 0 rfl rfl)
theorem dX5_says_118 : decode cX5_says 118 = .ok (.iload_n 2, 1) := dk_28 (dk_at dksX5_says_5 1 rfl rfl)
theorem dX5_says_119 : decode cX5_says 119 = .ok (.ifCond .ne 10, 3) := dk_154 0 10 (dk_at dksX5_says_5 2 rfl rfl)
theorem dX5_says_122 : decode cX5_says 122 = .ok (.aload_n 0, 1) := dk_42 (dk_at dksX5_says_5 5 rfl rfl)
theorem dX5_says_123 : decode cX5_says 123 = .ok (.getfield 26, 3) := dk_180 0 26 (dk_at dksX5_says_5 6 rfl rfl)
theorem dX5_says_126 : decode cX5_says 126 = .ok (.iload_n 3, 1) := dk_29 (dk_at dksX5_says_5 9 rfl rfl)
theorem dX5_says_127 : decode cX5_says 127 = .ok (.iaload, 1) := dk_46 (dk_at dksX5_says_5 10 rfl rfl)
theorem dX5_says_128 : decode cX5_says 128 = .ok (.ireturn, 1) := dk_172 (dk_at dksX5_says_5 11 rfl rfl)
theorem dX5_says_129 : decode cX5_says 129 = .ok (.iload_n 2, 1) := dk_28 (dk_at dksX5_says_5 12 rfl rfl)
theorem dX5_says_130 : decode cX5_says 130 = .ok (.iconst 4, 1) := dk_7 (dk_at dksX5_says_5 13 rfl rfl)
theorem dX5_says_131 : decode cX5_says 131 = .ok (.if_icmp .ne 10, 3) := dk_160 0 10 (dk_at dksX5_says_5 14 rfl rfl)
theorem dX5_says_134 : decode cX5_says 134 = .ok (.aload_n 0, 1) := dk_42 (dk_at dksX5_says_5 17 rfl rfl)
theorem dX5_says_135 : decode cX5_says 135 = .ok (.getfield 38, 3) := dk_180 0 38 (dk_at dksX5_says_5 18 rfl rfl)
theorem dX5_says_138 : decode cX5_says 138 = .ok (.iload_n 3, 1) := dk_29 (dk_at dksX5_says_5 21 rfl rfl)
theorem dX5_says_139 : decode cX5_says 139 = .ok (.iaload, 1) := dk_46 (dk_at dksX5_says_5 22 rfl rfl)
theorem dX5_says_140 : decode cX5_says 140 = .ok (.ireturn, 1) := dk_172 (dk_at dksX5_says_5 23 rfl rfl)
theorem dX5_says_141 : decode cX5_says 141 = .ok (.iload_n 2, 1) := dk_28 (dk_at dksX5_says_6 0 rfl rfl)
theorem dX5_says_142 : decode cX5_says 142 = .ok (.iconst 2, 1) := dk_5 (dk_at dksX5_says_6 1 rfl rfl)
theorem dX5_says_143 : decode cX5_says 143 = .ok (.if_icmp .eq 8, 3) := dk_159 0 8 (dk_at dksX5_says_6 2 rfl rfl)
theorem dX5_says_146 : decode cX5_says 146 = .ok (.iload_n 2, 1) := dk_28 (dk_at dksX5_says_6 5 rfl rfl)
theorem dX5_says_147 : decode cX5_says 147 = .ok (.iconst 3, 1) := dk_6 (dk_at dksX5_says_6 6 rfl rfl)
theorem dX5_says_148 : decode cX5_says 148 = .ok (.if_icmp .ne 13, 3) := dk_160 0 13 (dk_at dksX5_says_6 7 rfl rfl)
theorem dX5_says_151 : decode cX5_says 151 = .ok (.aload_n 0, 1) := dk_42 (dk_at dksX5_says_6 10 rfl rfl)
theorem dX5_says_152 : decode cX5_says 152 = .ok (.bipush 9, 2) := dk_16 9 (dk_at dksX5_says_6 11 rfl rfl)
theorem dX5_says_154 : decode cX5_says 154 = .ok (.iload_n 3, 1) := dk_29 (dk_at dksX5_says_6 13 rfl rfl)
theorem dX5_says_155 : decode cX5_says 155 = .ok (.invokevirtual 143, 3) := dk_182 0 143 (dk_at dksX5_says_6 14 rfl rfl)
theorem dX5_says_158 : decode cX5_says 158 = .ok (.goto 9, 3) := dk_167 0 9 (dk_at dksX5_says_6 17 rfl rfl)
theorem dX5_says_161 : decode cX5_says 161 = .ok (.aload_n 0, 1) := dk_42 (dk_at dksX5_says_6 20 rfl rfl)
theorem dX5_says_162 : decode cX5_says 162 = .ok (.getfield 29, 3) := dk_180 0 29 (dk_at dksX5_says_6 21 rfl rfl)
theorem dX5_says_165 : decode cX5_says 165 = .ok (.iload_n 3, 1) := dk_29 (dk_at dksX5_says_7 0 rfl rfl)
theorem dX5_says_166 : decode cX5_says 166 = .ok (.iaload, 1) := dk_46 (dk_at dksX5_says_7 1 rfl rfl)
theorem dX5_says_167 : decode cX5_says 167 = .ok (.ireturn, 1) := dk_172 (dk_at dksX5_says_7 2 rfl rfl)
abbrev cX5_farBy : ByteArray := prog_22_method_46_code
def yX5_farBy : MethodName := ⟨RX5, "farBy", "(II)I"⟩
def dkwX5_farBy_7 : List UInt8 := [16, 40, 182, 0, 233, 172]
abbrev dktX5_farBy_7 : List UInt8 := dkwX5_farBy_7 ++ []
def dkwX5_farBy_6 : List UInt8 := [16, 40, 182, 0, 233, 42, 180, 0, 171, 96, 5, 108, 172, 42, 21, 5, 8, 182, 0, 233, 172, 42, 21, 5]
abbrev dktX5_farBy_6 : List UInt8 := dkwX5_farBy_6 ++ dktX5_farBy_7
def dkwX5_farBy_5 : List UInt8 := [180, 0, 29, 28, 46, 96, 172, 42, 21, 5, 16, 40, 182, 0, 233, 42, 180, 0, 171, 96, 172, 42, 21, 5]
abbrev dktX5_farBy_5 : List UInt8 := dkwX5_farBy_5 ++ dktX5_farBy_6
def dkwX5_farBy_4 : List UInt8 := [42, 21, 5, 5, 108, 16, 40, 182, 0, 233, 172, 42, 21, 5, 5, 108, 16, 40, 182, 0, 233, 42]
abbrev dktX5_farBy_4 : List UInt8 := dkwX5_farBy_4 ++ dktX5_farBy_5
def dkwX5_farBy_3 : List UInt8 := [170, 0, 0, 0, 104, 0, 0, 0, 1, 0, 0, 0, 6, 0, 0, 0, 37, 0, 0, 0, 66, 0, 0, 0, 80, 0, 0, 0, 96, 0, 0, 0, 37, 0, 0, 0, 48]
abbrev dktX5_farBy_3 : List UInt8 := dkwX5_farBy_3 ++ dktX5_farBy_4
def dkwX5_farBy_2 : List UInt8 := [156, 0, 7, 3, 167, 0, 10, 27, 16, 10, 104, 21, 4, 108, 54, 5, 29]
abbrev dktX5_farBy_2 : List UInt8 := dkwX5_farBy_2 ++ dktX5_farBy_3
def dkwX5_farBy_1 : List UInt8 := [96, 4, 100, 42, 180, 0, 29, 28, 46, 108, 167, 0, 9, 42, 180, 0, 26, 28, 46, 54, 4, 27]
abbrev dktX5_farBy_1 : List UInt8 := dkwX5_farBy_1 ++ dktX5_farBy_2
def dkwX5_farBy_0 : List UInt8 := [42, 180, 0, 23, 28, 46, 62, 29, 8, 160, 0, 28, 42, 180, 0, 26, 28, 46, 42, 180, 0, 29, 28, 46]
abbrev dktX5_farBy_0 : List UInt8 := dkwX5_farBy_0 ++ dktX5_farBy_1
theorem dksX5_farBy_0 : cX5_farBy.data.toList.drop 0 = dktX5_farBy_0 := by decide +kernel
theorem dksX5_farBy_1 : cX5_farBy.data.toList.drop 24 = dktX5_farBy_1 := dk_seg dksX5_farBy_0 24 rfl rfl
theorem dksX5_farBy_2 : cX5_farBy.data.toList.drop 46 = dktX5_farBy_2 := dk_seg dksX5_farBy_1 22 rfl rfl
theorem dksX5_farBy_3 : cX5_farBy.data.toList.drop 63 = dktX5_farBy_3 := dk_seg dksX5_farBy_2 17 rfl rfl
theorem dksX5_farBy_4 : cX5_farBy.data.toList.drop 100 = dktX5_farBy_4 := dk_seg dksX5_farBy_3 37 rfl rfl
theorem dksX5_farBy_5 : cX5_farBy.data.toList.drop 122 = dktX5_farBy_5 := dk_seg dksX5_farBy_4 22 rfl rfl
theorem dksX5_farBy_6 : cX5_farBy.data.toList.drop 146 = dktX5_farBy_6 := dk_seg dksX5_farBy_5 24 rfl rfl
theorem dksX5_farBy_7 : cX5_farBy.data.toList.drop 170 = dktX5_farBy_7 := dk_seg dksX5_farBy_6 24 rfl rfl
theorem dX5_farBy_0 : decode cX5_farBy 0 = .ok (.aload_n 0, 1) := dk_42 (dk_at dksX5_farBy_0 0 rfl rfl)
theorem dX5_farBy_1 : decode cX5_farBy 1 = .ok (.getfield 23, 3) := dk_180 0 23 (dk_at dksX5_farBy_0 1 rfl rfl)
theorem dX5_farBy_4 : decode cX5_farBy 4 = .ok (.iload_n 2, 1) := dk_28 (dk_at dksX5_farBy_0 4 rfl rfl)
theorem dX5_farBy_5 : decode cX5_farBy 5 = .ok (.iaload, 1) := dk_46 (dk_at dksX5_farBy_0 5 rfl rfl)
theorem dX5_farBy_6 : decode cX5_farBy 6 = .ok (.istore_n 3, 1) := dk_62 (dk_at dksX5_farBy_0 6 rfl rfl)
theorem dX5_farBy_7 : decode cX5_farBy 7 = .ok (.iload_n 3, 1) := dk_29 (dk_at dksX5_farBy_0 7 rfl rfl)
theorem dX5_farBy_8 : decode cX5_farBy 8 = .ok (.iconst 5, 1) := dk_8 (dk_at dksX5_farBy_0 8 rfl rfl)
theorem dX5_farBy_9 : decode cX5_farBy 9 = .ok (.if_icmp .ne 28, 3) := dk_160 0 28 (dk_at dksX5_farBy_0 9 rfl rfl)
theorem dX5_farBy_12 : decode cX5_farBy 12 = .ok (.aload_n 0, 1) := dk_42 (dk_at dksX5_farBy_0 12 rfl rfl)
theorem dX5_farBy_13 : decode cX5_farBy 13 = .ok (.getfield 26, 3) := dk_180 0 26 (dk_at dksX5_farBy_0 13 rfl rfl)
theorem dX5_farBy_16 : decode cX5_farBy 16 = .ok (.iload_n 2, 1) := dk_28 (dk_at dksX5_farBy_0 16 rfl rfl)
theorem dX5_farBy_17 : decode cX5_farBy 17 = .ok (.iaload, 1) := dk_46 (dk_at dksX5_farBy_0 17 rfl rfl)
theorem dX5_farBy_18 : decode cX5_farBy 18 = .ok (.aload_n 0, 1) := dk_42 (dk_at dksX5_farBy_0 18 rfl rfl)
theorem dX5_farBy_19 : decode cX5_farBy 19 = .ok (.getfield 29, 3) := dk_180 0 29 (dk_at dksX5_farBy_0 19 rfl rfl)
theorem dX5_farBy_22 : decode cX5_farBy 22 = .ok (.iload_n 2, 1) := dk_28 (dk_at dksX5_farBy_0 22 rfl rfl)
theorem dX5_farBy_23 : decode cX5_farBy 23 = .ok (.iaload, 1) := dk_46 (dk_at dksX5_farBy_0 23 rfl rfl)
theorem dX5_farBy_24 : decode cX5_farBy 24 = .ok (.iadd, 1) := dk_96 (dk_at dksX5_farBy_1 0 rfl rfl)
theorem dX5_farBy_25 : decode cX5_farBy 25 = .ok (.iconst 1, 1) := dk_4 (dk_at dksX5_farBy_1 1 rfl rfl)
theorem dX5_farBy_26 : decode cX5_farBy 26 = .ok (.isub, 1) := dk_100 (dk_at dksX5_farBy_1 2 rfl rfl)
theorem dX5_farBy_27 : decode cX5_farBy 27 = .ok (.aload_n 0, 1) := dk_42 (dk_at dksX5_farBy_1 3 rfl rfl)
theorem dX5_farBy_28 : decode cX5_farBy 28 = .ok (.getfield 29, 3) := dk_180 0 29 (dk_at dksX5_farBy_1 4 rfl rfl)
theorem dX5_farBy_31 : decode cX5_farBy 31 = .ok (.iload_n 2, 1) := dk_28 (dk_at dksX5_farBy_1 7 rfl rfl)
theorem dX5_farBy_32 : decode cX5_farBy 32 = .ok (.iaload, 1) := dk_46 (dk_at dksX5_farBy_1 8 rfl rfl)
theorem dX5_farBy_33 : decode cX5_farBy 33 = .ok (.idiv, 1) := dk_108 (dk_at dksX5_farBy_1 9 rfl rfl)
theorem dX5_farBy_34 : decode cX5_farBy 34 = .ok (.goto 9, 3) := dk_167 0 9 (dk_at dksX5_farBy_1 10 rfl rfl)
theorem dX5_farBy_37 : decode cX5_farBy 37 = .ok (.aload_n 0, 1) := dk_42 (dk_at dksX5_farBy_1 13 rfl rfl)
theorem dX5_farBy_38 : decode cX5_farBy 38 = .ok (.getfield 26, 3) := dk_180 0 26 (dk_at dksX5_farBy_1 14 rfl rfl)
theorem dX5_farBy_41 : decode cX5_farBy 41 = .ok (.iload_n 2, 1) := dk_28 (dk_at dksX5_farBy_1 17 rfl rfl)
theorem dX5_farBy_42 : decode cX5_farBy 42 = .ok (.iaload, 1) := dk_46 (dk_at dksX5_farBy_1 18 rfl rfl)
theorem dX5_farBy_43 : decode cX5_farBy 43 = .ok (.istore 4, 2) := dk_54 4 (dk_at dksX5_farBy_1 19 rfl rfl)
theorem dX5_farBy_45 : decode cX5_farBy 45 = .ok (.iload_n 1, 1) := dk_27 (dk_at dksX5_farBy_1 21 rfl rfl)
theorem dX5_farBy_46 : decode cX5_farBy 46 = .ok (.ifCond .ge 7, 3) := dk_156 0 7 (dk_at dksX5_farBy_2 0 rfl rfl)
theorem dX5_farBy_49 : decode cX5_farBy 49 = .ok (.iconst 0, 1) := dk_3 (dk_at dksX5_farBy_2 3 rfl rfl)
theorem dX5_farBy_50 : decode cX5_farBy 50 = .ok (.goto 10, 3) := dk_167 0 10 (dk_at dksX5_farBy_2 4 rfl rfl)
theorem dX5_farBy_53 : decode cX5_farBy 53 = .ok (.iload_n 1, 1) := dk_27 (dk_at dksX5_farBy_2 7 rfl rfl)
theorem dX5_farBy_54 : decode cX5_farBy 54 = .ok (.bipush 10, 2) := dk_16 10 (dk_at dksX5_farBy_2 8 rfl rfl)
theorem dX5_farBy_56 : decode cX5_farBy 56 = .ok (.imul, 1) := dk_104 (dk_at dksX5_farBy_2 10 rfl rfl)
theorem dX5_farBy_57 : decode cX5_farBy 57 = .ok (.iload 4, 2) := dk_21 4 (dk_at dksX5_farBy_2 11 rfl rfl)
theorem dX5_farBy_59 : decode cX5_farBy 59 = .ok (.idiv, 1) := dk_108 (dk_at dksX5_farBy_2 13 rfl rfl)
theorem dX5_farBy_60 : decode cX5_farBy 60 = .ok (.istore 5, 2) := dk_54 5 (dk_at dksX5_farBy_2 14 rfl rfl)
theorem dX5_farBy_62 : decode cX5_farBy 62 = .ok (.iload_n 3, 1) := dk_29 (dk_at dksX5_farBy_2 16 rfl rfl)
theorem dX5_farBy_63 : decode cX5_farBy 63 = .ok (.tableswitch 104 1 6 #[37, 66, 80, 96, 37, 48], 37) := by decide +kernel
theorem dX5_farBy_100 : decode cX5_farBy 100 = .ok (.aload_n 0, 1) := dk_42 (dk_at dksX5_farBy_4 0 rfl rfl)
theorem dX5_farBy_101 : decode cX5_farBy 101 = .ok (.iload 5, 2) := dk_21 5 (dk_at dksX5_farBy_4 1 rfl rfl)
theorem dX5_farBy_103 : decode cX5_farBy 103 = .ok (.iconst 2, 1) := dk_5 (dk_at dksX5_farBy_4 3 rfl rfl)
theorem dX5_farBy_104 : decode cX5_farBy 104 = .ok (.idiv, 1) := dk_108 (dk_at dksX5_farBy_4 4 rfl rfl)
theorem dX5_farBy_105 : decode cX5_farBy 105 = .ok (.bipush 40, 2) := dk_16 40 (dk_at dksX5_farBy_4 5 rfl rfl)
theorem dX5_farBy_107 : decode cX5_farBy 107 = .ok (.invokevirtual 233, 3) := dk_182 0 233 (dk_at dksX5_farBy_4 7 rfl rfl)
theorem dX5_farBy_110 : decode cX5_farBy 110 = .ok (.ireturn, 1) := dk_172 (dk_at dksX5_farBy_4 10 rfl rfl)
theorem dX5_farBy_111 : decode cX5_farBy 111 = .ok (.aload_n 0, 1) := dk_42 (dk_at dksX5_farBy_4 11 rfl rfl)
theorem dX5_farBy_112 : decode cX5_farBy 112 = .ok (.iload 5, 2) := dk_21 5 (dk_at dksX5_farBy_4 12 rfl rfl)
theorem dX5_farBy_114 : decode cX5_farBy 114 = .ok (.iconst 2, 1) := dk_5 (dk_at dksX5_farBy_4 14 rfl rfl)
theorem dX5_farBy_115 : decode cX5_farBy 115 = .ok (.idiv, 1) := dk_108 (dk_at dksX5_farBy_4 15 rfl rfl)
theorem dX5_farBy_116 : decode cX5_farBy 116 = .ok (.bipush 40, 2) := dk_16 40 (dk_at dksX5_farBy_4 16 rfl rfl)
theorem dX5_farBy_118 : decode cX5_farBy 118 = .ok (.invokevirtual 233, 3) := dk_182 0 233 (dk_at dksX5_farBy_4 18 rfl rfl)
theorem dX5_farBy_121 : decode cX5_farBy 121 = .ok (.aload_n 0, 1) := dk_42 (dk_at dksX5_farBy_4 21 rfl rfl)
theorem dX5_farBy_122 : decode cX5_farBy 122 = .ok (.getfield 29, 3) := dk_180 0 29 (dk_at dksX5_farBy_5 0 rfl rfl)
theorem dX5_farBy_125 : decode cX5_farBy 125 = .ok (.iload_n 2, 1) := dk_28 (dk_at dksX5_farBy_5 3 rfl rfl)
theorem dX5_farBy_126 : decode cX5_farBy 126 = .ok (.iaload, 1) := dk_46 (dk_at dksX5_farBy_5 4 rfl rfl)
theorem dX5_farBy_127 : decode cX5_farBy 127 = .ok (.iadd, 1) := dk_96 (dk_at dksX5_farBy_5 5 rfl rfl)
theorem dX5_farBy_128 : decode cX5_farBy 128 = .ok (.ireturn, 1) := dk_172 (dk_at dksX5_farBy_5 6 rfl rfl)
theorem dX5_farBy_129 : decode cX5_farBy 129 = .ok (.aload_n 0, 1) := dk_42 (dk_at dksX5_farBy_5 7 rfl rfl)
theorem dX5_farBy_130 : decode cX5_farBy 130 = .ok (.iload 5, 2) := dk_21 5 (dk_at dksX5_farBy_5 8 rfl rfl)
theorem dX5_farBy_132 : decode cX5_farBy 132 = .ok (.bipush 40, 2) := dk_16 40 (dk_at dksX5_farBy_5 10 rfl rfl)
theorem dX5_farBy_134 : decode cX5_farBy 134 = .ok (.invokevirtual 233, 3) := dk_182 0 233 (dk_at dksX5_farBy_5 12 rfl rfl)
theorem dX5_farBy_137 : decode cX5_farBy 137 = .ok (.aload_n 0, 1) := dk_42 (dk_at dksX5_farBy_5 15 rfl rfl)
theorem dX5_farBy_138 : decode cX5_farBy 138 = .ok (.getfield 171, 3) := dk_180 0 171 (dk_at dksX5_farBy_5 16 rfl rfl)
theorem dX5_farBy_141 : decode cX5_farBy 141 = .ok (.iadd, 1) := dk_96 (dk_at dksX5_farBy_5 19 rfl rfl)
theorem dX5_farBy_142 : decode cX5_farBy 142 = .ok (.ireturn, 1) := dk_172 (dk_at dksX5_farBy_5 20 rfl rfl)
theorem dX5_farBy_143 : decode cX5_farBy 143 = .ok (.aload_n 0, 1) := dk_42 (dk_at dksX5_farBy_5 21 rfl rfl)
theorem dX5_farBy_144 : decode cX5_farBy 144 = .ok (.iload 5, 2) := dk_21 5 (dk_at dksX5_farBy_5 22 rfl rfl)
theorem dX5_farBy_146 : decode cX5_farBy 146 = .ok (.bipush 40, 2) := dk_16 40 (dk_at dksX5_farBy_6 0 rfl rfl)
theorem dX5_farBy_148 : decode cX5_farBy 148 = .ok (.invokevirtual 233, 3) := dk_182 0 233 (dk_at dksX5_farBy_6 2 rfl rfl)
theorem dX5_farBy_151 : decode cX5_farBy 151 = .ok (.aload_n 0, 1) := dk_42 (dk_at dksX5_farBy_6 5 rfl rfl)
theorem dX5_farBy_152 : decode cX5_farBy 152 = .ok (.getfield 171, 3) := dk_180 0 171 (dk_at dksX5_farBy_6 6 rfl rfl)
theorem dX5_farBy_155 : decode cX5_farBy 155 = .ok (.iadd, 1) := dk_96 (dk_at dksX5_farBy_6 9 rfl rfl)
theorem dX5_farBy_156 : decode cX5_farBy 156 = .ok (.iconst 2, 1) := dk_5 (dk_at dksX5_farBy_6 10 rfl rfl)
theorem dX5_farBy_157 : decode cX5_farBy 157 = .ok (.idiv, 1) := dk_108 (dk_at dksX5_farBy_6 11 rfl rfl)
theorem dX5_farBy_158 : decode cX5_farBy 158 = .ok (.ireturn, 1) := dk_172 (dk_at dksX5_farBy_6 12 rfl rfl)
theorem dX5_farBy_159 : decode cX5_farBy 159 = .ok (.aload_n 0, 1) := dk_42 (dk_at dksX5_farBy_6 13 rfl rfl)
theorem dX5_farBy_160 : decode cX5_farBy 160 = .ok (.iload 5, 2) := dk_21 5 (dk_at dksX5_farBy_6 14 rfl rfl)
theorem dX5_farBy_162 : decode cX5_farBy 162 = .ok (.iconst 5, 1) := dk_8 (dk_at dksX5_farBy_6 16 rfl rfl)
theorem dX5_farBy_163 : decode cX5_farBy 163 = .ok (.invokevirtual 233, 3) := dk_182 0 233 (dk_at dksX5_farBy_6 17 rfl rfl)
theorem dX5_farBy_166 : decode cX5_farBy 166 = .ok (.ireturn, 1) := dk_172 (dk_at dksX5_farBy_6 20 rfl rfl)
theorem dX5_farBy_167 : decode cX5_farBy 167 = .ok (.aload_n 0, 1) := dk_42 (dk_at dksX5_farBy_6 21 rfl rfl)
theorem dX5_farBy_168 : decode cX5_farBy 168 = .ok (.iload 5, 2) := dk_21 5 (dk_at dksX5_farBy_6 22 rfl rfl)
theorem dX5_farBy_170 : decode cX5_farBy 170 = .ok (.bipush 40, 2) := dk_16 40 (dk_at dksX5_farBy_7 0 rfl rfl)
theorem dX5_farBy_172 : decode cX5_farBy 172 = .ok (.invokevirtual 233, 3) := dk_182 0 233 (dk_at dksX5_farBy_7 2 rfl rfl)
theorem dX5_farBy_175 : decode cX5_farBy 175 = .ok (.ireturn, 1) := dk_172 (dk_at dksX5_farBy_7 5 rfl rfl)
abbrev cX5_low : ByteArray := prog_22_method_45_code
def yX5_low : MethodName := ⟨RX5, "low", "(II)I"⟩
def dkwX5_low_0 : List UInt8 := [27, 28, 162, 0, 7, 27, 167, 0, 4, 28, 172]
abbrev dktX5_low_0 : List UInt8 := dkwX5_low_0 ++ []
theorem dksX5_low_0 : cX5_low.data.toList.drop 0 = dktX5_low_0 := by decide +kernel
theorem dX5_low_0 : decode cX5_low 0 = .ok (.iload_n 1, 1) := dk_27 (dk_at dksX5_low_0 0 rfl rfl)
theorem dX5_low_1 : decode cX5_low 1 = .ok (.iload_n 2, 1) := dk_28 (dk_at dksX5_low_0 1 rfl rfl)
theorem dX5_low_2 : decode cX5_low 2 = .ok (.if_icmp .ge 7, 3) := dk_162 0 7 (dk_at dksX5_low_0 2 rfl rfl)
theorem dX5_low_5 : decode cX5_low 5 = .ok (.iload_n 1, 1) := dk_27 (dk_at dksX5_low_0 5 rfl rfl)
theorem dX5_low_6 : decode cX5_low 6 = .ok (.goto 4, 3) := dk_167 0 4 (dk_at dksX5_low_0 6 rfl rfl)
theorem dX5_low_9 : decode cX5_low 9 = .ok (.iload_n 2, 1) := dk_28 (dk_at dksX5_low_0 9 rfl rfl)
theorem dX5_low_10 : decode cX5_low 10 = .ok (.ireturn, 1) := dk_172 (dk_at dksX5_low_0 10 rfl rfl)
abbrev cX5_thing : ByteArray := prog_22_method_20_code
def yX5_thing : MethodName := ⟨RX5, "thing", "(IIII)I"⟩
def dkwX5_thing_3 : List UInt8 := [42, 27, 28, 29, 21, 4, 182, 0, 150, 172]
abbrev dktX5_thing_3 : List UInt8 := dkwX5_thing_3 ++ []
def dkwX5_thing_2 : List UInt8 := [16, 250, 182, 0, 136, 172, 42, 180, 0, 117, 16, 8, 160, 0, 12, 42, 16, 249, 182, 0, 136, 167, 0, 12]
abbrev dktX5_thing_2 : List UInt8 := dkwX5_thing_2 ++ dktX5_thing_3
def dkwX5_thing_1 : List UInt8 := [163, 0, 23, 29, 4, 161, 0, 18, 29, 16, 9, 163, 0, 12, 42, 21, 4, 182, 0, 147, 154, 0, 10, 42]
abbrev dktX5_thing_1 : List UInt8 := dkwX5_thing_1 ++ dktX5_thing_2
def dkwX5_thing_0 : List UInt8 := [27, 155, 0, 9, 27, 16, 6, 164, 0, 9, 42, 2, 182, 0, 136, 172, 28, 4, 161, 0, 29, 28, 16, 99]
abbrev dktX5_thing_0 : List UInt8 := dkwX5_thing_0 ++ dktX5_thing_1
theorem dksX5_thing_0 : cX5_thing.data.toList.drop 0 = dktX5_thing_0 := by decide +kernel
theorem dksX5_thing_1 : cX5_thing.data.toList.drop 24 = dktX5_thing_1 := dk_seg dksX5_thing_0 24 rfl rfl
theorem dksX5_thing_2 : cX5_thing.data.toList.drop 48 = dktX5_thing_2 := dk_seg dksX5_thing_1 24 rfl rfl
theorem dksX5_thing_3 : cX5_thing.data.toList.drop 72 = dktX5_thing_3 := dk_seg dksX5_thing_2 24 rfl rfl
theorem dX5_thing_0 : decode cX5_thing 0 = .ok (.iload_n 1, 1) := dk_27 (dk_at dksX5_thing_0 0 rfl rfl)
theorem dX5_thing_1 : decode cX5_thing 1 = .ok (.ifCond .lt 9, 3) := dk_155 0 9 (dk_at dksX5_thing_0 1 rfl rfl)
theorem dX5_thing_4 : decode cX5_thing 4 = .ok (.iload_n 1, 1) := dk_27 (dk_at dksX5_thing_0 4 rfl rfl)
theorem dX5_thing_5 : decode cX5_thing 5 = .ok (.bipush 6, 2) := dk_16 6 (dk_at dksX5_thing_0 5 rfl rfl)
theorem dX5_thing_7 : decode cX5_thing 7 = .ok (.if_icmp .le 9, 3) := dk_164 0 9 (dk_at dksX5_thing_0 7 rfl rfl)
theorem dX5_thing_10 : decode cX5_thing 10 = .ok (.aload_n 0, 1) := dk_42 (dk_at dksX5_thing_0 10 rfl rfl)
theorem dX5_thing_11 : decode cX5_thing 11 = .ok (.iconst (-1), 1) := dk_2 (dk_at dksX5_thing_0 11 rfl rfl)
theorem dX5_thing_12 : decode cX5_thing 12 = .ok (.invokevirtual 136, 3) := dk_182 0 136 (dk_at dksX5_thing_0 12 rfl rfl)
theorem dX5_thing_15 : decode cX5_thing 15 = .ok (.ireturn, 1) := dk_172 (dk_at dksX5_thing_0 15 rfl rfl)
theorem dX5_thing_16 : decode cX5_thing 16 = .ok (.iload_n 2, 1) := dk_28 (dk_at dksX5_thing_0 16 rfl rfl)
theorem dX5_thing_17 : decode cX5_thing 17 = .ok (.iconst 1, 1) := dk_4 (dk_at dksX5_thing_0 17 rfl rfl)
theorem dX5_thing_18 : decode cX5_thing 18 = .ok (.if_icmp .lt 29, 3) := dk_161 0 29 (dk_at dksX5_thing_0 18 rfl rfl)
theorem dX5_thing_21 : decode cX5_thing 21 = .ok (.iload_n 2, 1) := dk_28 (dk_at dksX5_thing_0 21 rfl rfl)
theorem dX5_thing_22 : decode cX5_thing 22 = .ok (.bipush 99, 2) := dk_16 99 (dk_at dksX5_thing_0 22 rfl rfl)
theorem dX5_thing_24 : decode cX5_thing 24 = .ok (.if_icmp .gt 23, 3) := dk_163 0 23 (dk_at dksX5_thing_1 0 rfl rfl)
theorem dX5_thing_27 : decode cX5_thing 27 = .ok (.iload_n 3, 1) := dk_29 (dk_at dksX5_thing_1 3 rfl rfl)
theorem dX5_thing_28 : decode cX5_thing 28 = .ok (.iconst 1, 1) := dk_4 (dk_at dksX5_thing_1 4 rfl rfl)
theorem dX5_thing_29 : decode cX5_thing 29 = .ok (.if_icmp .lt 18, 3) := dk_161 0 18 (dk_at dksX5_thing_1 5 rfl rfl)
theorem dX5_thing_32 : decode cX5_thing 32 = .ok (.iload_n 3, 1) := dk_29 (dk_at dksX5_thing_1 8 rfl rfl)
theorem dX5_thing_33 : decode cX5_thing 33 = .ok (.bipush 9, 2) := dk_16 9 (dk_at dksX5_thing_1 9 rfl rfl)
theorem dX5_thing_35 : decode cX5_thing 35 = .ok (.if_icmp .gt 12, 3) := dk_163 0 12 (dk_at dksX5_thing_1 11 rfl rfl)
theorem dX5_thing_38 : decode cX5_thing 38 = .ok (.aload_n 0, 1) := dk_42 (dk_at dksX5_thing_1 14 rfl rfl)
theorem dX5_thing_39 : decode cX5_thing 39 = .ok (.iload 4, 2) := dk_21 4 (dk_at dksX5_thing_1 15 rfl rfl)
theorem dX5_thing_41 : decode cX5_thing 41 = .ok (.invokevirtual 147, 3) := dk_182 0 147 (dk_at dksX5_thing_1 17 rfl rfl)
theorem dX5_thing_44 : decode cX5_thing 44 = .ok (.ifCond .ne 10, 3) := dk_154 0 10 (dk_at dksX5_thing_1 20 rfl rfl)
theorem dX5_thing_47 : decode cX5_thing 47 = .ok (.aload_n 0, 1) := dk_42 (dk_at dksX5_thing_1 23 rfl rfl)
theorem dX5_thing_48 : decode cX5_thing 48 = .ok (.bipush (-6), 2) := dk_16 250 (dk_at dksX5_thing_2 0 rfl rfl)
theorem dX5_thing_50 : decode cX5_thing 50 = .ok (.invokevirtual 136, 3) := dk_182 0 136 (dk_at dksX5_thing_2 2 rfl rfl)
theorem dX5_thing_53 : decode cX5_thing 53 = .ok (.ireturn, 1) := dk_172 (dk_at dksX5_thing_2 5 rfl rfl)
theorem dX5_thing_54 : decode cX5_thing 54 = .ok (.aload_n 0, 1) := dk_42 (dk_at dksX5_thing_2 6 rfl rfl)
theorem dX5_thing_55 : decode cX5_thing 55 = .ok (.getfield 117, 3) := dk_180 0 117 (dk_at dksX5_thing_2 7 rfl rfl)
theorem dX5_thing_58 : decode cX5_thing 58 = .ok (.bipush 8, 2) := dk_16 8 (dk_at dksX5_thing_2 10 rfl rfl)
theorem dX5_thing_60 : decode cX5_thing 60 = .ok (.if_icmp .ne 12, 3) := dk_160 0 12 (dk_at dksX5_thing_2 12 rfl rfl)
theorem dX5_thing_63 : decode cX5_thing 63 = .ok (.aload_n 0, 1) := dk_42 (dk_at dksX5_thing_2 15 rfl rfl)
theorem dX5_thing_64 : decode cX5_thing 64 = .ok (.bipush (-7), 2) := dk_16 249 (dk_at dksX5_thing_2 16 rfl rfl)
theorem dX5_thing_66 : decode cX5_thing 66 = .ok (.invokevirtual 136, 3) := dk_182 0 136 (dk_at dksX5_thing_2 18 rfl rfl)
theorem dX5_thing_69 : decode cX5_thing 69 = .ok (.goto 12, 3) := dk_167 0 12 (dk_at dksX5_thing_2 21 rfl rfl)
theorem dX5_thing_72 : decode cX5_thing 72 = .ok (.aload_n 0, 1) := dk_42 (dk_at dksX5_thing_3 0 rfl rfl)
theorem dX5_thing_73 : decode cX5_thing 73 = .ok (.iload_n 1, 1) := dk_27 (dk_at dksX5_thing_3 1 rfl rfl)
theorem dX5_thing_74 : decode cX5_thing 74 = .ok (.iload_n 2, 1) := dk_28 (dk_at dksX5_thing_3 2 rfl rfl)
theorem dX5_thing_75 : decode cX5_thing 75 = .ok (.iload_n 3, 1) := dk_29 (dk_at dksX5_thing_3 3 rfl rfl)
theorem dX5_thing_76 : decode cX5_thing 76 = .ok (.iload 4, 2) := dk_21 4 (dk_at dksX5_thing_3 4 rfl rfl)
theorem dX5_thing_78 : decode cX5_thing 78 = .ok (.invokevirtual 150, 3) := dk_182 0 150 (dk_at dksX5_thing_3 6 rfl rfl)
theorem dX5_thing_81 : decode cX5_thing 81 = .ok (.ireturn, 1) := dk_172 (dk_at dksX5_thing_3 9 rfl rfl)
abbrev cX5_isStep : ByteArray := prog_22_method_9_code
def yX5_isStep : MethodName := ⟨RX5, "isStep", "(I)Z"⟩
def dkwX5_isStep_1 : List UInt8 := [3, 172]
abbrev dktX5_isStep_1 : List UInt8 := dkwX5_isStep_1 ++ []
def dkwX5_isStep_0 : List UInt8 := [27, 155, 0, 23, 27, 42, 180, 0, 7, 163, 0, 15, 42, 27, 182, 0, 129, 154, 0, 7, 4, 167, 0, 4]
abbrev dktX5_isStep_0 : List UInt8 := dkwX5_isStep_0 ++ dktX5_isStep_1
theorem dksX5_isStep_0 : cX5_isStep.data.toList.drop 0 = dktX5_isStep_0 := by decide +kernel
theorem dksX5_isStep_1 : cX5_isStep.data.toList.drop 24 = dktX5_isStep_1 := dk_seg dksX5_isStep_0 24 rfl rfl
theorem dX5_isStep_0 : decode cX5_isStep 0 = .ok (.iload_n 1, 1) := dk_27 (dk_at dksX5_isStep_0 0 rfl rfl)
theorem dX5_isStep_1 : decode cX5_isStep 1 = .ok (.ifCond .lt 23, 3) := dk_155 0 23 (dk_at dksX5_isStep_0 1 rfl rfl)
theorem dX5_isStep_4 : decode cX5_isStep 4 = .ok (.iload_n 1, 1) := dk_27 (dk_at dksX5_isStep_0 4 rfl rfl)
theorem dX5_isStep_5 : decode cX5_isStep 5 = .ok (.aload_n 0, 1) := dk_42 (dk_at dksX5_isStep_0 5 rfl rfl)
theorem dX5_isStep_6 : decode cX5_isStep 6 = .ok (.getfield 7, 3) := dk_180 0 7 (dk_at dksX5_isStep_0 6 rfl rfl)
theorem dX5_isStep_9 : decode cX5_isStep 9 = .ok (.if_icmp .gt 15, 3) := dk_163 0 15 (dk_at dksX5_isStep_0 9 rfl rfl)
theorem dX5_isStep_12 : decode cX5_isStep 12 = .ok (.aload_n 0, 1) := dk_42 (dk_at dksX5_isStep_0 12 rfl rfl)
theorem dX5_isStep_13 : decode cX5_isStep 13 = .ok (.iload_n 1, 1) := dk_27 (dk_at dksX5_isStep_0 13 rfl rfl)
theorem dX5_isStep_14 : decode cX5_isStep 14 = .ok (.invokevirtual 129, 3) := dk_182 0 129 (dk_at dksX5_isStep_0 14 rfl rfl)
theorem dX5_isStep_17 : decode cX5_isStep 17 = .ok (.ifCond .ne 7, 3) := dk_154 0 7 (dk_at dksX5_isStep_0 17 rfl rfl)
theorem dX5_isStep_20 : decode cX5_isStep 20 = .ok (.iconst 1, 1) := dk_4 (dk_at dksX5_isStep_0 20 rfl rfl)
theorem dX5_isStep_21 : decode cX5_isStep 21 = .ok (.goto 4, 3) := dk_167 0 4 (dk_at dksX5_isStep_0 21 rfl rfl)
theorem dX5_isStep_24 : decode cX5_isStep 24 = .ok (.iconst 0, 1) := dk_3 (dk_at dksX5_isStep_1 0 rfl rfl)
theorem dX5_isStep_25 : decode cX5_isStep 25 = .ok (.ireturn, 1) := dk_172 (dk_at dksX5_isStep_1 1 rfl rfl)
abbrev cX5_isWet : ByteArray := prog_22_method_8_code
def yX5_isWet : MethodName := ⟨RX5, "isWet", "(I)Z"⟩
def dkwX5_isWet_0 : List UInt8 := [27, 42, 180, 0, 123, 164, 0, 15, 27, 42, 180, 0, 126, 162, 0, 7, 4, 167, 0, 4, 3, 172]
abbrev dktX5_isWet_0 : List UInt8 := dkwX5_isWet_0 ++ []
theorem dksX5_isWet_0 : cX5_isWet.data.toList.drop 0 = dktX5_isWet_0 := by decide +kernel
theorem dX5_isWet_0 : decode cX5_isWet 0 = .ok (.iload_n 1, 1) := dk_27 (dk_at dksX5_isWet_0 0 rfl rfl)
theorem dX5_isWet_1 : decode cX5_isWet 1 = .ok (.aload_n 0, 1) := dk_42 (dk_at dksX5_isWet_0 1 rfl rfl)
theorem dX5_isWet_2 : decode cX5_isWet 2 = .ok (.getfield 123, 3) := dk_180 0 123 (dk_at dksX5_isWet_0 2 rfl rfl)
theorem dX5_isWet_5 : decode cX5_isWet 5 = .ok (.if_icmp .le 15, 3) := dk_164 0 15 (dk_at dksX5_isWet_0 5 rfl rfl)
theorem dX5_isWet_8 : decode cX5_isWet 8 = .ok (.iload_n 1, 1) := dk_27 (dk_at dksX5_isWet_0 8 rfl rfl)
theorem dX5_isWet_9 : decode cX5_isWet 9 = .ok (.aload_n 0, 1) := dk_42 (dk_at dksX5_isWet_0 9 rfl rfl)
theorem dX5_isWet_10 : decode cX5_isWet 10 = .ok (.getfield 126, 3) := dk_180 0 126 (dk_at dksX5_isWet_0 10 rfl rfl)
theorem dX5_isWet_13 : decode cX5_isWet 13 = .ok (.if_icmp .ge 7, 3) := dk_162 0 7 (dk_at dksX5_isWet_0 13 rfl rfl)
theorem dX5_isWet_16 : decode cX5_isWet 16 = .ok (.iconst 1, 1) := dk_4 (dk_at dksX5_isWet_0 16 rfl rfl)
theorem dX5_isWet_17 : decode cX5_isWet 17 = .ok (.goto 4, 3) := dk_167 0 4 (dk_at dksX5_isWet_0 17 rfl rfl)
theorem dX5_isWet_20 : decode cX5_isWet 20 = .ok (.iconst 0, 1) := dk_3 (dk_at dksX5_isWet_0 20 rfl rfl)
theorem dX5_isWet_21 : decode cX5_isWet 21 = .ok (.ireturn, 1) := dk_172 (dk_at dksX5_isWet_0 21 rfl rfl)
abbrev cX5_things : ByteArray := prog_22_method_19_code
def yX5_things : MethodName := ⟨RX5, "things", "(IIII)I"⟩
def dkwX5_things_3 : List UInt8 := [181, 0, 117, 172]
abbrev dktX5_things_3 : List UInt8 := dkwX5_things_3 ++ []
def dkwX5_things_2 : List UInt8 := [180, 0, 117, 2, 79, 42, 180, 0, 38, 42, 180, 0, 117, 3, 79, 42, 89, 180, 0, 117, 90, 4, 96]
abbrev dktX5_things_2 : List UInt8 := dkwX5_things_2 ++ dktX5_things_3
def dkwX5_things_1 : List UInt8 := [42, 180, 0, 117, 29, 79, 42, 180, 0, 32, 42, 180, 0, 117, 21, 4, 79, 42, 180, 0, 35, 42]
abbrev dktX5_things_1 : List UInt8 := dkwX5_things_1 ++ dktX5_things_2
def dkwX5_things_0 : List UInt8 := [42, 180, 0, 23, 42, 180, 0, 117, 27, 79, 42, 180, 0, 26, 42, 180, 0, 117, 28, 79, 42, 180, 0, 29]
abbrev dktX5_things_0 : List UInt8 := dkwX5_things_0 ++ dktX5_things_1
theorem dksX5_things_0 : cX5_things.data.toList.drop 0 = dktX5_things_0 := by decide +kernel
theorem dksX5_things_1 : cX5_things.data.toList.drop 24 = dktX5_things_1 := dk_seg dksX5_things_0 24 rfl rfl
theorem dksX5_things_2 : cX5_things.data.toList.drop 46 = dktX5_things_2 := dk_seg dksX5_things_1 22 rfl rfl
theorem dksX5_things_3 : cX5_things.data.toList.drop 69 = dktX5_things_3 := dk_seg dksX5_things_2 23 rfl rfl
theorem dX5_things_0 : decode cX5_things 0 = .ok (.aload_n 0, 1) := dk_42 (dk_at dksX5_things_0 0 rfl rfl)
theorem dX5_things_1 : decode cX5_things 1 = .ok (.getfield 23, 3) := dk_180 0 23 (dk_at dksX5_things_0 1 rfl rfl)
theorem dX5_things_4 : decode cX5_things 4 = .ok (.aload_n 0, 1) := dk_42 (dk_at dksX5_things_0 4 rfl rfl)
theorem dX5_things_5 : decode cX5_things 5 = .ok (.getfield 117, 3) := dk_180 0 117 (dk_at dksX5_things_0 5 rfl rfl)
theorem dX5_things_8 : decode cX5_things 8 = .ok (.iload_n 1, 1) := dk_27 (dk_at dksX5_things_0 8 rfl rfl)
theorem dX5_things_9 : decode cX5_things 9 = .ok (.iastore, 1) := dk_79 (dk_at dksX5_things_0 9 rfl rfl)
theorem dX5_things_10 : decode cX5_things 10 = .ok (.aload_n 0, 1) := dk_42 (dk_at dksX5_things_0 10 rfl rfl)
theorem dX5_things_11 : decode cX5_things 11 = .ok (.getfield 26, 3) := dk_180 0 26 (dk_at dksX5_things_0 11 rfl rfl)
theorem dX5_things_14 : decode cX5_things 14 = .ok (.aload_n 0, 1) := dk_42 (dk_at dksX5_things_0 14 rfl rfl)
theorem dX5_things_15 : decode cX5_things 15 = .ok (.getfield 117, 3) := dk_180 0 117 (dk_at dksX5_things_0 15 rfl rfl)
theorem dX5_things_18 : decode cX5_things 18 = .ok (.iload_n 2, 1) := dk_28 (dk_at dksX5_things_0 18 rfl rfl)
theorem dX5_things_19 : decode cX5_things 19 = .ok (.iastore, 1) := dk_79 (dk_at dksX5_things_0 19 rfl rfl)
theorem dX5_things_20 : decode cX5_things 20 = .ok (.aload_n 0, 1) := dk_42 (dk_at dksX5_things_0 20 rfl rfl)
theorem dX5_things_21 : decode cX5_things 21 = .ok (.getfield 29, 3) := dk_180 0 29 (dk_at dksX5_things_0 21 rfl rfl)
theorem dX5_things_24 : decode cX5_things 24 = .ok (.aload_n 0, 1) := dk_42 (dk_at dksX5_things_1 0 rfl rfl)
theorem dX5_things_25 : decode cX5_things 25 = .ok (.getfield 117, 3) := dk_180 0 117 (dk_at dksX5_things_1 1 rfl rfl)
theorem dX5_things_28 : decode cX5_things 28 = .ok (.iload_n 3, 1) := dk_29 (dk_at dksX5_things_1 4 rfl rfl)
theorem dX5_things_29 : decode cX5_things 29 = .ok (.iastore, 1) := dk_79 (dk_at dksX5_things_1 5 rfl rfl)
theorem dX5_things_30 : decode cX5_things 30 = .ok (.aload_n 0, 1) := dk_42 (dk_at dksX5_things_1 6 rfl rfl)
theorem dX5_things_31 : decode cX5_things 31 = .ok (.getfield 32, 3) := dk_180 0 32 (dk_at dksX5_things_1 7 rfl rfl)
theorem dX5_things_34 : decode cX5_things 34 = .ok (.aload_n 0, 1) := dk_42 (dk_at dksX5_things_1 10 rfl rfl)
theorem dX5_things_35 : decode cX5_things 35 = .ok (.getfield 117, 3) := dk_180 0 117 (dk_at dksX5_things_1 11 rfl rfl)
theorem dX5_things_38 : decode cX5_things 38 = .ok (.iload 4, 2) := dk_21 4 (dk_at dksX5_things_1 14 rfl rfl)
theorem dX5_things_40 : decode cX5_things 40 = .ok (.iastore, 1) := dk_79 (dk_at dksX5_things_1 16 rfl rfl)
theorem dX5_things_41 : decode cX5_things 41 = .ok (.aload_n 0, 1) := dk_42 (dk_at dksX5_things_1 17 rfl rfl)
theorem dX5_things_42 : decode cX5_things 42 = .ok (.getfield 35, 3) := dk_180 0 35 (dk_at dksX5_things_1 18 rfl rfl)
theorem dX5_things_45 : decode cX5_things 45 = .ok (.aload_n 0, 1) := dk_42 (dk_at dksX5_things_1 21 rfl rfl)
theorem dX5_things_46 : decode cX5_things 46 = .ok (.getfield 117, 3) := dk_180 0 117 (dk_at dksX5_things_2 0 rfl rfl)
theorem dX5_things_49 : decode cX5_things 49 = .ok (.iconst (-1), 1) := dk_2 (dk_at dksX5_things_2 3 rfl rfl)
theorem dX5_things_50 : decode cX5_things 50 = .ok (.iastore, 1) := dk_79 (dk_at dksX5_things_2 4 rfl rfl)
theorem dX5_things_51 : decode cX5_things 51 = .ok (.aload_n 0, 1) := dk_42 (dk_at dksX5_things_2 5 rfl rfl)
theorem dX5_things_52 : decode cX5_things 52 = .ok (.getfield 38, 3) := dk_180 0 38 (dk_at dksX5_things_2 6 rfl rfl)
theorem dX5_things_55 : decode cX5_things 55 = .ok (.aload_n 0, 1) := dk_42 (dk_at dksX5_things_2 9 rfl rfl)
theorem dX5_things_56 : decode cX5_things 56 = .ok (.getfield 117, 3) := dk_180 0 117 (dk_at dksX5_things_2 10 rfl rfl)
theorem dX5_things_59 : decode cX5_things 59 = .ok (.iconst 0, 1) := dk_3 (dk_at dksX5_things_2 13 rfl rfl)
theorem dX5_things_60 : decode cX5_things 60 = .ok (.iastore, 1) := dk_79 (dk_at dksX5_things_2 14 rfl rfl)
theorem dX5_things_61 : decode cX5_things 61 = .ok (.aload_n 0, 1) := dk_42 (dk_at dksX5_things_2 15 rfl rfl)
theorem dX5_things_62 : decode cX5_things 62 = .ok (.dup, 1) := dk_89 (dk_at dksX5_things_2 16 rfl rfl)
theorem dX5_things_63 : decode cX5_things 63 = .ok (.getfield 117, 3) := dk_180 0 117 (dk_at dksX5_things_2 17 rfl rfl)
theorem dX5_things_66 : decode cX5_things 66 = .ok (.dup_x1, 1) := dk_90 (dk_at dksX5_things_2 20 rfl rfl)
theorem dX5_things_67 : decode cX5_things 67 = .ok (.iconst 1, 1) := dk_4 (dk_at dksX5_things_2 21 rfl rfl)
theorem dX5_things_68 : decode cX5_things 68 = .ok (.iadd, 1) := dk_96 (dk_at dksX5_things_2 22 rfl rfl)
theorem dX5_things_69 : decode cX5_things 69 = .ok (.putfield 117, 3) := dk_181 0 117 (dk_at dksX5_things_3 0 rfl rfl)
theorem dX5_things_72 : decode cX5_things 72 = .ok (.ireturn, 1) := dk_172 (dk_at dksX5_things_3 3 rfl rfl)
abbrev cX5_man : ByteArray := prog_22_method_22_code
def yX5_man : MethodName := ⟨RX5, "man", "(I)I"⟩
def dkwX5_man_1 : List UInt8 := [160, 0, 12, 42, 16, 249, 182, 0, 136, 167, 0, 8, 42, 27, 182, 0, 153, 172]
abbrev dktX5_man_1 : List UInt8 := dkwX5_man_1 ++ []
def dkwX5_man_0 : List UInt8 := [27, 4, 161, 0, 9, 27, 16, 99, 164, 0, 10, 42, 16, 250, 182, 0, 136, 172, 42, 180, 0, 120, 16, 8]
abbrev dktX5_man_0 : List UInt8 := dkwX5_man_0 ++ dktX5_man_1
theorem dksX5_man_0 : cX5_man.data.toList.drop 0 = dktX5_man_0 := by decide +kernel
theorem dksX5_man_1 : cX5_man.data.toList.drop 24 = dktX5_man_1 := dk_seg dksX5_man_0 24 rfl rfl
theorem dX5_man_0 : decode cX5_man 0 = .ok (.iload_n 1, 1) := dk_27 (dk_at dksX5_man_0 0 rfl rfl)
theorem dX5_man_1 : decode cX5_man 1 = .ok (.iconst 1, 1) := dk_4 (dk_at dksX5_man_0 1 rfl rfl)
theorem dX5_man_2 : decode cX5_man 2 = .ok (.if_icmp .lt 9, 3) := dk_161 0 9 (dk_at dksX5_man_0 2 rfl rfl)
theorem dX5_man_5 : decode cX5_man 5 = .ok (.iload_n 1, 1) := dk_27 (dk_at dksX5_man_0 5 rfl rfl)
theorem dX5_man_6 : decode cX5_man 6 = .ok (.bipush 99, 2) := dk_16 99 (dk_at dksX5_man_0 6 rfl rfl)
theorem dX5_man_8 : decode cX5_man 8 = .ok (.if_icmp .le 10, 3) := dk_164 0 10 (dk_at dksX5_man_0 8 rfl rfl)
theorem dX5_man_11 : decode cX5_man 11 = .ok (.aload_n 0, 1) := dk_42 (dk_at dksX5_man_0 11 rfl rfl)
theorem dX5_man_12 : decode cX5_man 12 = .ok (.bipush (-6), 2) := dk_16 250 (dk_at dksX5_man_0 12 rfl rfl)
theorem dX5_man_14 : decode cX5_man 14 = .ok (.invokevirtual 136, 3) := dk_182 0 136 (dk_at dksX5_man_0 14 rfl rfl)
theorem dX5_man_17 : decode cX5_man 17 = .ok (.ireturn, 1) := dk_172 (dk_at dksX5_man_0 17 rfl rfl)
theorem dX5_man_18 : decode cX5_man 18 = .ok (.aload_n 0, 1) := dk_42 (dk_at dksX5_man_0 18 rfl rfl)
theorem dX5_man_19 : decode cX5_man 19 = .ok (.getfield 120, 3) := dk_180 0 120 (dk_at dksX5_man_0 19 rfl rfl)
theorem dX5_man_22 : decode cX5_man 22 = .ok (.bipush 8, 2) := dk_16 8 (dk_at dksX5_man_0 22 rfl rfl)
theorem dX5_man_24 : decode cX5_man 24 = .ok (.if_icmp .ne 12, 3) := dk_160 0 12 (dk_at dksX5_man_1 0 rfl rfl)
theorem dX5_man_27 : decode cX5_man 27 = .ok (.aload_n 0, 1) := dk_42 (dk_at dksX5_man_1 3 rfl rfl)
theorem dX5_man_28 : decode cX5_man 28 = .ok (.bipush (-7), 2) := dk_16 249 (dk_at dksX5_man_1 4 rfl rfl)
theorem dX5_man_30 : decode cX5_man 30 = .ok (.invokevirtual 136, 3) := dk_182 0 136 (dk_at dksX5_man_1 6 rfl rfl)
theorem dX5_man_33 : decode cX5_man 33 = .ok (.goto 8, 3) := dk_167 0 8 (dk_at dksX5_man_1 9 rfl rfl)
theorem dX5_man_36 : decode cX5_man 36 = .ok (.aload_n 0, 1) := dk_42 (dk_at dksX5_man_1 12 rfl rfl)
theorem dX5_man_37 : decode cX5_man 37 = .ok (.iload_n 1, 1) := dk_27 (dk_at dksX5_man_1 13 rfl rfl)
theorem dX5_man_38 : decode cX5_man 38 = .ok (.invokevirtual 153, 3) := dk_182 0 153 (dk_at dksX5_man_1 14 rfl rfl)
theorem dX5_man_41 : decode cX5_man 41 = .ok (.ireturn, 1) := dk_172 (dk_at dksX5_man_1 17 rfl rfl)
abbrev cX5_men : ByteArray := prog_22_method_21_code
def yX5_men : MethodName := ⟨RX5, "men", "(I)I"⟩
def dkwX5_men_1 : List UInt8 := [180, 0, 120, 90, 4, 96, 181, 0, 120, 172]
abbrev dktX5_men_1 : List UInt8 := dkwX5_men_1 ++ []
def dkwX5_men_0 : List UInt8 := [42, 180, 0, 41, 42, 180, 0, 120, 27, 79, 42, 180, 0, 44, 42, 180, 0, 120, 3, 79, 42, 89]
abbrev dktX5_men_0 : List UInt8 := dkwX5_men_0 ++ dktX5_men_1
theorem dksX5_men_0 : cX5_men.data.toList.drop 0 = dktX5_men_0 := by decide +kernel
theorem dksX5_men_1 : cX5_men.data.toList.drop 22 = dktX5_men_1 := dk_seg dksX5_men_0 22 rfl rfl
theorem dX5_men_0 : decode cX5_men 0 = .ok (.aload_n 0, 1) := dk_42 (dk_at dksX5_men_0 0 rfl rfl)
theorem dX5_men_1 : decode cX5_men 1 = .ok (.getfield 41, 3) := dk_180 0 41 (dk_at dksX5_men_0 1 rfl rfl)
theorem dX5_men_4 : decode cX5_men 4 = .ok (.aload_n 0, 1) := dk_42 (dk_at dksX5_men_0 4 rfl rfl)
theorem dX5_men_5 : decode cX5_men 5 = .ok (.getfield 120, 3) := dk_180 0 120 (dk_at dksX5_men_0 5 rfl rfl)
theorem dX5_men_8 : decode cX5_men 8 = .ok (.iload_n 1, 1) := dk_27 (dk_at dksX5_men_0 8 rfl rfl)
theorem dX5_men_9 : decode cX5_men 9 = .ok (.iastore, 1) := dk_79 (dk_at dksX5_men_0 9 rfl rfl)
theorem dX5_men_10 : decode cX5_men 10 = .ok (.aload_n 0, 1) := dk_42 (dk_at dksX5_men_0 10 rfl rfl)
theorem dX5_men_11 : decode cX5_men 11 = .ok (.getfield 44, 3) := dk_180 0 44 (dk_at dksX5_men_0 11 rfl rfl)
theorem dX5_men_14 : decode cX5_men 14 = .ok (.aload_n 0, 1) := dk_42 (dk_at dksX5_men_0 14 rfl rfl)
theorem dX5_men_15 : decode cX5_men 15 = .ok (.getfield 120, 3) := dk_180 0 120 (dk_at dksX5_men_0 15 rfl rfl)
theorem dX5_men_18 : decode cX5_men 18 = .ok (.iconst 0, 1) := dk_3 (dk_at dksX5_men_0 18 rfl rfl)
theorem dX5_men_19 : decode cX5_men 19 = .ok (.iastore, 1) := dk_79 (dk_at dksX5_men_0 19 rfl rfl)
theorem dX5_men_20 : decode cX5_men 20 = .ok (.aload_n 0, 1) := dk_42 (dk_at dksX5_men_0 20 rfl rfl)
theorem dX5_men_21 : decode cX5_men 21 = .ok (.dup, 1) := dk_89 (dk_at dksX5_men_0 21 rfl rfl)
theorem dX5_men_22 : decode cX5_men 22 = .ok (.getfield 120, 3) := dk_180 0 120 (dk_at dksX5_men_1 0 rfl rfl)
theorem dX5_men_25 : decode cX5_men 25 = .ok (.dup_x1, 1) := dk_90 (dk_at dksX5_men_1 3 rfl rfl)
theorem dX5_men_26 : decode cX5_men 26 = .ok (.iconst 1, 1) := dk_4 (dk_at dksX5_men_1 4 rfl rfl)
theorem dX5_men_27 : decode cX5_men 27 = .ok (.iadd, 1) := dk_96 (dk_at dksX5_men_1 5 rfl rfl)
theorem dX5_men_28 : decode cX5_men 28 = .ok (.putfield 120, 3) := dk_181 0 120 (dk_at dksX5_men_1 6 rfl rfl)
theorem dX5_men_31 : decode cX5_men 31 = .ok (.ireturn, 1) := dk_172 (dk_at dksX5_men_1 9 rfl rfl)
abbrev cX5_men_2 : ByteArray := prog_22_method_23_code
def yX5_men_2 : MethodName := ⟨RX5, "men", "(III)I"⟩
def dkwX5_men_2_4 : List UInt8 := [21, 5, 172, 42, 21, 6, 182, 0, 153, 87, 132, 5, 1, 167, 255, 204, 29, 172]
abbrev dktX5_men_2_4 : List UInt8 := dkwX5_men_2_4 ++ []
def dkwX5_men_2_3 : List UInt8 := [54, 6, 42, 180, 0, 120, 16, 8, 159, 0, 16, 21, 6, 4, 161, 0, 10, 21, 6, 16, 99, 164, 0, 6]
abbrev dktX5_men_2_3 : List UInt8 := dkwX5_men_2_3 ++ dktX5_men_2_4
def dkwX5_men_2_2 : List UInt8 := [16, 251, 182, 0, 136, 172, 3, 54, 5, 21, 5, 29, 162, 0, 52, 42, 27, 28, 21, 5, 96, 182, 0, 159]
abbrev dktX5_men_2_2 : List UInt8 := dkwX5_men_2_2 ++ dktX5_men_2_3
def dkwX5_men_2_1 : List UInt8 := [16, 252, 182, 0, 136, 172, 28, 155, 0, 15, 28, 42, 180, 0, 62, 27, 46, 29, 100, 164, 0, 10, 42]
abbrev dktX5_men_2_1 : List UInt8 := dkwX5_men_2_1 ++ dktX5_men_2_2
def dkwX5_men_2_0 : List UInt8 := [42, 27, 182, 0, 156, 54, 4, 21, 4, 153, 0, 10, 42, 21, 4, 182, 0, 136, 172, 29, 156, 0, 10, 42]
abbrev dktX5_men_2_0 : List UInt8 := dkwX5_men_2_0 ++ dktX5_men_2_1
theorem dksX5_men_2_0 : cX5_men_2.data.toList.drop 0 = dktX5_men_2_0 := by decide +kernel
theorem dksX5_men_2_1 : cX5_men_2.data.toList.drop 24 = dktX5_men_2_1 := dk_seg dksX5_men_2_0 24 rfl rfl
theorem dksX5_men_2_2 : cX5_men_2.data.toList.drop 47 = dktX5_men_2_2 := dk_seg dksX5_men_2_1 23 rfl rfl
theorem dksX5_men_2_3 : cX5_men_2.data.toList.drop 71 = dktX5_men_2_3 := dk_seg dksX5_men_2_2 24 rfl rfl
theorem dksX5_men_2_4 : cX5_men_2.data.toList.drop 95 = dktX5_men_2_4 := dk_seg dksX5_men_2_3 24 rfl rfl
theorem dX5_men_2_0 : decode cX5_men_2 0 = .ok (.aload_n 0, 1) := dk_42 (dk_at dksX5_men_2_0 0 rfl rfl)
theorem dX5_men_2_1 : decode cX5_men_2 1 = .ok (.iload_n 1, 1) := dk_27 (dk_at dksX5_men_2_0 1 rfl rfl)
theorem dX5_men_2_2 : decode cX5_men_2 2 = .ok (.invokevirtual 156, 3) := dk_182 0 156 (dk_at dksX5_men_2_0 2 rfl rfl)
theorem dX5_men_2_5 : decode cX5_men_2 5 = .ok (.istore 4, 2) := dk_54 4 (dk_at dksX5_men_2_0 5 rfl rfl)
theorem dX5_men_2_7 : decode cX5_men_2 7 = .ok (.iload 4, 2) := dk_21 4 (dk_at dksX5_men_2_0 7 rfl rfl)
theorem dX5_men_2_9 : decode cX5_men_2 9 = .ok (.ifCond .eq 10, 3) := dk_153 0 10 (dk_at dksX5_men_2_0 9 rfl rfl)
theorem dX5_men_2_12 : decode cX5_men_2 12 = .ok (.aload_n 0, 1) := dk_42 (dk_at dksX5_men_2_0 12 rfl rfl)
theorem dX5_men_2_13 : decode cX5_men_2 13 = .ok (.iload 4, 2) := dk_21 4 (dk_at dksX5_men_2_0 13 rfl rfl)
theorem dX5_men_2_15 : decode cX5_men_2 15 = .ok (.invokevirtual 136, 3) := dk_182 0 136 (dk_at dksX5_men_2_0 15 rfl rfl)
theorem dX5_men_2_18 : decode cX5_men_2 18 = .ok (.ireturn, 1) := dk_172 (dk_at dksX5_men_2_0 18 rfl rfl)
theorem dX5_men_2_19 : decode cX5_men_2 19 = .ok (.iload_n 3, 1) := dk_29 (dk_at dksX5_men_2_0 19 rfl rfl)
theorem dX5_men_2_20 : decode cX5_men_2 20 = .ok (.ifCond .ge 10, 3) := dk_156 0 10 (dk_at dksX5_men_2_0 20 rfl rfl)
theorem dX5_men_2_23 : decode cX5_men_2 23 = .ok (.aload_n 0, 1) := dk_42 (dk_at dksX5_men_2_0 23 rfl rfl)
theorem dX5_men_2_24 : decode cX5_men_2 24 = .ok (.bipush (-4), 2) := dk_16 252 (dk_at dksX5_men_2_1 0 rfl rfl)
theorem dX5_men_2_26 : decode cX5_men_2 26 = .ok (.invokevirtual 136, 3) := dk_182 0 136 (dk_at dksX5_men_2_1 2 rfl rfl)
theorem dX5_men_2_29 : decode cX5_men_2 29 = .ok (.ireturn, 1) := dk_172 (dk_at dksX5_men_2_1 5 rfl rfl)
theorem dX5_men_2_30 : decode cX5_men_2 30 = .ok (.iload_n 2, 1) := dk_28 (dk_at dksX5_men_2_1 6 rfl rfl)
theorem dX5_men_2_31 : decode cX5_men_2 31 = .ok (.ifCond .lt 15, 3) := dk_155 0 15 (dk_at dksX5_men_2_1 7 rfl rfl)
theorem dX5_men_2_34 : decode cX5_men_2 34 = .ok (.iload_n 2, 1) := dk_28 (dk_at dksX5_men_2_1 10 rfl rfl)
theorem dX5_men_2_35 : decode cX5_men_2 35 = .ok (.aload_n 0, 1) := dk_42 (dk_at dksX5_men_2_1 11 rfl rfl)
theorem dX5_men_2_36 : decode cX5_men_2 36 = .ok (.getfield 62, 3) := dk_180 0 62 (dk_at dksX5_men_2_1 12 rfl rfl)
theorem dX5_men_2_39 : decode cX5_men_2 39 = .ok (.iload_n 1, 1) := dk_27 (dk_at dksX5_men_2_1 15 rfl rfl)
theorem dX5_men_2_40 : decode cX5_men_2 40 = .ok (.iaload, 1) := dk_46 (dk_at dksX5_men_2_1 16 rfl rfl)
theorem dX5_men_2_41 : decode cX5_men_2 41 = .ok (.iload_n 3, 1) := dk_29 (dk_at dksX5_men_2_1 17 rfl rfl)
theorem dX5_men_2_42 : decode cX5_men_2 42 = .ok (.isub, 1) := dk_100 (dk_at dksX5_men_2_1 18 rfl rfl)
theorem dX5_men_2_43 : decode cX5_men_2 43 = .ok (.if_icmp .le 10, 3) := dk_164 0 10 (dk_at dksX5_men_2_1 19 rfl rfl)
theorem dX5_men_2_46 : decode cX5_men_2 46 = .ok (.aload_n 0, 1) := dk_42 (dk_at dksX5_men_2_1 22 rfl rfl)
theorem dX5_men_2_47 : decode cX5_men_2 47 = .ok (.bipush (-5), 2) := dk_16 251 (dk_at dksX5_men_2_2 0 rfl rfl)
theorem dX5_men_2_49 : decode cX5_men_2 49 = .ok (.invokevirtual 136, 3) := dk_182 0 136 (dk_at dksX5_men_2_2 2 rfl rfl)
theorem dX5_men_2_52 : decode cX5_men_2 52 = .ok (.ireturn, 1) := dk_172 (dk_at dksX5_men_2_2 5 rfl rfl)
theorem dX5_men_2_53 : decode cX5_men_2 53 = .ok (.iconst 0, 1) := dk_3 (dk_at dksX5_men_2_2 6 rfl rfl)
theorem dX5_men_2_54 : decode cX5_men_2 54 = .ok (.istore 5, 2) := dk_54 5 (dk_at dksX5_men_2_2 7 rfl rfl)
theorem dX5_men_2_56 : decode cX5_men_2 56 = .ok (.iload 5, 2) := dk_21 5 (dk_at dksX5_men_2_2 9 rfl rfl)
theorem dX5_men_2_58 : decode cX5_men_2 58 = .ok (.iload_n 3, 1) := dk_29 (dk_at dksX5_men_2_2 11 rfl rfl)
theorem dX5_men_2_59 : decode cX5_men_2 59 = .ok (.if_icmp .ge 52, 3) := dk_162 0 52 (dk_at dksX5_men_2_2 12 rfl rfl)
theorem dX5_men_2_62 : decode cX5_men_2 62 = .ok (.aload_n 0, 1) := dk_42 (dk_at dksX5_men_2_2 15 rfl rfl)
theorem dX5_men_2_63 : decode cX5_men_2 63 = .ok (.iload_n 1, 1) := dk_27 (dk_at dksX5_men_2_2 16 rfl rfl)
theorem dX5_men_2_64 : decode cX5_men_2 64 = .ok (.iload_n 2, 1) := dk_28 (dk_at dksX5_men_2_2 17 rfl rfl)
theorem dX5_men_2_65 : decode cX5_men_2 65 = .ok (.iload 5, 2) := dk_21 5 (dk_at dksX5_men_2_2 18 rfl rfl)
theorem dX5_men_2_67 : decode cX5_men_2 67 = .ok (.iadd, 1) := dk_96 (dk_at dksX5_men_2_2 20 rfl rfl)
theorem dX5_men_2_68 : decode cX5_men_2 68 = .ok (.invokevirtual 159, 3) := dk_182 0 159 (dk_at dksX5_men_2_2 21 rfl rfl)
theorem dX5_men_2_71 : decode cX5_men_2 71 = .ok (.istore 6, 2) := dk_54 6 (dk_at dksX5_men_2_3 0 rfl rfl)
theorem dX5_men_2_73 : decode cX5_men_2 73 = .ok (.aload_n 0, 1) := dk_42 (dk_at dksX5_men_2_3 2 rfl rfl)
theorem dX5_men_2_74 : decode cX5_men_2 74 = .ok (.getfield 120, 3) := dk_180 0 120 (dk_at dksX5_men_2_3 3 rfl rfl)
theorem dX5_men_2_77 : decode cX5_men_2 77 = .ok (.bipush 8, 2) := dk_16 8 (dk_at dksX5_men_2_3 6 rfl rfl)
theorem dX5_men_2_79 : decode cX5_men_2 79 = .ok (.if_icmp .eq 16, 3) := dk_159 0 16 (dk_at dksX5_men_2_3 8 rfl rfl)
theorem dX5_men_2_82 : decode cX5_men_2 82 = .ok (.iload 6, 2) := dk_21 6 (dk_at dksX5_men_2_3 11 rfl rfl)
theorem dX5_men_2_84 : decode cX5_men_2 84 = .ok (.iconst 1, 1) := dk_4 (dk_at dksX5_men_2_3 13 rfl rfl)
theorem dX5_men_2_85 : decode cX5_men_2 85 = .ok (.if_icmp .lt 10, 3) := dk_161 0 10 (dk_at dksX5_men_2_3 14 rfl rfl)
theorem dX5_men_2_88 : decode cX5_men_2 88 = .ok (.iload 6, 2) := dk_21 6 (dk_at dksX5_men_2_3 17 rfl rfl)
theorem dX5_men_2_90 : decode cX5_men_2 90 = .ok (.bipush 99, 2) := dk_16 99 (dk_at dksX5_men_2_3 19 rfl rfl)
theorem dX5_men_2_92 : decode cX5_men_2 92 = .ok (.if_icmp .le 6, 3) := dk_164 0 6 (dk_at dksX5_men_2_3 21 rfl rfl)
theorem dX5_men_2_95 : decode cX5_men_2 95 = .ok (.iload 5, 2) := dk_21 5 (dk_at dksX5_men_2_4 0 rfl rfl)
theorem dX5_men_2_97 : decode cX5_men_2 97 = .ok (.ireturn, 1) := dk_172 (dk_at dksX5_men_2_4 2 rfl rfl)
theorem dX5_men_2_98 : decode cX5_men_2 98 = .ok (.aload_n 0, 1) := dk_42 (dk_at dksX5_men_2_4 3 rfl rfl)
theorem dX5_men_2_99 : decode cX5_men_2 99 = .ok (.iload 6, 2) := dk_21 6 (dk_at dksX5_men_2_4 4 rfl rfl)
theorem dX5_men_2_101 : decode cX5_men_2 101 = .ok (.invokevirtual 153, 3) := dk_182 0 153 (dk_at dksX5_men_2_4 6 rfl rfl)
theorem dX5_men_2_104 : decode cX5_men_2 104 = .ok (.pop, 1) := dk_87 (dk_at dksX5_men_2_4 9 rfl rfl)
theorem dX5_men_2_105 : decode cX5_men_2 105 = .ok (.iinc 5 1, 3) := dk_132 5 1 (dk_at dksX5_men_2_4 10 rfl rfl)
theorem dX5_men_2_108 : decode cX5_men_2 108 = .ok (.goto (-52), 3) := dk_167 255 204 (dk_at dksX5_men_2_4 13 rfl rfl)
theorem dX5_men_2_111 : decode cX5_men_2 111 = .ok (.iload_n 3, 1) := dk_29 (dk_at dksX5_men_2_4 16 rfl rfl)
theorem dX5_men_2_112 : decode cX5_men_2 112 = .ok (.ireturn, 1) := dk_172 (dk_at dksX5_men_2_4 17 rfl rfl)
abbrev cX5_wants : ByteArray := prog_22_method_17_code
def yX5_wants : MethodName := ⟨RX5, "wants", "(I)I"⟩
def dkwX5_wants_1 : List UInt8 := [167, 0, 18, 42, 180, 0, 56, 27, 46, 154, 0, 8, 16, 253, 167, 0, 4, 3, 172]
abbrev dktX5_wants_1 : List UInt8 := dkwX5_wants_1 ++ []
def dkwX5_wants_0 : List UInt8 := [42, 27, 182, 0, 133, 154, 0, 7, 2, 167, 0, 33, 42, 180, 0, 56, 27, 46, 5, 160, 0, 8, 16, 254]
abbrev dktX5_wants_0 : List UInt8 := dkwX5_wants_0 ++ dktX5_wants_1
theorem dksX5_wants_0 : cX5_wants.data.toList.drop 0 = dktX5_wants_0 := by decide +kernel
theorem dksX5_wants_1 : cX5_wants.data.toList.drop 24 = dktX5_wants_1 := dk_seg dksX5_wants_0 24 rfl rfl
theorem dX5_wants_0 : decode cX5_wants 0 = .ok (.aload_n 0, 1) := dk_42 (dk_at dksX5_wants_0 0 rfl rfl)
theorem dX5_wants_1 : decode cX5_wants 1 = .ok (.iload_n 1, 1) := dk_27 (dk_at dksX5_wants_0 1 rfl rfl)
theorem dX5_wants_2 : decode cX5_wants 2 = .ok (.invokevirtual 133, 3) := dk_182 0 133 (dk_at dksX5_wants_0 2 rfl rfl)
theorem dX5_wants_5 : decode cX5_wants 5 = .ok (.ifCond .ne 7, 3) := dk_154 0 7 (dk_at dksX5_wants_0 5 rfl rfl)
theorem dX5_wants_8 : decode cX5_wants 8 = .ok (.iconst (-1), 1) := dk_2 (dk_at dksX5_wants_0 8 rfl rfl)
theorem dX5_wants_9 : decode cX5_wants 9 = .ok (.goto 33, 3) := dk_167 0 33 (dk_at dksX5_wants_0 9 rfl rfl)
theorem dX5_wants_12 : decode cX5_wants 12 = .ok (.aload_n 0, 1) := dk_42 (dk_at dksX5_wants_0 12 rfl rfl)
theorem dX5_wants_13 : decode cX5_wants 13 = .ok (.getfield 56, 3) := dk_180 0 56 (dk_at dksX5_wants_0 13 rfl rfl)
theorem dX5_wants_16 : decode cX5_wants 16 = .ok (.iload_n 1, 1) := dk_27 (dk_at dksX5_wants_0 16 rfl rfl)
theorem dX5_wants_17 : decode cX5_wants 17 = .ok (.iaload, 1) := dk_46 (dk_at dksX5_wants_0 17 rfl rfl)
theorem dX5_wants_18 : decode cX5_wants 18 = .ok (.iconst 2, 1) := dk_5 (dk_at dksX5_wants_0 18 rfl rfl)
theorem dX5_wants_19 : decode cX5_wants 19 = .ok (.if_icmp .ne 8, 3) := dk_160 0 8 (dk_at dksX5_wants_0 19 rfl rfl)
theorem dX5_wants_22 : decode cX5_wants 22 = .ok (.bipush (-2), 2) := dk_16 254 (dk_at dksX5_wants_0 22 rfl rfl)
theorem dX5_wants_24 : decode cX5_wants 24 = .ok (.goto 18, 3) := dk_167 0 18 (dk_at dksX5_wants_1 0 rfl rfl)
theorem dX5_wants_27 : decode cX5_wants 27 = .ok (.aload_n 0, 1) := dk_42 (dk_at dksX5_wants_1 3 rfl rfl)
theorem dX5_wants_28 : decode cX5_wants 28 = .ok (.getfield 56, 3) := dk_180 0 56 (dk_at dksX5_wants_1 4 rfl rfl)
theorem dX5_wants_31 : decode cX5_wants 31 = .ok (.iload_n 1, 1) := dk_27 (dk_at dksX5_wants_1 7 rfl rfl)
theorem dX5_wants_32 : decode cX5_wants 32 = .ok (.iaload, 1) := dk_46 (dk_at dksX5_wants_1 8 rfl rfl)
theorem dX5_wants_33 : decode cX5_wants 33 = .ok (.ifCond .ne 8, 3) := dk_154 0 8 (dk_at dksX5_wants_1 9 rfl rfl)
theorem dX5_wants_36 : decode cX5_wants 36 = .ok (.bipush (-3), 2) := dk_16 253 (dk_at dksX5_wants_1 12 rfl rfl)
theorem dX5_wants_38 : decode cX5_wants 38 = .ok (.goto 4, 3) := dk_167 0 4 (dk_at dksX5_wants_1 14 rfl rfl)
theorem dX5_wants_41 : decode cX5_wants 41 = .ok (.iconst 0, 1) := dk_3 (dk_at dksX5_wants_1 17 rfl rfl)
theorem dX5_wants_42 : decode cX5_wants 42 = .ok (.ireturn, 1) := dk_172 (dk_at dksX5_wants_1 18 rfl rfl)
abbrev cX5_intAt : ByteArray := prog_22_method_18_code
def yX5_intAt : MethodName := ⟨RX5, "intAt", "(II)I"⟩
def dkwX5_intAt_0 : List UInt8 := [42, 180, 0, 68, 17, 0, 160, 27, 104, 28, 96, 47, 136, 172]
abbrev dktX5_intAt_0 : List UInt8 := dkwX5_intAt_0 ++ []
theorem dksX5_intAt_0 : cX5_intAt.data.toList.drop 0 = dktX5_intAt_0 := by decide +kernel
theorem dX5_intAt_0 : decode cX5_intAt 0 = .ok (.aload_n 0, 1) := dk_42 (dk_at dksX5_intAt_0 0 rfl rfl)
theorem dX5_intAt_1 : decode cX5_intAt 1 = .ok (.getfield 68, 3) := dk_180 0 68 (dk_at dksX5_intAt_0 1 rfl rfl)
theorem dX5_intAt_4 : decode cX5_intAt 4 = .ok (.sipush 160, 3) := dk_17 0 160 (dk_at dksX5_intAt_0 4 rfl rfl)
theorem dX5_intAt_7 : decode cX5_intAt 7 = .ok (.iload_n 1, 1) := dk_27 (dk_at dksX5_intAt_0 7 rfl rfl)
theorem dX5_intAt_8 : decode cX5_intAt 8 = .ok (.imul, 1) := dk_104 (dk_at dksX5_intAt_0 8 rfl rfl)
theorem dX5_intAt_9 : decode cX5_intAt 9 = .ok (.iload_n 2, 1) := dk_28 (dk_at dksX5_intAt_0 9 rfl rfl)
theorem dX5_intAt_10 : decode cX5_intAt 10 = .ok (.iadd, 1) := dk_96 (dk_at dksX5_intAt_0 10 rfl rfl)
theorem dX5_intAt_11 : decode cX5_intAt 11 = .ok (.laload, 1) := dk_47 (dk_at dksX5_intAt_0 11 rfl rfl)
theorem dX5_intAt_12 : decode cX5_intAt 12 = .ok (.l2i, 1) := dk_136 (dk_at dksX5_intAt_0 12 rfl rfl)
theorem dX5_intAt_13 : decode cX5_intAt 13 = .ok (.ireturn, 1) := dk_172 (dk_at dksX5_intAt_0 13 rfl rfl)
abbrev cX5_want : ByteArray := prog_22_method_25_code
def yX5_want : MethodName := ⟨RX5, "want", "(III)I"⟩
def dkwX5_want_2 : List UInt8 := [42, 16, 249, 182, 0, 136, 167, 0, 10, 42, 27, 28, 29, 182, 0, 164, 172]
abbrev dktX5_want_2 : List UInt8 := dkwX5_want_2 ++ []
def dkwX5_want_1 : List UInt8 := [155, 0, 9, 29, 16, 99, 164, 0, 10, 42, 16, 250, 182, 0, 136, 172, 42, 180, 0, 162, 7, 160, 0, 12]
abbrev dktX5_want_1 : List UInt8 := dkwX5_want_1 ++ dktX5_want_2
def dkwX5_want_0 : List UInt8 := [42, 27, 182, 0, 140, 154, 0, 9, 42, 2, 182, 0, 136, 172, 42, 28, 182, 0, 147, 153, 0, 13, 29]
abbrev dktX5_want_0 : List UInt8 := dkwX5_want_0 ++ dktX5_want_1
theorem dksX5_want_0 : cX5_want.data.toList.drop 0 = dktX5_want_0 := by decide +kernel
theorem dksX5_want_1 : cX5_want.data.toList.drop 23 = dktX5_want_1 := dk_seg dksX5_want_0 23 rfl rfl
theorem dksX5_want_2 : cX5_want.data.toList.drop 47 = dktX5_want_2 := dk_seg dksX5_want_1 24 rfl rfl
theorem dX5_want_0 : decode cX5_want 0 = .ok (.aload_n 0, 1) := dk_42 (dk_at dksX5_want_0 0 rfl rfl)
theorem dX5_want_1 : decode cX5_want 1 = .ok (.iload_n 1, 1) := dk_27 (dk_at dksX5_want_0 1 rfl rfl)
theorem dX5_want_2 : decode cX5_want 2 = .ok (.invokevirtual 140, 3) := dk_182 0 140 (dk_at dksX5_want_0 2 rfl rfl)
theorem dX5_want_5 : decode cX5_want 5 = .ok (.ifCond .ne 9, 3) := dk_154 0 9 (dk_at dksX5_want_0 5 rfl rfl)
theorem dX5_want_8 : decode cX5_want 8 = .ok (.aload_n 0, 1) := dk_42 (dk_at dksX5_want_0 8 rfl rfl)
theorem dX5_want_9 : decode cX5_want 9 = .ok (.iconst (-1), 1) := dk_2 (dk_at dksX5_want_0 9 rfl rfl)
theorem dX5_want_10 : decode cX5_want 10 = .ok (.invokevirtual 136, 3) := dk_182 0 136 (dk_at dksX5_want_0 10 rfl rfl)
theorem dX5_want_13 : decode cX5_want 13 = .ok (.ireturn, 1) := dk_172 (dk_at dksX5_want_0 13 rfl rfl)
theorem dX5_want_14 : decode cX5_want 14 = .ok (.aload_n 0, 1) := dk_42 (dk_at dksX5_want_0 14 rfl rfl)
theorem dX5_want_15 : decode cX5_want 15 = .ok (.iload_n 2, 1) := dk_28 (dk_at dksX5_want_0 15 rfl rfl)
theorem dX5_want_16 : decode cX5_want 16 = .ok (.invokevirtual 147, 3) := dk_182 0 147 (dk_at dksX5_want_0 16 rfl rfl)
theorem dX5_want_19 : decode cX5_want 19 = .ok (.ifCond .eq 13, 3) := dk_153 0 13 (dk_at dksX5_want_0 19 rfl rfl)
theorem dX5_want_22 : decode cX5_want 22 = .ok (.iload_n 3, 1) := dk_29 (dk_at dksX5_want_0 22 rfl rfl)
theorem dX5_want_23 : decode cX5_want 23 = .ok (.ifCond .lt 9, 3) := dk_155 0 9 (dk_at dksX5_want_1 0 rfl rfl)
theorem dX5_want_26 : decode cX5_want 26 = .ok (.iload_n 3, 1) := dk_29 (dk_at dksX5_want_1 3 rfl rfl)
theorem dX5_want_27 : decode cX5_want 27 = .ok (.bipush 99, 2) := dk_16 99 (dk_at dksX5_want_1 4 rfl rfl)
theorem dX5_want_29 : decode cX5_want 29 = .ok (.if_icmp .le 10, 3) := dk_164 0 10 (dk_at dksX5_want_1 6 rfl rfl)
theorem dX5_want_32 : decode cX5_want 32 = .ok (.aload_n 0, 1) := dk_42 (dk_at dksX5_want_1 9 rfl rfl)
theorem dX5_want_33 : decode cX5_want 33 = .ok (.bipush (-6), 2) := dk_16 250 (dk_at dksX5_want_1 10 rfl rfl)
theorem dX5_want_35 : decode cX5_want 35 = .ok (.invokevirtual 136, 3) := dk_182 0 136 (dk_at dksX5_want_1 12 rfl rfl)
theorem dX5_want_38 : decode cX5_want 38 = .ok (.ireturn, 1) := dk_172 (dk_at dksX5_want_1 15 rfl rfl)
theorem dX5_want_39 : decode cX5_want 39 = .ok (.aload_n 0, 1) := dk_42 (dk_at dksX5_want_1 16 rfl rfl)
theorem dX5_want_40 : decode cX5_want 40 = .ok (.getfield 162, 3) := dk_180 0 162 (dk_at dksX5_want_1 17 rfl rfl)
theorem dX5_want_43 : decode cX5_want 43 = .ok (.iconst 4, 1) := dk_7 (dk_at dksX5_want_1 20 rfl rfl)
theorem dX5_want_44 : decode cX5_want 44 = .ok (.if_icmp .ne 12, 3) := dk_160 0 12 (dk_at dksX5_want_1 21 rfl rfl)
theorem dX5_want_47 : decode cX5_want 47 = .ok (.aload_n 0, 1) := dk_42 (dk_at dksX5_want_2 0 rfl rfl)
theorem dX5_want_48 : decode cX5_want 48 = .ok (.bipush (-7), 2) := dk_16 249 (dk_at dksX5_want_2 1 rfl rfl)
theorem dX5_want_50 : decode cX5_want 50 = .ok (.invokevirtual 136, 3) := dk_182 0 136 (dk_at dksX5_want_2 3 rfl rfl)
theorem dX5_want_53 : decode cX5_want 53 = .ok (.goto 10, 3) := dk_167 0 10 (dk_at dksX5_want_2 6 rfl rfl)
theorem dX5_want_56 : decode cX5_want 56 = .ok (.aload_n 0, 1) := dk_42 (dk_at dksX5_want_2 9 rfl rfl)
theorem dX5_want_57 : decode cX5_want 57 = .ok (.iload_n 1, 1) := dk_27 (dk_at dksX5_want_2 10 rfl rfl)
theorem dX5_want_58 : decode cX5_want 58 = .ok (.iload_n 2, 1) := dk_28 (dk_at dksX5_want_2 11 rfl rfl)
theorem dX5_want_59 : decode cX5_want 59 = .ok (.iload_n 3, 1) := dk_29 (dk_at dksX5_want_2 12 rfl rfl)
theorem dX5_want_60 : decode cX5_want 60 = .ok (.invokevirtual 164, 3) := dk_182 0 164 (dk_at dksX5_want_2 13 rfl rfl)
theorem dX5_want_63 : decode cX5_want 63 = .ok (.ireturn, 1) := dk_172 (dk_at dksX5_want_2 16 rfl rfl)
abbrev cX5_wanted : ByteArray := prog_22_method_24_code
def yX5_wanted : MethodName := ⟨RX5, "wanted", "(III)I"⟩
def dkwX5_wanted_1 : List UInt8 := [42, 180, 0, 162, 29, 79, 42, 89, 180, 0, 162, 90, 4, 96, 181, 0, 162, 172]
abbrev dktX5_wanted_1 : List UInt8 := dkwX5_wanted_1 ++ []
def dkwX5_wanted_0 : List UInt8 := [42, 180, 0, 47, 42, 180, 0, 162, 27, 79, 42, 180, 0, 50, 42, 180, 0, 162, 28, 79, 42, 180, 0, 53]
abbrev dktX5_wanted_0 : List UInt8 := dkwX5_wanted_0 ++ dktX5_wanted_1
theorem dksX5_wanted_0 : cX5_wanted.data.toList.drop 0 = dktX5_wanted_0 := by decide +kernel
theorem dksX5_wanted_1 : cX5_wanted.data.toList.drop 24 = dktX5_wanted_1 := dk_seg dksX5_wanted_0 24 rfl rfl
theorem dX5_wanted_0 : decode cX5_wanted 0 = .ok (.aload_n 0, 1) := dk_42 (dk_at dksX5_wanted_0 0 rfl rfl)
theorem dX5_wanted_1 : decode cX5_wanted 1 = .ok (.getfield 47, 3) := dk_180 0 47 (dk_at dksX5_wanted_0 1 rfl rfl)
theorem dX5_wanted_4 : decode cX5_wanted 4 = .ok (.aload_n 0, 1) := dk_42 (dk_at dksX5_wanted_0 4 rfl rfl)
theorem dX5_wanted_5 : decode cX5_wanted 5 = .ok (.getfield 162, 3) := dk_180 0 162 (dk_at dksX5_wanted_0 5 rfl rfl)
theorem dX5_wanted_8 : decode cX5_wanted 8 = .ok (.iload_n 1, 1) := dk_27 (dk_at dksX5_wanted_0 8 rfl rfl)
theorem dX5_wanted_9 : decode cX5_wanted 9 = .ok (.iastore, 1) := dk_79 (dk_at dksX5_wanted_0 9 rfl rfl)
theorem dX5_wanted_10 : decode cX5_wanted 10 = .ok (.aload_n 0, 1) := dk_42 (dk_at dksX5_wanted_0 10 rfl rfl)
theorem dX5_wanted_11 : decode cX5_wanted 11 = .ok (.getfield 50, 3) := dk_180 0 50 (dk_at dksX5_wanted_0 11 rfl rfl)
theorem dX5_wanted_14 : decode cX5_wanted 14 = .ok (.aload_n 0, 1) := dk_42 (dk_at dksX5_wanted_0 14 rfl rfl)
theorem dX5_wanted_15 : decode cX5_wanted 15 = .ok (.getfield 162, 3) := dk_180 0 162 (dk_at dksX5_wanted_0 15 rfl rfl)
theorem dX5_wanted_18 : decode cX5_wanted 18 = .ok (.iload_n 2, 1) := dk_28 (dk_at dksX5_wanted_0 18 rfl rfl)
theorem dX5_wanted_19 : decode cX5_wanted 19 = .ok (.iastore, 1) := dk_79 (dk_at dksX5_wanted_0 19 rfl rfl)
theorem dX5_wanted_20 : decode cX5_wanted 20 = .ok (.aload_n 0, 1) := dk_42 (dk_at dksX5_wanted_0 20 rfl rfl)
theorem dX5_wanted_21 : decode cX5_wanted 21 = .ok (.getfield 53, 3) := dk_180 0 53 (dk_at dksX5_wanted_0 21 rfl rfl)
theorem dX5_wanted_24 : decode cX5_wanted 24 = .ok (.aload_n 0, 1) := dk_42 (dk_at dksX5_wanted_1 0 rfl rfl)
theorem dX5_wanted_25 : decode cX5_wanted 25 = .ok (.getfield 162, 3) := dk_180 0 162 (dk_at dksX5_wanted_1 1 rfl rfl)
theorem dX5_wanted_28 : decode cX5_wanted 28 = .ok (.iload_n 3, 1) := dk_29 (dk_at dksX5_wanted_1 4 rfl rfl)
theorem dX5_wanted_29 : decode cX5_wanted 29 = .ok (.iastore, 1) := dk_79 (dk_at dksX5_wanted_1 5 rfl rfl)
theorem dX5_wanted_30 : decode cX5_wanted 30 = .ok (.aload_n 0, 1) := dk_42 (dk_at dksX5_wanted_1 6 rfl rfl)
theorem dX5_wanted_31 : decode cX5_wanted 31 = .ok (.dup, 1) := dk_89 (dk_at dksX5_wanted_1 7 rfl rfl)
theorem dX5_wanted_32 : decode cX5_wanted 32 = .ok (.getfield 162, 3) := dk_180 0 162 (dk_at dksX5_wanted_1 8 rfl rfl)
theorem dX5_wanted_35 : decode cX5_wanted 35 = .ok (.dup_x1, 1) := dk_90 (dk_at dksX5_wanted_1 11 rfl rfl)
theorem dX5_wanted_36 : decode cX5_wanted 36 = .ok (.iconst 1, 1) := dk_4 (dk_at dksX5_wanted_1 12 rfl rfl)
theorem dX5_wanted_37 : decode cX5_wanted 37 = .ok (.iadd, 1) := dk_96 (dk_at dksX5_wanted_1 13 rfl rfl)
theorem dX5_wanted_38 : decode cX5_wanted 38 = .ok (.putfield 162, 3) := dk_181 0 162 (dk_at dksX5_wanted_1 14 rfl rfl)
theorem dX5_wanted_41 : decode cX5_wanted 41 = .ok (.ireturn, 1) := dk_172 (dk_at dksX5_wanted_1 17 rfl rfl)
abbrev cX5_ask : ByteArray := prog_22_method_28_code
def yX5_ask : MethodName := ⟨RX5, "ask", "(II)I"⟩
def dkwX5_ask_2 : List UInt8 := [28, 181, 0, 171, 167, 0, 10, 42, 16, 250, 182, 0, 136, 172, 29, 172]
abbrev dktX5_ask_2 : List UInt8 := dkwX5_ask_2 ++ []
def dkwX5_ask_1 : List UInt8 := [167, 0, 38, 27, 4, 160, 0, 26, 28, 155, 0, 22, 28, 16, 9, 163, 0, 16, 42, 180, 0, 171, 62, 42]
abbrev dktX5_ask_1 : List UInt8 := dkwX5_ask_1 ++ dktX5_ask_2
def dkwX5_ask_0 : List UInt8 := [27, 154, 0, 24, 42, 28, 182, 0, 168, 153, 0, 16, 42, 180, 0, 7, 62, 42, 28, 181, 0, 7]
abbrev dktX5_ask_0 : List UInt8 := dkwX5_ask_0 ++ dktX5_ask_1
theorem dksX5_ask_0 : cX5_ask.data.toList.drop 0 = dktX5_ask_0 := by decide +kernel
theorem dksX5_ask_1 : cX5_ask.data.toList.drop 22 = dktX5_ask_1 := dk_seg dksX5_ask_0 22 rfl rfl
theorem dksX5_ask_2 : cX5_ask.data.toList.drop 46 = dktX5_ask_2 := dk_seg dksX5_ask_1 24 rfl rfl
theorem dX5_ask_0 : decode cX5_ask 0 = .ok (.iload_n 1, 1) := dk_27 (dk_at dksX5_ask_0 0 rfl rfl)
theorem dX5_ask_1 : decode cX5_ask 1 = .ok (.ifCond .ne 24, 3) := dk_154 0 24 (dk_at dksX5_ask_0 1 rfl rfl)
theorem dX5_ask_4 : decode cX5_ask 4 = .ok (.aload_n 0, 1) := dk_42 (dk_at dksX5_ask_0 4 rfl rfl)
theorem dX5_ask_5 : decode cX5_ask 5 = .ok (.iload_n 2, 1) := dk_28 (dk_at dksX5_ask_0 5 rfl rfl)
theorem dX5_ask_6 : decode cX5_ask 6 = .ok (.invokevirtual 168, 3) := dk_182 0 168 (dk_at dksX5_ask_0 6 rfl rfl)
theorem dX5_ask_9 : decode cX5_ask 9 = .ok (.ifCond .eq 16, 3) := dk_153 0 16 (dk_at dksX5_ask_0 9 rfl rfl)
theorem dX5_ask_12 : decode cX5_ask 12 = .ok (.aload_n 0, 1) := dk_42 (dk_at dksX5_ask_0 12 rfl rfl)
theorem dX5_ask_13 : decode cX5_ask 13 = .ok (.getfield 7, 3) := dk_180 0 7 (dk_at dksX5_ask_0 13 rfl rfl)
theorem dX5_ask_16 : decode cX5_ask 16 = .ok (.istore_n 3, 1) := dk_62 (dk_at dksX5_ask_0 16 rfl rfl)
theorem dX5_ask_17 : decode cX5_ask 17 = .ok (.aload_n 0, 1) := dk_42 (dk_at dksX5_ask_0 17 rfl rfl)
theorem dX5_ask_18 : decode cX5_ask 18 = .ok (.iload_n 2, 1) := dk_28 (dk_at dksX5_ask_0 18 rfl rfl)
theorem dX5_ask_19 : decode cX5_ask 19 = .ok (.putfield 7, 3) := dk_181 0 7 (dk_at dksX5_ask_0 19 rfl rfl)
theorem dX5_ask_22 : decode cX5_ask 22 = .ok (.goto 38, 3) := dk_167 0 38 (dk_at dksX5_ask_1 0 rfl rfl)
theorem dX5_ask_25 : decode cX5_ask 25 = .ok (.iload_n 1, 1) := dk_27 (dk_at dksX5_ask_1 3 rfl rfl)
theorem dX5_ask_26 : decode cX5_ask 26 = .ok (.iconst 1, 1) := dk_4 (dk_at dksX5_ask_1 4 rfl rfl)
theorem dX5_ask_27 : decode cX5_ask 27 = .ok (.if_icmp .ne 26, 3) := dk_160 0 26 (dk_at dksX5_ask_1 5 rfl rfl)
theorem dX5_ask_30 : decode cX5_ask 30 = .ok (.iload_n 2, 1) := dk_28 (dk_at dksX5_ask_1 8 rfl rfl)
theorem dX5_ask_31 : decode cX5_ask 31 = .ok (.ifCond .lt 22, 3) := dk_155 0 22 (dk_at dksX5_ask_1 9 rfl rfl)
theorem dX5_ask_34 : decode cX5_ask 34 = .ok (.iload_n 2, 1) := dk_28 (dk_at dksX5_ask_1 12 rfl rfl)
theorem dX5_ask_35 : decode cX5_ask 35 = .ok (.bipush 9, 2) := dk_16 9 (dk_at dksX5_ask_1 13 rfl rfl)
theorem dX5_ask_37 : decode cX5_ask 37 = .ok (.if_icmp .gt 16, 3) := dk_163 0 16 (dk_at dksX5_ask_1 15 rfl rfl)
theorem dX5_ask_40 : decode cX5_ask 40 = .ok (.aload_n 0, 1) := dk_42 (dk_at dksX5_ask_1 18 rfl rfl)
theorem dX5_ask_41 : decode cX5_ask 41 = .ok (.getfield 171, 3) := dk_180 0 171 (dk_at dksX5_ask_1 19 rfl rfl)
theorem dX5_ask_44 : decode cX5_ask 44 = .ok (.istore_n 3, 1) := dk_62 (dk_at dksX5_ask_1 22 rfl rfl)
theorem dX5_ask_45 : decode cX5_ask 45 = .ok (.aload_n 0, 1) := dk_42 (dk_at dksX5_ask_1 23 rfl rfl)
theorem dX5_ask_46 : decode cX5_ask 46 = .ok (.iload_n 2, 1) := dk_28 (dk_at dksX5_ask_2 0 rfl rfl)
theorem dX5_ask_47 : decode cX5_ask 47 = .ok (.putfield 171, 3) := dk_181 0 171 (dk_at dksX5_ask_2 1 rfl rfl)
theorem dX5_ask_50 : decode cX5_ask 50 = .ok (.goto 10, 3) := dk_167 0 10 (dk_at dksX5_ask_2 4 rfl rfl)
theorem dX5_ask_53 : decode cX5_ask 53 = .ok (.aload_n 0, 1) := dk_42 (dk_at dksX5_ask_2 7 rfl rfl)
theorem dX5_ask_54 : decode cX5_ask 54 = .ok (.bipush (-6), 2) := dk_16 250 (dk_at dksX5_ask_2 8 rfl rfl)
theorem dX5_ask_56 : decode cX5_ask 56 = .ok (.invokevirtual 136, 3) := dk_182 0 136 (dk_at dksX5_ask_2 10 rfl rfl)
theorem dX5_ask_59 : decode cX5_ask 59 = .ok (.ireturn, 1) := dk_172 (dk_at dksX5_ask_2 13 rfl rfl)
theorem dX5_ask_60 : decode cX5_ask 60 = .ok (.iload_n 3, 1) := dk_29 (dk_at dksX5_ask_2 14 rfl rfl)
theorem dX5_ask_61 : decode cX5_ask 61 = .ok (.ireturn, 1) := dk_172 (dk_at dksX5_ask_2 15 rfl rfl)
abbrev cX5_isLong : ByteArray := prog_22_method_26_code
def yX5_isLong : MethodName := ⟨RX5, "isLong", "(I)Z"⟩
def dkwX5_isLong_3 : List UInt8 := [172, 132, 2, 1, 167, 255, 233, 4, 172]
abbrev dktX5_isLong_3 : List UInt8 := dkwX5_isLong_3 ++ []
def dkwX5_isLong_2 : List UInt8 := [167, 255, 233, 3, 61, 28, 42, 180, 0, 162, 162, 0, 21, 42, 180, 0, 50, 28, 46, 27, 164, 0, 5, 3]
abbrev dktX5_isLong_2 : List UInt8 := dkwX5_isLong_2 ++ dktX5_isLong_3
def dkwX5_isLong_1 : List UInt8 := [42, 180, 0, 117, 162, 0, 21, 42, 180, 0, 32, 28, 46, 27, 164, 0, 5, 3, 172, 132, 2, 1]
abbrev dktX5_isLong_1 : List UInt8 := dkwX5_isLong_1 ++ dktX5_isLong_2
def dkwX5_isLong_0 : List UInt8 := [27, 4, 161, 0, 17, 27, 16, 99, 163, 0, 11, 27, 42, 180, 0, 126, 162, 0, 5, 3, 172, 3, 61, 28]
abbrev dktX5_isLong_0 : List UInt8 := dkwX5_isLong_0 ++ dktX5_isLong_1
theorem dksX5_isLong_0 : cX5_isLong.data.toList.drop 0 = dktX5_isLong_0 := by decide +kernel
theorem dksX5_isLong_1 : cX5_isLong.data.toList.drop 24 = dktX5_isLong_1 := dk_seg dksX5_isLong_0 24 rfl rfl
theorem dksX5_isLong_2 : cX5_isLong.data.toList.drop 46 = dktX5_isLong_2 := dk_seg dksX5_isLong_1 22 rfl rfl
theorem dksX5_isLong_3 : cX5_isLong.data.toList.drop 70 = dktX5_isLong_3 := dk_seg dksX5_isLong_2 24 rfl rfl
theorem dX5_isLong_0 : decode cX5_isLong 0 = .ok (.iload_n 1, 1) := dk_27 (dk_at dksX5_isLong_0 0 rfl rfl)
theorem dX5_isLong_1 : decode cX5_isLong 1 = .ok (.iconst 1, 1) := dk_4 (dk_at dksX5_isLong_0 1 rfl rfl)
theorem dX5_isLong_2 : decode cX5_isLong 2 = .ok (.if_icmp .lt 17, 3) := dk_161 0 17 (dk_at dksX5_isLong_0 2 rfl rfl)
theorem dX5_isLong_5 : decode cX5_isLong 5 = .ok (.iload_n 1, 1) := dk_27 (dk_at dksX5_isLong_0 5 rfl rfl)
theorem dX5_isLong_6 : decode cX5_isLong 6 = .ok (.bipush 99, 2) := dk_16 99 (dk_at dksX5_isLong_0 6 rfl rfl)
theorem dX5_isLong_8 : decode cX5_isLong 8 = .ok (.if_icmp .gt 11, 3) := dk_163 0 11 (dk_at dksX5_isLong_0 8 rfl rfl)
theorem dX5_isLong_11 : decode cX5_isLong 11 = .ok (.iload_n 1, 1) := dk_27 (dk_at dksX5_isLong_0 11 rfl rfl)
theorem dX5_isLong_12 : decode cX5_isLong 12 = .ok (.aload_n 0, 1) := dk_42 (dk_at dksX5_isLong_0 12 rfl rfl)
theorem dX5_isLong_13 : decode cX5_isLong 13 = .ok (.getfield 126, 3) := dk_180 0 126 (dk_at dksX5_isLong_0 13 rfl rfl)
theorem dX5_isLong_16 : decode cX5_isLong 16 = .ok (.if_icmp .ge 5, 3) := dk_162 0 5 (dk_at dksX5_isLong_0 16 rfl rfl)
theorem dX5_isLong_19 : decode cX5_isLong 19 = .ok (.iconst 0, 1) := dk_3 (dk_at dksX5_isLong_0 19 rfl rfl)
theorem dX5_isLong_20 : decode cX5_isLong 20 = .ok (.ireturn, 1) := dk_172 (dk_at dksX5_isLong_0 20 rfl rfl)
theorem dX5_isLong_21 : decode cX5_isLong 21 = .ok (.iconst 0, 1) := dk_3 (dk_at dksX5_isLong_0 21 rfl rfl)
theorem dX5_isLong_22 : decode cX5_isLong 22 = .ok (.istore_n 2, 1) := dk_61 (dk_at dksX5_isLong_0 22 rfl rfl)
theorem dX5_isLong_23 : decode cX5_isLong 23 = .ok (.iload_n 2, 1) := dk_28 (dk_at dksX5_isLong_0 23 rfl rfl)
theorem dX5_isLong_24 : decode cX5_isLong 24 = .ok (.aload_n 0, 1) := dk_42 (dk_at dksX5_isLong_1 0 rfl rfl)
theorem dX5_isLong_25 : decode cX5_isLong 25 = .ok (.getfield 117, 3) := dk_180 0 117 (dk_at dksX5_isLong_1 1 rfl rfl)
theorem dX5_isLong_28 : decode cX5_isLong 28 = .ok (.if_icmp .ge 21, 3) := dk_162 0 21 (dk_at dksX5_isLong_1 4 rfl rfl)
theorem dX5_isLong_31 : decode cX5_isLong 31 = .ok (.aload_n 0, 1) := dk_42 (dk_at dksX5_isLong_1 7 rfl rfl)
theorem dX5_isLong_32 : decode cX5_isLong 32 = .ok (.getfield 32, 3) := dk_180 0 32 (dk_at dksX5_isLong_1 8 rfl rfl)
theorem dX5_isLong_35 : decode cX5_isLong 35 = .ok (.iload_n 2, 1) := dk_28 (dk_at dksX5_isLong_1 11 rfl rfl)
theorem dX5_isLong_36 : decode cX5_isLong 36 = .ok (.iaload, 1) := dk_46 (dk_at dksX5_isLong_1 12 rfl rfl)
theorem dX5_isLong_37 : decode cX5_isLong 37 = .ok (.iload_n 1, 1) := dk_27 (dk_at dksX5_isLong_1 13 rfl rfl)
theorem dX5_isLong_38 : decode cX5_isLong 38 = .ok (.if_icmp .le 5, 3) := dk_164 0 5 (dk_at dksX5_isLong_1 14 rfl rfl)
theorem dX5_isLong_41 : decode cX5_isLong 41 = .ok (.iconst 0, 1) := dk_3 (dk_at dksX5_isLong_1 17 rfl rfl)
theorem dX5_isLong_42 : decode cX5_isLong 42 = .ok (.ireturn, 1) := dk_172 (dk_at dksX5_isLong_1 18 rfl rfl)
theorem dX5_isLong_43 : decode cX5_isLong 43 = .ok (.iinc 2 1, 3) := dk_132 2 1 (dk_at dksX5_isLong_1 19 rfl rfl)
theorem dX5_isLong_46 : decode cX5_isLong 46 = .ok (.goto (-23), 3) := dk_167 255 233 (dk_at dksX5_isLong_2 0 rfl rfl)
theorem dX5_isLong_49 : decode cX5_isLong 49 = .ok (.iconst 0, 1) := dk_3 (dk_at dksX5_isLong_2 3 rfl rfl)
theorem dX5_isLong_50 : decode cX5_isLong 50 = .ok (.istore_n 2, 1) := dk_61 (dk_at dksX5_isLong_2 4 rfl rfl)
theorem dX5_isLong_51 : decode cX5_isLong 51 = .ok (.iload_n 2, 1) := dk_28 (dk_at dksX5_isLong_2 5 rfl rfl)
theorem dX5_isLong_52 : decode cX5_isLong 52 = .ok (.aload_n 0, 1) := dk_42 (dk_at dksX5_isLong_2 6 rfl rfl)
theorem dX5_isLong_53 : decode cX5_isLong 53 = .ok (.getfield 162, 3) := dk_180 0 162 (dk_at dksX5_isLong_2 7 rfl rfl)
theorem dX5_isLong_56 : decode cX5_isLong 56 = .ok (.if_icmp .ge 21, 3) := dk_162 0 21 (dk_at dksX5_isLong_2 10 rfl rfl)
theorem dX5_isLong_59 : decode cX5_isLong 59 = .ok (.aload_n 0, 1) := dk_42 (dk_at dksX5_isLong_2 13 rfl rfl)
theorem dX5_isLong_60 : decode cX5_isLong 60 = .ok (.getfield 50, 3) := dk_180 0 50 (dk_at dksX5_isLong_2 14 rfl rfl)
theorem dX5_isLong_63 : decode cX5_isLong 63 = .ok (.iload_n 2, 1) := dk_28 (dk_at dksX5_isLong_2 17 rfl rfl)
theorem dX5_isLong_64 : decode cX5_isLong 64 = .ok (.iaload, 1) := dk_46 (dk_at dksX5_isLong_2 18 rfl rfl)
theorem dX5_isLong_65 : decode cX5_isLong 65 = .ok (.iload_n 1, 1) := dk_27 (dk_at dksX5_isLong_2 19 rfl rfl)
theorem dX5_isLong_66 : decode cX5_isLong 66 = .ok (.if_icmp .le 5, 3) := dk_164 0 5 (dk_at dksX5_isLong_2 20 rfl rfl)
theorem dX5_isLong_69 : decode cX5_isLong 69 = .ok (.iconst 0, 1) := dk_3 (dk_at dksX5_isLong_2 23 rfl rfl)
theorem dX5_isLong_70 : decode cX5_isLong 70 = .ok (.ireturn, 1) := dk_172 (dk_at dksX5_isLong_3 0 rfl rfl)
theorem dX5_isLong_71 : decode cX5_isLong 71 = .ok (.iinc 2 1, 3) := dk_132 2 1 (dk_at dksX5_isLong_3 1 rfl rfl)
theorem dX5_isLong_74 : decode cX5_isLong 74 = .ok (.goto (-23), 3) := dk_167 255 233 (dk_at dksX5_isLong_3 4 rfl rfl)
theorem dX5_isLong_77 : decode cX5_isLong 77 = .ok (.iconst 1, 1) := dk_4 (dk_at dksX5_isLong_3 7 rfl rfl)
theorem dX5_isLong_78 : decode cX5_isLong 78 = .ok (.ireturn, 1) := dk_172 (dk_at dksX5_isLong_3 8 rfl rfl)
abbrev cX5_river : ByteArray := prog_22_method_29_code
def yX5_river : MethodName := ⟨RX5, "river", "(II)I"⟩
def dkwX5_river_1 : List UInt8 := [181, 0, 126, 4, 172]
abbrev dktX5_river_1 : List UInt8 := dkwX5_river_1 ++ []
def dkwX5_river_0 : List UInt8 := [42, 27, 28, 182, 0, 174, 154, 0, 10, 42, 16, 250, 182, 0, 136, 172, 42, 27, 181, 0, 123, 42, 28]
abbrev dktX5_river_0 : List UInt8 := dkwX5_river_0 ++ dktX5_river_1
theorem dksX5_river_0 : cX5_river.data.toList.drop 0 = dktX5_river_0 := by decide +kernel
theorem dksX5_river_1 : cX5_river.data.toList.drop 23 = dktX5_river_1 := dk_seg dksX5_river_0 23 rfl rfl
theorem dX5_river_0 : decode cX5_river 0 = .ok (.aload_n 0, 1) := dk_42 (dk_at dksX5_river_0 0 rfl rfl)
theorem dX5_river_1 : decode cX5_river 1 = .ok (.iload_n 1, 1) := dk_27 (dk_at dksX5_river_0 1 rfl rfl)
theorem dX5_river_2 : decode cX5_river 2 = .ok (.iload_n 2, 1) := dk_28 (dk_at dksX5_river_0 2 rfl rfl)
theorem dX5_river_3 : decode cX5_river 3 = .ok (.invokevirtual 174, 3) := dk_182 0 174 (dk_at dksX5_river_0 3 rfl rfl)
theorem dX5_river_6 : decode cX5_river 6 = .ok (.ifCond .ne 10, 3) := dk_154 0 10 (dk_at dksX5_river_0 6 rfl rfl)
theorem dX5_river_9 : decode cX5_river 9 = .ok (.aload_n 0, 1) := dk_42 (dk_at dksX5_river_0 9 rfl rfl)
theorem dX5_river_10 : decode cX5_river 10 = .ok (.bipush (-6), 2) := dk_16 250 (dk_at dksX5_river_0 10 rfl rfl)
theorem dX5_river_12 : decode cX5_river 12 = .ok (.invokevirtual 136, 3) := dk_182 0 136 (dk_at dksX5_river_0 12 rfl rfl)
theorem dX5_river_15 : decode cX5_river 15 = .ok (.ireturn, 1) := dk_172 (dk_at dksX5_river_0 15 rfl rfl)
theorem dX5_river_16 : decode cX5_river 16 = .ok (.aload_n 0, 1) := dk_42 (dk_at dksX5_river_0 16 rfl rfl)
theorem dX5_river_17 : decode cX5_river 17 = .ok (.iload_n 1, 1) := dk_27 (dk_at dksX5_river_0 17 rfl rfl)
theorem dX5_river_18 : decode cX5_river 18 = .ok (.putfield 123, 3) := dk_181 0 123 (dk_at dksX5_river_0 18 rfl rfl)
theorem dX5_river_21 : decode cX5_river 21 = .ok (.aload_n 0, 1) := dk_42 (dk_at dksX5_river_0 21 rfl rfl)
theorem dX5_river_22 : decode cX5_river 22 = .ok (.iload_n 2, 1) := dk_28 (dk_at dksX5_river_0 22 rfl rfl)
theorem dX5_river_23 : decode cX5_river 23 = .ok (.putfield 126, 3) := dk_181 0 126 (dk_at dksX5_river_1 0 rfl rfl)
theorem dX5_river_26 : decode cX5_river 26 = .ok (.iconst 1, 1) := dk_4 (dk_at dksX5_river_1 3 rfl rfl)
theorem dX5_river_27 : decode cX5_river 27 = .ok (.ireturn, 1) := dk_172 (dk_at dksX5_river_1 4 rfl rfl)
abbrev cX5_isRiver : ByteArray := prog_22_method_27_code
def yX5_isRiver : MethodName := ⟨RX5, "isRiver", "(II)Z"⟩
def dkwX5_isRiver_4 : List UInt8 := [167, 255, 223, 4, 172]
abbrev dktX5_isRiver_4 : List UInt8 := dkwX5_isRiver_4 ++ []
def dkwX5_isRiver_3 : List UInt8 := [180, 0, 50, 29, 46, 27, 164, 0, 15, 42, 180, 0, 50, 29, 46, 28, 162, 0, 5, 3, 172, 132, 3, 1]
abbrev dktX5_isRiver_3 : List UInt8 := dkwX5_isRiver_3 ++ dktX5_isRiver_4
def dkwX5_isRiver_2 : List UInt8 := [162, 0, 5, 3, 172, 132, 3, 1, 167, 255, 223, 3, 62, 29, 42, 180, 0, 162, 162, 0, 31, 42]
abbrev dktX5_isRiver_2 : List UInt8 := dkwX5_isRiver_2 ++ dktX5_isRiver_3
def dkwX5_isRiver_1 : List UInt8 := [180, 0, 117, 162, 0, 31, 42, 180, 0, 32, 29, 46, 27, 164, 0, 15, 42, 180, 0, 32, 29, 46, 28]
abbrev dktX5_isRiver_1 : List UInt8 := dkwX5_isRiver_1 ++ dktX5_isRiver_2
def dkwX5_isRiver_0 : List UInt8 := [27, 155, 0, 16, 27, 28, 163, 0, 11, 28, 42, 180, 0, 7, 164, 0, 5, 3, 172, 3, 62, 29, 42]
abbrev dktX5_isRiver_0 : List UInt8 := dkwX5_isRiver_0 ++ dktX5_isRiver_1
theorem dksX5_isRiver_0 : cX5_isRiver.data.toList.drop 0 = dktX5_isRiver_0 := by decide +kernel
theorem dksX5_isRiver_1 : cX5_isRiver.data.toList.drop 23 = dktX5_isRiver_1 := dk_seg dksX5_isRiver_0 23 rfl rfl
theorem dksX5_isRiver_2 : cX5_isRiver.data.toList.drop 46 = dktX5_isRiver_2 := dk_seg dksX5_isRiver_1 23 rfl rfl
theorem dksX5_isRiver_3 : cX5_isRiver.data.toList.drop 68 = dktX5_isRiver_3 := dk_seg dksX5_isRiver_2 22 rfl rfl
theorem dksX5_isRiver_4 : cX5_isRiver.data.toList.drop 92 = dktX5_isRiver_4 := dk_seg dksX5_isRiver_3 24 rfl rfl
theorem dX5_isRiver_0 : decode cX5_isRiver 0 = .ok (.iload_n 1, 1) := dk_27 (dk_at dksX5_isRiver_0 0 rfl rfl)
theorem dX5_isRiver_1 : decode cX5_isRiver 1 = .ok (.ifCond .lt 16, 3) := dk_155 0 16 (dk_at dksX5_isRiver_0 1 rfl rfl)
theorem dX5_isRiver_4 : decode cX5_isRiver 4 = .ok (.iload_n 1, 1) := dk_27 (dk_at dksX5_isRiver_0 4 rfl rfl)
theorem dX5_isRiver_5 : decode cX5_isRiver 5 = .ok (.iload_n 2, 1) := dk_28 (dk_at dksX5_isRiver_0 5 rfl rfl)
theorem dX5_isRiver_6 : decode cX5_isRiver 6 = .ok (.if_icmp .gt 11, 3) := dk_163 0 11 (dk_at dksX5_isRiver_0 6 rfl rfl)
theorem dX5_isRiver_9 : decode cX5_isRiver 9 = .ok (.iload_n 2, 1) := dk_28 (dk_at dksX5_isRiver_0 9 rfl rfl)
theorem dX5_isRiver_10 : decode cX5_isRiver 10 = .ok (.aload_n 0, 1) := dk_42 (dk_at dksX5_isRiver_0 10 rfl rfl)
theorem dX5_isRiver_11 : decode cX5_isRiver 11 = .ok (.getfield 7, 3) := dk_180 0 7 (dk_at dksX5_isRiver_0 11 rfl rfl)
theorem dX5_isRiver_14 : decode cX5_isRiver 14 = .ok (.if_icmp .le 5, 3) := dk_164 0 5 (dk_at dksX5_isRiver_0 14 rfl rfl)
theorem dX5_isRiver_17 : decode cX5_isRiver 17 = .ok (.iconst 0, 1) := dk_3 (dk_at dksX5_isRiver_0 17 rfl rfl)
theorem dX5_isRiver_18 : decode cX5_isRiver 18 = .ok (.ireturn, 1) := dk_172 (dk_at dksX5_isRiver_0 18 rfl rfl)
theorem dX5_isRiver_19 : decode cX5_isRiver 19 = .ok (.iconst 0, 1) := dk_3 (dk_at dksX5_isRiver_0 19 rfl rfl)
theorem dX5_isRiver_20 : decode cX5_isRiver 20 = .ok (.istore_n 3, 1) := dk_62 (dk_at dksX5_isRiver_0 20 rfl rfl)
theorem dX5_isRiver_21 : decode cX5_isRiver 21 = .ok (.iload_n 3, 1) := dk_29 (dk_at dksX5_isRiver_0 21 rfl rfl)
theorem dX5_isRiver_22 : decode cX5_isRiver 22 = .ok (.aload_n 0, 1) := dk_42 (dk_at dksX5_isRiver_0 22 rfl rfl)
theorem dX5_isRiver_23 : decode cX5_isRiver 23 = .ok (.getfield 117, 3) := dk_180 0 117 (dk_at dksX5_isRiver_1 0 rfl rfl)
theorem dX5_isRiver_26 : decode cX5_isRiver 26 = .ok (.if_icmp .ge 31, 3) := dk_162 0 31 (dk_at dksX5_isRiver_1 3 rfl rfl)
theorem dX5_isRiver_29 : decode cX5_isRiver 29 = .ok (.aload_n 0, 1) := dk_42 (dk_at dksX5_isRiver_1 6 rfl rfl)
theorem dX5_isRiver_30 : decode cX5_isRiver 30 = .ok (.getfield 32, 3) := dk_180 0 32 (dk_at dksX5_isRiver_1 7 rfl rfl)
theorem dX5_isRiver_33 : decode cX5_isRiver 33 = .ok (.iload_n 3, 1) := dk_29 (dk_at dksX5_isRiver_1 10 rfl rfl)
theorem dX5_isRiver_34 : decode cX5_isRiver 34 = .ok (.iaload, 1) := dk_46 (dk_at dksX5_isRiver_1 11 rfl rfl)
theorem dX5_isRiver_35 : decode cX5_isRiver 35 = .ok (.iload_n 1, 1) := dk_27 (dk_at dksX5_isRiver_1 12 rfl rfl)
theorem dX5_isRiver_36 : decode cX5_isRiver 36 = .ok (.if_icmp .le 15, 3) := dk_164 0 15 (dk_at dksX5_isRiver_1 13 rfl rfl)
theorem dX5_isRiver_39 : decode cX5_isRiver 39 = .ok (.aload_n 0, 1) := dk_42 (dk_at dksX5_isRiver_1 16 rfl rfl)
theorem dX5_isRiver_40 : decode cX5_isRiver 40 = .ok (.getfield 32, 3) := dk_180 0 32 (dk_at dksX5_isRiver_1 17 rfl rfl)
theorem dX5_isRiver_43 : decode cX5_isRiver 43 = .ok (.iload_n 3, 1) := dk_29 (dk_at dksX5_isRiver_1 20 rfl rfl)
theorem dX5_isRiver_44 : decode cX5_isRiver 44 = .ok (.iaload, 1) := dk_46 (dk_at dksX5_isRiver_1 21 rfl rfl)
theorem dX5_isRiver_45 : decode cX5_isRiver 45 = .ok (.iload_n 2, 1) := dk_28 (dk_at dksX5_isRiver_1 22 rfl rfl)
theorem dX5_isRiver_46 : decode cX5_isRiver 46 = .ok (.if_icmp .ge 5, 3) := dk_162 0 5 (dk_at dksX5_isRiver_2 0 rfl rfl)
theorem dX5_isRiver_49 : decode cX5_isRiver 49 = .ok (.iconst 0, 1) := dk_3 (dk_at dksX5_isRiver_2 3 rfl rfl)
theorem dX5_isRiver_50 : decode cX5_isRiver 50 = .ok (.ireturn, 1) := dk_172 (dk_at dksX5_isRiver_2 4 rfl rfl)
theorem dX5_isRiver_51 : decode cX5_isRiver 51 = .ok (.iinc 3 1, 3) := dk_132 3 1 (dk_at dksX5_isRiver_2 5 rfl rfl)
theorem dX5_isRiver_54 : decode cX5_isRiver 54 = .ok (.goto (-33), 3) := dk_167 255 223 (dk_at dksX5_isRiver_2 8 rfl rfl)
theorem dX5_isRiver_57 : decode cX5_isRiver 57 = .ok (.iconst 0, 1) := dk_3 (dk_at dksX5_isRiver_2 11 rfl rfl)
theorem dX5_isRiver_58 : decode cX5_isRiver 58 = .ok (.istore_n 3, 1) := dk_62 (dk_at dksX5_isRiver_2 12 rfl rfl)
theorem dX5_isRiver_59 : decode cX5_isRiver 59 = .ok (.iload_n 3, 1) := dk_29 (dk_at dksX5_isRiver_2 13 rfl rfl)
theorem dX5_isRiver_60 : decode cX5_isRiver 60 = .ok (.aload_n 0, 1) := dk_42 (dk_at dksX5_isRiver_2 14 rfl rfl)
theorem dX5_isRiver_61 : decode cX5_isRiver 61 = .ok (.getfield 162, 3) := dk_180 0 162 (dk_at dksX5_isRiver_2 15 rfl rfl)
theorem dX5_isRiver_64 : decode cX5_isRiver 64 = .ok (.if_icmp .ge 31, 3) := dk_162 0 31 (dk_at dksX5_isRiver_2 18 rfl rfl)
theorem dX5_isRiver_67 : decode cX5_isRiver 67 = .ok (.aload_n 0, 1) := dk_42 (dk_at dksX5_isRiver_2 21 rfl rfl)
theorem dX5_isRiver_68 : decode cX5_isRiver 68 = .ok (.getfield 50, 3) := dk_180 0 50 (dk_at dksX5_isRiver_3 0 rfl rfl)
theorem dX5_isRiver_71 : decode cX5_isRiver 71 = .ok (.iload_n 3, 1) := dk_29 (dk_at dksX5_isRiver_3 3 rfl rfl)
theorem dX5_isRiver_72 : decode cX5_isRiver 72 = .ok (.iaload, 1) := dk_46 (dk_at dksX5_isRiver_3 4 rfl rfl)
theorem dX5_isRiver_73 : decode cX5_isRiver 73 = .ok (.iload_n 1, 1) := dk_27 (dk_at dksX5_isRiver_3 5 rfl rfl)
theorem dX5_isRiver_74 : decode cX5_isRiver 74 = .ok (.if_icmp .le 15, 3) := dk_164 0 15 (dk_at dksX5_isRiver_3 6 rfl rfl)
theorem dX5_isRiver_77 : decode cX5_isRiver 77 = .ok (.aload_n 0, 1) := dk_42 (dk_at dksX5_isRiver_3 9 rfl rfl)
theorem dX5_isRiver_78 : decode cX5_isRiver 78 = .ok (.getfield 50, 3) := dk_180 0 50 (dk_at dksX5_isRiver_3 10 rfl rfl)
theorem dX5_isRiver_81 : decode cX5_isRiver 81 = .ok (.iload_n 3, 1) := dk_29 (dk_at dksX5_isRiver_3 13 rfl rfl)
theorem dX5_isRiver_82 : decode cX5_isRiver 82 = .ok (.iaload, 1) := dk_46 (dk_at dksX5_isRiver_3 14 rfl rfl)
theorem dX5_isRiver_83 : decode cX5_isRiver 83 = .ok (.iload_n 2, 1) := dk_28 (dk_at dksX5_isRiver_3 15 rfl rfl)
theorem dX5_isRiver_84 : decode cX5_isRiver 84 = .ok (.if_icmp .ge 5, 3) := dk_162 0 5 (dk_at dksX5_isRiver_3 16 rfl rfl)
theorem dX5_isRiver_87 : decode cX5_isRiver 87 = .ok (.iconst 0, 1) := dk_3 (dk_at dksX5_isRiver_3 19 rfl rfl)
theorem dX5_isRiver_88 : decode cX5_isRiver 88 = .ok (.ireturn, 1) := dk_172 (dk_at dksX5_isRiver_3 20 rfl rfl)
theorem dX5_isRiver_89 : decode cX5_isRiver 89 = .ok (.iinc 3 1, 3) := dk_132 3 1 (dk_at dksX5_isRiver_3 21 rfl rfl)
theorem dX5_isRiver_92 : decode cX5_isRiver 92 = .ok (.goto (-33), 3) := dk_167 255 223 (dk_at dksX5_isRiver_4 0 rfl rfl)
theorem dX5_isRiver_95 : decode cX5_isRiver 95 = .ok (.iconst 1, 1) := dk_4 (dk_at dksX5_isRiver_4 3 rfl rfl)
theorem dX5_isRiver_96 : decode cX5_isRiver 96 = .ok (.ireturn, 1) := dk_172 (dk_at dksX5_isRiver_4 4 rfl rfl)
abbrev cX5_thingOf : ByteArray := prog_22_method_30_code
def yX5_thingOf : MethodName := ⟨RX5, "thingOf", "(II)I"⟩
def dkwX5_thingOf_4 : List UInt8 := [180, 0, 38, 27, 46, 172]
abbrev dktX5_thingOf_4 : List UInt8 := dkwX5_thingOf_4 ++ []
def dkwX5_thingOf_3 : List UInt8 := [180, 0, 32, 27, 46, 167, 0, 23, 28, 7, 160, 0, 12, 42, 180, 0, 35, 27, 46, 167, 0, 9, 42]
abbrev dktX5_thingOf_3 : List UInt8 := dkwX5_thingOf_3 ++ dktX5_thingOf_4
def dkwX5_thingOf_2 : List UInt8 := [167, 0, 51, 28, 5, 160, 0, 12, 42, 180, 0, 29, 27, 46, 167, 0, 37, 28, 6, 160, 0, 12, 42]
abbrev dktX5_thingOf_2 : List UInt8 := dkwX5_thingOf_2 ++ dktX5_thingOf_3
def dkwX5_thingOf_1 : List UInt8 := [28, 154, 0, 12, 42, 180, 0, 23, 27, 46, 167, 0, 65, 28, 4, 160, 0, 12, 42, 180, 0, 26, 27, 46]
abbrev dktX5_thingOf_1 : List UInt8 := dkwX5_thingOf_1 ++ dktX5_thingOf_2
def dkwX5_thingOf_0 : List UInt8 := [42, 27, 182, 0, 140, 153, 0, 12, 28, 155, 0, 8, 28, 8, 164, 0, 10, 42, 16, 251, 182, 0, 136, 172]
abbrev dktX5_thingOf_0 : List UInt8 := dkwX5_thingOf_0 ++ dktX5_thingOf_1
theorem dksX5_thingOf_0 : cX5_thingOf.data.toList.drop 0 = dktX5_thingOf_0 := by decide +kernel
theorem dksX5_thingOf_1 : cX5_thingOf.data.toList.drop 24 = dktX5_thingOf_1 := dk_seg dksX5_thingOf_0 24 rfl rfl
theorem dksX5_thingOf_2 : cX5_thingOf.data.toList.drop 48 = dktX5_thingOf_2 := dk_seg dksX5_thingOf_1 24 rfl rfl
theorem dksX5_thingOf_3 : cX5_thingOf.data.toList.drop 71 = dktX5_thingOf_3 := dk_seg dksX5_thingOf_2 23 rfl rfl
theorem dksX5_thingOf_4 : cX5_thingOf.data.toList.drop 94 = dktX5_thingOf_4 := dk_seg dksX5_thingOf_3 23 rfl rfl
theorem dX5_thingOf_0 : decode cX5_thingOf 0 = .ok (.aload_n 0, 1) := dk_42 (dk_at dksX5_thingOf_0 0 rfl rfl)
theorem dX5_thingOf_1 : decode cX5_thingOf 1 = .ok (.iload_n 1, 1) := dk_27 (dk_at dksX5_thingOf_0 1 rfl rfl)
theorem dX5_thingOf_2 : decode cX5_thingOf 2 = .ok (.invokevirtual 140, 3) := dk_182 0 140 (dk_at dksX5_thingOf_0 2 rfl rfl)
theorem dX5_thingOf_5 : decode cX5_thingOf 5 = .ok (.ifCond .eq 12, 3) := dk_153 0 12 (dk_at dksX5_thingOf_0 5 rfl rfl)
theorem dX5_thingOf_8 : decode cX5_thingOf 8 = .ok (.iload_n 2, 1) := dk_28 (dk_at dksX5_thingOf_0 8 rfl rfl)
theorem dX5_thingOf_9 : decode cX5_thingOf 9 = .ok (.ifCond .lt 8, 3) := dk_155 0 8 (dk_at dksX5_thingOf_0 9 rfl rfl)
theorem dX5_thingOf_12 : decode cX5_thingOf 12 = .ok (.iload_n 2, 1) := dk_28 (dk_at dksX5_thingOf_0 12 rfl rfl)
theorem dX5_thingOf_13 : decode cX5_thingOf 13 = .ok (.iconst 5, 1) := dk_8 (dk_at dksX5_thingOf_0 13 rfl rfl)
theorem dX5_thingOf_14 : decode cX5_thingOf 14 = .ok (.if_icmp .le 10, 3) := dk_164 0 10 (dk_at dksX5_thingOf_0 14 rfl rfl)
theorem dX5_thingOf_17 : decode cX5_thingOf 17 = .ok (.aload_n 0, 1) := dk_42 (dk_at dksX5_thingOf_0 17 rfl rfl)
theorem dX5_thingOf_18 : decode cX5_thingOf 18 = .ok (.bipush (-5), 2) := dk_16 251 (dk_at dksX5_thingOf_0 18 rfl rfl)
theorem dX5_thingOf_20 : decode cX5_thingOf 20 = .ok (.invokevirtual 136, 3) := dk_182 0 136 (dk_at dksX5_thingOf_0 20 rfl rfl)
theorem dX5_thingOf_23 : decode cX5_thingOf 23 = .ok (.ireturn, 1) := dk_172 (dk_at dksX5_thingOf_0 23 rfl rfl)
theorem dX5_thingOf_24 : decode cX5_thingOf 24 = .ok (.iload_n 2, 1) := dk_28 (dk_at dksX5_thingOf_1 0 rfl rfl)
theorem dX5_thingOf_25 : decode cX5_thingOf 25 = .ok (.ifCond .ne 12, 3) := dk_154 0 12 (dk_at dksX5_thingOf_1 1 rfl rfl)
theorem dX5_thingOf_28 : decode cX5_thingOf 28 = .ok (.aload_n 0, 1) := dk_42 (dk_at dksX5_thingOf_1 4 rfl rfl)
theorem dX5_thingOf_29 : decode cX5_thingOf 29 = .ok (.getfield 23, 3) := dk_180 0 23 (dk_at dksX5_thingOf_1 5 rfl rfl)
theorem dX5_thingOf_32 : decode cX5_thingOf 32 = .ok (.iload_n 1, 1) := dk_27 (dk_at dksX5_thingOf_1 8 rfl rfl)
theorem dX5_thingOf_33 : decode cX5_thingOf 33 = .ok (.iaload, 1) := dk_46 (dk_at dksX5_thingOf_1 9 rfl rfl)
theorem dX5_thingOf_34 : decode cX5_thingOf 34 = .ok (.goto 65, 3) := dk_167 0 65 (dk_at dksX5_thingOf_1 10 rfl rfl)
theorem dX5_thingOf_37 : decode cX5_thingOf 37 = .ok (.iload_n 2, 1) := dk_28 (dk_at dksX5_thingOf_1 13 rfl rfl)
theorem dX5_thingOf_38 : decode cX5_thingOf 38 = .ok (.iconst 1, 1) := dk_4 (dk_at dksX5_thingOf_1 14 rfl rfl)
theorem dX5_thingOf_39 : decode cX5_thingOf 39 = .ok (.if_icmp .ne 12, 3) := dk_160 0 12 (dk_at dksX5_thingOf_1 15 rfl rfl)
theorem dX5_thingOf_42 : decode cX5_thingOf 42 = .ok (.aload_n 0, 1) := dk_42 (dk_at dksX5_thingOf_1 18 rfl rfl)
theorem dX5_thingOf_43 : decode cX5_thingOf 43 = .ok (.getfield 26, 3) := dk_180 0 26 (dk_at dksX5_thingOf_1 19 rfl rfl)
theorem dX5_thingOf_46 : decode cX5_thingOf 46 = .ok (.iload_n 1, 1) := dk_27 (dk_at dksX5_thingOf_1 22 rfl rfl)
theorem dX5_thingOf_47 : decode cX5_thingOf 47 = .ok (.iaload, 1) := dk_46 (dk_at dksX5_thingOf_1 23 rfl rfl)
theorem dX5_thingOf_48 : decode cX5_thingOf 48 = .ok (.goto 51, 3) := dk_167 0 51 (dk_at dksX5_thingOf_2 0 rfl rfl)
theorem dX5_thingOf_51 : decode cX5_thingOf 51 = .ok (.iload_n 2, 1) := dk_28 (dk_at dksX5_thingOf_2 3 rfl rfl)
theorem dX5_thingOf_52 : decode cX5_thingOf 52 = .ok (.iconst 2, 1) := dk_5 (dk_at dksX5_thingOf_2 4 rfl rfl)
theorem dX5_thingOf_53 : decode cX5_thingOf 53 = .ok (.if_icmp .ne 12, 3) := dk_160 0 12 (dk_at dksX5_thingOf_2 5 rfl rfl)
theorem dX5_thingOf_56 : decode cX5_thingOf 56 = .ok (.aload_n 0, 1) := dk_42 (dk_at dksX5_thingOf_2 8 rfl rfl)
theorem dX5_thingOf_57 : decode cX5_thingOf 57 = .ok (.getfield 29, 3) := dk_180 0 29 (dk_at dksX5_thingOf_2 9 rfl rfl)
theorem dX5_thingOf_60 : decode cX5_thingOf 60 = .ok (.iload_n 1, 1) := dk_27 (dk_at dksX5_thingOf_2 12 rfl rfl)
theorem dX5_thingOf_61 : decode cX5_thingOf 61 = .ok (.iaload, 1) := dk_46 (dk_at dksX5_thingOf_2 13 rfl rfl)
theorem dX5_thingOf_62 : decode cX5_thingOf 62 = .ok (.goto 37, 3) := dk_167 0 37 (dk_at dksX5_thingOf_2 14 rfl rfl)
theorem dX5_thingOf_65 : decode cX5_thingOf 65 = .ok (.iload_n 2, 1) := dk_28 (dk_at dksX5_thingOf_2 17 rfl rfl)
theorem dX5_thingOf_66 : decode cX5_thingOf 66 = .ok (.iconst 3, 1) := dk_6 (dk_at dksX5_thingOf_2 18 rfl rfl)
theorem dX5_thingOf_67 : decode cX5_thingOf 67 = .ok (.if_icmp .ne 12, 3) := dk_160 0 12 (dk_at dksX5_thingOf_2 19 rfl rfl)
theorem dX5_thingOf_70 : decode cX5_thingOf 70 = .ok (.aload_n 0, 1) := dk_42 (dk_at dksX5_thingOf_2 22 rfl rfl)
theorem dX5_thingOf_71 : decode cX5_thingOf 71 = .ok (.getfield 32, 3) := dk_180 0 32 (dk_at dksX5_thingOf_3 0 rfl rfl)
theorem dX5_thingOf_74 : decode cX5_thingOf 74 = .ok (.iload_n 1, 1) := dk_27 (dk_at dksX5_thingOf_3 3 rfl rfl)
theorem dX5_thingOf_75 : decode cX5_thingOf 75 = .ok (.iaload, 1) := dk_46 (dk_at dksX5_thingOf_3 4 rfl rfl)
theorem dX5_thingOf_76 : decode cX5_thingOf 76 = .ok (.goto 23, 3) := dk_167 0 23 (dk_at dksX5_thingOf_3 5 rfl rfl)
theorem dX5_thingOf_79 : decode cX5_thingOf 79 = .ok (.iload_n 2, 1) := dk_28 (dk_at dksX5_thingOf_3 8 rfl rfl)
theorem dX5_thingOf_80 : decode cX5_thingOf 80 = .ok (.iconst 4, 1) := dk_7 (dk_at dksX5_thingOf_3 9 rfl rfl)
theorem dX5_thingOf_81 : decode cX5_thingOf 81 = .ok (.if_icmp .ne 12, 3) := dk_160 0 12 (dk_at dksX5_thingOf_3 10 rfl rfl)
theorem dX5_thingOf_84 : decode cX5_thingOf 84 = .ok (.aload_n 0, 1) := dk_42 (dk_at dksX5_thingOf_3 13 rfl rfl)
theorem dX5_thingOf_85 : decode cX5_thingOf 85 = .ok (.getfield 35, 3) := dk_180 0 35 (dk_at dksX5_thingOf_3 14 rfl rfl)
theorem dX5_thingOf_88 : decode cX5_thingOf 88 = .ok (.iload_n 1, 1) := dk_27 (dk_at dksX5_thingOf_3 17 rfl rfl)
theorem dX5_thingOf_89 : decode cX5_thingOf 89 = .ok (.iaload, 1) := dk_46 (dk_at dksX5_thingOf_3 18 rfl rfl)
theorem dX5_thingOf_90 : decode cX5_thingOf 90 = .ok (.goto 9, 3) := dk_167 0 9 (dk_at dksX5_thingOf_3 19 rfl rfl)
theorem dX5_thingOf_93 : decode cX5_thingOf 93 = .ok (.aload_n 0, 1) := dk_42 (dk_at dksX5_thingOf_3 22 rfl rfl)
theorem dX5_thingOf_94 : decode cX5_thingOf 94 = .ok (.getfield 38, 3) := dk_180 0 38 (dk_at dksX5_thingOf_4 0 rfl rfl)
theorem dX5_thingOf_97 : decode cX5_thingOf 97 = .ok (.iload_n 1, 1) := dk_27 (dk_at dksX5_thingOf_4 3 rfl rfl)
theorem dX5_thingOf_98 : decode cX5_thingOf 98 = .ok (.iaload, 1) := dk_46 (dk_at dksX5_thingOf_4 4 rfl rfl)
theorem dX5_thingOf_99 : decode cX5_thingOf 99 = .ok (.ireturn, 1) := dk_172 (dk_at dksX5_thingOf_4 5 rfl rfl)
abbrev cX5_manOf : ByteArray := prog_22_method_31_code
def yX5_manOf : MethodName := ⟨RX5, "manOf", "(II)I"⟩
def dkwX5_manOf_1 : List UInt8 := [28, 154, 0, 12, 42, 180, 0, 41, 27, 46, 167, 0, 9, 42, 180, 0, 44, 27, 46, 172]
abbrev dktX5_manOf_1 : List UInt8 := dkwX5_manOf_1 ++ []
def dkwX5_manOf_0 : List UInt8 := [42, 27, 182, 0, 178, 153, 0, 12, 28, 155, 0, 8, 28, 4, 164, 0, 10, 42, 16, 251, 182, 0, 136, 172]
abbrev dktX5_manOf_0 : List UInt8 := dkwX5_manOf_0 ++ dktX5_manOf_1
theorem dksX5_manOf_0 : cX5_manOf.data.toList.drop 0 = dktX5_manOf_0 := by decide +kernel
theorem dksX5_manOf_1 : cX5_manOf.data.toList.drop 24 = dktX5_manOf_1 := dk_seg dksX5_manOf_0 24 rfl rfl
theorem dX5_manOf_0 : decode cX5_manOf 0 = .ok (.aload_n 0, 1) := dk_42 (dk_at dksX5_manOf_0 0 rfl rfl)
theorem dX5_manOf_1 : decode cX5_manOf 1 = .ok (.iload_n 1, 1) := dk_27 (dk_at dksX5_manOf_0 1 rfl rfl)
theorem dX5_manOf_2 : decode cX5_manOf 2 = .ok (.invokevirtual 178, 3) := dk_182 0 178 (dk_at dksX5_manOf_0 2 rfl rfl)
theorem dX5_manOf_5 : decode cX5_manOf 5 = .ok (.ifCond .eq 12, 3) := dk_153 0 12 (dk_at dksX5_manOf_0 5 rfl rfl)
theorem dX5_manOf_8 : decode cX5_manOf 8 = .ok (.iload_n 2, 1) := dk_28 (dk_at dksX5_manOf_0 8 rfl rfl)
theorem dX5_manOf_9 : decode cX5_manOf 9 = .ok (.ifCond .lt 8, 3) := dk_155 0 8 (dk_at dksX5_manOf_0 9 rfl rfl)
theorem dX5_manOf_12 : decode cX5_manOf 12 = .ok (.iload_n 2, 1) := dk_28 (dk_at dksX5_manOf_0 12 rfl rfl)
theorem dX5_manOf_13 : decode cX5_manOf 13 = .ok (.iconst 1, 1) := dk_4 (dk_at dksX5_manOf_0 13 rfl rfl)
theorem dX5_manOf_14 : decode cX5_manOf 14 = .ok (.if_icmp .le 10, 3) := dk_164 0 10 (dk_at dksX5_manOf_0 14 rfl rfl)
theorem dX5_manOf_17 : decode cX5_manOf 17 = .ok (.aload_n 0, 1) := dk_42 (dk_at dksX5_manOf_0 17 rfl rfl)
theorem dX5_manOf_18 : decode cX5_manOf 18 = .ok (.bipush (-5), 2) := dk_16 251 (dk_at dksX5_manOf_0 18 rfl rfl)
theorem dX5_manOf_20 : decode cX5_manOf 20 = .ok (.invokevirtual 136, 3) := dk_182 0 136 (dk_at dksX5_manOf_0 20 rfl rfl)
theorem dX5_manOf_23 : decode cX5_manOf 23 = .ok (.ireturn, 1) := dk_172 (dk_at dksX5_manOf_0 23 rfl rfl)
theorem dX5_manOf_24 : decode cX5_manOf 24 = .ok (.iload_n 2, 1) := dk_28 (dk_at dksX5_manOf_1 0 rfl rfl)
theorem dX5_manOf_25 : decode cX5_manOf 25 = .ok (.ifCond .ne 12, 3) := dk_154 0 12 (dk_at dksX5_manOf_1 1 rfl rfl)
theorem dX5_manOf_28 : decode cX5_manOf 28 = .ok (.aload_n 0, 1) := dk_42 (dk_at dksX5_manOf_1 4 rfl rfl)
theorem dX5_manOf_29 : decode cX5_manOf 29 = .ok (.getfield 41, 3) := dk_180 0 41 (dk_at dksX5_manOf_1 5 rfl rfl)
theorem dX5_manOf_32 : decode cX5_manOf 32 = .ok (.iload_n 1, 1) := dk_27 (dk_at dksX5_manOf_1 8 rfl rfl)
theorem dX5_manOf_33 : decode cX5_manOf 33 = .ok (.iaload, 1) := dk_46 (dk_at dksX5_manOf_1 9 rfl rfl)
theorem dX5_manOf_34 : decode cX5_manOf 34 = .ok (.goto 9, 3) := dk_167 0 9 (dk_at dksX5_manOf_1 10 rfl rfl)
theorem dX5_manOf_37 : decode cX5_manOf 37 = .ok (.aload_n 0, 1) := dk_42 (dk_at dksX5_manOf_1 13 rfl rfl)
theorem dX5_manOf_38 : decode cX5_manOf 38 = .ok (.getfield 44, 3) := dk_180 0 44 (dk_at dksX5_manOf_1 14 rfl rfl)
theorem dX5_manOf_41 : decode cX5_manOf 41 = .ok (.iload_n 1, 1) := dk_27 (dk_at dksX5_manOf_1 17 rfl rfl)
theorem dX5_manOf_42 : decode cX5_manOf 42 = .ok (.iaload, 1) := dk_46 (dk_at dksX5_manOf_1 18 rfl rfl)
theorem dX5_manOf_43 : decode cX5_manOf 43 = .ok (.ireturn, 1) := dk_172 (dk_at dksX5_manOf_1 19 rfl rfl)
abbrev cX5_isMan : ByteArray := prog_22_method_6_code
def yX5_isMan : MethodName := ⟨RX5, "isMan", "(I)Z"⟩
def dkwX5_isMan_0 : List UInt8 := [27, 155, 0, 15, 27, 42, 180, 0, 120, 162, 0, 7, 4, 167, 0, 4, 3, 172]
abbrev dktX5_isMan_0 : List UInt8 := dkwX5_isMan_0 ++ []
theorem dksX5_isMan_0 : cX5_isMan.data.toList.drop 0 = dktX5_isMan_0 := by decide +kernel
theorem dX5_isMan_0 : decode cX5_isMan 0 = .ok (.iload_n 1, 1) := dk_27 (dk_at dksX5_isMan_0 0 rfl rfl)
theorem dX5_isMan_1 : decode cX5_isMan 1 = .ok (.ifCond .lt 15, 3) := dk_155 0 15 (dk_at dksX5_isMan_0 1 rfl rfl)
theorem dX5_isMan_4 : decode cX5_isMan 4 = .ok (.iload_n 1, 1) := dk_27 (dk_at dksX5_isMan_0 4 rfl rfl)
theorem dX5_isMan_5 : decode cX5_isMan 5 = .ok (.aload_n 0, 1) := dk_42 (dk_at dksX5_isMan_0 5 rfl rfl)
theorem dX5_isMan_6 : decode cX5_isMan 6 = .ok (.getfield 120, 3) := dk_180 0 120 (dk_at dksX5_isMan_0 6 rfl rfl)
theorem dX5_isMan_9 : decode cX5_isMan 9 = .ok (.if_icmp .ge 7, 3) := dk_162 0 7 (dk_at dksX5_isMan_0 9 rfl rfl)
theorem dX5_isMan_12 : decode cX5_isMan 12 = .ok (.iconst 1, 1) := dk_4 (dk_at dksX5_isMan_0 12 rfl rfl)
theorem dX5_isMan_13 : decode cX5_isMan 13 = .ok (.goto 4, 3) := dk_167 0 4 (dk_at dksX5_isMan_0 13 rfl rfl)
theorem dX5_isMan_16 : decode cX5_isMan 16 = .ok (.iconst 0, 1) := dk_3 (dk_at dksX5_isMan_0 16 rfl rfl)
theorem dX5_isMan_17 : decode cX5_isMan 17 = .ok (.ireturn, 1) := dk_172 (dk_at dksX5_isMan_0 17 rfl rfl)
abbrev cX5_wantOf : ByteArray := prog_22_method_32_code
def yX5_wantOf : MethodName := ⟨RX5, "wantOf", "(II)I"⟩
def dkwX5_wantOf_4 : List UInt8 := [172]
abbrev dktX5_wantOf_4 : List UInt8 := dkwX5_wantOf_4 ++ []
def dkwX5_wantOf_3 : List UInt8 := [180, 0, 32, 42, 180, 0, 47, 27, 46, 46, 42, 180, 0, 50, 27, 46, 160, 0, 7, 4, 167, 0, 4, 3]
abbrev dktX5_wantOf_3 : List UInt8 := dkwX5_wantOf_3 ++ dktX5_wantOf_4
def dkwX5_wantOf_2 : List UInt8 := [180, 0, 50, 27, 46, 167, 0, 42, 28, 5, 160, 0, 12, 42, 180, 0, 53, 27, 46, 167, 0, 28, 42]
abbrev dktX5_wantOf_2 : List UInt8 := dkwX5_wantOf_2 ++ dktX5_wantOf_3
def dkwX5_wantOf_1 : List UInt8 := [182, 0, 136, 172, 28, 154, 0, 12, 42, 180, 0, 47, 27, 46, 167, 0, 56, 28, 4, 160, 0, 12, 42]
abbrev dktX5_wantOf_1 : List UInt8 := dkwX5_wantOf_1 ++ dktX5_wantOf_2
def dkwX5_wantOf_0 : List UInt8 := [27, 155, 0, 20, 27, 42, 180, 0, 162, 162, 0, 12, 28, 155, 0, 8, 28, 6, 164, 0, 10, 42, 16, 251]
abbrev dktX5_wantOf_0 : List UInt8 := dkwX5_wantOf_0 ++ dktX5_wantOf_1
theorem dksX5_wantOf_0 : cX5_wantOf.data.toList.drop 0 = dktX5_wantOf_0 := by decide +kernel
theorem dksX5_wantOf_1 : cX5_wantOf.data.toList.drop 24 = dktX5_wantOf_1 := dk_seg dksX5_wantOf_0 24 rfl rfl
theorem dksX5_wantOf_2 : cX5_wantOf.data.toList.drop 47 = dktX5_wantOf_2 := dk_seg dksX5_wantOf_1 23 rfl rfl
theorem dksX5_wantOf_3 : cX5_wantOf.data.toList.drop 70 = dktX5_wantOf_3 := dk_seg dksX5_wantOf_2 23 rfl rfl
theorem dksX5_wantOf_4 : cX5_wantOf.data.toList.drop 94 = dktX5_wantOf_4 := dk_seg dksX5_wantOf_3 24 rfl rfl
theorem dX5_wantOf_0 : decode cX5_wantOf 0 = .ok (.iload_n 1, 1) := dk_27 (dk_at dksX5_wantOf_0 0 rfl rfl)
theorem dX5_wantOf_1 : decode cX5_wantOf 1 = .ok (.ifCond .lt 20, 3) := dk_155 0 20 (dk_at dksX5_wantOf_0 1 rfl rfl)
theorem dX5_wantOf_4 : decode cX5_wantOf 4 = .ok (.iload_n 1, 1) := dk_27 (dk_at dksX5_wantOf_0 4 rfl rfl)
theorem dX5_wantOf_5 : decode cX5_wantOf 5 = .ok (.aload_n 0, 1) := dk_42 (dk_at dksX5_wantOf_0 5 rfl rfl)
theorem dX5_wantOf_6 : decode cX5_wantOf 6 = .ok (.getfield 162, 3) := dk_180 0 162 (dk_at dksX5_wantOf_0 6 rfl rfl)
theorem dX5_wantOf_9 : decode cX5_wantOf 9 = .ok (.if_icmp .ge 12, 3) := dk_162 0 12 (dk_at dksX5_wantOf_0 9 rfl rfl)
theorem dX5_wantOf_12 : decode cX5_wantOf 12 = .ok (.iload_n 2, 1) := dk_28 (dk_at dksX5_wantOf_0 12 rfl rfl)
theorem dX5_wantOf_13 : decode cX5_wantOf 13 = .ok (.ifCond .lt 8, 3) := dk_155 0 8 (dk_at dksX5_wantOf_0 13 rfl rfl)
theorem dX5_wantOf_16 : decode cX5_wantOf 16 = .ok (.iload_n 2, 1) := dk_28 (dk_at dksX5_wantOf_0 16 rfl rfl)
theorem dX5_wantOf_17 : decode cX5_wantOf 17 = .ok (.iconst 3, 1) := dk_6 (dk_at dksX5_wantOf_0 17 rfl rfl)
theorem dX5_wantOf_18 : decode cX5_wantOf 18 = .ok (.if_icmp .le 10, 3) := dk_164 0 10 (dk_at dksX5_wantOf_0 18 rfl rfl)
theorem dX5_wantOf_21 : decode cX5_wantOf 21 = .ok (.aload_n 0, 1) := dk_42 (dk_at dksX5_wantOf_0 21 rfl rfl)
theorem dX5_wantOf_22 : decode cX5_wantOf 22 = .ok (.bipush (-5), 2) := dk_16 251 (dk_at dksX5_wantOf_0 22 rfl rfl)
theorem dX5_wantOf_24 : decode cX5_wantOf 24 = .ok (.invokevirtual 136, 3) := dk_182 0 136 (dk_at dksX5_wantOf_1 0 rfl rfl)
theorem dX5_wantOf_27 : decode cX5_wantOf 27 = .ok (.ireturn, 1) := dk_172 (dk_at dksX5_wantOf_1 3 rfl rfl)
theorem dX5_wantOf_28 : decode cX5_wantOf 28 = .ok (.iload_n 2, 1) := dk_28 (dk_at dksX5_wantOf_1 4 rfl rfl)
theorem dX5_wantOf_29 : decode cX5_wantOf 29 = .ok (.ifCond .ne 12, 3) := dk_154 0 12 (dk_at dksX5_wantOf_1 5 rfl rfl)
theorem dX5_wantOf_32 : decode cX5_wantOf 32 = .ok (.aload_n 0, 1) := dk_42 (dk_at dksX5_wantOf_1 8 rfl rfl)
theorem dX5_wantOf_33 : decode cX5_wantOf 33 = .ok (.getfield 47, 3) := dk_180 0 47 (dk_at dksX5_wantOf_1 9 rfl rfl)
theorem dX5_wantOf_36 : decode cX5_wantOf 36 = .ok (.iload_n 1, 1) := dk_27 (dk_at dksX5_wantOf_1 12 rfl rfl)
theorem dX5_wantOf_37 : decode cX5_wantOf 37 = .ok (.iaload, 1) := dk_46 (dk_at dksX5_wantOf_1 13 rfl rfl)
theorem dX5_wantOf_38 : decode cX5_wantOf 38 = .ok (.goto 56, 3) := dk_167 0 56 (dk_at dksX5_wantOf_1 14 rfl rfl)
theorem dX5_wantOf_41 : decode cX5_wantOf 41 = .ok (.iload_n 2, 1) := dk_28 (dk_at dksX5_wantOf_1 17 rfl rfl)
theorem dX5_wantOf_42 : decode cX5_wantOf 42 = .ok (.iconst 1, 1) := dk_4 (dk_at dksX5_wantOf_1 18 rfl rfl)
theorem dX5_wantOf_43 : decode cX5_wantOf 43 = .ok (.if_icmp .ne 12, 3) := dk_160 0 12 (dk_at dksX5_wantOf_1 19 rfl rfl)
theorem dX5_wantOf_46 : decode cX5_wantOf 46 = .ok (.aload_n 0, 1) := dk_42 (dk_at dksX5_wantOf_1 22 rfl rfl)
theorem dX5_wantOf_47 : decode cX5_wantOf 47 = .ok (.getfield 50, 3) := dk_180 0 50 (dk_at dksX5_wantOf_2 0 rfl rfl)
theorem dX5_wantOf_50 : decode cX5_wantOf 50 = .ok (.iload_n 1, 1) := dk_27 (dk_at dksX5_wantOf_2 3 rfl rfl)
theorem dX5_wantOf_51 : decode cX5_wantOf 51 = .ok (.iaload, 1) := dk_46 (dk_at dksX5_wantOf_2 4 rfl rfl)
theorem dX5_wantOf_52 : decode cX5_wantOf 52 = .ok (.goto 42, 3) := dk_167 0 42 (dk_at dksX5_wantOf_2 5 rfl rfl)
theorem dX5_wantOf_55 : decode cX5_wantOf 55 = .ok (.iload_n 2, 1) := dk_28 (dk_at dksX5_wantOf_2 8 rfl rfl)
theorem dX5_wantOf_56 : decode cX5_wantOf 56 = .ok (.iconst 2, 1) := dk_5 (dk_at dksX5_wantOf_2 9 rfl rfl)
theorem dX5_wantOf_57 : decode cX5_wantOf 57 = .ok (.if_icmp .ne 12, 3) := dk_160 0 12 (dk_at dksX5_wantOf_2 10 rfl rfl)
theorem dX5_wantOf_60 : decode cX5_wantOf 60 = .ok (.aload_n 0, 1) := dk_42 (dk_at dksX5_wantOf_2 13 rfl rfl)
theorem dX5_wantOf_61 : decode cX5_wantOf 61 = .ok (.getfield 53, 3) := dk_180 0 53 (dk_at dksX5_wantOf_2 14 rfl rfl)
theorem dX5_wantOf_64 : decode cX5_wantOf 64 = .ok (.iload_n 1, 1) := dk_27 (dk_at dksX5_wantOf_2 17 rfl rfl)
theorem dX5_wantOf_65 : decode cX5_wantOf 65 = .ok (.iaload, 1) := dk_46 (dk_at dksX5_wantOf_2 18 rfl rfl)
theorem dX5_wantOf_66 : decode cX5_wantOf 66 = .ok (.goto 28, 3) := dk_167 0 28 (dk_at dksX5_wantOf_2 19 rfl rfl)
theorem dX5_wantOf_69 : decode cX5_wantOf 69 = .ok (.aload_n 0, 1) := dk_42 (dk_at dksX5_wantOf_2 22 rfl rfl)
theorem dX5_wantOf_70 : decode cX5_wantOf 70 = .ok (.getfield 32, 3) := dk_180 0 32 (dk_at dksX5_wantOf_3 0 rfl rfl)
theorem dX5_wantOf_73 : decode cX5_wantOf 73 = .ok (.aload_n 0, 1) := dk_42 (dk_at dksX5_wantOf_3 3 rfl rfl)
theorem dX5_wantOf_74 : decode cX5_wantOf 74 = .ok (.getfield 47, 3) := dk_180 0 47 (dk_at dksX5_wantOf_3 4 rfl rfl)
theorem dX5_wantOf_77 : decode cX5_wantOf 77 = .ok (.iload_n 1, 1) := dk_27 (dk_at dksX5_wantOf_3 7 rfl rfl)
theorem dX5_wantOf_78 : decode cX5_wantOf 78 = .ok (.iaload, 1) := dk_46 (dk_at dksX5_wantOf_3 8 rfl rfl)
theorem dX5_wantOf_79 : decode cX5_wantOf 79 = .ok (.iaload, 1) := dk_46 (dk_at dksX5_wantOf_3 9 rfl rfl)
theorem dX5_wantOf_80 : decode cX5_wantOf 80 = .ok (.aload_n 0, 1) := dk_42 (dk_at dksX5_wantOf_3 10 rfl rfl)
theorem dX5_wantOf_81 : decode cX5_wantOf 81 = .ok (.getfield 50, 3) := dk_180 0 50 (dk_at dksX5_wantOf_3 11 rfl rfl)
theorem dX5_wantOf_84 : decode cX5_wantOf 84 = .ok (.iload_n 1, 1) := dk_27 (dk_at dksX5_wantOf_3 14 rfl rfl)
theorem dX5_wantOf_85 : decode cX5_wantOf 85 = .ok (.iaload, 1) := dk_46 (dk_at dksX5_wantOf_3 15 rfl rfl)
theorem dX5_wantOf_86 : decode cX5_wantOf 86 = .ok (.if_icmp .ne 7, 3) := dk_160 0 7 (dk_at dksX5_wantOf_3 16 rfl rfl)
theorem dX5_wantOf_89 : decode cX5_wantOf 89 = .ok (.iconst 1, 1) := dk_4 (dk_at dksX5_wantOf_3 19 rfl rfl)
theorem dX5_wantOf_90 : decode cX5_wantOf 90 = .ok (.goto 4, 3) := dk_167 0 4 (dk_at dksX5_wantOf_3 20 rfl rfl)
theorem dX5_wantOf_93 : decode cX5_wantOf 93 = .ok (.iconst 0, 1) := dk_3 (dk_at dksX5_wantOf_3 23 rfl rfl)
theorem dX5_wantOf_94 : decode cX5_wantOf 94 = .ok (.ireturn, 1) := dk_172 (dk_at dksX5_wantOf_4 0 rfl rfl)
abbrev cX5_valley : ByteArray := prog_22_method_43_code
def yX5_valley : MethodName := ⟨RX5, "valley", "(I)I"⟩
def dkwX5_valley_6 : List UInt8 := [42, 42, 180, 0, 81, 4, 182, 0, 226, 42, 42, 180, 0, 181, 181, 0, 16, 42, 16, 250, 182, 0, 136, 172]
abbrev dktX5_valley_6 : List UInt8 := dkwX5_valley_6 ++ []
def dkwX5_valley_5 : List UInt8 := [4, 96, 181, 0, 184, 132, 3, 1, 42, 182, 0, 230, 54, 4, 167, 255, 188, 21, 4, 153, 0, 5, 29, 172]
abbrev dktX5_valley_5 : List UInt8 := dkwX5_valley_5 ++ dktX5_valley_6
def dkwX5_valley_4 : List UInt8 := [136, 16, 59, 159, 0, 16, 42, 42, 180, 0, 184, 182, 0, 197, 54, 4, 167, 255, 210, 42, 89, 180, 0, 184]
abbrev dktX5_valley_4 : List UInt8 := dkwX5_valley_4 ++ dktX5_valley_5
def dkwX5_valley_3 : List UInt8 := [180, 0, 184, 42, 180, 0, 187, 162, 0, 58, 42, 180, 0, 68, 42, 180, 0, 190, 42, 180, 0, 184, 96, 47]
abbrev dktX5_valley_3 : List UInt8 := dkwX5_valley_3 ++ dktX5_valley_4
def dkwX5_valley_2 : List UInt8 := [181, 0, 187, 42, 2, 181, 0, 16, 4, 62, 42, 182, 0, 230, 54, 4, 21, 4, 153, 0, 69, 42]
abbrev dktX5_valley_2 : List UInt8 := dkwX5_valley_2 ++ dktX5_valley_3
def dkwX5_valley_1 : List UInt8 := [182, 0, 226, 42, 17, 0, 160, 27, 104, 181, 0, 190, 42, 3, 181, 0, 184, 42, 42, 180, 0, 62, 27, 46]
abbrev dktX5_valley_1 : List UInt8 := dkwX5_valley_1 ++ dktX5_valley_2
def dkwX5_valley_0 : List UInt8 := [42, 27, 182, 0, 156, 61, 28, 153, 0, 9, 42, 28, 182, 0, 136, 172, 42, 42, 180, 0, 81, 3]
abbrev dktX5_valley_0 : List UInt8 := dkwX5_valley_0 ++ dktX5_valley_1
theorem dksX5_valley_0 : cX5_valley.data.toList.drop 0 = dktX5_valley_0 := by decide +kernel
theorem dksX5_valley_1 : cX5_valley.data.toList.drop 22 = dktX5_valley_1 := dk_seg dksX5_valley_0 22 rfl rfl
theorem dksX5_valley_2 : cX5_valley.data.toList.drop 46 = dktX5_valley_2 := dk_seg dksX5_valley_1 24 rfl rfl
theorem dksX5_valley_3 : cX5_valley.data.toList.drop 68 = dktX5_valley_3 := dk_seg dksX5_valley_2 22 rfl rfl
theorem dksX5_valley_4 : cX5_valley.data.toList.drop 92 = dktX5_valley_4 := dk_seg dksX5_valley_3 24 rfl rfl
theorem dksX5_valley_5 : cX5_valley.data.toList.drop 116 = dktX5_valley_5 := dk_seg dksX5_valley_4 24 rfl rfl
theorem dksX5_valley_6 : cX5_valley.data.toList.drop 140 = dktX5_valley_6 := dk_seg dksX5_valley_5 24 rfl rfl
theorem dX5_valley_0 : decode cX5_valley 0 = .ok (.aload_n 0, 1) := dk_42 (dk_at dksX5_valley_0 0 rfl rfl)
theorem dX5_valley_1 : decode cX5_valley 1 = .ok (.iload_n 1, 1) := dk_27 (dk_at dksX5_valley_0 1 rfl rfl)
theorem dX5_valley_2 : decode cX5_valley 2 = .ok (.invokevirtual 156, 3) := dk_182 0 156 (dk_at dksX5_valley_0 2 rfl rfl)
theorem dX5_valley_5 : decode cX5_valley 5 = .ok (.istore_n 2, 1) := dk_61 (dk_at dksX5_valley_0 5 rfl rfl)
theorem dX5_valley_6 : decode cX5_valley 6 = .ok (.iload_n 2, 1) := dk_28 (dk_at dksX5_valley_0 6 rfl rfl)
theorem dX5_valley_7 : decode cX5_valley 7 = .ok (.ifCond .eq 9, 3) := dk_153 0 9 (dk_at dksX5_valley_0 7 rfl rfl)
theorem dX5_valley_10 : decode cX5_valley 10 = .ok (.aload_n 0, 1) := dk_42 (dk_at dksX5_valley_0 10 rfl rfl)
theorem dX5_valley_11 : decode cX5_valley 11 = .ok (.iload_n 2, 1) := dk_28 (dk_at dksX5_valley_0 11 rfl rfl)
theorem dX5_valley_12 : decode cX5_valley 12 = .ok (.invokevirtual 136, 3) := dk_182 0 136 (dk_at dksX5_valley_0 12 rfl rfl)
theorem dX5_valley_15 : decode cX5_valley 15 = .ok (.ireturn, 1) := dk_172 (dk_at dksX5_valley_0 15 rfl rfl)
theorem dX5_valley_16 : decode cX5_valley 16 = .ok (.aload_n 0, 1) := dk_42 (dk_at dksX5_valley_0 16 rfl rfl)
theorem dX5_valley_17 : decode cX5_valley 17 = .ok (.aload_n 0, 1) := dk_42 (dk_at dksX5_valley_0 17 rfl rfl)
theorem dX5_valley_18 : decode cX5_valley 18 = .ok (.getfield 81, 3) := dk_180 0 81 (dk_at dksX5_valley_0 18 rfl rfl)
theorem dX5_valley_21 : decode cX5_valley 21 = .ok (.iconst 0, 1) := dk_3 (dk_at dksX5_valley_0 21 rfl rfl)
theorem dX5_valley_22 : decode cX5_valley 22 = .ok (.invokevirtual 226, 3) := dk_182 0 226 (dk_at dksX5_valley_1 0 rfl rfl)
theorem dX5_valley_25 : decode cX5_valley 25 = .ok (.aload_n 0, 1) := dk_42 (dk_at dksX5_valley_1 3 rfl rfl)
theorem dX5_valley_26 : decode cX5_valley 26 = .ok (.sipush 160, 3) := dk_17 0 160 (dk_at dksX5_valley_1 4 rfl rfl)
theorem dX5_valley_29 : decode cX5_valley 29 = .ok (.iload_n 1, 1) := dk_27 (dk_at dksX5_valley_1 7 rfl rfl)
theorem dX5_valley_30 : decode cX5_valley 30 = .ok (.imul, 1) := dk_104 (dk_at dksX5_valley_1 8 rfl rfl)
theorem dX5_valley_31 : decode cX5_valley 31 = .ok (.putfield 190, 3) := dk_181 0 190 (dk_at dksX5_valley_1 9 rfl rfl)
theorem dX5_valley_34 : decode cX5_valley 34 = .ok (.aload_n 0, 1) := dk_42 (dk_at dksX5_valley_1 12 rfl rfl)
theorem dX5_valley_35 : decode cX5_valley 35 = .ok (.iconst 0, 1) := dk_3 (dk_at dksX5_valley_1 13 rfl rfl)
theorem dX5_valley_36 : decode cX5_valley 36 = .ok (.putfield 184, 3) := dk_181 0 184 (dk_at dksX5_valley_1 14 rfl rfl)
theorem dX5_valley_39 : decode cX5_valley 39 = .ok (.aload_n 0, 1) := dk_42 (dk_at dksX5_valley_1 17 rfl rfl)
theorem dX5_valley_40 : decode cX5_valley 40 = .ok (.aload_n 0, 1) := dk_42 (dk_at dksX5_valley_1 18 rfl rfl)
theorem dX5_valley_41 : decode cX5_valley 41 = .ok (.getfield 62, 3) := dk_180 0 62 (dk_at dksX5_valley_1 19 rfl rfl)
theorem dX5_valley_44 : decode cX5_valley 44 = .ok (.iload_n 1, 1) := dk_27 (dk_at dksX5_valley_1 22 rfl rfl)
theorem dX5_valley_45 : decode cX5_valley 45 = .ok (.iaload, 1) := dk_46 (dk_at dksX5_valley_1 23 rfl rfl)
theorem dX5_valley_46 : decode cX5_valley 46 = .ok (.putfield 187, 3) := dk_181 0 187 (dk_at dksX5_valley_2 0 rfl rfl)
theorem dX5_valley_49 : decode cX5_valley 49 = .ok (.aload_n 0, 1) := dk_42 (dk_at dksX5_valley_2 3 rfl rfl)
theorem dX5_valley_50 : decode cX5_valley 50 = .ok (.iconst (-1), 1) := dk_2 (dk_at dksX5_valley_2 4 rfl rfl)
theorem dX5_valley_51 : decode cX5_valley 51 = .ok (.putfield 16, 3) := dk_181 0 16 (dk_at dksX5_valley_2 5 rfl rfl)
theorem dX5_valley_54 : decode cX5_valley 54 = .ok (.iconst 1, 1) := dk_4 (dk_at dksX5_valley_2 8 rfl rfl)
theorem dX5_valley_55 : decode cX5_valley 55 = .ok (.istore_n 3, 1) := dk_62 (dk_at dksX5_valley_2 9 rfl rfl)
theorem dX5_valley_56 : decode cX5_valley 56 = .ok (.aload_n 0, 1) := dk_42 (dk_at dksX5_valley_2 10 rfl rfl)
theorem dX5_valley_57 : decode cX5_valley 57 = .ok (.invokevirtual 230, 3) := dk_182 0 230 (dk_at dksX5_valley_2 11 rfl rfl)
theorem dX5_valley_60 : decode cX5_valley 60 = .ok (.istore 4, 2) := dk_54 4 (dk_at dksX5_valley_2 14 rfl rfl)
theorem dX5_valley_62 : decode cX5_valley 62 = .ok (.iload 4, 2) := dk_21 4 (dk_at dksX5_valley_2 16 rfl rfl)
theorem dX5_valley_64 : decode cX5_valley 64 = .ok (.ifCond .eq 69, 3) := dk_153 0 69 (dk_at dksX5_valley_2 18 rfl rfl)
theorem dX5_valley_67 : decode cX5_valley 67 = .ok (.aload_n 0, 1) := dk_42 (dk_at dksX5_valley_2 21 rfl rfl)
theorem dX5_valley_68 : decode cX5_valley 68 = .ok (.getfield 184, 3) := dk_180 0 184 (dk_at dksX5_valley_3 0 rfl rfl)
theorem dX5_valley_71 : decode cX5_valley 71 = .ok (.aload_n 0, 1) := dk_42 (dk_at dksX5_valley_3 3 rfl rfl)
theorem dX5_valley_72 : decode cX5_valley 72 = .ok (.getfield 187, 3) := dk_180 0 187 (dk_at dksX5_valley_3 4 rfl rfl)
theorem dX5_valley_75 : decode cX5_valley 75 = .ok (.if_icmp .ge 58, 3) := dk_162 0 58 (dk_at dksX5_valley_3 7 rfl rfl)
theorem dX5_valley_78 : decode cX5_valley 78 = .ok (.aload_n 0, 1) := dk_42 (dk_at dksX5_valley_3 10 rfl rfl)
theorem dX5_valley_79 : decode cX5_valley 79 = .ok (.getfield 68, 3) := dk_180 0 68 (dk_at dksX5_valley_3 11 rfl rfl)
theorem dX5_valley_82 : decode cX5_valley 82 = .ok (.aload_n 0, 1) := dk_42 (dk_at dksX5_valley_3 14 rfl rfl)
theorem dX5_valley_83 : decode cX5_valley 83 = .ok (.getfield 190, 3) := dk_180 0 190 (dk_at dksX5_valley_3 15 rfl rfl)
theorem dX5_valley_86 : decode cX5_valley 86 = .ok (.aload_n 0, 1) := dk_42 (dk_at dksX5_valley_3 18 rfl rfl)
theorem dX5_valley_87 : decode cX5_valley 87 = .ok (.getfield 184, 3) := dk_180 0 184 (dk_at dksX5_valley_3 19 rfl rfl)
theorem dX5_valley_90 : decode cX5_valley 90 = .ok (.iadd, 1) := dk_96 (dk_at dksX5_valley_3 22 rfl rfl)
theorem dX5_valley_91 : decode cX5_valley 91 = .ok (.laload, 1) := dk_47 (dk_at dksX5_valley_3 23 rfl rfl)
theorem dX5_valley_92 : decode cX5_valley 92 = .ok (.l2i, 1) := dk_136 (dk_at dksX5_valley_4 0 rfl rfl)
theorem dX5_valley_93 : decode cX5_valley 93 = .ok (.bipush 59, 2) := dk_16 59 (dk_at dksX5_valley_4 1 rfl rfl)
theorem dX5_valley_95 : decode cX5_valley 95 = .ok (.if_icmp .eq 16, 3) := dk_159 0 16 (dk_at dksX5_valley_4 3 rfl rfl)
theorem dX5_valley_98 : decode cX5_valley 98 = .ok (.aload_n 0, 1) := dk_42 (dk_at dksX5_valley_4 6 rfl rfl)
theorem dX5_valley_99 : decode cX5_valley 99 = .ok (.aload_n 0, 1) := dk_42 (dk_at dksX5_valley_4 7 rfl rfl)
theorem dX5_valley_100 : decode cX5_valley 100 = .ok (.getfield 184, 3) := dk_180 0 184 (dk_at dksX5_valley_4 8 rfl rfl)
theorem dX5_valley_103 : decode cX5_valley 103 = .ok (.invokevirtual 197, 3) := dk_182 0 197 (dk_at dksX5_valley_4 11 rfl rfl)
theorem dX5_valley_106 : decode cX5_valley 106 = .ok (.istore 4, 2) := dk_54 4 (dk_at dksX5_valley_4 14 rfl rfl)
theorem dX5_valley_108 : decode cX5_valley 108 = .ok (.goto (-46), 3) := dk_167 255 210 (dk_at dksX5_valley_4 16 rfl rfl)
theorem dX5_valley_111 : decode cX5_valley 111 = .ok (.aload_n 0, 1) := dk_42 (dk_at dksX5_valley_4 19 rfl rfl)
theorem dX5_valley_112 : decode cX5_valley 112 = .ok (.dup, 1) := dk_89 (dk_at dksX5_valley_4 20 rfl rfl)
theorem dX5_valley_113 : decode cX5_valley 113 = .ok (.getfield 184, 3) := dk_180 0 184 (dk_at dksX5_valley_4 21 rfl rfl)
theorem dX5_valley_116 : decode cX5_valley 116 = .ok (.iconst 1, 1) := dk_4 (dk_at dksX5_valley_5 0 rfl rfl)
theorem dX5_valley_117 : decode cX5_valley 117 = .ok (.iadd, 1) := dk_96 (dk_at dksX5_valley_5 1 rfl rfl)
theorem dX5_valley_118 : decode cX5_valley 118 = .ok (.putfield 184, 3) := dk_181 0 184 (dk_at dksX5_valley_5 2 rfl rfl)
theorem dX5_valley_121 : decode cX5_valley 121 = .ok (.iinc 3 1, 3) := dk_132 3 1 (dk_at dksX5_valley_5 5 rfl rfl)
theorem dX5_valley_124 : decode cX5_valley 124 = .ok (.aload_n 0, 1) := dk_42 (dk_at dksX5_valley_5 8 rfl rfl)
theorem dX5_valley_125 : decode cX5_valley 125 = .ok (.invokevirtual 230, 3) := dk_182 0 230 (dk_at dksX5_valley_5 9 rfl rfl)
theorem dX5_valley_128 : decode cX5_valley 128 = .ok (.istore 4, 2) := dk_54 4 (dk_at dksX5_valley_5 12 rfl rfl)
theorem dX5_valley_130 : decode cX5_valley 130 = .ok (.goto (-68), 3) := dk_167 255 188 (dk_at dksX5_valley_5 14 rfl rfl)
theorem dX5_valley_133 : decode cX5_valley 133 = .ok (.iload 4, 2) := dk_21 4 (dk_at dksX5_valley_5 17 rfl rfl)
theorem dX5_valley_135 : decode cX5_valley 135 = .ok (.ifCond .eq 5, 3) := dk_153 0 5 (dk_at dksX5_valley_5 19 rfl rfl)
theorem dX5_valley_138 : decode cX5_valley 138 = .ok (.iload_n 3, 1) := dk_29 (dk_at dksX5_valley_5 22 rfl rfl)
theorem dX5_valley_139 : decode cX5_valley 139 = .ok (.ireturn, 1) := dk_172 (dk_at dksX5_valley_5 23 rfl rfl)
theorem dX5_valley_140 : decode cX5_valley 140 = .ok (.aload_n 0, 1) := dk_42 (dk_at dksX5_valley_6 0 rfl rfl)
theorem dX5_valley_141 : decode cX5_valley 141 = .ok (.aload_n 0, 1) := dk_42 (dk_at dksX5_valley_6 1 rfl rfl)
theorem dX5_valley_142 : decode cX5_valley 142 = .ok (.getfield 81, 3) := dk_180 0 81 (dk_at dksX5_valley_6 2 rfl rfl)
theorem dX5_valley_145 : decode cX5_valley 145 = .ok (.iconst 1, 1) := dk_4 (dk_at dksX5_valley_6 5 rfl rfl)
theorem dX5_valley_146 : decode cX5_valley 146 = .ok (.invokevirtual 226, 3) := dk_182 0 226 (dk_at dksX5_valley_6 6 rfl rfl)
theorem dX5_valley_149 : decode cX5_valley 149 = .ok (.aload_n 0, 1) := dk_42 (dk_at dksX5_valley_6 9 rfl rfl)
theorem dX5_valley_150 : decode cX5_valley 150 = .ok (.aload_n 0, 1) := dk_42 (dk_at dksX5_valley_6 10 rfl rfl)
theorem dX5_valley_151 : decode cX5_valley 151 = .ok (.getfield 181, 3) := dk_180 0 181 (dk_at dksX5_valley_6 11 rfl rfl)
theorem dX5_valley_154 : decode cX5_valley 154 = .ok (.putfield 16, 3) := dk_181 0 16 (dk_at dksX5_valley_6 14 rfl rfl)
theorem dX5_valley_157 : decode cX5_valley 157 = .ok (.aload_n 0, 1) := dk_42 (dk_at dksX5_valley_6 17 rfl rfl)
theorem dX5_valley_158 : decode cX5_valley 158 = .ok (.bipush (-6), 2) := dk_16 250 (dk_at dksX5_valley_6 18 rfl rfl)
theorem dX5_valley_160 : decode cX5_valley 160 = .ok (.invokevirtual 136, 3) := dk_182 0 136 (dk_at dksX5_valley_6 20 rfl rfl)
theorem dX5_valley_163 : decode cX5_valley 163 = .ok (.ireturn, 1) := dk_172 (dk_at dksX5_valley_6 23 rfl rfl)
abbrev cX5_all : ByteArray := prog_22_method_42_code
def yX5_all : MethodName := ⟨RX5, "all", "([IZ)V"⟩
def dkwX5_all_13 : List UInt8 := [96, 42, 180, 0, 13, 79, 43, 29, 16, 8, 96, 42, 180, 0, 223, 79, 177]
abbrev dktX5_all_13 : List UInt8 := dkwX5_all_13 ++ []
def dkwX5_all_12 : List UInt8 := [79, 43, 29, 8, 96, 42, 180, 0, 126, 79, 43, 29, 16, 6, 96, 42, 180, 0, 171, 79, 43, 29, 16, 7]
abbrev dktX5_all_12 : List UInt8 := dkwX5_all_12 ++ dktX5_all_13
def dkwX5_all_11 : List UInt8 := [5, 96, 42, 180, 0, 162, 79, 43, 29, 6, 96, 42, 180, 0, 7, 79, 43, 29, 7, 96, 42, 180, 0, 123]
abbrev dktX5_all_11 : List UInt8 := dkwX5_all_11 ++ dktX5_all_12
def dkwX5_all_10 : List UInt8 := [181, 0, 223, 167, 0, 85, 43, 29, 42, 180, 0, 117, 79, 43, 29, 4, 96, 42, 180, 0, 120, 79, 43, 29]
abbrev dktX5_all_10 : List UInt8 := dkwX5_all_10 ++ dktX5_all_11
def dkwX5_all_9 : List UInt8 := [16, 6, 96, 46, 181, 0, 171, 42, 43, 29, 16, 7, 96, 46, 181, 0, 13, 42, 43, 29, 16, 8, 96, 46]
abbrev dktX5_all_9 : List UInt8 := dkwX5_all_9 ++ dktX5_all_10
def dkwX5_all_8 : List UInt8 := [181, 0, 7, 42, 43, 29, 7, 96, 46, 181, 0, 123, 42, 43, 29, 8, 96, 46, 181, 0, 126, 42, 43, 29]
abbrev dktX5_all_8 : List UInt8 := dkwX5_all_8 ++ dktX5_all_9
def dkwX5_all_7 : List UInt8 := [29, 4, 96, 46, 181, 0, 120, 42, 43, 29, 5, 96, 46, 181, 0, 162, 42, 43, 29, 6, 96, 46]
abbrev dktX5_all_7 : List UInt8 := dkwX5_all_7 ++ dktX5_all_8
def dkwX5_all_6 : List UInt8 := [180, 0, 53, 7, 43, 29, 28, 182, 0, 219, 62, 28, 153, 0, 88, 42, 43, 29, 46, 181, 0, 117, 42, 43]
abbrev dktX5_all_6 : List UInt8 := dkwX5_all_6 ++ dktX5_all_7
def dkwX5_all_5 : List UInt8 := [43, 29, 28, 182, 0, 219, 62, 42, 42, 180, 0, 50, 7, 43, 29, 28, 182, 0, 219, 62, 42, 42]
abbrev dktX5_all_5 : List UInt8 := dkwX5_all_5 ++ dktX5_all_6
def dkwX5_all_4 : List UInt8 := [182, 0, 219, 62, 42, 42, 180, 0, 44, 16, 8, 43, 29, 28, 182, 0, 219, 62, 42, 42, 180, 0, 47, 7]
abbrev dktX5_all_4 : List UInt8 := dkwX5_all_4 ++ dktX5_all_5
def dkwX5_all_3 : List UInt8 := [42, 180, 0, 38, 16, 8, 43, 29, 28, 182, 0, 219, 62, 42, 42, 180, 0, 41, 16, 8, 43, 29, 28]
abbrev dktX5_all_3 : List UInt8 := dkwX5_all_3 ++ dktX5_all_4
def dkwX5_all_2 : List UInt8 := [16, 8, 43, 29, 28, 182, 0, 219, 62, 42, 42, 180, 0, 35, 16, 8, 43, 29, 28, 182, 0, 219, 62, 42]
abbrev dktX5_all_2 : List UInt8 := dkwX5_all_2 ++ dktX5_all_3
def dkwX5_all_1 : List UInt8 := [182, 0, 219, 62, 42, 42, 180, 0, 29, 16, 8, 43, 29, 28, 182, 0, 219, 62, 42, 42, 180, 0, 32]
abbrev dktX5_all_1 : List UInt8 := dkwX5_all_1 ++ dktX5_all_2
def dkwX5_all_0 : List UInt8 := [42, 42, 180, 0, 23, 16, 8, 43, 3, 28, 182, 0, 219, 62, 42, 42, 180, 0, 26, 16, 8, 43, 29, 28]
abbrev dktX5_all_0 : List UInt8 := dkwX5_all_0 ++ dktX5_all_1
theorem dksX5_all_0 : cX5_all.data.toList.drop 0 = dktX5_all_0 := by decide +kernel
theorem dksX5_all_1 : cX5_all.data.toList.drop 24 = dktX5_all_1 := dk_seg dksX5_all_0 24 rfl rfl
theorem dksX5_all_2 : cX5_all.data.toList.drop 47 = dktX5_all_2 := dk_seg dksX5_all_1 23 rfl rfl
theorem dksX5_all_3 : cX5_all.data.toList.drop 71 = dktX5_all_3 := dk_seg dksX5_all_2 24 rfl rfl
theorem dksX5_all_4 : cX5_all.data.toList.drop 94 = dktX5_all_4 := dk_seg dksX5_all_3 23 rfl rfl
theorem dksX5_all_5 : cX5_all.data.toList.drop 118 = dktX5_all_5 := dk_seg dksX5_all_4 24 rfl rfl
theorem dksX5_all_6 : cX5_all.data.toList.drop 140 = dktX5_all_6 := dk_seg dksX5_all_5 22 rfl rfl
theorem dksX5_all_7 : cX5_all.data.toList.drop 164 = dktX5_all_7 := dk_seg dksX5_all_6 24 rfl rfl
theorem dksX5_all_8 : cX5_all.data.toList.drop 186 = dktX5_all_8 := dk_seg dksX5_all_7 22 rfl rfl
theorem dksX5_all_9 : cX5_all.data.toList.drop 210 = dktX5_all_9 := dk_seg dksX5_all_8 24 rfl rfl
theorem dksX5_all_10 : cX5_all.data.toList.drop 234 = dktX5_all_10 := dk_seg dksX5_all_9 24 rfl rfl
theorem dksX5_all_11 : cX5_all.data.toList.drop 258 = dktX5_all_11 := dk_seg dksX5_all_10 24 rfl rfl
theorem dksX5_all_12 : cX5_all.data.toList.drop 282 = dktX5_all_12 := dk_seg dksX5_all_11 24 rfl rfl
theorem dksX5_all_13 : cX5_all.data.toList.drop 306 = dktX5_all_13 := dk_seg dksX5_all_12 24 rfl rfl
theorem dX5_all_0 : decode cX5_all 0 = .ok (.aload_n 0, 1) := dk_42 (dk_at dksX5_all_0 0 rfl rfl)
theorem dX5_all_1 : decode cX5_all 1 = .ok (.aload_n 0, 1) := dk_42 (dk_at dksX5_all_0 1 rfl rfl)
theorem dX5_all_2 : decode cX5_all 2 = .ok (.getfield 23, 3) := dk_180 0 23 (dk_at dksX5_all_0 2 rfl rfl)
theorem dX5_all_5 : decode cX5_all 5 = .ok (.bipush 8, 2) := dk_16 8 (dk_at dksX5_all_0 5 rfl rfl)
theorem dX5_all_7 : decode cX5_all 7 = .ok (.aload_n 1, 1) := dk_43 (dk_at dksX5_all_0 7 rfl rfl)
theorem dX5_all_8 : decode cX5_all 8 = .ok (.iconst 0, 1) := dk_3 (dk_at dksX5_all_0 8 rfl rfl)
theorem dX5_all_9 : decode cX5_all 9 = .ok (.iload_n 2, 1) := dk_28 (dk_at dksX5_all_0 9 rfl rfl)
theorem dX5_all_10 : decode cX5_all 10 = .ok (.invokevirtual 219, 3) := dk_182 0 219 (dk_at dksX5_all_0 10 rfl rfl)
theorem dX5_all_13 : decode cX5_all 13 = .ok (.istore_n 3, 1) := dk_62 (dk_at dksX5_all_0 13 rfl rfl)
theorem dX5_all_14 : decode cX5_all 14 = .ok (.aload_n 0, 1) := dk_42 (dk_at dksX5_all_0 14 rfl rfl)
theorem dX5_all_15 : decode cX5_all 15 = .ok (.aload_n 0, 1) := dk_42 (dk_at dksX5_all_0 15 rfl rfl)
theorem dX5_all_16 : decode cX5_all 16 = .ok (.getfield 26, 3) := dk_180 0 26 (dk_at dksX5_all_0 16 rfl rfl)
theorem dX5_all_19 : decode cX5_all 19 = .ok (.bipush 8, 2) := dk_16 8 (dk_at dksX5_all_0 19 rfl rfl)
theorem dX5_all_21 : decode cX5_all 21 = .ok (.aload_n 1, 1) := dk_43 (dk_at dksX5_all_0 21 rfl rfl)
theorem dX5_all_22 : decode cX5_all 22 = .ok (.iload_n 3, 1) := dk_29 (dk_at dksX5_all_0 22 rfl rfl)
theorem dX5_all_23 : decode cX5_all 23 = .ok (.iload_n 2, 1) := dk_28 (dk_at dksX5_all_0 23 rfl rfl)
theorem dX5_all_24 : decode cX5_all 24 = .ok (.invokevirtual 219, 3) := dk_182 0 219 (dk_at dksX5_all_1 0 rfl rfl)
theorem dX5_all_27 : decode cX5_all 27 = .ok (.istore_n 3, 1) := dk_62 (dk_at dksX5_all_1 3 rfl rfl)
theorem dX5_all_28 : decode cX5_all 28 = .ok (.aload_n 0, 1) := dk_42 (dk_at dksX5_all_1 4 rfl rfl)
theorem dX5_all_29 : decode cX5_all 29 = .ok (.aload_n 0, 1) := dk_42 (dk_at dksX5_all_1 5 rfl rfl)
theorem dX5_all_30 : decode cX5_all 30 = .ok (.getfield 29, 3) := dk_180 0 29 (dk_at dksX5_all_1 6 rfl rfl)
theorem dX5_all_33 : decode cX5_all 33 = .ok (.bipush 8, 2) := dk_16 8 (dk_at dksX5_all_1 9 rfl rfl)
theorem dX5_all_35 : decode cX5_all 35 = .ok (.aload_n 1, 1) := dk_43 (dk_at dksX5_all_1 11 rfl rfl)
theorem dX5_all_36 : decode cX5_all 36 = .ok (.iload_n 3, 1) := dk_29 (dk_at dksX5_all_1 12 rfl rfl)
theorem dX5_all_37 : decode cX5_all 37 = .ok (.iload_n 2, 1) := dk_28 (dk_at dksX5_all_1 13 rfl rfl)
theorem dX5_all_38 : decode cX5_all 38 = .ok (.invokevirtual 219, 3) := dk_182 0 219 (dk_at dksX5_all_1 14 rfl rfl)
theorem dX5_all_41 : decode cX5_all 41 = .ok (.istore_n 3, 1) := dk_62 (dk_at dksX5_all_1 17 rfl rfl)
theorem dX5_all_42 : decode cX5_all 42 = .ok (.aload_n 0, 1) := dk_42 (dk_at dksX5_all_1 18 rfl rfl)
theorem dX5_all_43 : decode cX5_all 43 = .ok (.aload_n 0, 1) := dk_42 (dk_at dksX5_all_1 19 rfl rfl)
theorem dX5_all_44 : decode cX5_all 44 = .ok (.getfield 32, 3) := dk_180 0 32 (dk_at dksX5_all_1 20 rfl rfl)
theorem dX5_all_47 : decode cX5_all 47 = .ok (.bipush 8, 2) := dk_16 8 (dk_at dksX5_all_2 0 rfl rfl)
theorem dX5_all_49 : decode cX5_all 49 = .ok (.aload_n 1, 1) := dk_43 (dk_at dksX5_all_2 2 rfl rfl)
theorem dX5_all_50 : decode cX5_all 50 = .ok (.iload_n 3, 1) := dk_29 (dk_at dksX5_all_2 3 rfl rfl)
theorem dX5_all_51 : decode cX5_all 51 = .ok (.iload_n 2, 1) := dk_28 (dk_at dksX5_all_2 4 rfl rfl)
theorem dX5_all_52 : decode cX5_all 52 = .ok (.invokevirtual 219, 3) := dk_182 0 219 (dk_at dksX5_all_2 5 rfl rfl)
theorem dX5_all_55 : decode cX5_all 55 = .ok (.istore_n 3, 1) := dk_62 (dk_at dksX5_all_2 8 rfl rfl)
theorem dX5_all_56 : decode cX5_all 56 = .ok (.aload_n 0, 1) := dk_42 (dk_at dksX5_all_2 9 rfl rfl)
theorem dX5_all_57 : decode cX5_all 57 = .ok (.aload_n 0, 1) := dk_42 (dk_at dksX5_all_2 10 rfl rfl)
theorem dX5_all_58 : decode cX5_all 58 = .ok (.getfield 35, 3) := dk_180 0 35 (dk_at dksX5_all_2 11 rfl rfl)
theorem dX5_all_61 : decode cX5_all 61 = .ok (.bipush 8, 2) := dk_16 8 (dk_at dksX5_all_2 14 rfl rfl)
theorem dX5_all_63 : decode cX5_all 63 = .ok (.aload_n 1, 1) := dk_43 (dk_at dksX5_all_2 16 rfl rfl)
theorem dX5_all_64 : decode cX5_all 64 = .ok (.iload_n 3, 1) := dk_29 (dk_at dksX5_all_2 17 rfl rfl)
theorem dX5_all_65 : decode cX5_all 65 = .ok (.iload_n 2, 1) := dk_28 (dk_at dksX5_all_2 18 rfl rfl)
theorem dX5_all_66 : decode cX5_all 66 = .ok (.invokevirtual 219, 3) := dk_182 0 219 (dk_at dksX5_all_2 19 rfl rfl)
theorem dX5_all_69 : decode cX5_all 69 = .ok (.istore_n 3, 1) := dk_62 (dk_at dksX5_all_2 22 rfl rfl)
theorem dX5_all_70 : decode cX5_all 70 = .ok (.aload_n 0, 1) := dk_42 (dk_at dksX5_all_2 23 rfl rfl)
theorem dX5_all_71 : decode cX5_all 71 = .ok (.aload_n 0, 1) := dk_42 (dk_at dksX5_all_3 0 rfl rfl)
theorem dX5_all_72 : decode cX5_all 72 = .ok (.getfield 38, 3) := dk_180 0 38 (dk_at dksX5_all_3 1 rfl rfl)
theorem dX5_all_75 : decode cX5_all 75 = .ok (.bipush 8, 2) := dk_16 8 (dk_at dksX5_all_3 4 rfl rfl)
theorem dX5_all_77 : decode cX5_all 77 = .ok (.aload_n 1, 1) := dk_43 (dk_at dksX5_all_3 6 rfl rfl)
theorem dX5_all_78 : decode cX5_all 78 = .ok (.iload_n 3, 1) := dk_29 (dk_at dksX5_all_3 7 rfl rfl)
theorem dX5_all_79 : decode cX5_all 79 = .ok (.iload_n 2, 1) := dk_28 (dk_at dksX5_all_3 8 rfl rfl)
theorem dX5_all_80 : decode cX5_all 80 = .ok (.invokevirtual 219, 3) := dk_182 0 219 (dk_at dksX5_all_3 9 rfl rfl)
theorem dX5_all_83 : decode cX5_all 83 = .ok (.istore_n 3, 1) := dk_62 (dk_at dksX5_all_3 12 rfl rfl)
theorem dX5_all_84 : decode cX5_all 84 = .ok (.aload_n 0, 1) := dk_42 (dk_at dksX5_all_3 13 rfl rfl)
theorem dX5_all_85 : decode cX5_all 85 = .ok (.aload_n 0, 1) := dk_42 (dk_at dksX5_all_3 14 rfl rfl)
theorem dX5_all_86 : decode cX5_all 86 = .ok (.getfield 41, 3) := dk_180 0 41 (dk_at dksX5_all_3 15 rfl rfl)
theorem dX5_all_89 : decode cX5_all 89 = .ok (.bipush 8, 2) := dk_16 8 (dk_at dksX5_all_3 18 rfl rfl)
theorem dX5_all_91 : decode cX5_all 91 = .ok (.aload_n 1, 1) := dk_43 (dk_at dksX5_all_3 20 rfl rfl)
theorem dX5_all_92 : decode cX5_all 92 = .ok (.iload_n 3, 1) := dk_29 (dk_at dksX5_all_3 21 rfl rfl)
theorem dX5_all_93 : decode cX5_all 93 = .ok (.iload_n 2, 1) := dk_28 (dk_at dksX5_all_3 22 rfl rfl)
theorem dX5_all_94 : decode cX5_all 94 = .ok (.invokevirtual 219, 3) := dk_182 0 219 (dk_at dksX5_all_4 0 rfl rfl)
theorem dX5_all_97 : decode cX5_all 97 = .ok (.istore_n 3, 1) := dk_62 (dk_at dksX5_all_4 3 rfl rfl)
theorem dX5_all_98 : decode cX5_all 98 = .ok (.aload_n 0, 1) := dk_42 (dk_at dksX5_all_4 4 rfl rfl)
theorem dX5_all_99 : decode cX5_all 99 = .ok (.aload_n 0, 1) := dk_42 (dk_at dksX5_all_4 5 rfl rfl)
theorem dX5_all_100 : decode cX5_all 100 = .ok (.getfield 44, 3) := dk_180 0 44 (dk_at dksX5_all_4 6 rfl rfl)
theorem dX5_all_103 : decode cX5_all 103 = .ok (.bipush 8, 2) := dk_16 8 (dk_at dksX5_all_4 9 rfl rfl)
theorem dX5_all_105 : decode cX5_all 105 = .ok (.aload_n 1, 1) := dk_43 (dk_at dksX5_all_4 11 rfl rfl)
theorem dX5_all_106 : decode cX5_all 106 = .ok (.iload_n 3, 1) := dk_29 (dk_at dksX5_all_4 12 rfl rfl)
theorem dX5_all_107 : decode cX5_all 107 = .ok (.iload_n 2, 1) := dk_28 (dk_at dksX5_all_4 13 rfl rfl)
theorem dX5_all_108 : decode cX5_all 108 = .ok (.invokevirtual 219, 3) := dk_182 0 219 (dk_at dksX5_all_4 14 rfl rfl)
theorem dX5_all_111 : decode cX5_all 111 = .ok (.istore_n 3, 1) := dk_62 (dk_at dksX5_all_4 17 rfl rfl)
theorem dX5_all_112 : decode cX5_all 112 = .ok (.aload_n 0, 1) := dk_42 (dk_at dksX5_all_4 18 rfl rfl)
theorem dX5_all_113 : decode cX5_all 113 = .ok (.aload_n 0, 1) := dk_42 (dk_at dksX5_all_4 19 rfl rfl)
theorem dX5_all_114 : decode cX5_all 114 = .ok (.getfield 47, 3) := dk_180 0 47 (dk_at dksX5_all_4 20 rfl rfl)
theorem dX5_all_117 : decode cX5_all 117 = .ok (.iconst 4, 1) := dk_7 (dk_at dksX5_all_4 23 rfl rfl)
theorem dX5_all_118 : decode cX5_all 118 = .ok (.aload_n 1, 1) := dk_43 (dk_at dksX5_all_5 0 rfl rfl)
theorem dX5_all_119 : decode cX5_all 119 = .ok (.iload_n 3, 1) := dk_29 (dk_at dksX5_all_5 1 rfl rfl)
theorem dX5_all_120 : decode cX5_all 120 = .ok (.iload_n 2, 1) := dk_28 (dk_at dksX5_all_5 2 rfl rfl)
theorem dX5_all_121 : decode cX5_all 121 = .ok (.invokevirtual 219, 3) := dk_182 0 219 (dk_at dksX5_all_5 3 rfl rfl)
theorem dX5_all_124 : decode cX5_all 124 = .ok (.istore_n 3, 1) := dk_62 (dk_at dksX5_all_5 6 rfl rfl)
theorem dX5_all_125 : decode cX5_all 125 = .ok (.aload_n 0, 1) := dk_42 (dk_at dksX5_all_5 7 rfl rfl)
theorem dX5_all_126 : decode cX5_all 126 = .ok (.aload_n 0, 1) := dk_42 (dk_at dksX5_all_5 8 rfl rfl)
theorem dX5_all_127 : decode cX5_all 127 = .ok (.getfield 50, 3) := dk_180 0 50 (dk_at dksX5_all_5 9 rfl rfl)
theorem dX5_all_130 : decode cX5_all 130 = .ok (.iconst 4, 1) := dk_7 (dk_at dksX5_all_5 12 rfl rfl)
theorem dX5_all_131 : decode cX5_all 131 = .ok (.aload_n 1, 1) := dk_43 (dk_at dksX5_all_5 13 rfl rfl)
theorem dX5_all_132 : decode cX5_all 132 = .ok (.iload_n 3, 1) := dk_29 (dk_at dksX5_all_5 14 rfl rfl)
theorem dX5_all_133 : decode cX5_all 133 = .ok (.iload_n 2, 1) := dk_28 (dk_at dksX5_all_5 15 rfl rfl)
theorem dX5_all_134 : decode cX5_all 134 = .ok (.invokevirtual 219, 3) := dk_182 0 219 (dk_at dksX5_all_5 16 rfl rfl)
theorem dX5_all_137 : decode cX5_all 137 = .ok (.istore_n 3, 1) := dk_62 (dk_at dksX5_all_5 19 rfl rfl)
theorem dX5_all_138 : decode cX5_all 138 = .ok (.aload_n 0, 1) := dk_42 (dk_at dksX5_all_5 20 rfl rfl)
theorem dX5_all_139 : decode cX5_all 139 = .ok (.aload_n 0, 1) := dk_42 (dk_at dksX5_all_5 21 rfl rfl)
theorem dX5_all_140 : decode cX5_all 140 = .ok (.getfield 53, 3) := dk_180 0 53 (dk_at dksX5_all_6 0 rfl rfl)
theorem dX5_all_143 : decode cX5_all 143 = .ok (.iconst 4, 1) := dk_7 (dk_at dksX5_all_6 3 rfl rfl)
theorem dX5_all_144 : decode cX5_all 144 = .ok (.aload_n 1, 1) := dk_43 (dk_at dksX5_all_6 4 rfl rfl)
theorem dX5_all_145 : decode cX5_all 145 = .ok (.iload_n 3, 1) := dk_29 (dk_at dksX5_all_6 5 rfl rfl)
theorem dX5_all_146 : decode cX5_all 146 = .ok (.iload_n 2, 1) := dk_28 (dk_at dksX5_all_6 6 rfl rfl)
theorem dX5_all_147 : decode cX5_all 147 = .ok (.invokevirtual 219, 3) := dk_182 0 219 (dk_at dksX5_all_6 7 rfl rfl)
theorem dX5_all_150 : decode cX5_all 150 = .ok (.istore_n 3, 1) := dk_62 (dk_at dksX5_all_6 10 rfl rfl)
theorem dX5_all_151 : decode cX5_all 151 = .ok (.iload_n 2, 1) := dk_28 (dk_at dksX5_all_6 11 rfl rfl)
theorem dX5_all_152 : decode cX5_all 152 = .ok (.ifCond .eq 88, 3) := dk_153 0 88 (dk_at dksX5_all_6 12 rfl rfl)
theorem dX5_all_155 : decode cX5_all 155 = .ok (.aload_n 0, 1) := dk_42 (dk_at dksX5_all_6 15 rfl rfl)
theorem dX5_all_156 : decode cX5_all 156 = .ok (.aload_n 1, 1) := dk_43 (dk_at dksX5_all_6 16 rfl rfl)
theorem dX5_all_157 : decode cX5_all 157 = .ok (.iload_n 3, 1) := dk_29 (dk_at dksX5_all_6 17 rfl rfl)
theorem dX5_all_158 : decode cX5_all 158 = .ok (.iaload, 1) := dk_46 (dk_at dksX5_all_6 18 rfl rfl)
theorem dX5_all_159 : decode cX5_all 159 = .ok (.putfield 117, 3) := dk_181 0 117 (dk_at dksX5_all_6 19 rfl rfl)
theorem dX5_all_162 : decode cX5_all 162 = .ok (.aload_n 0, 1) := dk_42 (dk_at dksX5_all_6 22 rfl rfl)
theorem dX5_all_163 : decode cX5_all 163 = .ok (.aload_n 1, 1) := dk_43 (dk_at dksX5_all_6 23 rfl rfl)
theorem dX5_all_164 : decode cX5_all 164 = .ok (.iload_n 3, 1) := dk_29 (dk_at dksX5_all_7 0 rfl rfl)
theorem dX5_all_165 : decode cX5_all 165 = .ok (.iconst 1, 1) := dk_4 (dk_at dksX5_all_7 1 rfl rfl)
theorem dX5_all_166 : decode cX5_all 166 = .ok (.iadd, 1) := dk_96 (dk_at dksX5_all_7 2 rfl rfl)
theorem dX5_all_167 : decode cX5_all 167 = .ok (.iaload, 1) := dk_46 (dk_at dksX5_all_7 3 rfl rfl)
theorem dX5_all_168 : decode cX5_all 168 = .ok (.putfield 120, 3) := dk_181 0 120 (dk_at dksX5_all_7 4 rfl rfl)
theorem dX5_all_171 : decode cX5_all 171 = .ok (.aload_n 0, 1) := dk_42 (dk_at dksX5_all_7 7 rfl rfl)
theorem dX5_all_172 : decode cX5_all 172 = .ok (.aload_n 1, 1) := dk_43 (dk_at dksX5_all_7 8 rfl rfl)
theorem dX5_all_173 : decode cX5_all 173 = .ok (.iload_n 3, 1) := dk_29 (dk_at dksX5_all_7 9 rfl rfl)
theorem dX5_all_174 : decode cX5_all 174 = .ok (.iconst 2, 1) := dk_5 (dk_at dksX5_all_7 10 rfl rfl)
theorem dX5_all_175 : decode cX5_all 175 = .ok (.iadd, 1) := dk_96 (dk_at dksX5_all_7 11 rfl rfl)
theorem dX5_all_176 : decode cX5_all 176 = .ok (.iaload, 1) := dk_46 (dk_at dksX5_all_7 12 rfl rfl)
theorem dX5_all_177 : decode cX5_all 177 = .ok (.putfield 162, 3) := dk_181 0 162 (dk_at dksX5_all_7 13 rfl rfl)
theorem dX5_all_180 : decode cX5_all 180 = .ok (.aload_n 0, 1) := dk_42 (dk_at dksX5_all_7 16 rfl rfl)
theorem dX5_all_181 : decode cX5_all 181 = .ok (.aload_n 1, 1) := dk_43 (dk_at dksX5_all_7 17 rfl rfl)
theorem dX5_all_182 : decode cX5_all 182 = .ok (.iload_n 3, 1) := dk_29 (dk_at dksX5_all_7 18 rfl rfl)
theorem dX5_all_183 : decode cX5_all 183 = .ok (.iconst 3, 1) := dk_6 (dk_at dksX5_all_7 19 rfl rfl)
theorem dX5_all_184 : decode cX5_all 184 = .ok (.iadd, 1) := dk_96 (dk_at dksX5_all_7 20 rfl rfl)
theorem dX5_all_185 : decode cX5_all 185 = .ok (.iaload, 1) := dk_46 (dk_at dksX5_all_7 21 rfl rfl)
theorem dX5_all_186 : decode cX5_all 186 = .ok (.putfield 7, 3) := dk_181 0 7 (dk_at dksX5_all_8 0 rfl rfl)
theorem dX5_all_189 : decode cX5_all 189 = .ok (.aload_n 0, 1) := dk_42 (dk_at dksX5_all_8 3 rfl rfl)
theorem dX5_all_190 : decode cX5_all 190 = .ok (.aload_n 1, 1) := dk_43 (dk_at dksX5_all_8 4 rfl rfl)
theorem dX5_all_191 : decode cX5_all 191 = .ok (.iload_n 3, 1) := dk_29 (dk_at dksX5_all_8 5 rfl rfl)
theorem dX5_all_192 : decode cX5_all 192 = .ok (.iconst 4, 1) := dk_7 (dk_at dksX5_all_8 6 rfl rfl)
theorem dX5_all_193 : decode cX5_all 193 = .ok (.iadd, 1) := dk_96 (dk_at dksX5_all_8 7 rfl rfl)
theorem dX5_all_194 : decode cX5_all 194 = .ok (.iaload, 1) := dk_46 (dk_at dksX5_all_8 8 rfl rfl)
theorem dX5_all_195 : decode cX5_all 195 = .ok (.putfield 123, 3) := dk_181 0 123 (dk_at dksX5_all_8 9 rfl rfl)
theorem dX5_all_198 : decode cX5_all 198 = .ok (.aload_n 0, 1) := dk_42 (dk_at dksX5_all_8 12 rfl rfl)
theorem dX5_all_199 : decode cX5_all 199 = .ok (.aload_n 1, 1) := dk_43 (dk_at dksX5_all_8 13 rfl rfl)
theorem dX5_all_200 : decode cX5_all 200 = .ok (.iload_n 3, 1) := dk_29 (dk_at dksX5_all_8 14 rfl rfl)
theorem dX5_all_201 : decode cX5_all 201 = .ok (.iconst 5, 1) := dk_8 (dk_at dksX5_all_8 15 rfl rfl)
theorem dX5_all_202 : decode cX5_all 202 = .ok (.iadd, 1) := dk_96 (dk_at dksX5_all_8 16 rfl rfl)
theorem dX5_all_203 : decode cX5_all 203 = .ok (.iaload, 1) := dk_46 (dk_at dksX5_all_8 17 rfl rfl)
theorem dX5_all_204 : decode cX5_all 204 = .ok (.putfield 126, 3) := dk_181 0 126 (dk_at dksX5_all_8 18 rfl rfl)
theorem dX5_all_207 : decode cX5_all 207 = .ok (.aload_n 0, 1) := dk_42 (dk_at dksX5_all_8 21 rfl rfl)
theorem dX5_all_208 : decode cX5_all 208 = .ok (.aload_n 1, 1) := dk_43 (dk_at dksX5_all_8 22 rfl rfl)
theorem dX5_all_209 : decode cX5_all 209 = .ok (.iload_n 3, 1) := dk_29 (dk_at dksX5_all_8 23 rfl rfl)
theorem dX5_all_210 : decode cX5_all 210 = .ok (.bipush 6, 2) := dk_16 6 (dk_at dksX5_all_9 0 rfl rfl)
theorem dX5_all_212 : decode cX5_all 212 = .ok (.iadd, 1) := dk_96 (dk_at dksX5_all_9 2 rfl rfl)
theorem dX5_all_213 : decode cX5_all 213 = .ok (.iaload, 1) := dk_46 (dk_at dksX5_all_9 3 rfl rfl)
theorem dX5_all_214 : decode cX5_all 214 = .ok (.putfield 171, 3) := dk_181 0 171 (dk_at dksX5_all_9 4 rfl rfl)
theorem dX5_all_217 : decode cX5_all 217 = .ok (.aload_n 0, 1) := dk_42 (dk_at dksX5_all_9 7 rfl rfl)
theorem dX5_all_218 : decode cX5_all 218 = .ok (.aload_n 1, 1) := dk_43 (dk_at dksX5_all_9 8 rfl rfl)
theorem dX5_all_219 : decode cX5_all 219 = .ok (.iload_n 3, 1) := dk_29 (dk_at dksX5_all_9 9 rfl rfl)
theorem dX5_all_220 : decode cX5_all 220 = .ok (.bipush 7, 2) := dk_16 7 (dk_at dksX5_all_9 10 rfl rfl)
theorem dX5_all_222 : decode cX5_all 222 = .ok (.iadd, 1) := dk_96 (dk_at dksX5_all_9 12 rfl rfl)
theorem dX5_all_223 : decode cX5_all 223 = .ok (.iaload, 1) := dk_46 (dk_at dksX5_all_9 13 rfl rfl)
theorem dX5_all_224 : decode cX5_all 224 = .ok (.putfield 13, 3) := dk_181 0 13 (dk_at dksX5_all_9 14 rfl rfl)
theorem dX5_all_227 : decode cX5_all 227 = .ok (.aload_n 0, 1) := dk_42 (dk_at dksX5_all_9 17 rfl rfl)
theorem dX5_all_228 : decode cX5_all 228 = .ok (.aload_n 1, 1) := dk_43 (dk_at dksX5_all_9 18 rfl rfl)
theorem dX5_all_229 : decode cX5_all 229 = .ok (.iload_n 3, 1) := dk_29 (dk_at dksX5_all_9 19 rfl rfl)
theorem dX5_all_230 : decode cX5_all 230 = .ok (.bipush 8, 2) := dk_16 8 (dk_at dksX5_all_9 20 rfl rfl)
theorem dX5_all_232 : decode cX5_all 232 = .ok (.iadd, 1) := dk_96 (dk_at dksX5_all_9 22 rfl rfl)
theorem dX5_all_233 : decode cX5_all 233 = .ok (.iaload, 1) := dk_46 (dk_at dksX5_all_9 23 rfl rfl)
theorem dX5_all_234 : decode cX5_all 234 = .ok (.putfield 223, 3) := dk_181 0 223 (dk_at dksX5_all_10 0 rfl rfl)
theorem dX5_all_237 : decode cX5_all 237 = .ok (.goto 85, 3) := dk_167 0 85 (dk_at dksX5_all_10 3 rfl rfl)
theorem dX5_all_240 : decode cX5_all 240 = .ok (.aload_n 1, 1) := dk_43 (dk_at dksX5_all_10 6 rfl rfl)
theorem dX5_all_241 : decode cX5_all 241 = .ok (.iload_n 3, 1) := dk_29 (dk_at dksX5_all_10 7 rfl rfl)
theorem dX5_all_242 : decode cX5_all 242 = .ok (.aload_n 0, 1) := dk_42 (dk_at dksX5_all_10 8 rfl rfl)
theorem dX5_all_243 : decode cX5_all 243 = .ok (.getfield 117, 3) := dk_180 0 117 (dk_at dksX5_all_10 9 rfl rfl)
theorem dX5_all_246 : decode cX5_all 246 = .ok (.iastore, 1) := dk_79 (dk_at dksX5_all_10 12 rfl rfl)
theorem dX5_all_247 : decode cX5_all 247 = .ok (.aload_n 1, 1) := dk_43 (dk_at dksX5_all_10 13 rfl rfl)
theorem dX5_all_248 : decode cX5_all 248 = .ok (.iload_n 3, 1) := dk_29 (dk_at dksX5_all_10 14 rfl rfl)
theorem dX5_all_249 : decode cX5_all 249 = .ok (.iconst 1, 1) := dk_4 (dk_at dksX5_all_10 15 rfl rfl)
theorem dX5_all_250 : decode cX5_all 250 = .ok (.iadd, 1) := dk_96 (dk_at dksX5_all_10 16 rfl rfl)
theorem dX5_all_251 : decode cX5_all 251 = .ok (.aload_n 0, 1) := dk_42 (dk_at dksX5_all_10 17 rfl rfl)
theorem dX5_all_252 : decode cX5_all 252 = .ok (.getfield 120, 3) := dk_180 0 120 (dk_at dksX5_all_10 18 rfl rfl)
theorem dX5_all_255 : decode cX5_all 255 = .ok (.iastore, 1) := dk_79 (dk_at dksX5_all_10 21 rfl rfl)
theorem dX5_all_256 : decode cX5_all 256 = .ok (.aload_n 1, 1) := dk_43 (dk_at dksX5_all_10 22 rfl rfl)
theorem dX5_all_257 : decode cX5_all 257 = .ok (.iload_n 3, 1) := dk_29 (dk_at dksX5_all_10 23 rfl rfl)
theorem dX5_all_258 : decode cX5_all 258 = .ok (.iconst 2, 1) := dk_5 (dk_at dksX5_all_11 0 rfl rfl)
theorem dX5_all_259 : decode cX5_all 259 = .ok (.iadd, 1) := dk_96 (dk_at dksX5_all_11 1 rfl rfl)
theorem dX5_all_260 : decode cX5_all 260 = .ok (.aload_n 0, 1) := dk_42 (dk_at dksX5_all_11 2 rfl rfl)
theorem dX5_all_261 : decode cX5_all 261 = .ok (.getfield 162, 3) := dk_180 0 162 (dk_at dksX5_all_11 3 rfl rfl)
theorem dX5_all_264 : decode cX5_all 264 = .ok (.iastore, 1) := dk_79 (dk_at dksX5_all_11 6 rfl rfl)
theorem dX5_all_265 : decode cX5_all 265 = .ok (.aload_n 1, 1) := dk_43 (dk_at dksX5_all_11 7 rfl rfl)
theorem dX5_all_266 : decode cX5_all 266 = .ok (.iload_n 3, 1) := dk_29 (dk_at dksX5_all_11 8 rfl rfl)
theorem dX5_all_267 : decode cX5_all 267 = .ok (.iconst 3, 1) := dk_6 (dk_at dksX5_all_11 9 rfl rfl)
theorem dX5_all_268 : decode cX5_all 268 = .ok (.iadd, 1) := dk_96 (dk_at dksX5_all_11 10 rfl rfl)
theorem dX5_all_269 : decode cX5_all 269 = .ok (.aload_n 0, 1) := dk_42 (dk_at dksX5_all_11 11 rfl rfl)
theorem dX5_all_270 : decode cX5_all 270 = .ok (.getfield 7, 3) := dk_180 0 7 (dk_at dksX5_all_11 12 rfl rfl)
theorem dX5_all_273 : decode cX5_all 273 = .ok (.iastore, 1) := dk_79 (dk_at dksX5_all_11 15 rfl rfl)
theorem dX5_all_274 : decode cX5_all 274 = .ok (.aload_n 1, 1) := dk_43 (dk_at dksX5_all_11 16 rfl rfl)
theorem dX5_all_275 : decode cX5_all 275 = .ok (.iload_n 3, 1) := dk_29 (dk_at dksX5_all_11 17 rfl rfl)
theorem dX5_all_276 : decode cX5_all 276 = .ok (.iconst 4, 1) := dk_7 (dk_at dksX5_all_11 18 rfl rfl)
theorem dX5_all_277 : decode cX5_all 277 = .ok (.iadd, 1) := dk_96 (dk_at dksX5_all_11 19 rfl rfl)
theorem dX5_all_278 : decode cX5_all 278 = .ok (.aload_n 0, 1) := dk_42 (dk_at dksX5_all_11 20 rfl rfl)
theorem dX5_all_279 : decode cX5_all 279 = .ok (.getfield 123, 3) := dk_180 0 123 (dk_at dksX5_all_11 21 rfl rfl)
theorem dX5_all_282 : decode cX5_all 282 = .ok (.iastore, 1) := dk_79 (dk_at dksX5_all_12 0 rfl rfl)
theorem dX5_all_283 : decode cX5_all 283 = .ok (.aload_n 1, 1) := dk_43 (dk_at dksX5_all_12 1 rfl rfl)
theorem dX5_all_284 : decode cX5_all 284 = .ok (.iload_n 3, 1) := dk_29 (dk_at dksX5_all_12 2 rfl rfl)
theorem dX5_all_285 : decode cX5_all 285 = .ok (.iconst 5, 1) := dk_8 (dk_at dksX5_all_12 3 rfl rfl)
theorem dX5_all_286 : decode cX5_all 286 = .ok (.iadd, 1) := dk_96 (dk_at dksX5_all_12 4 rfl rfl)
theorem dX5_all_287 : decode cX5_all 287 = .ok (.aload_n 0, 1) := dk_42 (dk_at dksX5_all_12 5 rfl rfl)
theorem dX5_all_288 : decode cX5_all 288 = .ok (.getfield 126, 3) := dk_180 0 126 (dk_at dksX5_all_12 6 rfl rfl)
theorem dX5_all_291 : decode cX5_all 291 = .ok (.iastore, 1) := dk_79 (dk_at dksX5_all_12 9 rfl rfl)
theorem dX5_all_292 : decode cX5_all 292 = .ok (.aload_n 1, 1) := dk_43 (dk_at dksX5_all_12 10 rfl rfl)
theorem dX5_all_293 : decode cX5_all 293 = .ok (.iload_n 3, 1) := dk_29 (dk_at dksX5_all_12 11 rfl rfl)
theorem dX5_all_294 : decode cX5_all 294 = .ok (.bipush 6, 2) := dk_16 6 (dk_at dksX5_all_12 12 rfl rfl)
theorem dX5_all_296 : decode cX5_all 296 = .ok (.iadd, 1) := dk_96 (dk_at dksX5_all_12 14 rfl rfl)
theorem dX5_all_297 : decode cX5_all 297 = .ok (.aload_n 0, 1) := dk_42 (dk_at dksX5_all_12 15 rfl rfl)
theorem dX5_all_298 : decode cX5_all 298 = .ok (.getfield 171, 3) := dk_180 0 171 (dk_at dksX5_all_12 16 rfl rfl)
theorem dX5_all_301 : decode cX5_all 301 = .ok (.iastore, 1) := dk_79 (dk_at dksX5_all_12 19 rfl rfl)
theorem dX5_all_302 : decode cX5_all 302 = .ok (.aload_n 1, 1) := dk_43 (dk_at dksX5_all_12 20 rfl rfl)
theorem dX5_all_303 : decode cX5_all 303 = .ok (.iload_n 3, 1) := dk_29 (dk_at dksX5_all_12 21 rfl rfl)
theorem dX5_all_304 : decode cX5_all 304 = .ok (.bipush 7, 2) := dk_16 7 (dk_at dksX5_all_12 22 rfl rfl)
theorem dX5_all_306 : decode cX5_all 306 = .ok (.iadd, 1) := dk_96 (dk_at dksX5_all_13 0 rfl rfl)
theorem dX5_all_307 : decode cX5_all 307 = .ok (.aload_n 0, 1) := dk_42 (dk_at dksX5_all_13 1 rfl rfl)
theorem dX5_all_308 : decode cX5_all 308 = .ok (.getfield 13, 3) := dk_180 0 13 (dk_at dksX5_all_13 2 rfl rfl)
theorem dX5_all_311 : decode cX5_all 311 = .ok (.iastore, 1) := dk_79 (dk_at dksX5_all_13 5 rfl rfl)
theorem dX5_all_312 : decode cX5_all 312 = .ok (.aload_n 1, 1) := dk_43 (dk_at dksX5_all_13 6 rfl rfl)
theorem dX5_all_313 : decode cX5_all 313 = .ok (.iload_n 3, 1) := dk_29 (dk_at dksX5_all_13 7 rfl rfl)
theorem dX5_all_314 : decode cX5_all 314 = .ok (.bipush 8, 2) := dk_16 8 (dk_at dksX5_all_13 8 rfl rfl)
theorem dX5_all_316 : decode cX5_all 316 = .ok (.iadd, 1) := dk_96 (dk_at dksX5_all_13 10 rfl rfl)
theorem dX5_all_317 : decode cX5_all 317 = .ok (.aload_n 0, 1) := dk_42 (dk_at dksX5_all_13 11 rfl rfl)
theorem dX5_all_318 : decode cX5_all 318 = .ok (.getfield 223, 3) := dk_180 0 223 (dk_at dksX5_all_13 12 rfl rfl)
theorem dX5_all_321 : decode cX5_all 321 = .ok (.iastore, 1) := dk_79 (dk_at dksX5_all_13 15 rfl rfl)
theorem dX5_all_322 : decode cX5_all 322 = .ok (.return_, 1) := dk_177 (dk_at dksX5_all_13 16 rfl rfl)
abbrev cX5_keeps : ByteArray := prog_22_method_41_code
def yX5_keeps : MethodName := ⟨RX5, "keeps", "([II[IIZ)I"⟩
def dkwX5_keeps_2 : List UInt8 := [96, 172]
abbrev dktX5_keeps_2 : List UInt8 := dkwX5_keeps_2 ++ []
def dkwX5_keeps_1 : List UInt8 := [79, 167, 0, 14, 45, 21, 4, 21, 6, 96, 43, 21, 6, 46, 79, 132, 6, 1, 167, 255, 217, 21, 4, 28]
abbrev dktX5_keeps_1 : List UInt8 := dkwX5_keeps_1 ++ dktX5_keeps_2
def dkwX5_keeps_0 : List UInt8 := [3, 54, 6, 21, 6, 28, 162, 0, 39, 21, 5, 153, 0, 17, 43, 21, 6, 45, 21, 4, 21, 6, 96, 46]
abbrev dktX5_keeps_0 : List UInt8 := dkwX5_keeps_0 ++ dktX5_keeps_1
theorem dksX5_keeps_0 : cX5_keeps.data.toList.drop 0 = dktX5_keeps_0 := by decide +kernel
theorem dksX5_keeps_1 : cX5_keeps.data.toList.drop 24 = dktX5_keeps_1 := dk_seg dksX5_keeps_0 24 rfl rfl
theorem dksX5_keeps_2 : cX5_keeps.data.toList.drop 48 = dktX5_keeps_2 := dk_seg dksX5_keeps_1 24 rfl rfl
theorem dX5_keeps_0 : decode cX5_keeps 0 = .ok (.iconst 0, 1) := dk_3 (dk_at dksX5_keeps_0 0 rfl rfl)
theorem dX5_keeps_1 : decode cX5_keeps 1 = .ok (.istore 6, 2) := dk_54 6 (dk_at dksX5_keeps_0 1 rfl rfl)
theorem dX5_keeps_3 : decode cX5_keeps 3 = .ok (.iload 6, 2) := dk_21 6 (dk_at dksX5_keeps_0 3 rfl rfl)
theorem dX5_keeps_5 : decode cX5_keeps 5 = .ok (.iload_n 2, 1) := dk_28 (dk_at dksX5_keeps_0 5 rfl rfl)
theorem dX5_keeps_6 : decode cX5_keeps 6 = .ok (.if_icmp .ge 39, 3) := dk_162 0 39 (dk_at dksX5_keeps_0 6 rfl rfl)
theorem dX5_keeps_9 : decode cX5_keeps 9 = .ok (.iload 5, 2) := dk_21 5 (dk_at dksX5_keeps_0 9 rfl rfl)
theorem dX5_keeps_11 : decode cX5_keeps 11 = .ok (.ifCond .eq 17, 3) := dk_153 0 17 (dk_at dksX5_keeps_0 11 rfl rfl)
theorem dX5_keeps_14 : decode cX5_keeps 14 = .ok (.aload_n 1, 1) := dk_43 (dk_at dksX5_keeps_0 14 rfl rfl)
theorem dX5_keeps_15 : decode cX5_keeps 15 = .ok (.iload 6, 2) := dk_21 6 (dk_at dksX5_keeps_0 15 rfl rfl)
theorem dX5_keeps_17 : decode cX5_keeps 17 = .ok (.aload_n 3, 1) := dk_45 (dk_at dksX5_keeps_0 17 rfl rfl)
theorem dX5_keeps_18 : decode cX5_keeps 18 = .ok (.iload 4, 2) := dk_21 4 (dk_at dksX5_keeps_0 18 rfl rfl)
theorem dX5_keeps_20 : decode cX5_keeps 20 = .ok (.iload 6, 2) := dk_21 6 (dk_at dksX5_keeps_0 20 rfl rfl)
theorem dX5_keeps_22 : decode cX5_keeps 22 = .ok (.iadd, 1) := dk_96 (dk_at dksX5_keeps_0 22 rfl rfl)
theorem dX5_keeps_23 : decode cX5_keeps 23 = .ok (.iaload, 1) := dk_46 (dk_at dksX5_keeps_0 23 rfl rfl)
theorem dX5_keeps_24 : decode cX5_keeps 24 = .ok (.iastore, 1) := dk_79 (dk_at dksX5_keeps_1 0 rfl rfl)
theorem dX5_keeps_25 : decode cX5_keeps 25 = .ok (.goto 14, 3) := dk_167 0 14 (dk_at dksX5_keeps_1 1 rfl rfl)
theorem dX5_keeps_28 : decode cX5_keeps 28 = .ok (.aload_n 3, 1) := dk_45 (dk_at dksX5_keeps_1 4 rfl rfl)
theorem dX5_keeps_29 : decode cX5_keeps 29 = .ok (.iload 4, 2) := dk_21 4 (dk_at dksX5_keeps_1 5 rfl rfl)
theorem dX5_keeps_31 : decode cX5_keeps 31 = .ok (.iload 6, 2) := dk_21 6 (dk_at dksX5_keeps_1 7 rfl rfl)
theorem dX5_keeps_33 : decode cX5_keeps 33 = .ok (.iadd, 1) := dk_96 (dk_at dksX5_keeps_1 9 rfl rfl)
theorem dX5_keeps_34 : decode cX5_keeps 34 = .ok (.aload_n 1, 1) := dk_43 (dk_at dksX5_keeps_1 10 rfl rfl)
theorem dX5_keeps_35 : decode cX5_keeps 35 = .ok (.iload 6, 2) := dk_21 6 (dk_at dksX5_keeps_1 11 rfl rfl)
theorem dX5_keeps_37 : decode cX5_keeps 37 = .ok (.iaload, 1) := dk_46 (dk_at dksX5_keeps_1 13 rfl rfl)
theorem dX5_keeps_38 : decode cX5_keeps 38 = .ok (.iastore, 1) := dk_79 (dk_at dksX5_keeps_1 14 rfl rfl)
theorem dX5_keeps_39 : decode cX5_keeps 39 = .ok (.iinc 6 1, 3) := dk_132 6 1 (dk_at dksX5_keeps_1 15 rfl rfl)
theorem dX5_keeps_42 : decode cX5_keeps 42 = .ok (.goto (-39), 3) := dk_167 255 217 (dk_at dksX5_keeps_1 18 rfl rfl)
theorem dX5_keeps_45 : decode cX5_keeps 45 = .ok (.iload 4, 2) := dk_21 4 (dk_at dksX5_keeps_1 21 rfl rfl)
theorem dX5_keeps_47 : decode cX5_keeps 47 = .ok (.iload_n 2, 1) := dk_28 (dk_at dksX5_keeps_1 23 rfl rfl)
theorem dX5_keeps_48 : decode cX5_keeps 48 = .ok (.iadd, 1) := dk_96 (dk_at dksX5_keeps_2 0 rfl rfl)
theorem dX5_keeps_49 : decode cX5_keeps 49 = .ok (.ireturn, 1) := dk_172 (dk_at dksX5_keeps_2 1 rfl rfl)
abbrev cX5_item : ByteArray := prog_22_method_40_code
def yX5_item : MethodName := ⟨RX5, "item", "()Z"⟩
def dkwX5_item_16 : List UInt8 := [42, 180, 0, 78, 4, 46, 181, 0, 126, 167, 0, 13, 42, 42, 180, 0, 78, 3, 46, 181, 0, 171, 4, 172]
abbrev dktX5_item_16 : List UInt8 := dkwX5_item_16 ++ []
def dkwX5_item_15 : List UInt8 := [42, 42, 180, 0, 78, 3, 46, 181, 0, 7, 167, 0, 36, 42, 42, 180, 0, 78, 3, 46, 181, 0, 123, 42]
abbrev dktX5_item_15 : List UInt8 := dkwX5_item_15 ++ dktX5_item_16
def dkwX5_item_14 : List UInt8 := [180, 0, 78, 3, 46, 42, 180, 0, 78, 4, 46, 42, 180, 0, 78, 5, 46, 182, 0, 164, 87, 167, 0, 49]
abbrev dktX5_item_14 : List UInt8 := dkwX5_item_14 ++ dktX5_item_15
def dkwX5_item_13 : List UInt8 := [46, 182, 0, 150, 87, 167, 0, 89, 42, 42, 180, 0, 78, 3, 46, 182, 0, 153, 87, 167, 0, 75, 42, 42]
abbrev dktX5_item_13 : List UInt8 := dkwX5_item_13 ++ dktX5_item_14
def dkwX5_item_12 : List UInt8 := [42, 42, 180, 0, 78, 3, 46, 42, 180, 0, 78, 4, 46, 42, 180, 0, 78, 5, 46, 42, 180, 0, 78, 6]
abbrev dktX5_item_12 : List UInt8 := dkwX5_item_12 ++ dktX5_item_13
def dkwX5_item_11 : List UInt8 := [170, 0, 0, 0, 141, 0, 0, 0, 0, 0, 0, 0, 4, 0, 0, 0, 33, 0, 0, 0, 65, 0, 0, 0, 79, 0, 0, 0, 105, 0, 0, 0, 118]
abbrev dktX5_item_11 : List UInt8 := dkwX5_item_11 ++ dktX5_item_12
def dkwX5_item_10 : List UInt8 := [21, 4, 42, 180, 0, 200, 79, 132, 4, 1, 167, 255, 146, 28]
abbrev dktX5_item_10 : List UInt8 := dkwX5_item_10 ++ dktX5_item_11
def dkwX5_item_9 : List UInt8 := [3, 172, 42, 28, 21, 4, 182, 0, 216, 154, 0, 10, 42, 21, 5, 182, 0, 197, 172, 42, 180, 0, 78]
abbrev dktX5_item_9 : List UInt8 := dkwX5_item_9 ++ dktX5_item_10
def dkwX5_item_8 : List UInt8 := [180, 0, 184, 4, 96, 181, 0, 184, 42, 180, 0, 184, 54, 5, 42, 3, 16, 99, 182, 0, 213, 154, 0, 5]
abbrev dktX5_item_8 : List UInt8 := dkwX5_item_8 ++ dktX5_item_9
def dkwX5_item_7 : List UInt8 := [42, 180, 0, 184, 96, 47, 136, 16, 32, 159, 0, 12, 42, 42, 180, 0, 184, 182, 0, 197, 172, 42, 89]
abbrev dktX5_item_7 : List UInt8 := dkwX5_item_7 ++ dktX5_item_8
def dkwX5_item_6 : List UInt8 := [21, 4, 158, 0, 53, 42, 180, 0, 184, 42, 180, 0, 187, 162, 0, 23, 42, 180, 0, 68, 42, 180, 0, 190]
abbrev dktX5_item_6 : List UInt8 := dkwX5_item_6 ++ dktX5_item_7
def dkwX5_item_5 : List UInt8 := [167, 0, 13, 28, 7, 160, 0, 7, 5, 167, 0, 4, 4, 62, 3, 54, 4, 21, 4, 29, 162, 0, 110]
abbrev dktX5_item_5 : List UInt8 := dkwX5_item_5 ++ dktX5_item_6
def dkwX5_item_4 : List UInt8 := [160, 0, 9, 42, 27, 182, 0, 197, 172, 28, 154, 0, 7, 7, 167, 0, 22, 28, 5, 160, 0, 7, 6]
abbrev dktX5_item_4 : List UInt8 := dkwX5_item_4 ++ dktX5_item_5
def dkwX5_item_3 : List UInt8 := [160, 0, 12, 42, 180, 0, 120, 16, 8, 159, 0, 16, 28, 5, 160, 0, 17, 42, 180, 0, 162, 7]
abbrev dktX5_item_3 : List UInt8 := dkwX5_item_3 ++ dktX5_item_4
def dkwX5_item_2 : List UInt8 := [61, 28, 2, 160, 0, 5, 3, 172, 28, 154, 0, 12, 42, 180, 0, 117, 16, 8, 159, 0, 30, 28, 4]
abbrev dktX5_item_2 : List UInt8 := dkwX5_item_2 ++ dktX5_item_3
def dkwX5_item_1 : List UInt8 := [42, 42, 180, 0, 184, 182, 0, 197, 172, 132, 1, 1, 167, 255, 222, 42, 180, 0, 184, 60, 42, 182, 0, 209]
abbrev dktX5_item_1 : List UInt8 := dkwX5_item_1 ++ dktX5_item_2
def dkwX5_item_0 : List UInt8 := [3, 60, 27, 16, 6, 162, 0, 34, 42, 27, 182, 0, 203, 153, 0, 20, 42, 27, 182, 0, 206, 153, 0, 12]
abbrev dktX5_item_0 : List UInt8 := dkwX5_item_0 ++ dktX5_item_1
theorem dksX5_item_0 : cX5_item.data.toList.drop 0 = dktX5_item_0 := by decide +kernel
theorem dksX5_item_1 : cX5_item.data.toList.drop 24 = dktX5_item_1 := dk_seg dksX5_item_0 24 rfl rfl
theorem dksX5_item_2 : cX5_item.data.toList.drop 48 = dktX5_item_2 := dk_seg dksX5_item_1 24 rfl rfl
theorem dksX5_item_3 : cX5_item.data.toList.drop 71 = dktX5_item_3 := dk_seg dksX5_item_2 23 rfl rfl
theorem dksX5_item_4 : cX5_item.data.toList.drop 93 = dktX5_item_4 := dk_seg dksX5_item_3 22 rfl rfl
theorem dksX5_item_5 : cX5_item.data.toList.drop 116 = dktX5_item_5 := dk_seg dksX5_item_4 23 rfl rfl
theorem dksX5_item_6 : cX5_item.data.toList.drop 139 = dktX5_item_6 := dk_seg dksX5_item_5 23 rfl rfl
theorem dksX5_item_7 : cX5_item.data.toList.drop 163 = dktX5_item_7 := dk_seg dksX5_item_6 24 rfl rfl
theorem dksX5_item_8 : cX5_item.data.toList.drop 186 = dktX5_item_8 := dk_seg dksX5_item_7 23 rfl rfl
theorem dksX5_item_9 : cX5_item.data.toList.drop 210 = dktX5_item_9 := dk_seg dksX5_item_8 24 rfl rfl
theorem dksX5_item_10 : cX5_item.data.toList.drop 233 = dktX5_item_10 := dk_seg dksX5_item_9 23 rfl rfl
theorem dksX5_item_11 : cX5_item.data.toList.drop 247 = dktX5_item_11 := dk_seg dksX5_item_10 14 rfl rfl
theorem dksX5_item_12 : cX5_item.data.toList.drop 280 = dktX5_item_12 := dk_seg dksX5_item_11 33 rfl rfl
theorem dksX5_item_13 : cX5_item.data.toList.drop 304 = dktX5_item_13 := dk_seg dksX5_item_12 24 rfl rfl
theorem dksX5_item_14 : cX5_item.data.toList.drop 328 = dktX5_item_14 := dk_seg dksX5_item_13 24 rfl rfl
theorem dksX5_item_15 : cX5_item.data.toList.drop 352 = dktX5_item_15 := dk_seg dksX5_item_14 24 rfl rfl
theorem dksX5_item_16 : cX5_item.data.toList.drop 376 = dktX5_item_16 := dk_seg dksX5_item_15 24 rfl rfl
theorem dX5_item_0 : decode cX5_item 0 = .ok (.iconst 0, 1) := dk_3 (dk_at dksX5_item_0 0 rfl rfl)
theorem dX5_item_1 : decode cX5_item 1 = .ok (.istore_n 1, 1) := dk_60 (dk_at dksX5_item_0 1 rfl rfl)
theorem dX5_item_2 : decode cX5_item 2 = .ok (.iload_n 1, 1) := dk_27 (dk_at dksX5_item_0 2 rfl rfl)
theorem dX5_item_3 : decode cX5_item 3 = .ok (.bipush 6, 2) := dk_16 6 (dk_at dksX5_item_0 3 rfl rfl)
theorem dX5_item_5 : decode cX5_item 5 = .ok (.if_icmp .ge 34, 3) := dk_162 0 34 (dk_at dksX5_item_0 5 rfl rfl)
theorem dX5_item_8 : decode cX5_item 8 = .ok (.aload_n 0, 1) := dk_42 (dk_at dksX5_item_0 8 rfl rfl)
theorem dX5_item_9 : decode cX5_item 9 = .ok (.iload_n 1, 1) := dk_27 (dk_at dksX5_item_0 9 rfl rfl)
theorem dX5_item_10 : decode cX5_item 10 = .ok (.invokevirtual 203, 3) := dk_182 0 203 (dk_at dksX5_item_0 10 rfl rfl)
theorem dX5_item_13 : decode cX5_item 13 = .ok (.ifCond .eq 20, 3) := dk_153 0 20 (dk_at dksX5_item_0 13 rfl rfl)
theorem dX5_item_16 : decode cX5_item 16 = .ok (.aload_n 0, 1) := dk_42 (dk_at dksX5_item_0 16 rfl rfl)
theorem dX5_item_17 : decode cX5_item 17 = .ok (.iload_n 1, 1) := dk_27 (dk_at dksX5_item_0 17 rfl rfl)
theorem dX5_item_18 : decode cX5_item 18 = .ok (.invokevirtual 206, 3) := dk_182 0 206 (dk_at dksX5_item_0 18 rfl rfl)
theorem dX5_item_21 : decode cX5_item 21 = .ok (.ifCond .eq 12, 3) := dk_153 0 12 (dk_at dksX5_item_0 21 rfl rfl)
theorem dX5_item_24 : decode cX5_item 24 = .ok (.aload_n 0, 1) := dk_42 (dk_at dksX5_item_1 0 rfl rfl)
theorem dX5_item_25 : decode cX5_item 25 = .ok (.aload_n 0, 1) := dk_42 (dk_at dksX5_item_1 1 rfl rfl)
theorem dX5_item_26 : decode cX5_item 26 = .ok (.getfield 184, 3) := dk_180 0 184 (dk_at dksX5_item_1 2 rfl rfl)
theorem dX5_item_29 : decode cX5_item 29 = .ok (.invokevirtual 197, 3) := dk_182 0 197 (dk_at dksX5_item_1 5 rfl rfl)
theorem dX5_item_32 : decode cX5_item 32 = .ok (.ireturn, 1) := dk_172 (dk_at dksX5_item_1 8 rfl rfl)
theorem dX5_item_33 : decode cX5_item 33 = .ok (.iinc 1 1, 3) := dk_132 1 1 (dk_at dksX5_item_1 9 rfl rfl)
theorem dX5_item_36 : decode cX5_item 36 = .ok (.goto (-34), 3) := dk_167 255 222 (dk_at dksX5_item_1 12 rfl rfl)
theorem dX5_item_39 : decode cX5_item 39 = .ok (.aload_n 0, 1) := dk_42 (dk_at dksX5_item_1 15 rfl rfl)
theorem dX5_item_40 : decode cX5_item 40 = .ok (.getfield 184, 3) := dk_180 0 184 (dk_at dksX5_item_1 16 rfl rfl)
theorem dX5_item_43 : decode cX5_item 43 = .ok (.istore_n 1, 1) := dk_60 (dk_at dksX5_item_1 19 rfl rfl)
theorem dX5_item_44 : decode cX5_item 44 = .ok (.aload_n 0, 1) := dk_42 (dk_at dksX5_item_1 20 rfl rfl)
theorem dX5_item_45 : decode cX5_item 45 = .ok (.invokevirtual 209, 3) := dk_182 0 209 (dk_at dksX5_item_1 21 rfl rfl)
theorem dX5_item_48 : decode cX5_item 48 = .ok (.istore_n 2, 1) := dk_61 (dk_at dksX5_item_2 0 rfl rfl)
theorem dX5_item_49 : decode cX5_item 49 = .ok (.iload_n 2, 1) := dk_28 (dk_at dksX5_item_2 1 rfl rfl)
theorem dX5_item_50 : decode cX5_item 50 = .ok (.iconst (-1), 1) := dk_2 (dk_at dksX5_item_2 2 rfl rfl)
theorem dX5_item_51 : decode cX5_item 51 = .ok (.if_icmp .ne 5, 3) := dk_160 0 5 (dk_at dksX5_item_2 3 rfl rfl)
theorem dX5_item_54 : decode cX5_item 54 = .ok (.iconst 0, 1) := dk_3 (dk_at dksX5_item_2 6 rfl rfl)
theorem dX5_item_55 : decode cX5_item 55 = .ok (.ireturn, 1) := dk_172 (dk_at dksX5_item_2 7 rfl rfl)
theorem dX5_item_56 : decode cX5_item 56 = .ok (.iload_n 2, 1) := dk_28 (dk_at dksX5_item_2 8 rfl rfl)
theorem dX5_item_57 : decode cX5_item 57 = .ok (.ifCond .ne 12, 3) := dk_154 0 12 (dk_at dksX5_item_2 9 rfl rfl)
theorem dX5_item_60 : decode cX5_item 60 = .ok (.aload_n 0, 1) := dk_42 (dk_at dksX5_item_2 12 rfl rfl)
theorem dX5_item_61 : decode cX5_item 61 = .ok (.getfield 117, 3) := dk_180 0 117 (dk_at dksX5_item_2 13 rfl rfl)
theorem dX5_item_64 : decode cX5_item 64 = .ok (.bipush 8, 2) := dk_16 8 (dk_at dksX5_item_2 16 rfl rfl)
theorem dX5_item_66 : decode cX5_item 66 = .ok (.if_icmp .eq 30, 3) := dk_159 0 30 (dk_at dksX5_item_2 18 rfl rfl)
theorem dX5_item_69 : decode cX5_item 69 = .ok (.iload_n 2, 1) := dk_28 (dk_at dksX5_item_2 21 rfl rfl)
theorem dX5_item_70 : decode cX5_item 70 = .ok (.iconst 1, 1) := dk_4 (dk_at dksX5_item_2 22 rfl rfl)
theorem dX5_item_71 : decode cX5_item 71 = .ok (.if_icmp .ne 12, 3) := dk_160 0 12 (dk_at dksX5_item_3 0 rfl rfl)
theorem dX5_item_74 : decode cX5_item 74 = .ok (.aload_n 0, 1) := dk_42 (dk_at dksX5_item_3 3 rfl rfl)
theorem dX5_item_75 : decode cX5_item 75 = .ok (.getfield 120, 3) := dk_180 0 120 (dk_at dksX5_item_3 4 rfl rfl)
theorem dX5_item_78 : decode cX5_item 78 = .ok (.bipush 8, 2) := dk_16 8 (dk_at dksX5_item_3 7 rfl rfl)
theorem dX5_item_80 : decode cX5_item 80 = .ok (.if_icmp .eq 16, 3) := dk_159 0 16 (dk_at dksX5_item_3 9 rfl rfl)
theorem dX5_item_83 : decode cX5_item 83 = .ok (.iload_n 2, 1) := dk_28 (dk_at dksX5_item_3 12 rfl rfl)
theorem dX5_item_84 : decode cX5_item 84 = .ok (.iconst 2, 1) := dk_5 (dk_at dksX5_item_3 13 rfl rfl)
theorem dX5_item_85 : decode cX5_item 85 = .ok (.if_icmp .ne 17, 3) := dk_160 0 17 (dk_at dksX5_item_3 14 rfl rfl)
theorem dX5_item_88 : decode cX5_item 88 = .ok (.aload_n 0, 1) := dk_42 (dk_at dksX5_item_3 17 rfl rfl)
theorem dX5_item_89 : decode cX5_item 89 = .ok (.getfield 162, 3) := dk_180 0 162 (dk_at dksX5_item_3 18 rfl rfl)
theorem dX5_item_92 : decode cX5_item 92 = .ok (.iconst 4, 1) := dk_7 (dk_at dksX5_item_3 21 rfl rfl)
theorem dX5_item_93 : decode cX5_item 93 = .ok (.if_icmp .ne 9, 3) := dk_160 0 9 (dk_at dksX5_item_4 0 rfl rfl)
theorem dX5_item_96 : decode cX5_item 96 = .ok (.aload_n 0, 1) := dk_42 (dk_at dksX5_item_4 3 rfl rfl)
theorem dX5_item_97 : decode cX5_item 97 = .ok (.iload_n 1, 1) := dk_27 (dk_at dksX5_item_4 4 rfl rfl)
theorem dX5_item_98 : decode cX5_item 98 = .ok (.invokevirtual 197, 3) := dk_182 0 197 (dk_at dksX5_item_4 5 rfl rfl)
theorem dX5_item_101 : decode cX5_item 101 = .ok (.ireturn, 1) := dk_172 (dk_at dksX5_item_4 8 rfl rfl)
theorem dX5_item_102 : decode cX5_item 102 = .ok (.iload_n 2, 1) := dk_28 (dk_at dksX5_item_4 9 rfl rfl)
theorem dX5_item_103 : decode cX5_item 103 = .ok (.ifCond .ne 7, 3) := dk_154 0 7 (dk_at dksX5_item_4 10 rfl rfl)
theorem dX5_item_106 : decode cX5_item 106 = .ok (.iconst 4, 1) := dk_7 (dk_at dksX5_item_4 13 rfl rfl)
theorem dX5_item_107 : decode cX5_item 107 = .ok (.goto 22, 3) := dk_167 0 22 (dk_at dksX5_item_4 14 rfl rfl)
theorem dX5_item_110 : decode cX5_item 110 = .ok (.iload_n 2, 1) := dk_28 (dk_at dksX5_item_4 17 rfl rfl)
theorem dX5_item_111 : decode cX5_item 111 = .ok (.iconst 2, 1) := dk_5 (dk_at dksX5_item_4 18 rfl rfl)
theorem dX5_item_112 : decode cX5_item 112 = .ok (.if_icmp .ne 7, 3) := dk_160 0 7 (dk_at dksX5_item_4 19 rfl rfl)
theorem dX5_item_115 : decode cX5_item 115 = .ok (.iconst 3, 1) := dk_6 (dk_at dksX5_item_4 22 rfl rfl)
theorem dX5_item_116 : decode cX5_item 116 = .ok (.goto 13, 3) := dk_167 0 13 (dk_at dksX5_item_5 0 rfl rfl)
theorem dX5_item_119 : decode cX5_item 119 = .ok (.iload_n 2, 1) := dk_28 (dk_at dksX5_item_5 3 rfl rfl)
theorem dX5_item_120 : decode cX5_item 120 = .ok (.iconst 4, 1) := dk_7 (dk_at dksX5_item_5 4 rfl rfl)
theorem dX5_item_121 : decode cX5_item 121 = .ok (.if_icmp .ne 7, 3) := dk_160 0 7 (dk_at dksX5_item_5 5 rfl rfl)
theorem dX5_item_124 : decode cX5_item 124 = .ok (.iconst 2, 1) := dk_5 (dk_at dksX5_item_5 8 rfl rfl)
theorem dX5_item_125 : decode cX5_item 125 = .ok (.goto 4, 3) := dk_167 0 4 (dk_at dksX5_item_5 9 rfl rfl)
theorem dX5_item_128 : decode cX5_item 128 = .ok (.iconst 1, 1) := dk_4 (dk_at dksX5_item_5 12 rfl rfl)
theorem dX5_item_129 : decode cX5_item 129 = .ok (.istore_n 3, 1) := dk_62 (dk_at dksX5_item_5 13 rfl rfl)
theorem dX5_item_130 : decode cX5_item 130 = .ok (.iconst 0, 1) := dk_3 (dk_at dksX5_item_5 14 rfl rfl)
theorem dX5_item_131 : decode cX5_item 131 = .ok (.istore 4, 2) := dk_54 4 (dk_at dksX5_item_5 15 rfl rfl)
theorem dX5_item_133 : decode cX5_item 133 = .ok (.iload 4, 2) := dk_21 4 (dk_at dksX5_item_5 17 rfl rfl)
theorem dX5_item_135 : decode cX5_item 135 = .ok (.iload_n 3, 1) := dk_29 (dk_at dksX5_item_5 19 rfl rfl)
theorem dX5_item_136 : decode cX5_item 136 = .ok (.if_icmp .ge 110, 3) := dk_162 0 110 (dk_at dksX5_item_5 20 rfl rfl)
theorem dX5_item_139 : decode cX5_item 139 = .ok (.iload 4, 2) := dk_21 4 (dk_at dksX5_item_6 0 rfl rfl)
theorem dX5_item_141 : decode cX5_item 141 = .ok (.ifCond .le 53, 3) := dk_158 0 53 (dk_at dksX5_item_6 2 rfl rfl)
theorem dX5_item_144 : decode cX5_item 144 = .ok (.aload_n 0, 1) := dk_42 (dk_at dksX5_item_6 5 rfl rfl)
theorem dX5_item_145 : decode cX5_item 145 = .ok (.getfield 184, 3) := dk_180 0 184 (dk_at dksX5_item_6 6 rfl rfl)
theorem dX5_item_148 : decode cX5_item 148 = .ok (.aload_n 0, 1) := dk_42 (dk_at dksX5_item_6 9 rfl rfl)
theorem dX5_item_149 : decode cX5_item 149 = .ok (.getfield 187, 3) := dk_180 0 187 (dk_at dksX5_item_6 10 rfl rfl)
theorem dX5_item_152 : decode cX5_item 152 = .ok (.if_icmp .ge 23, 3) := dk_162 0 23 (dk_at dksX5_item_6 13 rfl rfl)
theorem dX5_item_155 : decode cX5_item 155 = .ok (.aload_n 0, 1) := dk_42 (dk_at dksX5_item_6 16 rfl rfl)
theorem dX5_item_156 : decode cX5_item 156 = .ok (.getfield 68, 3) := dk_180 0 68 (dk_at dksX5_item_6 17 rfl rfl)
theorem dX5_item_159 : decode cX5_item 159 = .ok (.aload_n 0, 1) := dk_42 (dk_at dksX5_item_6 20 rfl rfl)
theorem dX5_item_160 : decode cX5_item 160 = .ok (.getfield 190, 3) := dk_180 0 190 (dk_at dksX5_item_6 21 rfl rfl)
theorem dX5_item_163 : decode cX5_item 163 = .ok (.aload_n 0, 1) := dk_42 (dk_at dksX5_item_7 0 rfl rfl)
theorem dX5_item_164 : decode cX5_item 164 = .ok (.getfield 184, 3) := dk_180 0 184 (dk_at dksX5_item_7 1 rfl rfl)
theorem dX5_item_167 : decode cX5_item 167 = .ok (.iadd, 1) := dk_96 (dk_at dksX5_item_7 4 rfl rfl)
theorem dX5_item_168 : decode cX5_item 168 = .ok (.laload, 1) := dk_47 (dk_at dksX5_item_7 5 rfl rfl)
theorem dX5_item_169 : decode cX5_item 169 = .ok (.l2i, 1) := dk_136 (dk_at dksX5_item_7 6 rfl rfl)
theorem dX5_item_170 : decode cX5_item 170 = .ok (.bipush 32, 2) := dk_16 32 (dk_at dksX5_item_7 7 rfl rfl)
theorem dX5_item_172 : decode cX5_item 172 = .ok (.if_icmp .eq 12, 3) := dk_159 0 12 (dk_at dksX5_item_7 9 rfl rfl)
theorem dX5_item_175 : decode cX5_item 175 = .ok (.aload_n 0, 1) := dk_42 (dk_at dksX5_item_7 12 rfl rfl)
theorem dX5_item_176 : decode cX5_item 176 = .ok (.aload_n 0, 1) := dk_42 (dk_at dksX5_item_7 13 rfl rfl)
theorem dX5_item_177 : decode cX5_item 177 = .ok (.getfield 184, 3) := dk_180 0 184 (dk_at dksX5_item_7 14 rfl rfl)
theorem dX5_item_180 : decode cX5_item 180 = .ok (.invokevirtual 197, 3) := dk_182 0 197 (dk_at dksX5_item_7 17 rfl rfl)
theorem dX5_item_183 : decode cX5_item 183 = .ok (.ireturn, 1) := dk_172 (dk_at dksX5_item_7 20 rfl rfl)
theorem dX5_item_184 : decode cX5_item 184 = .ok (.aload_n 0, 1) := dk_42 (dk_at dksX5_item_7 21 rfl rfl)
theorem dX5_item_185 : decode cX5_item 185 = .ok (.dup, 1) := dk_89 (dk_at dksX5_item_7 22 rfl rfl)
theorem dX5_item_186 : decode cX5_item 186 = .ok (.getfield 184, 3) := dk_180 0 184 (dk_at dksX5_item_8 0 rfl rfl)
theorem dX5_item_189 : decode cX5_item 189 = .ok (.iconst 1, 1) := dk_4 (dk_at dksX5_item_8 3 rfl rfl)
theorem dX5_item_190 : decode cX5_item 190 = .ok (.iadd, 1) := dk_96 (dk_at dksX5_item_8 4 rfl rfl)
theorem dX5_item_191 : decode cX5_item 191 = .ok (.putfield 184, 3) := dk_181 0 184 (dk_at dksX5_item_8 5 rfl rfl)
theorem dX5_item_194 : decode cX5_item 194 = .ok (.aload_n 0, 1) := dk_42 (dk_at dksX5_item_8 8 rfl rfl)
theorem dX5_item_195 : decode cX5_item 195 = .ok (.getfield 184, 3) := dk_180 0 184 (dk_at dksX5_item_8 9 rfl rfl)
theorem dX5_item_198 : decode cX5_item 198 = .ok (.istore 5, 2) := dk_54 5 (dk_at dksX5_item_8 12 rfl rfl)
theorem dX5_item_200 : decode cX5_item 200 = .ok (.aload_n 0, 1) := dk_42 (dk_at dksX5_item_8 14 rfl rfl)
theorem dX5_item_201 : decode cX5_item 201 = .ok (.iconst 0, 1) := dk_3 (dk_at dksX5_item_8 15 rfl rfl)
theorem dX5_item_202 : decode cX5_item 202 = .ok (.bipush 99, 2) := dk_16 99 (dk_at dksX5_item_8 16 rfl rfl)
theorem dX5_item_204 : decode cX5_item 204 = .ok (.invokevirtual 213, 3) := dk_182 0 213 (dk_at dksX5_item_8 18 rfl rfl)
theorem dX5_item_207 : decode cX5_item 207 = .ok (.ifCond .ne 5, 3) := dk_154 0 5 (dk_at dksX5_item_8 21 rfl rfl)
theorem dX5_item_210 : decode cX5_item 210 = .ok (.iconst 0, 1) := dk_3 (dk_at dksX5_item_9 0 rfl rfl)
theorem dX5_item_211 : decode cX5_item 211 = .ok (.ireturn, 1) := dk_172 (dk_at dksX5_item_9 1 rfl rfl)
theorem dX5_item_212 : decode cX5_item 212 = .ok (.aload_n 0, 1) := dk_42 (dk_at dksX5_item_9 2 rfl rfl)
theorem dX5_item_213 : decode cX5_item 213 = .ok (.iload_n 2, 1) := dk_28 (dk_at dksX5_item_9 3 rfl rfl)
theorem dX5_item_214 : decode cX5_item 214 = .ok (.iload 4, 2) := dk_21 4 (dk_at dksX5_item_9 4 rfl rfl)
theorem dX5_item_216 : decode cX5_item 216 = .ok (.invokevirtual 216, 3) := dk_182 0 216 (dk_at dksX5_item_9 6 rfl rfl)
theorem dX5_item_219 : decode cX5_item 219 = .ok (.ifCond .ne 10, 3) := dk_154 0 10 (dk_at dksX5_item_9 9 rfl rfl)
theorem dX5_item_222 : decode cX5_item 222 = .ok (.aload_n 0, 1) := dk_42 (dk_at dksX5_item_9 12 rfl rfl)
theorem dX5_item_223 : decode cX5_item 223 = .ok (.iload 5, 2) := dk_21 5 (dk_at dksX5_item_9 13 rfl rfl)
theorem dX5_item_225 : decode cX5_item 225 = .ok (.invokevirtual 197, 3) := dk_182 0 197 (dk_at dksX5_item_9 15 rfl rfl)
theorem dX5_item_228 : decode cX5_item 228 = .ok (.ireturn, 1) := dk_172 (dk_at dksX5_item_9 18 rfl rfl)
theorem dX5_item_229 : decode cX5_item 229 = .ok (.aload_n 0, 1) := dk_42 (dk_at dksX5_item_9 19 rfl rfl)
theorem dX5_item_230 : decode cX5_item 230 = .ok (.getfield 78, 3) := dk_180 0 78 (dk_at dksX5_item_9 20 rfl rfl)
theorem dX5_item_233 : decode cX5_item 233 = .ok (.iload 4, 2) := dk_21 4 (dk_at dksX5_item_10 0 rfl rfl)
theorem dX5_item_235 : decode cX5_item 235 = .ok (.aload_n 0, 1) := dk_42 (dk_at dksX5_item_10 2 rfl rfl)
theorem dX5_item_236 : decode cX5_item 236 = .ok (.getfield 200, 3) := dk_180 0 200 (dk_at dksX5_item_10 3 rfl rfl)
theorem dX5_item_239 : decode cX5_item 239 = .ok (.iastore, 1) := dk_79 (dk_at dksX5_item_10 6 rfl rfl)
theorem dX5_item_240 : decode cX5_item 240 = .ok (.iinc 4 1, 3) := dk_132 4 1 (dk_at dksX5_item_10 7 rfl rfl)
theorem dX5_item_243 : decode cX5_item 243 = .ok (.goto (-110), 3) := dk_167 255 146 (dk_at dksX5_item_10 10 rfl rfl)
theorem dX5_item_246 : decode cX5_item 246 = .ok (.iload_n 2, 1) := dk_28 (dk_at dksX5_item_10 13 rfl rfl)
theorem dX5_item_247 : decode cX5_item 247 = .ok (.tableswitch 141 0 4 #[33, 65, 79, 105, 118], 33) := by decide +kernel
theorem dX5_item_280 : decode cX5_item 280 = .ok (.aload_n 0, 1) := dk_42 (dk_at dksX5_item_12 0 rfl rfl)
theorem dX5_item_281 : decode cX5_item 281 = .ok (.aload_n 0, 1) := dk_42 (dk_at dksX5_item_12 1 rfl rfl)
theorem dX5_item_282 : decode cX5_item 282 = .ok (.getfield 78, 3) := dk_180 0 78 (dk_at dksX5_item_12 2 rfl rfl)
theorem dX5_item_285 : decode cX5_item 285 = .ok (.iconst 0, 1) := dk_3 (dk_at dksX5_item_12 5 rfl rfl)
theorem dX5_item_286 : decode cX5_item 286 = .ok (.iaload, 1) := dk_46 (dk_at dksX5_item_12 6 rfl rfl)
theorem dX5_item_287 : decode cX5_item 287 = .ok (.aload_n 0, 1) := dk_42 (dk_at dksX5_item_12 7 rfl rfl)
theorem dX5_item_288 : decode cX5_item 288 = .ok (.getfield 78, 3) := dk_180 0 78 (dk_at dksX5_item_12 8 rfl rfl)
theorem dX5_item_291 : decode cX5_item 291 = .ok (.iconst 1, 1) := dk_4 (dk_at dksX5_item_12 11 rfl rfl)
theorem dX5_item_292 : decode cX5_item 292 = .ok (.iaload, 1) := dk_46 (dk_at dksX5_item_12 12 rfl rfl)
theorem dX5_item_293 : decode cX5_item 293 = .ok (.aload_n 0, 1) := dk_42 (dk_at dksX5_item_12 13 rfl rfl)
theorem dX5_item_294 : decode cX5_item 294 = .ok (.getfield 78, 3) := dk_180 0 78 (dk_at dksX5_item_12 14 rfl rfl)
theorem dX5_item_297 : decode cX5_item 297 = .ok (.iconst 2, 1) := dk_5 (dk_at dksX5_item_12 17 rfl rfl)
theorem dX5_item_298 : decode cX5_item 298 = .ok (.iaload, 1) := dk_46 (dk_at dksX5_item_12 18 rfl rfl)
theorem dX5_item_299 : decode cX5_item 299 = .ok (.aload_n 0, 1) := dk_42 (dk_at dksX5_item_12 19 rfl rfl)
theorem dX5_item_300 : decode cX5_item 300 = .ok (.getfield 78, 3) := dk_180 0 78 (dk_at dksX5_item_12 20 rfl rfl)
theorem dX5_item_303 : decode cX5_item 303 = .ok (.iconst 3, 1) := dk_6 (dk_at dksX5_item_12 23 rfl rfl)
theorem dX5_item_304 : decode cX5_item 304 = .ok (.iaload, 1) := dk_46 (dk_at dksX5_item_13 0 rfl rfl)
theorem dX5_item_305 : decode cX5_item 305 = .ok (.invokevirtual 150, 3) := dk_182 0 150 (dk_at dksX5_item_13 1 rfl rfl)
theorem dX5_item_308 : decode cX5_item 308 = .ok (.pop, 1) := dk_87 (dk_at dksX5_item_13 4 rfl rfl)
theorem dX5_item_309 : decode cX5_item 309 = .ok (.goto 89, 3) := dk_167 0 89 (dk_at dksX5_item_13 5 rfl rfl)
theorem dX5_item_312 : decode cX5_item 312 = .ok (.aload_n 0, 1) := dk_42 (dk_at dksX5_item_13 8 rfl rfl)
theorem dX5_item_313 : decode cX5_item 313 = .ok (.aload_n 0, 1) := dk_42 (dk_at dksX5_item_13 9 rfl rfl)
theorem dX5_item_314 : decode cX5_item 314 = .ok (.getfield 78, 3) := dk_180 0 78 (dk_at dksX5_item_13 10 rfl rfl)
theorem dX5_item_317 : decode cX5_item 317 = .ok (.iconst 0, 1) := dk_3 (dk_at dksX5_item_13 13 rfl rfl)
theorem dX5_item_318 : decode cX5_item 318 = .ok (.iaload, 1) := dk_46 (dk_at dksX5_item_13 14 rfl rfl)
theorem dX5_item_319 : decode cX5_item 319 = .ok (.invokevirtual 153, 3) := dk_182 0 153 (dk_at dksX5_item_13 15 rfl rfl)
theorem dX5_item_322 : decode cX5_item 322 = .ok (.pop, 1) := dk_87 (dk_at dksX5_item_13 18 rfl rfl)
theorem dX5_item_323 : decode cX5_item 323 = .ok (.goto 75, 3) := dk_167 0 75 (dk_at dksX5_item_13 19 rfl rfl)
theorem dX5_item_326 : decode cX5_item 326 = .ok (.aload_n 0, 1) := dk_42 (dk_at dksX5_item_13 22 rfl rfl)
theorem dX5_item_327 : decode cX5_item 327 = .ok (.aload_n 0, 1) := dk_42 (dk_at dksX5_item_13 23 rfl rfl)
theorem dX5_item_328 : decode cX5_item 328 = .ok (.getfield 78, 3) := dk_180 0 78 (dk_at dksX5_item_14 0 rfl rfl)
theorem dX5_item_331 : decode cX5_item 331 = .ok (.iconst 0, 1) := dk_3 (dk_at dksX5_item_14 3 rfl rfl)
theorem dX5_item_332 : decode cX5_item 332 = .ok (.iaload, 1) := dk_46 (dk_at dksX5_item_14 4 rfl rfl)
theorem dX5_item_333 : decode cX5_item 333 = .ok (.aload_n 0, 1) := dk_42 (dk_at dksX5_item_14 5 rfl rfl)
theorem dX5_item_334 : decode cX5_item 334 = .ok (.getfield 78, 3) := dk_180 0 78 (dk_at dksX5_item_14 6 rfl rfl)
theorem dX5_item_337 : decode cX5_item 337 = .ok (.iconst 1, 1) := dk_4 (dk_at dksX5_item_14 9 rfl rfl)
theorem dX5_item_338 : decode cX5_item 338 = .ok (.iaload, 1) := dk_46 (dk_at dksX5_item_14 10 rfl rfl)
theorem dX5_item_339 : decode cX5_item 339 = .ok (.aload_n 0, 1) := dk_42 (dk_at dksX5_item_14 11 rfl rfl)
theorem dX5_item_340 : decode cX5_item 340 = .ok (.getfield 78, 3) := dk_180 0 78 (dk_at dksX5_item_14 12 rfl rfl)
theorem dX5_item_343 : decode cX5_item 343 = .ok (.iconst 2, 1) := dk_5 (dk_at dksX5_item_14 15 rfl rfl)
theorem dX5_item_344 : decode cX5_item 344 = .ok (.iaload, 1) := dk_46 (dk_at dksX5_item_14 16 rfl rfl)
theorem dX5_item_345 : decode cX5_item 345 = .ok (.invokevirtual 164, 3) := dk_182 0 164 (dk_at dksX5_item_14 17 rfl rfl)
theorem dX5_item_348 : decode cX5_item 348 = .ok (.pop, 1) := dk_87 (dk_at dksX5_item_14 20 rfl rfl)
theorem dX5_item_349 : decode cX5_item 349 = .ok (.goto 49, 3) := dk_167 0 49 (dk_at dksX5_item_14 21 rfl rfl)
theorem dX5_item_352 : decode cX5_item 352 = .ok (.aload_n 0, 1) := dk_42 (dk_at dksX5_item_15 0 rfl rfl)
theorem dX5_item_353 : decode cX5_item 353 = .ok (.aload_n 0, 1) := dk_42 (dk_at dksX5_item_15 1 rfl rfl)
theorem dX5_item_354 : decode cX5_item 354 = .ok (.getfield 78, 3) := dk_180 0 78 (dk_at dksX5_item_15 2 rfl rfl)
theorem dX5_item_357 : decode cX5_item 357 = .ok (.iconst 0, 1) := dk_3 (dk_at dksX5_item_15 5 rfl rfl)
theorem dX5_item_358 : decode cX5_item 358 = .ok (.iaload, 1) := dk_46 (dk_at dksX5_item_15 6 rfl rfl)
theorem dX5_item_359 : decode cX5_item 359 = .ok (.putfield 7, 3) := dk_181 0 7 (dk_at dksX5_item_15 7 rfl rfl)
theorem dX5_item_362 : decode cX5_item 362 = .ok (.goto 36, 3) := dk_167 0 36 (dk_at dksX5_item_15 10 rfl rfl)
theorem dX5_item_365 : decode cX5_item 365 = .ok (.aload_n 0, 1) := dk_42 (dk_at dksX5_item_15 13 rfl rfl)
theorem dX5_item_366 : decode cX5_item 366 = .ok (.aload_n 0, 1) := dk_42 (dk_at dksX5_item_15 14 rfl rfl)
theorem dX5_item_367 : decode cX5_item 367 = .ok (.getfield 78, 3) := dk_180 0 78 (dk_at dksX5_item_15 15 rfl rfl)
theorem dX5_item_370 : decode cX5_item 370 = .ok (.iconst 0, 1) := dk_3 (dk_at dksX5_item_15 18 rfl rfl)
theorem dX5_item_371 : decode cX5_item 371 = .ok (.iaload, 1) := dk_46 (dk_at dksX5_item_15 19 rfl rfl)
theorem dX5_item_372 : decode cX5_item 372 = .ok (.putfield 123, 3) := dk_181 0 123 (dk_at dksX5_item_15 20 rfl rfl)
theorem dX5_item_375 : decode cX5_item 375 = .ok (.aload_n 0, 1) := dk_42 (dk_at dksX5_item_15 23 rfl rfl)
theorem dX5_item_376 : decode cX5_item 376 = .ok (.aload_n 0, 1) := dk_42 (dk_at dksX5_item_16 0 rfl rfl)
theorem dX5_item_377 : decode cX5_item 377 = .ok (.getfield 78, 3) := dk_180 0 78 (dk_at dksX5_item_16 1 rfl rfl)
theorem dX5_item_380 : decode cX5_item 380 = .ok (.iconst 1, 1) := dk_4 (dk_at dksX5_item_16 4 rfl rfl)
theorem dX5_item_381 : decode cX5_item 381 = .ok (.iaload, 1) := dk_46 (dk_at dksX5_item_16 5 rfl rfl)
theorem dX5_item_382 : decode cX5_item 382 = .ok (.putfield 126, 3) := dk_181 0 126 (dk_at dksX5_item_16 6 rfl rfl)
theorem dX5_item_385 : decode cX5_item 385 = .ok (.goto 13, 3) := dk_167 0 13 (dk_at dksX5_item_16 9 rfl rfl)
theorem dX5_item_388 : decode cX5_item 388 = .ok (.aload_n 0, 1) := dk_42 (dk_at dksX5_item_16 12 rfl rfl)
theorem dX5_item_389 : decode cX5_item 389 = .ok (.aload_n 0, 1) := dk_42 (dk_at dksX5_item_16 13 rfl rfl)
theorem dX5_item_390 : decode cX5_item 390 = .ok (.getfield 78, 3) := dk_180 0 78 (dk_at dksX5_item_16 14 rfl rfl)
theorem dX5_item_393 : decode cX5_item 393 = .ok (.iconst 0, 1) := dk_3 (dk_at dksX5_item_16 17 rfl rfl)
theorem dX5_item_394 : decode cX5_item 394 = .ok (.iaload, 1) := dk_46 (dk_at dksX5_item_16 18 rfl rfl)
theorem dX5_item_395 : decode cX5_item 395 = .ok (.putfield 171, 3) := dk_181 0 171 (dk_at dksX5_item_16 19 rfl rfl)
theorem dX5_item_398 : decode cX5_item 398 = .ok (.iconst 1, 1) := dk_4 (dk_at dksX5_item_16 22 rfl rfl)
theorem dX5_item_399 : decode cX5_item 399 = .ok (.ireturn, 1) := dk_172 (dk_at dksX5_item_16 23 rfl rfl)
abbrev cX5_isWordAt : ByteArray := prog_22_method_39_code
def yX5_isWordAt : MethodName := ⟨RX5, "isWordAt", "(I)Z"⟩
def dkwX5_isWordAt_4 : List UInt8 := [163, 0, 7, 4, 167, 0, 4, 3, 172]
abbrev dktX5_isWordAt_4 : List UInt8 := dkwX5_isWordAt_4 ++ []
def dkwX5_isWordAt_3 : List UInt8 := [28, 46, 160, 0, 12, 132, 3, 1, 132, 2, 1, 167, 255, 210, 42, 180, 0, 75, 28, 46, 16, 32]
abbrev dktX5_isWordAt_3 : List UInt8 := dkwX5_isWordAt_3 ++ dktX5_isWordAt_4
def dkwX5_isWordAt_2 : List UInt8 := [29, 42, 180, 0, 187, 162, 0, 33, 42, 180, 0, 68, 42, 180, 0, 190, 29, 96, 47, 136, 42, 180, 0, 75]
abbrev dktX5_isWordAt_2 : List UInt8 := dkwX5_isWordAt_2 ++ dktX5_isWordAt_3
def dkwX5_isWordAt_1 : List UInt8 := [96, 62, 132, 2, 1, 167, 255, 231, 42, 180, 0, 184, 62, 42, 180, 0, 75, 28, 46, 16, 32, 164, 0, 41]
abbrev dktX5_isWordAt_1 : List UInt8 := dkwX5_isWordAt_1 ++ dktX5_isWordAt_2
def dkwX5_isWordAt_0 : List UInt8 := [3, 61, 3, 62, 29, 27, 162, 0, 26, 29, 42, 180, 0, 75, 28, 46, 154, 0, 7, 4, 167, 0, 4, 3]
abbrev dktX5_isWordAt_0 : List UInt8 := dkwX5_isWordAt_0 ++ dktX5_isWordAt_1
theorem dksX5_isWordAt_0 : cX5_isWordAt.data.toList.drop 0 = dktX5_isWordAt_0 := by decide +kernel
theorem dksX5_isWordAt_1 : cX5_isWordAt.data.toList.drop 24 = dktX5_isWordAt_1 := dk_seg dksX5_isWordAt_0 24 rfl rfl
theorem dksX5_isWordAt_2 : cX5_isWordAt.data.toList.drop 48 = dktX5_isWordAt_2 := dk_seg dksX5_isWordAt_1 24 rfl rfl
theorem dksX5_isWordAt_3 : cX5_isWordAt.data.toList.drop 72 = dktX5_isWordAt_3 := dk_seg dksX5_isWordAt_2 24 rfl rfl
theorem dksX5_isWordAt_4 : cX5_isWordAt.data.toList.drop 94 = dktX5_isWordAt_4 := dk_seg dksX5_isWordAt_3 22 rfl rfl
theorem dX5_isWordAt_0 : decode cX5_isWordAt 0 = .ok (.iconst 0, 1) := dk_3 (dk_at dksX5_isWordAt_0 0 rfl rfl)
theorem dX5_isWordAt_1 : decode cX5_isWordAt 1 = .ok (.istore_n 2, 1) := dk_61 (dk_at dksX5_isWordAt_0 1 rfl rfl)
theorem dX5_isWordAt_2 : decode cX5_isWordAt 2 = .ok (.iconst 0, 1) := dk_3 (dk_at dksX5_isWordAt_0 2 rfl rfl)
theorem dX5_isWordAt_3 : decode cX5_isWordAt 3 = .ok (.istore_n 3, 1) := dk_62 (dk_at dksX5_isWordAt_0 3 rfl rfl)
theorem dX5_isWordAt_4 : decode cX5_isWordAt 4 = .ok (.iload_n 3, 1) := dk_29 (dk_at dksX5_isWordAt_0 4 rfl rfl)
theorem dX5_isWordAt_5 : decode cX5_isWordAt 5 = .ok (.iload_n 1, 1) := dk_27 (dk_at dksX5_isWordAt_0 5 rfl rfl)
theorem dX5_isWordAt_6 : decode cX5_isWordAt 6 = .ok (.if_icmp .ge 26, 3) := dk_162 0 26 (dk_at dksX5_isWordAt_0 6 rfl rfl)
theorem dX5_isWordAt_9 : decode cX5_isWordAt 9 = .ok (.iload_n 3, 1) := dk_29 (dk_at dksX5_isWordAt_0 9 rfl rfl)
theorem dX5_isWordAt_10 : decode cX5_isWordAt 10 = .ok (.aload_n 0, 1) := dk_42 (dk_at dksX5_isWordAt_0 10 rfl rfl)
theorem dX5_isWordAt_11 : decode cX5_isWordAt 11 = .ok (.getfield 75, 3) := dk_180 0 75 (dk_at dksX5_isWordAt_0 11 rfl rfl)
theorem dX5_isWordAt_14 : decode cX5_isWordAt 14 = .ok (.iload_n 2, 1) := dk_28 (dk_at dksX5_isWordAt_0 14 rfl rfl)
theorem dX5_isWordAt_15 : decode cX5_isWordAt 15 = .ok (.iaload, 1) := dk_46 (dk_at dksX5_isWordAt_0 15 rfl rfl)
theorem dX5_isWordAt_16 : decode cX5_isWordAt 16 = .ok (.ifCond .ne 7, 3) := dk_154 0 7 (dk_at dksX5_isWordAt_0 16 rfl rfl)
theorem dX5_isWordAt_19 : decode cX5_isWordAt 19 = .ok (.iconst 1, 1) := dk_4 (dk_at dksX5_isWordAt_0 19 rfl rfl)
theorem dX5_isWordAt_20 : decode cX5_isWordAt 20 = .ok (.goto 4, 3) := dk_167 0 4 (dk_at dksX5_isWordAt_0 20 rfl rfl)
theorem dX5_isWordAt_23 : decode cX5_isWordAt 23 = .ok (.iconst 0, 1) := dk_3 (dk_at dksX5_isWordAt_0 23 rfl rfl)
theorem dX5_isWordAt_24 : decode cX5_isWordAt 24 = .ok (.iadd, 1) := dk_96 (dk_at dksX5_isWordAt_1 0 rfl rfl)
theorem dX5_isWordAt_25 : decode cX5_isWordAt 25 = .ok (.istore_n 3, 1) := dk_62 (dk_at dksX5_isWordAt_1 1 rfl rfl)
theorem dX5_isWordAt_26 : decode cX5_isWordAt 26 = .ok (.iinc 2 1, 3) := dk_132 2 1 (dk_at dksX5_isWordAt_1 2 rfl rfl)
theorem dX5_isWordAt_29 : decode cX5_isWordAt 29 = .ok (.goto (-25), 3) := dk_167 255 231 (dk_at dksX5_isWordAt_1 5 rfl rfl)
theorem dX5_isWordAt_32 : decode cX5_isWordAt 32 = .ok (.aload_n 0, 1) := dk_42 (dk_at dksX5_isWordAt_1 8 rfl rfl)
theorem dX5_isWordAt_33 : decode cX5_isWordAt 33 = .ok (.getfield 184, 3) := dk_180 0 184 (dk_at dksX5_isWordAt_1 9 rfl rfl)
theorem dX5_isWordAt_36 : decode cX5_isWordAt 36 = .ok (.istore_n 3, 1) := dk_62 (dk_at dksX5_isWordAt_1 12 rfl rfl)
theorem dX5_isWordAt_37 : decode cX5_isWordAt 37 = .ok (.aload_n 0, 1) := dk_42 (dk_at dksX5_isWordAt_1 13 rfl rfl)
theorem dX5_isWordAt_38 : decode cX5_isWordAt 38 = .ok (.getfield 75, 3) := dk_180 0 75 (dk_at dksX5_isWordAt_1 14 rfl rfl)
theorem dX5_isWordAt_41 : decode cX5_isWordAt 41 = .ok (.iload_n 2, 1) := dk_28 (dk_at dksX5_isWordAt_1 17 rfl rfl)
theorem dX5_isWordAt_42 : decode cX5_isWordAt 42 = .ok (.iaload, 1) := dk_46 (dk_at dksX5_isWordAt_1 18 rfl rfl)
theorem dX5_isWordAt_43 : decode cX5_isWordAt 43 = .ok (.bipush 32, 2) := dk_16 32 (dk_at dksX5_isWordAt_1 19 rfl rfl)
theorem dX5_isWordAt_45 : decode cX5_isWordAt 45 = .ok (.if_icmp .le 41, 3) := dk_164 0 41 (dk_at dksX5_isWordAt_1 21 rfl rfl)
theorem dX5_isWordAt_48 : decode cX5_isWordAt 48 = .ok (.iload_n 3, 1) := dk_29 (dk_at dksX5_isWordAt_2 0 rfl rfl)
theorem dX5_isWordAt_49 : decode cX5_isWordAt 49 = .ok (.aload_n 0, 1) := dk_42 (dk_at dksX5_isWordAt_2 1 rfl rfl)
theorem dX5_isWordAt_50 : decode cX5_isWordAt 50 = .ok (.getfield 187, 3) := dk_180 0 187 (dk_at dksX5_isWordAt_2 2 rfl rfl)
theorem dX5_isWordAt_53 : decode cX5_isWordAt 53 = .ok (.if_icmp .ge 33, 3) := dk_162 0 33 (dk_at dksX5_isWordAt_2 5 rfl rfl)
theorem dX5_isWordAt_56 : decode cX5_isWordAt 56 = .ok (.aload_n 0, 1) := dk_42 (dk_at dksX5_isWordAt_2 8 rfl rfl)
theorem dX5_isWordAt_57 : decode cX5_isWordAt 57 = .ok (.getfield 68, 3) := dk_180 0 68 (dk_at dksX5_isWordAt_2 9 rfl rfl)
theorem dX5_isWordAt_60 : decode cX5_isWordAt 60 = .ok (.aload_n 0, 1) := dk_42 (dk_at dksX5_isWordAt_2 12 rfl rfl)
theorem dX5_isWordAt_61 : decode cX5_isWordAt 61 = .ok (.getfield 190, 3) := dk_180 0 190 (dk_at dksX5_isWordAt_2 13 rfl rfl)
theorem dX5_isWordAt_64 : decode cX5_isWordAt 64 = .ok (.iload_n 3, 1) := dk_29 (dk_at dksX5_isWordAt_2 16 rfl rfl)
theorem dX5_isWordAt_65 : decode cX5_isWordAt 65 = .ok (.iadd, 1) := dk_96 (dk_at dksX5_isWordAt_2 17 rfl rfl)
theorem dX5_isWordAt_66 : decode cX5_isWordAt 66 = .ok (.laload, 1) := dk_47 (dk_at dksX5_isWordAt_2 18 rfl rfl)
theorem dX5_isWordAt_67 : decode cX5_isWordAt 67 = .ok (.l2i, 1) := dk_136 (dk_at dksX5_isWordAt_2 19 rfl rfl)
theorem dX5_isWordAt_68 : decode cX5_isWordAt 68 = .ok (.aload_n 0, 1) := dk_42 (dk_at dksX5_isWordAt_2 20 rfl rfl)
theorem dX5_isWordAt_69 : decode cX5_isWordAt 69 = .ok (.getfield 75, 3) := dk_180 0 75 (dk_at dksX5_isWordAt_2 21 rfl rfl)
theorem dX5_isWordAt_72 : decode cX5_isWordAt 72 = .ok (.iload_n 2, 1) := dk_28 (dk_at dksX5_isWordAt_3 0 rfl rfl)
theorem dX5_isWordAt_73 : decode cX5_isWordAt 73 = .ok (.iaload, 1) := dk_46 (dk_at dksX5_isWordAt_3 1 rfl rfl)
theorem dX5_isWordAt_74 : decode cX5_isWordAt 74 = .ok (.if_icmp .ne 12, 3) := dk_160 0 12 (dk_at dksX5_isWordAt_3 2 rfl rfl)
theorem dX5_isWordAt_77 : decode cX5_isWordAt 77 = .ok (.iinc 3 1, 3) := dk_132 3 1 (dk_at dksX5_isWordAt_3 5 rfl rfl)
theorem dX5_isWordAt_80 : decode cX5_isWordAt 80 = .ok (.iinc 2 1, 3) := dk_132 2 1 (dk_at dksX5_isWordAt_3 8 rfl rfl)
theorem dX5_isWordAt_83 : decode cX5_isWordAt 83 = .ok (.goto (-46), 3) := dk_167 255 210 (dk_at dksX5_isWordAt_3 11 rfl rfl)
theorem dX5_isWordAt_86 : decode cX5_isWordAt 86 = .ok (.aload_n 0, 1) := dk_42 (dk_at dksX5_isWordAt_3 14 rfl rfl)
theorem dX5_isWordAt_87 : decode cX5_isWordAt 87 = .ok (.getfield 75, 3) := dk_180 0 75 (dk_at dksX5_isWordAt_3 15 rfl rfl)
theorem dX5_isWordAt_90 : decode cX5_isWordAt 90 = .ok (.iload_n 2, 1) := dk_28 (dk_at dksX5_isWordAt_3 18 rfl rfl)
theorem dX5_isWordAt_91 : decode cX5_isWordAt 91 = .ok (.iaload, 1) := dk_46 (dk_at dksX5_isWordAt_3 19 rfl rfl)
theorem dX5_isWordAt_92 : decode cX5_isWordAt 92 = .ok (.bipush 32, 2) := dk_16 32 (dk_at dksX5_isWordAt_3 20 rfl rfl)
theorem dX5_isWordAt_94 : decode cX5_isWordAt 94 = .ok (.if_icmp .gt 7, 3) := dk_163 0 7 (dk_at dksX5_isWordAt_4 0 rfl rfl)
theorem dX5_isWordAt_97 : decode cX5_isWordAt 97 = .ok (.iconst 1, 1) := dk_4 (dk_at dksX5_isWordAt_4 3 rfl rfl)
theorem dX5_isWordAt_98 : decode cX5_isWordAt 98 = .ok (.goto 4, 3) := dk_167 0 4 (dk_at dksX5_isWordAt_4 4 rfl rfl)
theorem dX5_isWordAt_101 : decode cX5_isWordAt 101 = .ok (.iconst 0, 1) := dk_3 (dk_at dksX5_isWordAt_4 7 rfl rfl)
theorem dX5_isWordAt_102 : decode cX5_isWordAt 102 = .ok (.ireturn, 1) := dk_172 (dk_at dksX5_isWordAt_4 8 rfl rfl)
abbrev cX5_isFull : ByteArray := prog_22_method_38_code
def yX5_isFull : MethodName := ⟨RX5, "isFull", "(I)Z"⟩
def dkwX5_isFull_1 : List UInt8 := [159, 0, 16, 27, 5, 160, 0, 15, 42, 180, 0, 162, 7, 160, 0, 7, 4, 167, 0, 4, 3, 172]
abbrev dktX5_isFull_1 : List UInt8 := dkwX5_isFull_1 ++ []
def dkwX5_isFull_0 : List UInt8 := [27, 154, 0, 12, 42, 180, 0, 117, 16, 8, 159, 0, 30, 27, 4, 160, 0, 12, 42, 180, 0, 120, 16, 8]
abbrev dktX5_isFull_0 : List UInt8 := dkwX5_isFull_0 ++ dktX5_isFull_1
theorem dksX5_isFull_0 : cX5_isFull.data.toList.drop 0 = dktX5_isFull_0 := by decide +kernel
theorem dksX5_isFull_1 : cX5_isFull.data.toList.drop 24 = dktX5_isFull_1 := dk_seg dksX5_isFull_0 24 rfl rfl
theorem dX5_isFull_0 : decode cX5_isFull 0 = .ok (.iload_n 1, 1) := dk_27 (dk_at dksX5_isFull_0 0 rfl rfl)
theorem dX5_isFull_1 : decode cX5_isFull 1 = .ok (.ifCond .ne 12, 3) := dk_154 0 12 (dk_at dksX5_isFull_0 1 rfl rfl)
theorem dX5_isFull_4 : decode cX5_isFull 4 = .ok (.aload_n 0, 1) := dk_42 (dk_at dksX5_isFull_0 4 rfl rfl)
theorem dX5_isFull_5 : decode cX5_isFull 5 = .ok (.getfield 117, 3) := dk_180 0 117 (dk_at dksX5_isFull_0 5 rfl rfl)
theorem dX5_isFull_8 : decode cX5_isFull 8 = .ok (.bipush 8, 2) := dk_16 8 (dk_at dksX5_isFull_0 8 rfl rfl)
theorem dX5_isFull_10 : decode cX5_isFull 10 = .ok (.if_icmp .eq 30, 3) := dk_159 0 30 (dk_at dksX5_isFull_0 10 rfl rfl)
theorem dX5_isFull_13 : decode cX5_isFull 13 = .ok (.iload_n 1, 1) := dk_27 (dk_at dksX5_isFull_0 13 rfl rfl)
theorem dX5_isFull_14 : decode cX5_isFull 14 = .ok (.iconst 1, 1) := dk_4 (dk_at dksX5_isFull_0 14 rfl rfl)
theorem dX5_isFull_15 : decode cX5_isFull 15 = .ok (.if_icmp .ne 12, 3) := dk_160 0 12 (dk_at dksX5_isFull_0 15 rfl rfl)
theorem dX5_isFull_18 : decode cX5_isFull 18 = .ok (.aload_n 0, 1) := dk_42 (dk_at dksX5_isFull_0 18 rfl rfl)
theorem dX5_isFull_19 : decode cX5_isFull 19 = .ok (.getfield 120, 3) := dk_180 0 120 (dk_at dksX5_isFull_0 19 rfl rfl)
theorem dX5_isFull_22 : decode cX5_isFull 22 = .ok (.bipush 8, 2) := dk_16 8 (dk_at dksX5_isFull_0 22 rfl rfl)
theorem dX5_isFull_24 : decode cX5_isFull 24 = .ok (.if_icmp .eq 16, 3) := dk_159 0 16 (dk_at dksX5_isFull_1 0 rfl rfl)
theorem dX5_isFull_27 : decode cX5_isFull 27 = .ok (.iload_n 1, 1) := dk_27 (dk_at dksX5_isFull_1 3 rfl rfl)
theorem dX5_isFull_28 : decode cX5_isFull 28 = .ok (.iconst 2, 1) := dk_5 (dk_at dksX5_isFull_1 4 rfl rfl)
theorem dX5_isFull_29 : decode cX5_isFull 29 = .ok (.if_icmp .ne 15, 3) := dk_160 0 15 (dk_at dksX5_isFull_1 5 rfl rfl)
theorem dX5_isFull_32 : decode cX5_isFull 32 = .ok (.aload_n 0, 1) := dk_42 (dk_at dksX5_isFull_1 8 rfl rfl)
theorem dX5_isFull_33 : decode cX5_isFull 33 = .ok (.getfield 162, 3) := dk_180 0 162 (dk_at dksX5_isFull_1 9 rfl rfl)
theorem dX5_isFull_36 : decode cX5_isFull 36 = .ok (.iconst 4, 1) := dk_7 (dk_at dksX5_isFull_1 12 rfl rfl)
theorem dX5_isFull_37 : decode cX5_isFull 37 = .ok (.if_icmp .ne 7, 3) := dk_160 0 7 (dk_at dksX5_isFull_1 13 rfl rfl)
theorem dX5_isFull_40 : decode cX5_isFull 40 = .ok (.iconst 1, 1) := dk_4 (dk_at dksX5_isFull_1 16 rfl rfl)
theorem dX5_isFull_41 : decode cX5_isFull 41 = .ok (.goto 4, 3) := dk_167 0 4 (dk_at dksX5_isFull_1 17 rfl rfl)
theorem dX5_isFull_44 : decode cX5_isFull 44 = .ok (.iconst 0, 1) := dk_3 (dk_at dksX5_isFull_1 20 rfl rfl)
theorem dX5_isFull_45 : decode cX5_isFull 45 = .ok (.ireturn, 1) := dk_172 (dk_at dksX5_isFull_1 21 rfl rfl)
abbrev cX5_wrong : ByteArray := prog_22_method_33_code
def yX5_wrong : MethodName := ⟨RX5, "wrong", "(I)Z"⟩
def dkwX5_wrong_0 : List UInt8 := [42, 27, 181, 0, 181, 3, 172]
abbrev dktX5_wrong_0 : List UInt8 := dkwX5_wrong_0 ++ []
theorem dksX5_wrong_0 : cX5_wrong.data.toList.drop 0 = dktX5_wrong_0 := by decide +kernel
theorem dX5_wrong_0 : decode cX5_wrong 0 = .ok (.aload_n 0, 1) := dk_42 (dk_at dksX5_wrong_0 0 rfl rfl)
theorem dX5_wrong_1 : decode cX5_wrong 1 = .ok (.iload_n 1, 1) := dk_27 (dk_at dksX5_wrong_0 1 rfl rfl)
theorem dX5_wrong_2 : decode cX5_wrong 2 = .ok (.putfield 181, 3) := dk_181 0 181 (dk_at dksX5_wrong_0 2 rfl rfl)
theorem dX5_wrong_5 : decode cX5_wrong 5 = .ok (.iconst 0, 1) := dk_3 (dk_at dksX5_wrong_0 5 rfl rfl)
theorem dX5_wrong_6 : decode cX5_wrong 6 = .ok (.ireturn, 1) := dk_172 (dk_at dksX5_wrong_0 6 rfl rfl)
abbrev cX5_word : ByteArray := prog_22_method_34_code
def yX5_word : MethodName := ⟨RX5, "word", "()I"⟩
def dkwX5_word_5 : List UInt8 := [167, 255, 244, 132, 1, 1, 132, 3, 1, 167, 255, 138, 42, 28, 181, 0, 181, 2, 172]
abbrev dktX5_word_5 : List UInt8 := dkwX5_word_5 ++ []
def dkwX5_word_4 : List UInt8 := [164, 0, 8, 21, 4, 167, 0, 4, 28, 61, 42, 180, 0, 75, 27, 46, 153, 0, 9, 132, 1, 1]
abbrev dktX5_word_4 : List UInt8 := dkwX5_word_4 ++ dktX5_word_5
def dkwX5_word_3 : List UInt8 := [167, 255, 208, 42, 180, 0, 75, 21, 5, 46, 154, 0, 11, 42, 21, 4, 181, 0, 184, 29, 172, 21, 4, 28]
abbrev dktX5_word_3 : List UInt8 := dkwX5_word_3 ++ dktX5_word_4
def dkwX5_word_2 : List UInt8 := [180, 0, 190, 21, 4, 96, 47, 136, 42, 180, 0, 75, 21, 5, 46, 160, 0, 12, 132, 4, 1, 132, 5, 1]
abbrev dktX5_word_2 : List UInt8 := dkwX5_word_2 ++ dktX5_word_3
def dkwX5_word_1 : List UInt8 := [42, 180, 0, 75, 21, 5, 46, 153, 0, 44, 21, 4, 42, 180, 0, 187, 162, 0, 35, 42, 180, 0, 68, 42]
abbrev dktX5_word_1 : List UInt8 := dkwX5_word_1 ++ dktX5_word_2
def dkwX5_word_0 : List UInt8 := [3, 60, 42, 180, 0, 184, 61, 3, 62, 29, 16, 6, 162, 0, 118, 42, 180, 0, 184, 54, 4, 27, 54, 5]
abbrev dktX5_word_0 : List UInt8 := dkwX5_word_0 ++ dktX5_word_1
theorem dksX5_word_0 : cX5_word.data.toList.drop 0 = dktX5_word_0 := by decide +kernel
theorem dksX5_word_1 : cX5_word.data.toList.drop 24 = dktX5_word_1 := dk_seg dksX5_word_0 24 rfl rfl
theorem dksX5_word_2 : cX5_word.data.toList.drop 48 = dktX5_word_2 := dk_seg dksX5_word_1 24 rfl rfl
theorem dksX5_word_3 : cX5_word.data.toList.drop 72 = dktX5_word_3 := dk_seg dksX5_word_2 24 rfl rfl
theorem dksX5_word_4 : cX5_word.data.toList.drop 96 = dktX5_word_4 := dk_seg dksX5_word_3 24 rfl rfl
theorem dksX5_word_5 : cX5_word.data.toList.drop 118 = dktX5_word_5 := dk_seg dksX5_word_4 22 rfl rfl
theorem dX5_word_0 : decode cX5_word 0 = .ok (.iconst 0, 1) := dk_3 (dk_at dksX5_word_0 0 rfl rfl)
theorem dX5_word_1 : decode cX5_word 1 = .ok (.istore_n 1, 1) := dk_60 (dk_at dksX5_word_0 1 rfl rfl)
theorem dX5_word_2 : decode cX5_word 2 = .ok (.aload_n 0, 1) := dk_42 (dk_at dksX5_word_0 2 rfl rfl)
theorem dX5_word_3 : decode cX5_word 3 = .ok (.getfield 184, 3) := dk_180 0 184 (dk_at dksX5_word_0 3 rfl rfl)
theorem dX5_word_6 : decode cX5_word 6 = .ok (.istore_n 2, 1) := dk_61 (dk_at dksX5_word_0 6 rfl rfl)
theorem dX5_word_7 : decode cX5_word 7 = .ok (.iconst 0, 1) := dk_3 (dk_at dksX5_word_0 7 rfl rfl)
theorem dX5_word_8 : decode cX5_word 8 = .ok (.istore_n 3, 1) := dk_62 (dk_at dksX5_word_0 8 rfl rfl)
theorem dX5_word_9 : decode cX5_word 9 = .ok (.iload_n 3, 1) := dk_29 (dk_at dksX5_word_0 9 rfl rfl)
theorem dX5_word_10 : decode cX5_word 10 = .ok (.bipush 6, 2) := dk_16 6 (dk_at dksX5_word_0 10 rfl rfl)
theorem dX5_word_12 : decode cX5_word 12 = .ok (.if_icmp .ge 118, 3) := dk_162 0 118 (dk_at dksX5_word_0 12 rfl rfl)
theorem dX5_word_15 : decode cX5_word 15 = .ok (.aload_n 0, 1) := dk_42 (dk_at dksX5_word_0 15 rfl rfl)
theorem dX5_word_16 : decode cX5_word 16 = .ok (.getfield 184, 3) := dk_180 0 184 (dk_at dksX5_word_0 16 rfl rfl)
theorem dX5_word_19 : decode cX5_word 19 = .ok (.istore 4, 2) := dk_54 4 (dk_at dksX5_word_0 19 rfl rfl)
theorem dX5_word_21 : decode cX5_word 21 = .ok (.iload_n 1, 1) := dk_27 (dk_at dksX5_word_0 21 rfl rfl)
theorem dX5_word_22 : decode cX5_word 22 = .ok (.istore 5, 2) := dk_54 5 (dk_at dksX5_word_0 22 rfl rfl)
theorem dX5_word_24 : decode cX5_word 24 = .ok (.aload_n 0, 1) := dk_42 (dk_at dksX5_word_1 0 rfl rfl)
theorem dX5_word_25 : decode cX5_word 25 = .ok (.getfield 75, 3) := dk_180 0 75 (dk_at dksX5_word_1 1 rfl rfl)
theorem dX5_word_28 : decode cX5_word 28 = .ok (.iload 5, 2) := dk_21 5 (dk_at dksX5_word_1 4 rfl rfl)
theorem dX5_word_30 : decode cX5_word 30 = .ok (.iaload, 1) := dk_46 (dk_at dksX5_word_1 6 rfl rfl)
theorem dX5_word_31 : decode cX5_word 31 = .ok (.ifCond .eq 44, 3) := dk_153 0 44 (dk_at dksX5_word_1 7 rfl rfl)
theorem dX5_word_34 : decode cX5_word 34 = .ok (.iload 4, 2) := dk_21 4 (dk_at dksX5_word_1 10 rfl rfl)
theorem dX5_word_36 : decode cX5_word 36 = .ok (.aload_n 0, 1) := dk_42 (dk_at dksX5_word_1 12 rfl rfl)
theorem dX5_word_37 : decode cX5_word 37 = .ok (.getfield 187, 3) := dk_180 0 187 (dk_at dksX5_word_1 13 rfl rfl)
theorem dX5_word_40 : decode cX5_word 40 = .ok (.if_icmp .ge 35, 3) := dk_162 0 35 (dk_at dksX5_word_1 16 rfl rfl)
theorem dX5_word_43 : decode cX5_word 43 = .ok (.aload_n 0, 1) := dk_42 (dk_at dksX5_word_1 19 rfl rfl)
theorem dX5_word_44 : decode cX5_word 44 = .ok (.getfield 68, 3) := dk_180 0 68 (dk_at dksX5_word_1 20 rfl rfl)
theorem dX5_word_47 : decode cX5_word 47 = .ok (.aload_n 0, 1) := dk_42 (dk_at dksX5_word_1 23 rfl rfl)
theorem dX5_word_48 : decode cX5_word 48 = .ok (.getfield 190, 3) := dk_180 0 190 (dk_at dksX5_word_2 0 rfl rfl)
theorem dX5_word_51 : decode cX5_word 51 = .ok (.iload 4, 2) := dk_21 4 (dk_at dksX5_word_2 3 rfl rfl)
theorem dX5_word_53 : decode cX5_word 53 = .ok (.iadd, 1) := dk_96 (dk_at dksX5_word_2 5 rfl rfl)
theorem dX5_word_54 : decode cX5_word 54 = .ok (.laload, 1) := dk_47 (dk_at dksX5_word_2 6 rfl rfl)
theorem dX5_word_55 : decode cX5_word 55 = .ok (.l2i, 1) := dk_136 (dk_at dksX5_word_2 7 rfl rfl)
theorem dX5_word_56 : decode cX5_word 56 = .ok (.aload_n 0, 1) := dk_42 (dk_at dksX5_word_2 8 rfl rfl)
theorem dX5_word_57 : decode cX5_word 57 = .ok (.getfield 75, 3) := dk_180 0 75 (dk_at dksX5_word_2 9 rfl rfl)
theorem dX5_word_60 : decode cX5_word 60 = .ok (.iload 5, 2) := dk_21 5 (dk_at dksX5_word_2 12 rfl rfl)
theorem dX5_word_62 : decode cX5_word 62 = .ok (.iaload, 1) := dk_46 (dk_at dksX5_word_2 14 rfl rfl)
theorem dX5_word_63 : decode cX5_word 63 = .ok (.if_icmp .ne 12, 3) := dk_160 0 12 (dk_at dksX5_word_2 15 rfl rfl)
theorem dX5_word_66 : decode cX5_word 66 = .ok (.iinc 4 1, 3) := dk_132 4 1 (dk_at dksX5_word_2 18 rfl rfl)
theorem dX5_word_69 : decode cX5_word 69 = .ok (.iinc 5 1, 3) := dk_132 5 1 (dk_at dksX5_word_2 21 rfl rfl)
theorem dX5_word_72 : decode cX5_word 72 = .ok (.goto (-48), 3) := dk_167 255 208 (dk_at dksX5_word_3 0 rfl rfl)
theorem dX5_word_75 : decode cX5_word 75 = .ok (.aload_n 0, 1) := dk_42 (dk_at dksX5_word_3 3 rfl rfl)
theorem dX5_word_76 : decode cX5_word 76 = .ok (.getfield 75, 3) := dk_180 0 75 (dk_at dksX5_word_3 4 rfl rfl)
theorem dX5_word_79 : decode cX5_word 79 = .ok (.iload 5, 2) := dk_21 5 (dk_at dksX5_word_3 7 rfl rfl)
theorem dX5_word_81 : decode cX5_word 81 = .ok (.iaload, 1) := dk_46 (dk_at dksX5_word_3 9 rfl rfl)
theorem dX5_word_82 : decode cX5_word 82 = .ok (.ifCond .ne 11, 3) := dk_154 0 11 (dk_at dksX5_word_3 10 rfl rfl)
theorem dX5_word_85 : decode cX5_word 85 = .ok (.aload_n 0, 1) := dk_42 (dk_at dksX5_word_3 13 rfl rfl)
theorem dX5_word_86 : decode cX5_word 86 = .ok (.iload 4, 2) := dk_21 4 (dk_at dksX5_word_3 14 rfl rfl)
theorem dX5_word_88 : decode cX5_word 88 = .ok (.putfield 184, 3) := dk_181 0 184 (dk_at dksX5_word_3 16 rfl rfl)
theorem dX5_word_91 : decode cX5_word 91 = .ok (.iload_n 3, 1) := dk_29 (dk_at dksX5_word_3 19 rfl rfl)
theorem dX5_word_92 : decode cX5_word 92 = .ok (.ireturn, 1) := dk_172 (dk_at dksX5_word_3 20 rfl rfl)
theorem dX5_word_93 : decode cX5_word 93 = .ok (.iload 4, 2) := dk_21 4 (dk_at dksX5_word_3 21 rfl rfl)
theorem dX5_word_95 : decode cX5_word 95 = .ok (.iload_n 2, 1) := dk_28 (dk_at dksX5_word_3 23 rfl rfl)
theorem dX5_word_96 : decode cX5_word 96 = .ok (.if_icmp .le 8, 3) := dk_164 0 8 (dk_at dksX5_word_4 0 rfl rfl)
theorem dX5_word_99 : decode cX5_word 99 = .ok (.iload 4, 2) := dk_21 4 (dk_at dksX5_word_4 3 rfl rfl)
theorem dX5_word_101 : decode cX5_word 101 = .ok (.goto 4, 3) := dk_167 0 4 (dk_at dksX5_word_4 5 rfl rfl)
theorem dX5_word_104 : decode cX5_word 104 = .ok (.iload_n 2, 1) := dk_28 (dk_at dksX5_word_4 8 rfl rfl)
theorem dX5_word_105 : decode cX5_word 105 = .ok (.istore_n 2, 1) := dk_61 (dk_at dksX5_word_4 9 rfl rfl)
theorem dX5_word_106 : decode cX5_word 106 = .ok (.aload_n 0, 1) := dk_42 (dk_at dksX5_word_4 10 rfl rfl)
theorem dX5_word_107 : decode cX5_word 107 = .ok (.getfield 75, 3) := dk_180 0 75 (dk_at dksX5_word_4 11 rfl rfl)
theorem dX5_word_110 : decode cX5_word 110 = .ok (.iload_n 1, 1) := dk_27 (dk_at dksX5_word_4 14 rfl rfl)
theorem dX5_word_111 : decode cX5_word 111 = .ok (.iaload, 1) := dk_46 (dk_at dksX5_word_4 15 rfl rfl)
theorem dX5_word_112 : decode cX5_word 112 = .ok (.ifCond .eq 9, 3) := dk_153 0 9 (dk_at dksX5_word_4 16 rfl rfl)
theorem dX5_word_115 : decode cX5_word 115 = .ok (.iinc 1 1, 3) := dk_132 1 1 (dk_at dksX5_word_4 19 rfl rfl)
theorem dX5_word_118 : decode cX5_word 118 = .ok (.goto (-12), 3) := dk_167 255 244 (dk_at dksX5_word_5 0 rfl rfl)
theorem dX5_word_121 : decode cX5_word 121 = .ok (.iinc 1 1, 3) := dk_132 1 1 (dk_at dksX5_word_5 3 rfl rfl)
theorem dX5_word_124 : decode cX5_word 124 = .ok (.iinc 3 1, 3) := dk_132 3 1 (dk_at dksX5_word_5 6 rfl rfl)
theorem dX5_word_127 : decode cX5_word 127 = .ok (.goto (-118), 3) := dk_167 255 138 (dk_at dksX5_word_5 9 rfl rfl)
theorem dX5_word_130 : decode cX5_word 130 = .ok (.aload_n 0, 1) := dk_42 (dk_at dksX5_word_5 12 rfl rfl)
theorem dX5_word_131 : decode cX5_word 131 = .ok (.iload_n 2, 1) := dk_28 (dk_at dksX5_word_5 13 rfl rfl)
theorem dX5_word_132 : decode cX5_word 132 = .ok (.putfield 181, 3) := dk_181 0 181 (dk_at dksX5_word_5 14 rfl rfl)
theorem dX5_word_135 : decode cX5_word 135 = .ok (.iconst (-1), 1) := dk_2 (dk_at dksX5_word_5 17 rfl rfl)
theorem dX5_word_136 : decode cX5_word 136 = .ok (.ireturn, 1) := dk_172 (dk_at dksX5_word_5 18 rfl rfl)
abbrev cX5_number : ByteArray := prog_22_method_36_code
def yX5_number : MethodName := ⟨RX5, "number", "(II)Z"⟩
def dkwX5_number_5 : List UInt8 := [42, 29, 182, 0, 197, 153, 0, 7, 4, 167, 0, 4, 3, 172]
abbrev dktX5_number_5 : List UInt8 := dkwX5_number_5 ++ []
def dkwX5_number_4 : List UInt8 := [180, 0, 184, 4, 96, 181, 0, 184, 42, 180, 0, 200, 27, 161, 0, 11, 42, 180, 0, 200, 28, 164, 0, 11]
abbrev dktX5_number_4 : List UInt8 := dkwX5_number_4 ++ dktX5_number_5
def dkwX5_number_3 : List UInt8 := [180, 0, 68, 42, 180, 0, 190, 42, 180, 0, 184, 96, 47, 136, 96, 16, 48, 100, 181, 0, 200, 42, 89]
abbrev dktX5_number_3 : List UInt8 := dkwX5_number_3 ++ dktX5_number_4
def dkwX5_number_2 : List UInt8 := [180, 0, 184, 4, 96, 181, 0, 184, 42, 182, 0, 193, 153, 0, 43, 42, 16, 10, 42, 180, 0, 200, 104, 42]
abbrev dktX5_number_2 : List UInt8 := dkwX5_number_2 ++ dktX5_number_3
def dkwX5_number_1 : List UInt8 := [180, 0, 68, 42, 180, 0, 190, 42, 180, 0, 184, 96, 47, 136, 16, 48, 100, 181, 0, 200, 42, 89]
abbrev dktX5_number_1 : List UInt8 := dkwX5_number_1 ++ dktX5_number_2
def dkwX5_number_0 : List UInt8 := [42, 180, 0, 184, 62, 42, 182, 0, 193, 154, 0, 12, 42, 42, 180, 0, 184, 182, 0, 197, 172, 42, 42]
abbrev dktX5_number_0 : List UInt8 := dkwX5_number_0 ++ dktX5_number_1
theorem dksX5_number_0 : cX5_number.data.toList.drop 0 = dktX5_number_0 := by decide +kernel
theorem dksX5_number_1 : cX5_number.data.toList.drop 23 = dktX5_number_1 := dk_seg dksX5_number_0 23 rfl rfl
theorem dksX5_number_2 : cX5_number.data.toList.drop 45 = dktX5_number_2 := dk_seg dksX5_number_1 22 rfl rfl
theorem dksX5_number_3 : cX5_number.data.toList.drop 69 = dktX5_number_3 := dk_seg dksX5_number_2 24 rfl rfl
theorem dksX5_number_4 : cX5_number.data.toList.drop 92 = dktX5_number_4 := dk_seg dksX5_number_3 23 rfl rfl
theorem dksX5_number_5 : cX5_number.data.toList.drop 116 = dktX5_number_5 := dk_seg dksX5_number_4 24 rfl rfl
theorem dX5_number_0 : decode cX5_number 0 = .ok (.aload_n 0, 1) := dk_42 (dk_at dksX5_number_0 0 rfl rfl)
theorem dX5_number_1 : decode cX5_number 1 = .ok (.getfield 184, 3) := dk_180 0 184 (dk_at dksX5_number_0 1 rfl rfl)
theorem dX5_number_4 : decode cX5_number 4 = .ok (.istore_n 3, 1) := dk_62 (dk_at dksX5_number_0 4 rfl rfl)
theorem dX5_number_5 : decode cX5_number 5 = .ok (.aload_n 0, 1) := dk_42 (dk_at dksX5_number_0 5 rfl rfl)
theorem dX5_number_6 : decode cX5_number 6 = .ok (.invokevirtual 193, 3) := dk_182 0 193 (dk_at dksX5_number_0 6 rfl rfl)
theorem dX5_number_9 : decode cX5_number 9 = .ok (.ifCond .ne 12, 3) := dk_154 0 12 (dk_at dksX5_number_0 9 rfl rfl)
theorem dX5_number_12 : decode cX5_number 12 = .ok (.aload_n 0, 1) := dk_42 (dk_at dksX5_number_0 12 rfl rfl)
theorem dX5_number_13 : decode cX5_number 13 = .ok (.aload_n 0, 1) := dk_42 (dk_at dksX5_number_0 13 rfl rfl)
theorem dX5_number_14 : decode cX5_number 14 = .ok (.getfield 184, 3) := dk_180 0 184 (dk_at dksX5_number_0 14 rfl rfl)
theorem dX5_number_17 : decode cX5_number 17 = .ok (.invokevirtual 197, 3) := dk_182 0 197 (dk_at dksX5_number_0 17 rfl rfl)
theorem dX5_number_20 : decode cX5_number 20 = .ok (.ireturn, 1) := dk_172 (dk_at dksX5_number_0 20 rfl rfl)
theorem dX5_number_21 : decode cX5_number 21 = .ok (.aload_n 0, 1) := dk_42 (dk_at dksX5_number_0 21 rfl rfl)
theorem dX5_number_22 : decode cX5_number 22 = .ok (.aload_n 0, 1) := dk_42 (dk_at dksX5_number_0 22 rfl rfl)
theorem dX5_number_23 : decode cX5_number 23 = .ok (.getfield 68, 3) := dk_180 0 68 (dk_at dksX5_number_1 0 rfl rfl)
theorem dX5_number_26 : decode cX5_number 26 = .ok (.aload_n 0, 1) := dk_42 (dk_at dksX5_number_1 3 rfl rfl)
theorem dX5_number_27 : decode cX5_number 27 = .ok (.getfield 190, 3) := dk_180 0 190 (dk_at dksX5_number_1 4 rfl rfl)
theorem dX5_number_30 : decode cX5_number 30 = .ok (.aload_n 0, 1) := dk_42 (dk_at dksX5_number_1 7 rfl rfl)
theorem dX5_number_31 : decode cX5_number 31 = .ok (.getfield 184, 3) := dk_180 0 184 (dk_at dksX5_number_1 8 rfl rfl)
theorem dX5_number_34 : decode cX5_number 34 = .ok (.iadd, 1) := dk_96 (dk_at dksX5_number_1 11 rfl rfl)
theorem dX5_number_35 : decode cX5_number 35 = .ok (.laload, 1) := dk_47 (dk_at dksX5_number_1 12 rfl rfl)
theorem dX5_number_36 : decode cX5_number 36 = .ok (.l2i, 1) := dk_136 (dk_at dksX5_number_1 13 rfl rfl)
theorem dX5_number_37 : decode cX5_number 37 = .ok (.bipush 48, 2) := dk_16 48 (dk_at dksX5_number_1 14 rfl rfl)
theorem dX5_number_39 : decode cX5_number 39 = .ok (.isub, 1) := dk_100 (dk_at dksX5_number_1 16 rfl rfl)
theorem dX5_number_40 : decode cX5_number 40 = .ok (.putfield 200, 3) := dk_181 0 200 (dk_at dksX5_number_1 17 rfl rfl)
theorem dX5_number_43 : decode cX5_number 43 = .ok (.aload_n 0, 1) := dk_42 (dk_at dksX5_number_1 20 rfl rfl)
theorem dX5_number_44 : decode cX5_number 44 = .ok (.dup, 1) := dk_89 (dk_at dksX5_number_1 21 rfl rfl)
theorem dX5_number_45 : decode cX5_number 45 = .ok (.getfield 184, 3) := dk_180 0 184 (dk_at dksX5_number_2 0 rfl rfl)
theorem dX5_number_48 : decode cX5_number 48 = .ok (.iconst 1, 1) := dk_4 (dk_at dksX5_number_2 3 rfl rfl)
theorem dX5_number_49 : decode cX5_number 49 = .ok (.iadd, 1) := dk_96 (dk_at dksX5_number_2 4 rfl rfl)
theorem dX5_number_50 : decode cX5_number 50 = .ok (.putfield 184, 3) := dk_181 0 184 (dk_at dksX5_number_2 5 rfl rfl)
theorem dX5_number_53 : decode cX5_number 53 = .ok (.aload_n 0, 1) := dk_42 (dk_at dksX5_number_2 8 rfl rfl)
theorem dX5_number_54 : decode cX5_number 54 = .ok (.invokevirtual 193, 3) := dk_182 0 193 (dk_at dksX5_number_2 9 rfl rfl)
theorem dX5_number_57 : decode cX5_number 57 = .ok (.ifCond .eq 43, 3) := dk_153 0 43 (dk_at dksX5_number_2 12 rfl rfl)
theorem dX5_number_60 : decode cX5_number 60 = .ok (.aload_n 0, 1) := dk_42 (dk_at dksX5_number_2 15 rfl rfl)
theorem dX5_number_61 : decode cX5_number 61 = .ok (.bipush 10, 2) := dk_16 10 (dk_at dksX5_number_2 16 rfl rfl)
theorem dX5_number_63 : decode cX5_number 63 = .ok (.aload_n 0, 1) := dk_42 (dk_at dksX5_number_2 18 rfl rfl)
theorem dX5_number_64 : decode cX5_number 64 = .ok (.getfield 200, 3) := dk_180 0 200 (dk_at dksX5_number_2 19 rfl rfl)
theorem dX5_number_67 : decode cX5_number 67 = .ok (.imul, 1) := dk_104 (dk_at dksX5_number_2 22 rfl rfl)
theorem dX5_number_68 : decode cX5_number 68 = .ok (.aload_n 0, 1) := dk_42 (dk_at dksX5_number_2 23 rfl rfl)
theorem dX5_number_69 : decode cX5_number 69 = .ok (.getfield 68, 3) := dk_180 0 68 (dk_at dksX5_number_3 0 rfl rfl)
theorem dX5_number_72 : decode cX5_number 72 = .ok (.aload_n 0, 1) := dk_42 (dk_at dksX5_number_3 3 rfl rfl)
theorem dX5_number_73 : decode cX5_number 73 = .ok (.getfield 190, 3) := dk_180 0 190 (dk_at dksX5_number_3 4 rfl rfl)
theorem dX5_number_76 : decode cX5_number 76 = .ok (.aload_n 0, 1) := dk_42 (dk_at dksX5_number_3 7 rfl rfl)
theorem dX5_number_77 : decode cX5_number 77 = .ok (.getfield 184, 3) := dk_180 0 184 (dk_at dksX5_number_3 8 rfl rfl)
theorem dX5_number_80 : decode cX5_number 80 = .ok (.iadd, 1) := dk_96 (dk_at dksX5_number_3 11 rfl rfl)
theorem dX5_number_81 : decode cX5_number 81 = .ok (.laload, 1) := dk_47 (dk_at dksX5_number_3 12 rfl rfl)
theorem dX5_number_82 : decode cX5_number 82 = .ok (.l2i, 1) := dk_136 (dk_at dksX5_number_3 13 rfl rfl)
theorem dX5_number_83 : decode cX5_number 83 = .ok (.iadd, 1) := dk_96 (dk_at dksX5_number_3 14 rfl rfl)
theorem dX5_number_84 : decode cX5_number 84 = .ok (.bipush 48, 2) := dk_16 48 (dk_at dksX5_number_3 15 rfl rfl)
theorem dX5_number_86 : decode cX5_number 86 = .ok (.isub, 1) := dk_100 (dk_at dksX5_number_3 17 rfl rfl)
theorem dX5_number_87 : decode cX5_number 87 = .ok (.putfield 200, 3) := dk_181 0 200 (dk_at dksX5_number_3 18 rfl rfl)
theorem dX5_number_90 : decode cX5_number 90 = .ok (.aload_n 0, 1) := dk_42 (dk_at dksX5_number_3 21 rfl rfl)
theorem dX5_number_91 : decode cX5_number 91 = .ok (.dup, 1) := dk_89 (dk_at dksX5_number_3 22 rfl rfl)
theorem dX5_number_92 : decode cX5_number 92 = .ok (.getfield 184, 3) := dk_180 0 184 (dk_at dksX5_number_4 0 rfl rfl)
theorem dX5_number_95 : decode cX5_number 95 = .ok (.iconst 1, 1) := dk_4 (dk_at dksX5_number_4 3 rfl rfl)
theorem dX5_number_96 : decode cX5_number 96 = .ok (.iadd, 1) := dk_96 (dk_at dksX5_number_4 4 rfl rfl)
theorem dX5_number_97 : decode cX5_number 97 = .ok (.putfield 184, 3) := dk_181 0 184 (dk_at dksX5_number_4 5 rfl rfl)
theorem dX5_number_100 : decode cX5_number 100 = .ok (.aload_n 0, 1) := dk_42 (dk_at dksX5_number_4 8 rfl rfl)
theorem dX5_number_101 : decode cX5_number 101 = .ok (.getfield 200, 3) := dk_180 0 200 (dk_at dksX5_number_4 9 rfl rfl)
theorem dX5_number_104 : decode cX5_number 104 = .ok (.iload_n 1, 1) := dk_27 (dk_at dksX5_number_4 12 rfl rfl)
theorem dX5_number_105 : decode cX5_number 105 = .ok (.if_icmp .lt 11, 3) := dk_161 0 11 (dk_at dksX5_number_4 13 rfl rfl)
theorem dX5_number_108 : decode cX5_number 108 = .ok (.aload_n 0, 1) := dk_42 (dk_at dksX5_number_4 16 rfl rfl)
theorem dX5_number_109 : decode cX5_number 109 = .ok (.getfield 200, 3) := dk_180 0 200 (dk_at dksX5_number_4 17 rfl rfl)
theorem dX5_number_112 : decode cX5_number 112 = .ok (.iload_n 2, 1) := dk_28 (dk_at dksX5_number_4 20 rfl rfl)
theorem dX5_number_113 : decode cX5_number 113 = .ok (.if_icmp .le 11, 3) := dk_164 0 11 (dk_at dksX5_number_4 21 rfl rfl)
theorem dX5_number_116 : decode cX5_number 116 = .ok (.aload_n 0, 1) := dk_42 (dk_at dksX5_number_5 0 rfl rfl)
theorem dX5_number_117 : decode cX5_number 117 = .ok (.iload_n 3, 1) := dk_29 (dk_at dksX5_number_5 1 rfl rfl)
theorem dX5_number_118 : decode cX5_number 118 = .ok (.invokevirtual 197, 3) := dk_182 0 197 (dk_at dksX5_number_5 2 rfl rfl)
theorem dX5_number_121 : decode cX5_number 121 = .ok (.ifCond .eq 7, 3) := dk_153 0 7 (dk_at dksX5_number_5 5 rfl rfl)
theorem dX5_number_124 : decode cX5_number 124 = .ok (.iconst 1, 1) := dk_4 (dk_at dksX5_number_5 8 rfl rfl)
theorem dX5_number_125 : decode cX5_number 125 = .ok (.goto 4, 3) := dk_167 0 4 (dk_at dksX5_number_5 9 rfl rfl)
theorem dX5_number_128 : decode cX5_number 128 = .ok (.iconst 0, 1) := dk_3 (dk_at dksX5_number_5 12 rfl rfl)
theorem dX5_number_129 : decode cX5_number 129 = .ok (.ireturn, 1) := dk_172 (dk_at dksX5_number_5 13 rfl rfl)
abbrev cX5_isDigit : ByteArray := prog_22_method_35_code
def yX5_isDigit : MethodName := ⟨RX5, "isDigit", "()Z"⟩
def dkwX5_isDigit_2 : List UInt8 := [163, 0, 7, 4, 167, 0, 4, 3, 172]
abbrev dktX5_isDigit_2 : List UInt8 := dkwX5_isDigit_2 ++ []
def dkwX5_isDigit_1 : List UInt8 := [47, 136, 16, 48, 161, 0, 27, 42, 180, 0, 68, 42, 180, 0, 190, 42, 180, 0, 184, 96, 47, 136, 16, 57]
abbrev dktX5_isDigit_1 : List UInt8 := dkwX5_isDigit_1 ++ dktX5_isDigit_2
def dkwX5_isDigit_0 : List UInt8 := [42, 180, 0, 184, 42, 180, 0, 187, 162, 0, 47, 42, 180, 0, 68, 42, 180, 0, 190, 42, 180, 0, 184, 96]
abbrev dktX5_isDigit_0 : List UInt8 := dkwX5_isDigit_0 ++ dktX5_isDigit_1
theorem dksX5_isDigit_0 : cX5_isDigit.data.toList.drop 0 = dktX5_isDigit_0 := by decide +kernel
theorem dksX5_isDigit_1 : cX5_isDigit.data.toList.drop 24 = dktX5_isDigit_1 := dk_seg dksX5_isDigit_0 24 rfl rfl
theorem dksX5_isDigit_2 : cX5_isDigit.data.toList.drop 48 = dktX5_isDigit_2 := dk_seg dksX5_isDigit_1 24 rfl rfl
theorem dX5_isDigit_0 : decode cX5_isDigit 0 = .ok (.aload_n 0, 1) := dk_42 (dk_at dksX5_isDigit_0 0 rfl rfl)
theorem dX5_isDigit_1 : decode cX5_isDigit 1 = .ok (.getfield 184, 3) := dk_180 0 184 (dk_at dksX5_isDigit_0 1 rfl rfl)
theorem dX5_isDigit_4 : decode cX5_isDigit 4 = .ok (.aload_n 0, 1) := dk_42 (dk_at dksX5_isDigit_0 4 rfl rfl)
theorem dX5_isDigit_5 : decode cX5_isDigit 5 = .ok (.getfield 187, 3) := dk_180 0 187 (dk_at dksX5_isDigit_0 5 rfl rfl)
theorem dX5_isDigit_8 : decode cX5_isDigit 8 = .ok (.if_icmp .ge 47, 3) := dk_162 0 47 (dk_at dksX5_isDigit_0 8 rfl rfl)
theorem dX5_isDigit_11 : decode cX5_isDigit 11 = .ok (.aload_n 0, 1) := dk_42 (dk_at dksX5_isDigit_0 11 rfl rfl)
theorem dX5_isDigit_12 : decode cX5_isDigit 12 = .ok (.getfield 68, 3) := dk_180 0 68 (dk_at dksX5_isDigit_0 12 rfl rfl)
theorem dX5_isDigit_15 : decode cX5_isDigit 15 = .ok (.aload_n 0, 1) := dk_42 (dk_at dksX5_isDigit_0 15 rfl rfl)
theorem dX5_isDigit_16 : decode cX5_isDigit 16 = .ok (.getfield 190, 3) := dk_180 0 190 (dk_at dksX5_isDigit_0 16 rfl rfl)
theorem dX5_isDigit_19 : decode cX5_isDigit 19 = .ok (.aload_n 0, 1) := dk_42 (dk_at dksX5_isDigit_0 19 rfl rfl)
theorem dX5_isDigit_20 : decode cX5_isDigit 20 = .ok (.getfield 184, 3) := dk_180 0 184 (dk_at dksX5_isDigit_0 20 rfl rfl)
theorem dX5_isDigit_23 : decode cX5_isDigit 23 = .ok (.iadd, 1) := dk_96 (dk_at dksX5_isDigit_0 23 rfl rfl)
theorem dX5_isDigit_24 : decode cX5_isDigit 24 = .ok (.laload, 1) := dk_47 (dk_at dksX5_isDigit_1 0 rfl rfl)
theorem dX5_isDigit_25 : decode cX5_isDigit 25 = .ok (.l2i, 1) := dk_136 (dk_at dksX5_isDigit_1 1 rfl rfl)
theorem dX5_isDigit_26 : decode cX5_isDigit 26 = .ok (.bipush 48, 2) := dk_16 48 (dk_at dksX5_isDigit_1 2 rfl rfl)
theorem dX5_isDigit_28 : decode cX5_isDigit 28 = .ok (.if_icmp .lt 27, 3) := dk_161 0 27 (dk_at dksX5_isDigit_1 4 rfl rfl)
theorem dX5_isDigit_31 : decode cX5_isDigit 31 = .ok (.aload_n 0, 1) := dk_42 (dk_at dksX5_isDigit_1 7 rfl rfl)
theorem dX5_isDigit_32 : decode cX5_isDigit 32 = .ok (.getfield 68, 3) := dk_180 0 68 (dk_at dksX5_isDigit_1 8 rfl rfl)
theorem dX5_isDigit_35 : decode cX5_isDigit 35 = .ok (.aload_n 0, 1) := dk_42 (dk_at dksX5_isDigit_1 11 rfl rfl)
theorem dX5_isDigit_36 : decode cX5_isDigit 36 = .ok (.getfield 190, 3) := dk_180 0 190 (dk_at dksX5_isDigit_1 12 rfl rfl)
theorem dX5_isDigit_39 : decode cX5_isDigit 39 = .ok (.aload_n 0, 1) := dk_42 (dk_at dksX5_isDigit_1 15 rfl rfl)
theorem dX5_isDigit_40 : decode cX5_isDigit 40 = .ok (.getfield 184, 3) := dk_180 0 184 (dk_at dksX5_isDigit_1 16 rfl rfl)
theorem dX5_isDigit_43 : decode cX5_isDigit 43 = .ok (.iadd, 1) := dk_96 (dk_at dksX5_isDigit_1 19 rfl rfl)
theorem dX5_isDigit_44 : decode cX5_isDigit 44 = .ok (.laload, 1) := dk_47 (dk_at dksX5_isDigit_1 20 rfl rfl)
theorem dX5_isDigit_45 : decode cX5_isDigit 45 = .ok (.l2i, 1) := dk_136 (dk_at dksX5_isDigit_1 21 rfl rfl)
theorem dX5_isDigit_46 : decode cX5_isDigit 46 = .ok (.bipush 57, 2) := dk_16 57 (dk_at dksX5_isDigit_1 22 rfl rfl)
theorem dX5_isDigit_48 : decode cX5_isDigit 48 = .ok (.if_icmp .gt 7, 3) := dk_163 0 7 (dk_at dksX5_isDigit_2 0 rfl rfl)
theorem dX5_isDigit_51 : decode cX5_isDigit 51 = .ok (.iconst 1, 1) := dk_4 (dk_at dksX5_isDigit_2 3 rfl rfl)
theorem dX5_isDigit_52 : decode cX5_isDigit 52 = .ok (.goto 4, 3) := dk_167 0 4 (dk_at dksX5_isDigit_2 4 rfl rfl)
theorem dX5_isDigit_55 : decode cX5_isDigit 55 = .ok (.iconst 0, 1) := dk_3 (dk_at dksX5_isDigit_2 7 rfl rfl)
theorem dX5_isDigit_56 : decode cX5_isDigit 56 = .ok (.ireturn, 1) := dk_172 (dk_at dksX5_isDigit_2 8 rfl rfl)
abbrev cX5_isFit : ByteArray := prog_22_method_37_code
def yX5_isFit : MethodName := ⟨RX5, "isFit", "(II)Z"⟩
def dkwX5_isFit_10 : List UInt8 := [167, 0, 4, 3, 172]
abbrev dktX5_isFit_10 : List UInt8 := dkwX5_isFit_10 ++ []
def dkwX5_isFit_9 : List UInt8 := [182, 0, 174, 153, 0, 7, 4, 167, 0, 4, 3, 172, 42, 180, 0, 200, 16, 10, 162, 0, 7, 4]
abbrev dktX5_isFit_9 : List UInt8 := dkwX5_isFit_9 ++ dktX5_isFit_10
def dkwX5_isFit_8 : List UInt8 := [180, 0, 200, 182, 0, 168, 172, 28, 153, 0, 20, 42, 42, 180, 0, 78, 3, 46, 42, 180, 0, 200]
abbrev dktX5_isFit_8 : List UInt8 := dkwX5_isFit_8 ++ dktX5_isFit_9
def dkwX5_isFit_7 : List UInt8 := [159, 0, 14, 42, 42, 180, 0, 200, 182, 0, 147, 153, 0, 7, 4, 167, 0, 4, 3, 172, 42, 42]
abbrev dktX5_isFit_7 : List UInt8 := dkwX5_isFit_7 ++ dktX5_isFit_8
def dkwX5_isFit_6 : List UInt8 := [154, 0, 22, 42, 180, 0, 200, 42, 180, 0, 117, 162, 0, 7, 4, 167, 0, 28, 3, 167, 0, 24, 28, 5]
abbrev dktX5_isFit_6 : List UInt8 := dkwX5_isFit_6 ++ dktX5_isFit_7
def dkwX5_isFit_5 : List UInt8 := [42, 180, 0, 200, 182, 0, 147, 172, 42, 180, 0, 200, 158, 0, 7, 4, 167, 0, 4, 3, 172, 28]
abbrev dktX5_isFit_5 : List UInt8 := dkwX5_isFit_5 ++ dktX5_isFit_6
def dkwX5_isFit_4 : List UInt8 := [180, 0, 200, 158, 0, 16, 42, 180, 0, 200, 16, 10, 162, 0, 7, 4, 167, 0, 15, 3, 167, 0, 11, 42]
abbrev dktX5_isFit_4 : List UInt8 := dkwX5_isFit_4 ++ dktX5_isFit_5
def dkwX5_isFit_3 : List UInt8 := [160, 0, 18, 42, 180, 0, 200, 158, 0, 7, 4, 167, 0, 44, 3, 167, 0, 40, 28, 5, 160, 0, 27, 42]
abbrev dktX5_isFit_3 : List UInt8 := dkwX5_isFit_3 ++ dktX5_isFit_4
def dkwX5_isFit_2 : List UInt8 := [28, 154, 0, 20, 42, 180, 0, 200, 16, 6, 163, 0, 7, 4, 167, 0, 64, 3, 167, 0, 60, 28, 4]
abbrev dktX5_isFit_2 : List UInt8 := dkwX5_isFit_2 ++ dktX5_isFit_3
def dkwX5_isFit_1 : List UInt8 := [170, 0, 0, 0, 0, 0, 208, 0, 0, 0, 0, 0, 0, 0, 4, 0, 0, 0, 35, 0, 0, 0, 114, 0, 0, 0, 127, 0, 0, 0, 172, 0, 0, 0, 181]
abbrev dktX5_isFit_1 : List UInt8 := dkwX5_isFit_1 ++ dktX5_isFit_2
def dkwX5_isFit_0 : List UInt8 := [27]
abbrev dktX5_isFit_0 : List UInt8 := dkwX5_isFit_0 ++ dktX5_isFit_1
theorem dksX5_isFit_0 : cX5_isFit.data.toList.drop 0 = dktX5_isFit_0 := by decide +kernel
theorem dksX5_isFit_1 : cX5_isFit.data.toList.drop 1 = dktX5_isFit_1 := dk_seg dksX5_isFit_0 1 rfl rfl
theorem dksX5_isFit_2 : cX5_isFit.data.toList.drop 36 = dktX5_isFit_2 := dk_seg dksX5_isFit_1 35 rfl rfl
theorem dksX5_isFit_3 : cX5_isFit.data.toList.drop 59 = dktX5_isFit_3 := dk_seg dksX5_isFit_2 23 rfl rfl
theorem dksX5_isFit_4 : cX5_isFit.data.toList.drop 83 = dktX5_isFit_4 := dk_seg dksX5_isFit_3 24 rfl rfl
theorem dksX5_isFit_5 : cX5_isFit.data.toList.drop 107 = dktX5_isFit_5 := dk_seg dksX5_isFit_4 24 rfl rfl
theorem dksX5_isFit_6 : cX5_isFit.data.toList.drop 129 = dktX5_isFit_6 := dk_seg dksX5_isFit_5 22 rfl rfl
theorem dksX5_isFit_7 : cX5_isFit.data.toList.drop 153 = dktX5_isFit_7 := dk_seg dksX5_isFit_6 24 rfl rfl
theorem dksX5_isFit_8 : cX5_isFit.data.toList.drop 175 = dktX5_isFit_8 := dk_seg dksX5_isFit_7 22 rfl rfl
theorem dksX5_isFit_9 : cX5_isFit.data.toList.drop 197 = dktX5_isFit_9 := dk_seg dksX5_isFit_8 22 rfl rfl
theorem dksX5_isFit_10 : cX5_isFit.data.toList.drop 219 = dktX5_isFit_10 := dk_seg dksX5_isFit_9 22 rfl rfl
theorem dX5_isFit_0 : decode cX5_isFit 0 = .ok (.iload_n 1, 1) := dk_27 (dk_at dksX5_isFit_0 0 rfl rfl)
theorem dX5_isFit_1 : decode cX5_isFit 1 = .ok (.tableswitch 208 0 4 #[35, 114, 127, 172, 181], 35) := by decide +kernel
theorem dX5_isFit_36 : decode cX5_isFit 36 = .ok (.iload_n 2, 1) := dk_28 (dk_at dksX5_isFit_2 0 rfl rfl)
theorem dX5_isFit_37 : decode cX5_isFit 37 = .ok (.ifCond .ne 20, 3) := dk_154 0 20 (dk_at dksX5_isFit_2 1 rfl rfl)
theorem dX5_isFit_40 : decode cX5_isFit 40 = .ok (.aload_n 0, 1) := dk_42 (dk_at dksX5_isFit_2 4 rfl rfl)
theorem dX5_isFit_41 : decode cX5_isFit 41 = .ok (.getfield 200, 3) := dk_180 0 200 (dk_at dksX5_isFit_2 5 rfl rfl)
theorem dX5_isFit_44 : decode cX5_isFit 44 = .ok (.bipush 6, 2) := dk_16 6 (dk_at dksX5_isFit_2 8 rfl rfl)
theorem dX5_isFit_46 : decode cX5_isFit 46 = .ok (.if_icmp .gt 7, 3) := dk_163 0 7 (dk_at dksX5_isFit_2 10 rfl rfl)
theorem dX5_isFit_49 : decode cX5_isFit 49 = .ok (.iconst 1, 1) := dk_4 (dk_at dksX5_isFit_2 13 rfl rfl)
theorem dX5_isFit_50 : decode cX5_isFit 50 = .ok (.goto 64, 3) := dk_167 0 64 (dk_at dksX5_isFit_2 14 rfl rfl)
theorem dX5_isFit_53 : decode cX5_isFit 53 = .ok (.iconst 0, 1) := dk_3 (dk_at dksX5_isFit_2 17 rfl rfl)
theorem dX5_isFit_54 : decode cX5_isFit 54 = .ok (.goto 60, 3) := dk_167 0 60 (dk_at dksX5_isFit_2 18 rfl rfl)
theorem dX5_isFit_57 : decode cX5_isFit 57 = .ok (.iload_n 2, 1) := dk_28 (dk_at dksX5_isFit_2 21 rfl rfl)
theorem dX5_isFit_58 : decode cX5_isFit 58 = .ok (.iconst 1, 1) := dk_4 (dk_at dksX5_isFit_2 22 rfl rfl)
theorem dX5_isFit_59 : decode cX5_isFit 59 = .ok (.if_icmp .ne 18, 3) := dk_160 0 18 (dk_at dksX5_isFit_3 0 rfl rfl)
theorem dX5_isFit_62 : decode cX5_isFit 62 = .ok (.aload_n 0, 1) := dk_42 (dk_at dksX5_isFit_3 3 rfl rfl)
theorem dX5_isFit_63 : decode cX5_isFit 63 = .ok (.getfield 200, 3) := dk_180 0 200 (dk_at dksX5_isFit_3 4 rfl rfl)
theorem dX5_isFit_66 : decode cX5_isFit 66 = .ok (.ifCond .le 7, 3) := dk_158 0 7 (dk_at dksX5_isFit_3 7 rfl rfl)
theorem dX5_isFit_69 : decode cX5_isFit 69 = .ok (.iconst 1, 1) := dk_4 (dk_at dksX5_isFit_3 10 rfl rfl)
theorem dX5_isFit_70 : decode cX5_isFit 70 = .ok (.goto 44, 3) := dk_167 0 44 (dk_at dksX5_isFit_3 11 rfl rfl)
theorem dX5_isFit_73 : decode cX5_isFit 73 = .ok (.iconst 0, 1) := dk_3 (dk_at dksX5_isFit_3 14 rfl rfl)
theorem dX5_isFit_74 : decode cX5_isFit 74 = .ok (.goto 40, 3) := dk_167 0 40 (dk_at dksX5_isFit_3 15 rfl rfl)
theorem dX5_isFit_77 : decode cX5_isFit 77 = .ok (.iload_n 2, 1) := dk_28 (dk_at dksX5_isFit_3 18 rfl rfl)
theorem dX5_isFit_78 : decode cX5_isFit 78 = .ok (.iconst 2, 1) := dk_5 (dk_at dksX5_isFit_3 19 rfl rfl)
theorem dX5_isFit_79 : decode cX5_isFit 79 = .ok (.if_icmp .ne 27, 3) := dk_160 0 27 (dk_at dksX5_isFit_3 20 rfl rfl)
theorem dX5_isFit_82 : decode cX5_isFit 82 = .ok (.aload_n 0, 1) := dk_42 (dk_at dksX5_isFit_3 23 rfl rfl)
theorem dX5_isFit_83 : decode cX5_isFit 83 = .ok (.getfield 200, 3) := dk_180 0 200 (dk_at dksX5_isFit_4 0 rfl rfl)
theorem dX5_isFit_86 : decode cX5_isFit 86 = .ok (.ifCond .le 16, 3) := dk_158 0 16 (dk_at dksX5_isFit_4 3 rfl rfl)
theorem dX5_isFit_89 : decode cX5_isFit 89 = .ok (.aload_n 0, 1) := dk_42 (dk_at dksX5_isFit_4 6 rfl rfl)
theorem dX5_isFit_90 : decode cX5_isFit 90 = .ok (.getfield 200, 3) := dk_180 0 200 (dk_at dksX5_isFit_4 7 rfl rfl)
theorem dX5_isFit_93 : decode cX5_isFit 93 = .ok (.bipush 10, 2) := dk_16 10 (dk_at dksX5_isFit_4 10 rfl rfl)
theorem dX5_isFit_95 : decode cX5_isFit 95 = .ok (.if_icmp .ge 7, 3) := dk_162 0 7 (dk_at dksX5_isFit_4 12 rfl rfl)
theorem dX5_isFit_98 : decode cX5_isFit 98 = .ok (.iconst 1, 1) := dk_4 (dk_at dksX5_isFit_4 15 rfl rfl)
theorem dX5_isFit_99 : decode cX5_isFit 99 = .ok (.goto 15, 3) := dk_167 0 15 (dk_at dksX5_isFit_4 16 rfl rfl)
theorem dX5_isFit_102 : decode cX5_isFit 102 = .ok (.iconst 0, 1) := dk_3 (dk_at dksX5_isFit_4 19 rfl rfl)
theorem dX5_isFit_103 : decode cX5_isFit 103 = .ok (.goto 11, 3) := dk_167 0 11 (dk_at dksX5_isFit_4 20 rfl rfl)
theorem dX5_isFit_106 : decode cX5_isFit 106 = .ok (.aload_n 0, 1) := dk_42 (dk_at dksX5_isFit_4 23 rfl rfl)
theorem dX5_isFit_107 : decode cX5_isFit 107 = .ok (.aload_n 0, 1) := dk_42 (dk_at dksX5_isFit_5 0 rfl rfl)
theorem dX5_isFit_108 : decode cX5_isFit 108 = .ok (.getfield 200, 3) := dk_180 0 200 (dk_at dksX5_isFit_5 1 rfl rfl)
theorem dX5_isFit_111 : decode cX5_isFit 111 = .ok (.invokevirtual 147, 3) := dk_182 0 147 (dk_at dksX5_isFit_5 4 rfl rfl)
theorem dX5_isFit_114 : decode cX5_isFit 114 = .ok (.ireturn, 1) := dk_172 (dk_at dksX5_isFit_5 7 rfl rfl)
theorem dX5_isFit_115 : decode cX5_isFit 115 = .ok (.aload_n 0, 1) := dk_42 (dk_at dksX5_isFit_5 8 rfl rfl)
theorem dX5_isFit_116 : decode cX5_isFit 116 = .ok (.getfield 200, 3) := dk_180 0 200 (dk_at dksX5_isFit_5 9 rfl rfl)
theorem dX5_isFit_119 : decode cX5_isFit 119 = .ok (.ifCond .le 7, 3) := dk_158 0 7 (dk_at dksX5_isFit_5 12 rfl rfl)
theorem dX5_isFit_122 : decode cX5_isFit 122 = .ok (.iconst 1, 1) := dk_4 (dk_at dksX5_isFit_5 15 rfl rfl)
theorem dX5_isFit_123 : decode cX5_isFit 123 = .ok (.goto 4, 3) := dk_167 0 4 (dk_at dksX5_isFit_5 16 rfl rfl)
theorem dX5_isFit_126 : decode cX5_isFit 126 = .ok (.iconst 0, 1) := dk_3 (dk_at dksX5_isFit_5 19 rfl rfl)
theorem dX5_isFit_127 : decode cX5_isFit 127 = .ok (.ireturn, 1) := dk_172 (dk_at dksX5_isFit_5 20 rfl rfl)
theorem dX5_isFit_128 : decode cX5_isFit 128 = .ok (.iload_n 2, 1) := dk_28 (dk_at dksX5_isFit_5 21 rfl rfl)
theorem dX5_isFit_129 : decode cX5_isFit 129 = .ok (.ifCond .ne 22, 3) := dk_154 0 22 (dk_at dksX5_isFit_6 0 rfl rfl)
theorem dX5_isFit_132 : decode cX5_isFit 132 = .ok (.aload_n 0, 1) := dk_42 (dk_at dksX5_isFit_6 3 rfl rfl)
theorem dX5_isFit_133 : decode cX5_isFit 133 = .ok (.getfield 200, 3) := dk_180 0 200 (dk_at dksX5_isFit_6 4 rfl rfl)
theorem dX5_isFit_136 : decode cX5_isFit 136 = .ok (.aload_n 0, 1) := dk_42 (dk_at dksX5_isFit_6 7 rfl rfl)
theorem dX5_isFit_137 : decode cX5_isFit 137 = .ok (.getfield 117, 3) := dk_180 0 117 (dk_at dksX5_isFit_6 8 rfl rfl)
theorem dX5_isFit_140 : decode cX5_isFit 140 = .ok (.if_icmp .ge 7, 3) := dk_162 0 7 (dk_at dksX5_isFit_6 11 rfl rfl)
theorem dX5_isFit_143 : decode cX5_isFit 143 = .ok (.iconst 1, 1) := dk_4 (dk_at dksX5_isFit_6 14 rfl rfl)
theorem dX5_isFit_144 : decode cX5_isFit 144 = .ok (.goto 28, 3) := dk_167 0 28 (dk_at dksX5_isFit_6 15 rfl rfl)
theorem dX5_isFit_147 : decode cX5_isFit 147 = .ok (.iconst 0, 1) := dk_3 (dk_at dksX5_isFit_6 18 rfl rfl)
theorem dX5_isFit_148 : decode cX5_isFit 148 = .ok (.goto 24, 3) := dk_167 0 24 (dk_at dksX5_isFit_6 19 rfl rfl)
theorem dX5_isFit_151 : decode cX5_isFit 151 = .ok (.iload_n 2, 1) := dk_28 (dk_at dksX5_isFit_6 22 rfl rfl)
theorem dX5_isFit_152 : decode cX5_isFit 152 = .ok (.iconst 2, 1) := dk_5 (dk_at dksX5_isFit_6 23 rfl rfl)
theorem dX5_isFit_153 : decode cX5_isFit 153 = .ok (.if_icmp .eq 14, 3) := dk_159 0 14 (dk_at dksX5_isFit_7 0 rfl rfl)
theorem dX5_isFit_156 : decode cX5_isFit 156 = .ok (.aload_n 0, 1) := dk_42 (dk_at dksX5_isFit_7 3 rfl rfl)
theorem dX5_isFit_157 : decode cX5_isFit 157 = .ok (.aload_n 0, 1) := dk_42 (dk_at dksX5_isFit_7 4 rfl rfl)
theorem dX5_isFit_158 : decode cX5_isFit 158 = .ok (.getfield 200, 3) := dk_180 0 200 (dk_at dksX5_isFit_7 5 rfl rfl)
theorem dX5_isFit_161 : decode cX5_isFit 161 = .ok (.invokevirtual 147, 3) := dk_182 0 147 (dk_at dksX5_isFit_7 8 rfl rfl)
theorem dX5_isFit_164 : decode cX5_isFit 164 = .ok (.ifCond .eq 7, 3) := dk_153 0 7 (dk_at dksX5_isFit_7 11 rfl rfl)
theorem dX5_isFit_167 : decode cX5_isFit 167 = .ok (.iconst 1, 1) := dk_4 (dk_at dksX5_isFit_7 14 rfl rfl)
theorem dX5_isFit_168 : decode cX5_isFit 168 = .ok (.goto 4, 3) := dk_167 0 4 (dk_at dksX5_isFit_7 15 rfl rfl)
theorem dX5_isFit_171 : decode cX5_isFit 171 = .ok (.iconst 0, 1) := dk_3 (dk_at dksX5_isFit_7 18 rfl rfl)
theorem dX5_isFit_172 : decode cX5_isFit 172 = .ok (.ireturn, 1) := dk_172 (dk_at dksX5_isFit_7 19 rfl rfl)
theorem dX5_isFit_173 : decode cX5_isFit 173 = .ok (.aload_n 0, 1) := dk_42 (dk_at dksX5_isFit_7 20 rfl rfl)
theorem dX5_isFit_174 : decode cX5_isFit 174 = .ok (.aload_n 0, 1) := dk_42 (dk_at dksX5_isFit_7 21 rfl rfl)
theorem dX5_isFit_175 : decode cX5_isFit 175 = .ok (.getfield 200, 3) := dk_180 0 200 (dk_at dksX5_isFit_8 0 rfl rfl)
theorem dX5_isFit_178 : decode cX5_isFit 178 = .ok (.invokevirtual 168, 3) := dk_182 0 168 (dk_at dksX5_isFit_8 3 rfl rfl)
theorem dX5_isFit_181 : decode cX5_isFit 181 = .ok (.ireturn, 1) := dk_172 (dk_at dksX5_isFit_8 6 rfl rfl)
theorem dX5_isFit_182 : decode cX5_isFit 182 = .ok (.iload_n 2, 1) := dk_28 (dk_at dksX5_isFit_8 7 rfl rfl)
theorem dX5_isFit_183 : decode cX5_isFit 183 = .ok (.ifCond .eq 20, 3) := dk_153 0 20 (dk_at dksX5_isFit_8 8 rfl rfl)
theorem dX5_isFit_186 : decode cX5_isFit 186 = .ok (.aload_n 0, 1) := dk_42 (dk_at dksX5_isFit_8 11 rfl rfl)
theorem dX5_isFit_187 : decode cX5_isFit 187 = .ok (.aload_n 0, 1) := dk_42 (dk_at dksX5_isFit_8 12 rfl rfl)
theorem dX5_isFit_188 : decode cX5_isFit 188 = .ok (.getfield 78, 3) := dk_180 0 78 (dk_at dksX5_isFit_8 13 rfl rfl)
theorem dX5_isFit_191 : decode cX5_isFit 191 = .ok (.iconst 0, 1) := dk_3 (dk_at dksX5_isFit_8 16 rfl rfl)
theorem dX5_isFit_192 : decode cX5_isFit 192 = .ok (.iaload, 1) := dk_46 (dk_at dksX5_isFit_8 17 rfl rfl)
theorem dX5_isFit_193 : decode cX5_isFit 193 = .ok (.aload_n 0, 1) := dk_42 (dk_at dksX5_isFit_8 18 rfl rfl)
theorem dX5_isFit_194 : decode cX5_isFit 194 = .ok (.getfield 200, 3) := dk_180 0 200 (dk_at dksX5_isFit_8 19 rfl rfl)
theorem dX5_isFit_197 : decode cX5_isFit 197 = .ok (.invokevirtual 174, 3) := dk_182 0 174 (dk_at dksX5_isFit_9 0 rfl rfl)
theorem dX5_isFit_200 : decode cX5_isFit 200 = .ok (.ifCond .eq 7, 3) := dk_153 0 7 (dk_at dksX5_isFit_9 3 rfl rfl)
theorem dX5_isFit_203 : decode cX5_isFit 203 = .ok (.iconst 1, 1) := dk_4 (dk_at dksX5_isFit_9 6 rfl rfl)
theorem dX5_isFit_204 : decode cX5_isFit 204 = .ok (.goto 4, 3) := dk_167 0 4 (dk_at dksX5_isFit_9 7 rfl rfl)
theorem dX5_isFit_207 : decode cX5_isFit 207 = .ok (.iconst 0, 1) := dk_3 (dk_at dksX5_isFit_9 10 rfl rfl)
theorem dX5_isFit_208 : decode cX5_isFit 208 = .ok (.ireturn, 1) := dk_172 (dk_at dksX5_isFit_9 11 rfl rfl)
theorem dX5_isFit_209 : decode cX5_isFit 209 = .ok (.aload_n 0, 1) := dk_42 (dk_at dksX5_isFit_9 12 rfl rfl)
theorem dX5_isFit_210 : decode cX5_isFit 210 = .ok (.getfield 200, 3) := dk_180 0 200 (dk_at dksX5_isFit_9 13 rfl rfl)
theorem dX5_isFit_213 : decode cX5_isFit 213 = .ok (.bipush 10, 2) := dk_16 10 (dk_at dksX5_isFit_9 16 rfl rfl)
theorem dX5_isFit_215 : decode cX5_isFit 215 = .ok (.if_icmp .ge 7, 3) := dk_162 0 7 (dk_at dksX5_isFit_9 18 rfl rfl)
theorem dX5_isFit_218 : decode cX5_isFit 218 = .ok (.iconst 1, 1) := dk_4 (dk_at dksX5_isFit_9 21 rfl rfl)
theorem dX5_isFit_219 : decode cX5_isFit 219 = .ok (.goto 4, 3) := dk_167 0 4 (dk_at dksX5_isFit_10 0 rfl rfl)
theorem dX5_isFit_222 : decode cX5_isFit 222 = .ok (.iconst 0, 1) := dk_3 (dk_at dksX5_isFit_10 3 rfl rfl)
theorem dX5_isFit_223 : decode cX5_isFit 223 = .ok (.ireturn, 1) := dk_172 (dk_at dksX5_isFit_10 4 rfl rfl)
abbrev cX5_fault : ByteArray := prog_22_method_44_code
def yX5_fault : MethodName := ⟨RX5, "fault", "()I"⟩
theorem dX5_fault_0 : decode cX5_fault 0 = .ok (.aload_n 0, 1) := by decide +kernel
theorem dX5_fault_1 : decode cX5_fault 1 = .ok (.getfield 16, 3) := by decide +kernel
theorem dX5_fault_4 : decode cX5_fault 4 = .ok (.ireturn, 1) := by decide +kernel
abbrev cX5_far : ByteArray := prog_22_method_48_code
def yX5_far : MethodName := ⟨RX5, "far", "(II)I"⟩
def dkwX5_far_1 : List UInt8 := [167, 0, 8, 42, 2, 182, 0, 136, 172]
abbrev dktX5_far_1 : List UInt8 := dkwX5_far_1 ++ []
def dkwX5_far_0 : List UInt8 := [42, 27, 182, 0, 178, 153, 0, 20, 42, 28, 182, 0, 140, 153, 0, 12, 42, 27, 28, 182, 0, 236]
abbrev dktX5_far_0 : List UInt8 := dkwX5_far_0 ++ dktX5_far_1
theorem dksX5_far_0 : cX5_far.data.toList.drop 0 = dktX5_far_0 := by decide +kernel
theorem dksX5_far_1 : cX5_far.data.toList.drop 22 = dktX5_far_1 := dk_seg dksX5_far_0 22 rfl rfl
theorem dX5_far_0 : decode cX5_far 0 = .ok (.aload_n 0, 1) := dk_42 (dk_at dksX5_far_0 0 rfl rfl)
theorem dX5_far_1 : decode cX5_far 1 = .ok (.iload_n 1, 1) := dk_27 (dk_at dksX5_far_0 1 rfl rfl)
theorem dX5_far_2 : decode cX5_far 2 = .ok (.invokevirtual 178, 3) := dk_182 0 178 (dk_at dksX5_far_0 2 rfl rfl)
theorem dX5_far_5 : decode cX5_far 5 = .ok (.ifCond .eq 20, 3) := dk_153 0 20 (dk_at dksX5_far_0 5 rfl rfl)
theorem dX5_far_8 : decode cX5_far 8 = .ok (.aload_n 0, 1) := dk_42 (dk_at dksX5_far_0 8 rfl rfl)
theorem dX5_far_9 : decode cX5_far 9 = .ok (.iload_n 2, 1) := dk_28 (dk_at dksX5_far_0 9 rfl rfl)
theorem dX5_far_10 : decode cX5_far 10 = .ok (.invokevirtual 140, 3) := dk_182 0 140 (dk_at dksX5_far_0 10 rfl rfl)
theorem dX5_far_13 : decode cX5_far 13 = .ok (.ifCond .eq 12, 3) := dk_153 0 12 (dk_at dksX5_far_0 13 rfl rfl)
theorem dX5_far_16 : decode cX5_far 16 = .ok (.aload_n 0, 1) := dk_42 (dk_at dksX5_far_0 16 rfl rfl)
theorem dX5_far_17 : decode cX5_far 17 = .ok (.iload_n 1, 1) := dk_27 (dk_at dksX5_far_0 17 rfl rfl)
theorem dX5_far_18 : decode cX5_far 18 = .ok (.iload_n 2, 1) := dk_28 (dk_at dksX5_far_0 18 rfl rfl)
theorem dX5_far_19 : decode cX5_far 19 = .ok (.invokevirtual 236, 3) := dk_182 0 236 (dk_at dksX5_far_0 19 rfl rfl)
theorem dX5_far_22 : decode cX5_far 22 = .ok (.goto 8, 3) := dk_167 0 8 (dk_at dksX5_far_1 0 rfl rfl)
theorem dX5_far_25 : decode cX5_far 25 = .ok (.aload_n 0, 1) := dk_42 (dk_at dksX5_far_1 3 rfl rfl)
theorem dX5_far_26 : decode cX5_far 26 = .ok (.iconst (-1), 1) := dk_2 (dk_at dksX5_far_1 4 rfl rfl)
theorem dX5_far_27 : decode cX5_far 27 = .ok (.invokevirtual 136, 3) := dk_182 0 136 (dk_at dksX5_far_1 5 rfl rfl)
theorem dX5_far_30 : decode cX5_far 30 = .ok (.ireturn, 1) := dk_172 (dk_at dksX5_far_1 8 rfl rfl)
abbrev cX5_farOf : ByteArray := prog_22_method_47_code
def yX5_farOf : MethodName := ⟨RX5, "farOf", "(II)I"⟩
def dkwX5_farOf_0 : List UInt8 := [42, 42, 180, 0, 41, 27, 46, 42, 180, 0, 44, 27, 46, 100, 28, 182, 0, 143, 172]
abbrev dktX5_farOf_0 : List UInt8 := dkwX5_farOf_0 ++ []
theorem dksX5_farOf_0 : cX5_farOf.data.toList.drop 0 = dktX5_farOf_0 := by decide +kernel
theorem dX5_farOf_0 : decode cX5_farOf 0 = .ok (.aload_n 0, 1) := dk_42 (dk_at dksX5_farOf_0 0 rfl rfl)
theorem dX5_farOf_1 : decode cX5_farOf 1 = .ok (.aload_n 0, 1) := dk_42 (dk_at dksX5_farOf_0 1 rfl rfl)
theorem dX5_farOf_2 : decode cX5_farOf 2 = .ok (.getfield 41, 3) := dk_180 0 41 (dk_at dksX5_farOf_0 2 rfl rfl)
theorem dX5_farOf_5 : decode cX5_farOf 5 = .ok (.iload_n 1, 1) := dk_27 (dk_at dksX5_farOf_0 5 rfl rfl)
theorem dX5_farOf_6 : decode cX5_farOf 6 = .ok (.iaload, 1) := dk_46 (dk_at dksX5_farOf_0 6 rfl rfl)
theorem dX5_farOf_7 : decode cX5_farOf 7 = .ok (.aload_n 0, 1) := dk_42 (dk_at dksX5_farOf_0 7 rfl rfl)
theorem dX5_farOf_8 : decode cX5_farOf 8 = .ok (.getfield 44, 3) := dk_180 0 44 (dk_at dksX5_farOf_0 8 rfl rfl)
theorem dX5_farOf_11 : decode cX5_farOf 11 = .ok (.iload_n 1, 1) := dk_27 (dk_at dksX5_farOf_0 11 rfl rfl)
theorem dX5_farOf_12 : decode cX5_farOf 12 = .ok (.iaload, 1) := dk_46 (dk_at dksX5_farOf_0 12 rfl rfl)
theorem dX5_farOf_13 : decode cX5_farOf 13 = .ok (.isub, 1) := dk_100 (dk_at dksX5_farOf_0 13 rfl rfl)
theorem dX5_farOf_14 : decode cX5_farOf 14 = .ok (.iload_n 2, 1) := dk_28 (dk_at dksX5_farOf_0 14 rfl rfl)
theorem dX5_farOf_15 : decode cX5_farOf 15 = .ok (.invokevirtual 143, 3) := dk_182 0 143 (dk_at dksX5_farOf_0 15 rfl rfl)
theorem dX5_farOf_18 : decode cX5_farOf 18 = .ok (.ireturn, 1) := dk_172 (dk_at dksX5_farOf_0 18 rfl rfl)
abbrev cX5_wrong_2 : ByteArray := prog_22_method_50_code
def yX5_wrong_2 : MethodName := ⟨RX5, "wrong", "(III)I"⟩
def dkwX5_wrong_2_1 : List UInt8 := [182, 0, 242, 167, 0, 8, 42, 2, 182, 0, 136, 172]
abbrev dktX5_wrong_2_1 : List UInt8 := dkwX5_wrong_2_1 ++ []
def dkwX5_wrong_2_0 : List UInt8 := [42, 27, 182, 0, 178, 153, 0, 25, 42, 28, 182, 0, 140, 153, 0, 17, 42, 27, 28, 42, 29, 182, 0, 239]
abbrev dktX5_wrong_2_0 : List UInt8 := dkwX5_wrong_2_0 ++ dktX5_wrong_2_1
theorem dksX5_wrong_2_0 : cX5_wrong_2.data.toList.drop 0 = dktX5_wrong_2_0 := by decide +kernel
theorem dksX5_wrong_2_1 : cX5_wrong_2.data.toList.drop 24 = dktX5_wrong_2_1 := dk_seg dksX5_wrong_2_0 24 rfl rfl
theorem dX5_wrong_2_0 : decode cX5_wrong_2 0 = .ok (.aload_n 0, 1) := dk_42 (dk_at dksX5_wrong_2_0 0 rfl rfl)
theorem dX5_wrong_2_1 : decode cX5_wrong_2 1 = .ok (.iload_n 1, 1) := dk_27 (dk_at dksX5_wrong_2_0 1 rfl rfl)
theorem dX5_wrong_2_2 : decode cX5_wrong_2 2 = .ok (.invokevirtual 178, 3) := dk_182 0 178 (dk_at dksX5_wrong_2_0 2 rfl rfl)
theorem dX5_wrong_2_5 : decode cX5_wrong_2 5 = .ok (.ifCond .eq 25, 3) := dk_153 0 25 (dk_at dksX5_wrong_2_0 5 rfl rfl)
theorem dX5_wrong_2_8 : decode cX5_wrong_2 8 = .ok (.aload_n 0, 1) := dk_42 (dk_at dksX5_wrong_2_0 8 rfl rfl)
theorem dX5_wrong_2_9 : decode cX5_wrong_2 9 = .ok (.iload_n 2, 1) := dk_28 (dk_at dksX5_wrong_2_0 9 rfl rfl)
theorem dX5_wrong_2_10 : decode cX5_wrong_2 10 = .ok (.invokevirtual 140, 3) := dk_182 0 140 (dk_at dksX5_wrong_2_0 10 rfl rfl)
theorem dX5_wrong_2_13 : decode cX5_wrong_2 13 = .ok (.ifCond .eq 17, 3) := dk_153 0 17 (dk_at dksX5_wrong_2_0 13 rfl rfl)
theorem dX5_wrong_2_16 : decode cX5_wrong_2 16 = .ok (.aload_n 0, 1) := dk_42 (dk_at dksX5_wrong_2_0 16 rfl rfl)
theorem dX5_wrong_2_17 : decode cX5_wrong_2 17 = .ok (.iload_n 1, 1) := dk_27 (dk_at dksX5_wrong_2_0 17 rfl rfl)
theorem dX5_wrong_2_18 : decode cX5_wrong_2 18 = .ok (.iload_n 2, 1) := dk_28 (dk_at dksX5_wrong_2_0 18 rfl rfl)
theorem dX5_wrong_2_19 : decode cX5_wrong_2 19 = .ok (.aload_n 0, 1) := dk_42 (dk_at dksX5_wrong_2_0 19 rfl rfl)
theorem dX5_wrong_2_20 : decode cX5_wrong_2 20 = .ok (.iload_n 3, 1) := dk_29 (dk_at dksX5_wrong_2_0 20 rfl rfl)
theorem dX5_wrong_2_21 : decode cX5_wrong_2 21 = .ok (.invokevirtual 239, 3) := dk_182 0 239 (dk_at dksX5_wrong_2_0 21 rfl rfl)
theorem dX5_wrong_2_24 : decode cX5_wrong_2 24 = .ok (.invokevirtual 242, 3) := dk_182 0 242 (dk_at dksX5_wrong_2_1 0 rfl rfl)
theorem dX5_wrong_2_27 : decode cX5_wrong_2 27 = .ok (.goto 8, 3) := dk_167 0 8 (dk_at dksX5_wrong_2_1 3 rfl rfl)
theorem dX5_wrong_2_30 : decode cX5_wrong_2 30 = .ok (.aload_n 0, 1) := dk_42 (dk_at dksX5_wrong_2_1 6 rfl rfl)
theorem dX5_wrong_2_31 : decode cX5_wrong_2 31 = .ok (.iconst (-1), 1) := dk_2 (dk_at dksX5_wrong_2_1 7 rfl rfl)
theorem dX5_wrong_2_32 : decode cX5_wrong_2 32 = .ok (.invokevirtual 136, 3) := dk_182 0 136 (dk_at dksX5_wrong_2_1 8 rfl rfl)
theorem dX5_wrong_2_35 : decode cX5_wrong_2 35 = .ok (.ireturn, 1) := dk_172 (dk_at dksX5_wrong_2_1 11 rfl rfl)
abbrev cX5_near : ByteArray := prog_22_method_51_code
def yX5_near : MethodName := ⟨RX5, "near", "(I)I"⟩
def dkwX5_near_1 : List UInt8 := [167, 0, 4, 27, 172]
abbrev dktX5_near_1 : List UInt8 := dkwX5_near_1 ++ []
def dkwX5_near_0 : List UInt8 := [27, 17, 3, 232, 164, 0, 9, 17, 3, 232, 167, 0, 17, 27, 17, 252, 24, 162, 0, 9, 17, 252, 24]
abbrev dktX5_near_0 : List UInt8 := dkwX5_near_0 ++ dktX5_near_1
theorem dksX5_near_0 : cX5_near.data.toList.drop 0 = dktX5_near_0 := by decide +kernel
theorem dksX5_near_1 : cX5_near.data.toList.drop 23 = dktX5_near_1 := dk_seg dksX5_near_0 23 rfl rfl
theorem dX5_near_0 : decode cX5_near 0 = .ok (.iload_n 1, 1) := dk_27 (dk_at dksX5_near_0 0 rfl rfl)
theorem dX5_near_1 : decode cX5_near 1 = .ok (.sipush 1000, 3) := dk_17 3 232 (dk_at dksX5_near_0 1 rfl rfl)
theorem dX5_near_4 : decode cX5_near 4 = .ok (.if_icmp .le 9, 3) := dk_164 0 9 (dk_at dksX5_near_0 4 rfl rfl)
theorem dX5_near_7 : decode cX5_near 7 = .ok (.sipush 1000, 3) := dk_17 3 232 (dk_at dksX5_near_0 7 rfl rfl)
theorem dX5_near_10 : decode cX5_near 10 = .ok (.goto 17, 3) := dk_167 0 17 (dk_at dksX5_near_0 10 rfl rfl)
theorem dX5_near_13 : decode cX5_near 13 = .ok (.iload_n 1, 1) := dk_27 (dk_at dksX5_near_0 13 rfl rfl)
theorem dX5_near_14 : decode cX5_near 14 = .ok (.sipush (-1000), 3) := dk_17 252 24 (dk_at dksX5_near_0 14 rfl rfl)
theorem dX5_near_17 : decode cX5_near 17 = .ok (.if_icmp .ge 9, 3) := dk_162 0 9 (dk_at dksX5_near_0 17 rfl rfl)
theorem dX5_near_20 : decode cX5_near 20 = .ok (.sipush (-1000), 3) := dk_17 252 24 (dk_at dksX5_near_0 20 rfl rfl)
theorem dX5_near_23 : decode cX5_near 23 = .ok (.goto 4, 3) := dk_167 0 4 (dk_at dksX5_near_1 0 rfl rfl)
theorem dX5_near_26 : decode cX5_near 26 = .ok (.iload_n 1, 1) := dk_27 (dk_at dksX5_near_1 3 rfl rfl)
theorem dX5_near_27 : decode cX5_near 27 = .ok (.ireturn, 1) := dk_172 (dk_at dksX5_near_1 4 rfl rfl)
abbrev cX5_wrongBy : ByteArray := prog_22_method_49_code
def yX5_wrongBy : MethodName := ⟨RX5, "wrongBy", "(III)I"⟩
def dkwX5_wrongBy_3 : List UInt8 := [164, 0, 5, 7, 172, 42, 180, 0, 38, 28, 46, 4, 160, 0, 7, 8, 167, 0, 4, 3, 172]
abbrev dktX5_wrongBy_3 : List UInt8 := dkwX5_wrongBy_3 ++ []
def dkwX5_wrongBy_2 : List UInt8 := [172, 29, 153, 0, 24, 29, 42, 27, 28, 182, 0, 236, 163, 0, 14, 29, 116, 42, 27, 28, 182, 0, 236]
abbrev dktX5_wrongBy_2 : List UInt8 := dkwX5_wrongBy_2 ++ dktX5_wrongBy_3
def dkwX5_wrongBy_1 : List UInt8 := [155, 0, 12, 21, 4, 42, 180, 0, 7, 164, 0, 5, 5, 172, 42, 21, 4, 182, 0, 129, 153, 0, 5, 6]
abbrev dktX5_wrongBy_1 : List UInt8 := dkwX5_wrongBy_1 ++ dktX5_wrongBy_2
def dkwX5_wrongBy_0 : List UInt8 := [42, 180, 0, 32, 28, 46, 29, 96, 54, 4, 42, 180, 0, 35, 28, 46, 27, 160, 0, 5, 4, 172, 21, 4]
abbrev dktX5_wrongBy_0 : List UInt8 := dkwX5_wrongBy_0 ++ dktX5_wrongBy_1
theorem dksX5_wrongBy_0 : cX5_wrongBy.data.toList.drop 0 = dktX5_wrongBy_0 := by decide +kernel
theorem dksX5_wrongBy_1 : cX5_wrongBy.data.toList.drop 24 = dktX5_wrongBy_1 := dk_seg dksX5_wrongBy_0 24 rfl rfl
theorem dksX5_wrongBy_2 : cX5_wrongBy.data.toList.drop 48 = dktX5_wrongBy_2 := dk_seg dksX5_wrongBy_1 24 rfl rfl
theorem dksX5_wrongBy_3 : cX5_wrongBy.data.toList.drop 71 = dktX5_wrongBy_3 := dk_seg dksX5_wrongBy_2 23 rfl rfl
theorem dX5_wrongBy_0 : decode cX5_wrongBy 0 = .ok (.aload_n 0, 1) := dk_42 (dk_at dksX5_wrongBy_0 0 rfl rfl)
theorem dX5_wrongBy_1 : decode cX5_wrongBy 1 = .ok (.getfield 32, 3) := dk_180 0 32 (dk_at dksX5_wrongBy_0 1 rfl rfl)
theorem dX5_wrongBy_4 : decode cX5_wrongBy 4 = .ok (.iload_n 2, 1) := dk_28 (dk_at dksX5_wrongBy_0 4 rfl rfl)
theorem dX5_wrongBy_5 : decode cX5_wrongBy 5 = .ok (.iaload, 1) := dk_46 (dk_at dksX5_wrongBy_0 5 rfl rfl)
theorem dX5_wrongBy_6 : decode cX5_wrongBy 6 = .ok (.iload_n 3, 1) := dk_29 (dk_at dksX5_wrongBy_0 6 rfl rfl)
theorem dX5_wrongBy_7 : decode cX5_wrongBy 7 = .ok (.iadd, 1) := dk_96 (dk_at dksX5_wrongBy_0 7 rfl rfl)
theorem dX5_wrongBy_8 : decode cX5_wrongBy 8 = .ok (.istore 4, 2) := dk_54 4 (dk_at dksX5_wrongBy_0 8 rfl rfl)
theorem dX5_wrongBy_10 : decode cX5_wrongBy 10 = .ok (.aload_n 0, 1) := dk_42 (dk_at dksX5_wrongBy_0 10 rfl rfl)
theorem dX5_wrongBy_11 : decode cX5_wrongBy 11 = .ok (.getfield 35, 3) := dk_180 0 35 (dk_at dksX5_wrongBy_0 11 rfl rfl)
theorem dX5_wrongBy_14 : decode cX5_wrongBy 14 = .ok (.iload_n 2, 1) := dk_28 (dk_at dksX5_wrongBy_0 14 rfl rfl)
theorem dX5_wrongBy_15 : decode cX5_wrongBy 15 = .ok (.iaload, 1) := dk_46 (dk_at dksX5_wrongBy_0 15 rfl rfl)
theorem dX5_wrongBy_16 : decode cX5_wrongBy 16 = .ok (.iload_n 1, 1) := dk_27 (dk_at dksX5_wrongBy_0 16 rfl rfl)
theorem dX5_wrongBy_17 : decode cX5_wrongBy 17 = .ok (.if_icmp .ne 5, 3) := dk_160 0 5 (dk_at dksX5_wrongBy_0 17 rfl rfl)
theorem dX5_wrongBy_20 : decode cX5_wrongBy 20 = .ok (.iconst 1, 1) := dk_4 (dk_at dksX5_wrongBy_0 20 rfl rfl)
theorem dX5_wrongBy_21 : decode cX5_wrongBy 21 = .ok (.ireturn, 1) := dk_172 (dk_at dksX5_wrongBy_0 21 rfl rfl)
theorem dX5_wrongBy_22 : decode cX5_wrongBy 22 = .ok (.iload 4, 2) := dk_21 4 (dk_at dksX5_wrongBy_0 22 rfl rfl)
theorem dX5_wrongBy_24 : decode cX5_wrongBy 24 = .ok (.ifCond .lt 12, 3) := dk_155 0 12 (dk_at dksX5_wrongBy_1 0 rfl rfl)
theorem dX5_wrongBy_27 : decode cX5_wrongBy 27 = .ok (.iload 4, 2) := dk_21 4 (dk_at dksX5_wrongBy_1 3 rfl rfl)
theorem dX5_wrongBy_29 : decode cX5_wrongBy 29 = .ok (.aload_n 0, 1) := dk_42 (dk_at dksX5_wrongBy_1 5 rfl rfl)
theorem dX5_wrongBy_30 : decode cX5_wrongBy 30 = .ok (.getfield 7, 3) := dk_180 0 7 (dk_at dksX5_wrongBy_1 6 rfl rfl)
theorem dX5_wrongBy_33 : decode cX5_wrongBy 33 = .ok (.if_icmp .le 5, 3) := dk_164 0 5 (dk_at dksX5_wrongBy_1 9 rfl rfl)
theorem dX5_wrongBy_36 : decode cX5_wrongBy 36 = .ok (.iconst 2, 1) := dk_5 (dk_at dksX5_wrongBy_1 12 rfl rfl)
theorem dX5_wrongBy_37 : decode cX5_wrongBy 37 = .ok (.ireturn, 1) := dk_172 (dk_at dksX5_wrongBy_1 13 rfl rfl)
theorem dX5_wrongBy_38 : decode cX5_wrongBy 38 = .ok (.aload_n 0, 1) := dk_42 (dk_at dksX5_wrongBy_1 14 rfl rfl)
theorem dX5_wrongBy_39 : decode cX5_wrongBy 39 = .ok (.iload 4, 2) := dk_21 4 (dk_at dksX5_wrongBy_1 15 rfl rfl)
theorem dX5_wrongBy_41 : decode cX5_wrongBy 41 = .ok (.invokevirtual 129, 3) := dk_182 0 129 (dk_at dksX5_wrongBy_1 17 rfl rfl)
theorem dX5_wrongBy_44 : decode cX5_wrongBy 44 = .ok (.ifCond .eq 5, 3) := dk_153 0 5 (dk_at dksX5_wrongBy_1 20 rfl rfl)
theorem dX5_wrongBy_47 : decode cX5_wrongBy 47 = .ok (.iconst 3, 1) := dk_6 (dk_at dksX5_wrongBy_1 23 rfl rfl)
theorem dX5_wrongBy_48 : decode cX5_wrongBy 48 = .ok (.ireturn, 1) := dk_172 (dk_at dksX5_wrongBy_2 0 rfl rfl)
theorem dX5_wrongBy_49 : decode cX5_wrongBy 49 = .ok (.iload_n 3, 1) := dk_29 (dk_at dksX5_wrongBy_2 1 rfl rfl)
theorem dX5_wrongBy_50 : decode cX5_wrongBy 50 = .ok (.ifCond .eq 24, 3) := dk_153 0 24 (dk_at dksX5_wrongBy_2 2 rfl rfl)
theorem dX5_wrongBy_53 : decode cX5_wrongBy 53 = .ok (.iload_n 3, 1) := dk_29 (dk_at dksX5_wrongBy_2 5 rfl rfl)
theorem dX5_wrongBy_54 : decode cX5_wrongBy 54 = .ok (.aload_n 0, 1) := dk_42 (dk_at dksX5_wrongBy_2 6 rfl rfl)
theorem dX5_wrongBy_55 : decode cX5_wrongBy 55 = .ok (.iload_n 1, 1) := dk_27 (dk_at dksX5_wrongBy_2 7 rfl rfl)
theorem dX5_wrongBy_56 : decode cX5_wrongBy 56 = .ok (.iload_n 2, 1) := dk_28 (dk_at dksX5_wrongBy_2 8 rfl rfl)
theorem dX5_wrongBy_57 : decode cX5_wrongBy 57 = .ok (.invokevirtual 236, 3) := dk_182 0 236 (dk_at dksX5_wrongBy_2 9 rfl rfl)
theorem dX5_wrongBy_60 : decode cX5_wrongBy 60 = .ok (.if_icmp .gt 14, 3) := dk_163 0 14 (dk_at dksX5_wrongBy_2 12 rfl rfl)
theorem dX5_wrongBy_63 : decode cX5_wrongBy 63 = .ok (.iload_n 3, 1) := dk_29 (dk_at dksX5_wrongBy_2 15 rfl rfl)
theorem dX5_wrongBy_64 : decode cX5_wrongBy 64 = .ok (.ineg, 1) := dk_116 (dk_at dksX5_wrongBy_2 16 rfl rfl)
theorem dX5_wrongBy_65 : decode cX5_wrongBy 65 = .ok (.aload_n 0, 1) := dk_42 (dk_at dksX5_wrongBy_2 17 rfl rfl)
theorem dX5_wrongBy_66 : decode cX5_wrongBy 66 = .ok (.iload_n 1, 1) := dk_27 (dk_at dksX5_wrongBy_2 18 rfl rfl)
theorem dX5_wrongBy_67 : decode cX5_wrongBy 67 = .ok (.iload_n 2, 1) := dk_28 (dk_at dksX5_wrongBy_2 19 rfl rfl)
theorem dX5_wrongBy_68 : decode cX5_wrongBy 68 = .ok (.invokevirtual 236, 3) := dk_182 0 236 (dk_at dksX5_wrongBy_2 20 rfl rfl)
theorem dX5_wrongBy_71 : decode cX5_wrongBy 71 = .ok (.if_icmp .le 5, 3) := dk_164 0 5 (dk_at dksX5_wrongBy_3 0 rfl rfl)
theorem dX5_wrongBy_74 : decode cX5_wrongBy 74 = .ok (.iconst 4, 1) := dk_7 (dk_at dksX5_wrongBy_3 3 rfl rfl)
theorem dX5_wrongBy_75 : decode cX5_wrongBy 75 = .ok (.ireturn, 1) := dk_172 (dk_at dksX5_wrongBy_3 4 rfl rfl)
theorem dX5_wrongBy_76 : decode cX5_wrongBy 76 = .ok (.aload_n 0, 1) := dk_42 (dk_at dksX5_wrongBy_3 5 rfl rfl)
theorem dX5_wrongBy_77 : decode cX5_wrongBy 77 = .ok (.getfield 38, 3) := dk_180 0 38 (dk_at dksX5_wrongBy_3 6 rfl rfl)
theorem dX5_wrongBy_80 : decode cX5_wrongBy 80 = .ok (.iload_n 2, 1) := dk_28 (dk_at dksX5_wrongBy_3 9 rfl rfl)
theorem dX5_wrongBy_81 : decode cX5_wrongBy 81 = .ok (.iaload, 1) := dk_46 (dk_at dksX5_wrongBy_3 10 rfl rfl)
theorem dX5_wrongBy_82 : decode cX5_wrongBy 82 = .ok (.iconst 1, 1) := dk_4 (dk_at dksX5_wrongBy_3 11 rfl rfl)
theorem dX5_wrongBy_83 : decode cX5_wrongBy 83 = .ok (.if_icmp .ne 7, 3) := dk_160 0 7 (dk_at dksX5_wrongBy_3 12 rfl rfl)
theorem dX5_wrongBy_86 : decode cX5_wrongBy 86 = .ok (.iconst 5, 1) := dk_8 (dk_at dksX5_wrongBy_3 15 rfl rfl)
theorem dX5_wrongBy_87 : decode cX5_wrongBy 87 = .ok (.goto 4, 3) := dk_167 0 4 (dk_at dksX5_wrongBy_3 16 rfl rfl)
theorem dX5_wrongBy_90 : decode cX5_wrongBy 90 = .ok (.iconst 0, 1) := dk_3 (dk_at dksX5_wrongBy_3 19 rfl rfl)
theorem dX5_wrongBy_91 : decode cX5_wrongBy 91 = .ok (.ireturn, 1) := dk_172 (dk_at dksX5_wrongBy_3 20 rfl rfl)
abbrev cX5_carry : ByteArray := prog_22_method_54_code
def yX5_carry : MethodName := ⟨RX5, "carry", "(III)I"⟩
def dkwX5_carry_2 : List UInt8 := [182, 0, 249, 42, 89, 180, 0, 223, 4, 96, 181, 0, 223, 42, 180, 0, 32, 28, 46, 172]
abbrev dktX5_carry_2 : List UInt8 := dkwX5_carry_2 ++ []
def dkwX5_carry_1 : List UInt8 := [28, 42, 29, 182, 0, 239, 182, 0, 242, 153, 0, 10, 42, 16, 250, 182, 0, 136, 172, 42, 27, 28, 29]
abbrev dktX5_carry_1 : List UInt8 := dkwX5_carry_1 ++ dktX5_carry_2
def dkwX5_carry_0 : List UInt8 := [42, 27, 182, 0, 178, 153, 0, 11, 42, 28, 182, 0, 140, 154, 0, 9, 42, 2, 182, 0, 136, 172, 42, 27]
abbrev dktX5_carry_0 : List UInt8 := dkwX5_carry_0 ++ dktX5_carry_1
theorem dksX5_carry_0 : cX5_carry.data.toList.drop 0 = dktX5_carry_0 := by decide +kernel
theorem dksX5_carry_1 : cX5_carry.data.toList.drop 24 = dktX5_carry_1 := dk_seg dksX5_carry_0 24 rfl rfl
theorem dksX5_carry_2 : cX5_carry.data.toList.drop 47 = dktX5_carry_2 := dk_seg dksX5_carry_1 23 rfl rfl
theorem dX5_carry_0 : decode cX5_carry 0 = .ok (.aload_n 0, 1) := dk_42 (dk_at dksX5_carry_0 0 rfl rfl)
theorem dX5_carry_1 : decode cX5_carry 1 = .ok (.iload_n 1, 1) := dk_27 (dk_at dksX5_carry_0 1 rfl rfl)
theorem dX5_carry_2 : decode cX5_carry 2 = .ok (.invokevirtual 178, 3) := dk_182 0 178 (dk_at dksX5_carry_0 2 rfl rfl)
theorem dX5_carry_5 : decode cX5_carry 5 = .ok (.ifCond .eq 11, 3) := dk_153 0 11 (dk_at dksX5_carry_0 5 rfl rfl)
theorem dX5_carry_8 : decode cX5_carry 8 = .ok (.aload_n 0, 1) := dk_42 (dk_at dksX5_carry_0 8 rfl rfl)
theorem dX5_carry_9 : decode cX5_carry 9 = .ok (.iload_n 2, 1) := dk_28 (dk_at dksX5_carry_0 9 rfl rfl)
theorem dX5_carry_10 : decode cX5_carry 10 = .ok (.invokevirtual 140, 3) := dk_182 0 140 (dk_at dksX5_carry_0 10 rfl rfl)
theorem dX5_carry_13 : decode cX5_carry 13 = .ok (.ifCond .ne 9, 3) := dk_154 0 9 (dk_at dksX5_carry_0 13 rfl rfl)
theorem dX5_carry_16 : decode cX5_carry 16 = .ok (.aload_n 0, 1) := dk_42 (dk_at dksX5_carry_0 16 rfl rfl)
theorem dX5_carry_17 : decode cX5_carry 17 = .ok (.iconst (-1), 1) := dk_2 (dk_at dksX5_carry_0 17 rfl rfl)
theorem dX5_carry_18 : decode cX5_carry 18 = .ok (.invokevirtual 136, 3) := dk_182 0 136 (dk_at dksX5_carry_0 18 rfl rfl)
theorem dX5_carry_21 : decode cX5_carry 21 = .ok (.ireturn, 1) := dk_172 (dk_at dksX5_carry_0 21 rfl rfl)
theorem dX5_carry_22 : decode cX5_carry 22 = .ok (.aload_n 0, 1) := dk_42 (dk_at dksX5_carry_0 22 rfl rfl)
theorem dX5_carry_23 : decode cX5_carry 23 = .ok (.iload_n 1, 1) := dk_27 (dk_at dksX5_carry_0 23 rfl rfl)
theorem dX5_carry_24 : decode cX5_carry 24 = .ok (.iload_n 2, 1) := dk_28 (dk_at dksX5_carry_1 0 rfl rfl)
theorem dX5_carry_25 : decode cX5_carry 25 = .ok (.aload_n 0, 1) := dk_42 (dk_at dksX5_carry_1 1 rfl rfl)
theorem dX5_carry_26 : decode cX5_carry 26 = .ok (.iload_n 3, 1) := dk_29 (dk_at dksX5_carry_1 2 rfl rfl)
theorem dX5_carry_27 : decode cX5_carry 27 = .ok (.invokevirtual 239, 3) := dk_182 0 239 (dk_at dksX5_carry_1 3 rfl rfl)
theorem dX5_carry_30 : decode cX5_carry 30 = .ok (.invokevirtual 242, 3) := dk_182 0 242 (dk_at dksX5_carry_1 6 rfl rfl)
theorem dX5_carry_33 : decode cX5_carry 33 = .ok (.ifCond .eq 10, 3) := dk_153 0 10 (dk_at dksX5_carry_1 9 rfl rfl)
theorem dX5_carry_36 : decode cX5_carry 36 = .ok (.aload_n 0, 1) := dk_42 (dk_at dksX5_carry_1 12 rfl rfl)
theorem dX5_carry_37 : decode cX5_carry 37 = .ok (.bipush (-6), 2) := dk_16 250 (dk_at dksX5_carry_1 13 rfl rfl)
theorem dX5_carry_39 : decode cX5_carry 39 = .ok (.invokevirtual 136, 3) := dk_182 0 136 (dk_at dksX5_carry_1 15 rfl rfl)
theorem dX5_carry_42 : decode cX5_carry 42 = .ok (.ireturn, 1) := dk_172 (dk_at dksX5_carry_1 18 rfl rfl)
theorem dX5_carry_43 : decode cX5_carry 43 = .ok (.aload_n 0, 1) := dk_42 (dk_at dksX5_carry_1 19 rfl rfl)
theorem dX5_carry_44 : decode cX5_carry 44 = .ok (.iload_n 1, 1) := dk_27 (dk_at dksX5_carry_1 20 rfl rfl)
theorem dX5_carry_45 : decode cX5_carry 45 = .ok (.iload_n 2, 1) := dk_28 (dk_at dksX5_carry_1 21 rfl rfl)
theorem dX5_carry_46 : decode cX5_carry 46 = .ok (.iload_n 3, 1) := dk_29 (dk_at dksX5_carry_1 22 rfl rfl)
theorem dX5_carry_47 : decode cX5_carry 47 = .ok (.invokevirtual 249, 3) := dk_182 0 249 (dk_at dksX5_carry_2 0 rfl rfl)
theorem dX5_carry_50 : decode cX5_carry 50 = .ok (.aload_n 0, 1) := dk_42 (dk_at dksX5_carry_2 3 rfl rfl)
theorem dX5_carry_51 : decode cX5_carry 51 = .ok (.dup, 1) := dk_89 (dk_at dksX5_carry_2 4 rfl rfl)
theorem dX5_carry_52 : decode cX5_carry 52 = .ok (.getfield 223, 3) := dk_180 0 223 (dk_at dksX5_carry_2 5 rfl rfl)
theorem dX5_carry_55 : decode cX5_carry 55 = .ok (.iconst 1, 1) := dk_4 (dk_at dksX5_carry_2 8 rfl rfl)
theorem dX5_carry_56 : decode cX5_carry 56 = .ok (.iadd, 1) := dk_96 (dk_at dksX5_carry_2 9 rfl rfl)
theorem dX5_carry_57 : decode cX5_carry 57 = .ok (.putfield 223, 3) := dk_181 0 223 (dk_at dksX5_carry_2 10 rfl rfl)
theorem dX5_carry_60 : decode cX5_carry 60 = .ok (.aload_n 0, 1) := dk_42 (dk_at dksX5_carry_2 13 rfl rfl)
theorem dX5_carry_61 : decode cX5_carry 61 = .ok (.getfield 32, 3) := dk_180 0 32 (dk_at dksX5_carry_2 14 rfl rfl)
theorem dX5_carry_64 : decode cX5_carry 64 = .ok (.iload_n 2, 1) := dk_28 (dk_at dksX5_carry_2 17 rfl rfl)
theorem dX5_carry_65 : decode cX5_carry 65 = .ok (.iaload, 1) := dk_46 (dk_at dksX5_carry_2 18 rfl rfl)
theorem dX5_carry_66 : decode cX5_carry 66 = .ok (.ireturn, 1) := dk_172 (dk_at dksX5_carry_2 19 rfl rfl)
abbrev cX5_carries : ByteArray := prog_22_method_53_code
def yX5_carries : MethodName := ⟨RX5, "carries", "(III)V"⟩
def dkwX5_carries_0 : List UInt8 := [42, 180, 0, 32, 28, 92, 46, 29, 96, 79, 42, 180, 0, 35, 28, 27, 79, 42, 27, 28, 182, 0, 245, 177]
abbrev dktX5_carries_0 : List UInt8 := dkwX5_carries_0 ++ []
theorem dksX5_carries_0 : cX5_carries.data.toList.drop 0 = dktX5_carries_0 := by decide +kernel
theorem dX5_carries_0 : decode cX5_carries 0 = .ok (.aload_n 0, 1) := dk_42 (dk_at dksX5_carries_0 0 rfl rfl)
theorem dX5_carries_1 : decode cX5_carries 1 = .ok (.getfield 32, 3) := dk_180 0 32 (dk_at dksX5_carries_0 1 rfl rfl)
theorem dX5_carries_4 : decode cX5_carries 4 = .ok (.iload_n 2, 1) := dk_28 (dk_at dksX5_carries_0 4 rfl rfl)
theorem dX5_carries_5 : decode cX5_carries 5 = .ok (.dup2, 1) := dk_92 (dk_at dksX5_carries_0 5 rfl rfl)
theorem dX5_carries_6 : decode cX5_carries 6 = .ok (.iaload, 1) := dk_46 (dk_at dksX5_carries_0 6 rfl rfl)
theorem dX5_carries_7 : decode cX5_carries 7 = .ok (.iload_n 3, 1) := dk_29 (dk_at dksX5_carries_0 7 rfl rfl)
theorem dX5_carries_8 : decode cX5_carries 8 = .ok (.iadd, 1) := dk_96 (dk_at dksX5_carries_0 8 rfl rfl)
theorem dX5_carries_9 : decode cX5_carries 9 = .ok (.iastore, 1) := dk_79 (dk_at dksX5_carries_0 9 rfl rfl)
theorem dX5_carries_10 : decode cX5_carries 10 = .ok (.aload_n 0, 1) := dk_42 (dk_at dksX5_carries_0 10 rfl rfl)
theorem dX5_carries_11 : decode cX5_carries 11 = .ok (.getfield 35, 3) := dk_180 0 35 (dk_at dksX5_carries_0 11 rfl rfl)
theorem dX5_carries_14 : decode cX5_carries 14 = .ok (.iload_n 2, 1) := dk_28 (dk_at dksX5_carries_0 14 rfl rfl)
theorem dX5_carries_15 : decode cX5_carries 15 = .ok (.iload_n 1, 1) := dk_27 (dk_at dksX5_carries_0 15 rfl rfl)
theorem dX5_carries_16 : decode cX5_carries 16 = .ok (.iastore, 1) := dk_79 (dk_at dksX5_carries_0 16 rfl rfl)
theorem dX5_carries_17 : decode cX5_carries 17 = .ok (.aload_n 0, 1) := dk_42 (dk_at dksX5_carries_0 17 rfl rfl)
theorem dX5_carries_18 : decode cX5_carries 18 = .ok (.iload_n 1, 1) := dk_27 (dk_at dksX5_carries_0 18 rfl rfl)
theorem dX5_carries_19 : decode cX5_carries 19 = .ok (.iload_n 2, 1) := dk_28 (dk_at dksX5_carries_0 19 rfl rfl)
theorem dX5_carries_20 : decode cX5_carries 20 = .ok (.invokevirtual 245, 3) := dk_182 0 245 (dk_at dksX5_carries_0 20 rfl rfl)
theorem dX5_carries_23 : decode cX5_carries 23 = .ok (.return_, 1) := dk_177 (dk_at dksX5_carries_0 23 rfl rfl)
abbrev cX5_tires : ByteArray := prog_22_method_52_code
def yX5_tires : MethodName := ⟨RX5, "tires", "(II)V"⟩
def dkwX5_tires_1 : List UInt8 := [4, 96, 182, 0, 233, 79, 177]
abbrev dktX5_tires_1 : List UInt8 := dkwX5_tires_1 ++ []
def dkwX5_tires_0 : List UInt8 := [42, 180, 0, 44, 27, 42, 16, 99, 42, 180, 0, 44, 27, 46, 42, 180, 0, 26, 28, 46, 16, 10, 108, 96]
abbrev dktX5_tires_0 : List UInt8 := dkwX5_tires_0 ++ dktX5_tires_1
theorem dksX5_tires_0 : cX5_tires.data.toList.drop 0 = dktX5_tires_0 := by decide +kernel
theorem dksX5_tires_1 : cX5_tires.data.toList.drop 24 = dktX5_tires_1 := dk_seg dksX5_tires_0 24 rfl rfl
theorem dX5_tires_0 : decode cX5_tires 0 = .ok (.aload_n 0, 1) := dk_42 (dk_at dksX5_tires_0 0 rfl rfl)
theorem dX5_tires_1 : decode cX5_tires 1 = .ok (.getfield 44, 3) := dk_180 0 44 (dk_at dksX5_tires_0 1 rfl rfl)
theorem dX5_tires_4 : decode cX5_tires 4 = .ok (.iload_n 1, 1) := dk_27 (dk_at dksX5_tires_0 4 rfl rfl)
theorem dX5_tires_5 : decode cX5_tires 5 = .ok (.aload_n 0, 1) := dk_42 (dk_at dksX5_tires_0 5 rfl rfl)
theorem dX5_tires_6 : decode cX5_tires 6 = .ok (.bipush 99, 2) := dk_16 99 (dk_at dksX5_tires_0 6 rfl rfl)
theorem dX5_tires_8 : decode cX5_tires 8 = .ok (.aload_n 0, 1) := dk_42 (dk_at dksX5_tires_0 8 rfl rfl)
theorem dX5_tires_9 : decode cX5_tires 9 = .ok (.getfield 44, 3) := dk_180 0 44 (dk_at dksX5_tires_0 9 rfl rfl)
theorem dX5_tires_12 : decode cX5_tires 12 = .ok (.iload_n 1, 1) := dk_27 (dk_at dksX5_tires_0 12 rfl rfl)
theorem dX5_tires_13 : decode cX5_tires 13 = .ok (.iaload, 1) := dk_46 (dk_at dksX5_tires_0 13 rfl rfl)
theorem dX5_tires_14 : decode cX5_tires 14 = .ok (.aload_n 0, 1) := dk_42 (dk_at dksX5_tires_0 14 rfl rfl)
theorem dX5_tires_15 : decode cX5_tires 15 = .ok (.getfield 26, 3) := dk_180 0 26 (dk_at dksX5_tires_0 15 rfl rfl)
theorem dX5_tires_18 : decode cX5_tires 18 = .ok (.iload_n 2, 1) := dk_28 (dk_at dksX5_tires_0 18 rfl rfl)
theorem dX5_tires_19 : decode cX5_tires 19 = .ok (.iaload, 1) := dk_46 (dk_at dksX5_tires_0 19 rfl rfl)
theorem dX5_tires_20 : decode cX5_tires 20 = .ok (.bipush 10, 2) := dk_16 10 (dk_at dksX5_tires_0 20 rfl rfl)
theorem dX5_tires_22 : decode cX5_tires 22 = .ok (.idiv, 1) := dk_108 (dk_at dksX5_tires_0 22 rfl rfl)
theorem dX5_tires_23 : decode cX5_tires 23 = .ok (.iadd, 1) := dk_96 (dk_at dksX5_tires_0 23 rfl rfl)
theorem dX5_tires_24 : decode cX5_tires 24 = .ok (.iconst 1, 1) := dk_4 (dk_at dksX5_tires_1 0 rfl rfl)
theorem dX5_tires_25 : decode cX5_tires 25 = .ok (.iadd, 1) := dk_96 (dk_at dksX5_tires_1 1 rfl rfl)
theorem dX5_tires_26 : decode cX5_tires 26 = .ok (.invokevirtual 233, 3) := dk_182 0 233 (dk_at dksX5_tires_1 2 rfl rfl)
theorem dX5_tires_29 : decode cX5_tires 29 = .ok (.iastore, 1) := dk_79 (dk_at dksX5_tires_1 5 rfl rfl)
theorem dX5_tires_30 : decode cX5_tires 30 = .ok (.return_, 1) := dk_177 (dk_at dksX5_tires_1 6 rfl rfl)
abbrev cX5_judge : ByteArray := prog_22_method_55_code
def yX5_judge : MethodName := ⟨RX5, "judge", "(III)I"⟩
def dkwX5_judge_7 : List UInt8 := [182, 0, 249, 132, 6, 1, 167, 255, 176, 42, 42, 180, 0, 87, 4, 182, 0, 226, 21, 5, 172]
abbrev dktX5_judge_7 : List UInt8 := dkwX5_judge_7 ++ []
def dkwX5_judge_6 : List UInt8 := [21, 8, 182, 0, 239, 182, 0, 242, 153, 0, 10, 21, 6, 54, 5, 167, 0, 12, 42, 21, 7, 27, 21, 8]
abbrev dktX5_judge_6 : List UInt8 := dkwX5_judge_6 ++ dktX5_judge_7
def dkwX5_judge_5 : List UInt8 := [21, 6, 104, 4, 96, 182, 0, 159, 54, 8, 42, 21, 7, 182, 0, 178, 153, 0, 19, 42, 21, 7, 27, 42]
abbrev dktX5_judge_5 : List UInt8 := dkwX5_judge_5 ++ dktX5_judge_6
def dkwX5_judge_4 : List UInt8 := [162, 0, 80, 21, 5, 2, 160, 0, 74, 42, 28, 5, 21, 6, 104, 182, 0, 159, 54, 7, 42, 28, 5]
abbrev dktX5_judge_4 : List UInt8 := dkwX5_judge_4 ++ dktX5_judge_5
def dkwX5_judge_3 : List UInt8 := [16, 250, 182, 0, 136, 172, 42, 42, 180, 0, 87, 3, 182, 0, 226, 2, 54, 5, 3, 54, 6, 21, 6, 29]
abbrev dktX5_judge_3 : List UInt8 := dkwX5_judge_3 ++ dktX5_judge_4
def dkwX5_judge_2 : List UInt8 := [180, 0, 62, 28, 46, 5, 108, 164, 0, 10, 42, 16, 251, 182, 0, 136, 172, 29, 16, 40, 164, 0, 10, 42]
abbrev dktX5_judge_2 : List UInt8 := dkwX5_judge_2 ++ dktX5_judge_3
def dkwX5_judge_1 : List UInt8 := [153, 0, 10, 42, 21, 4, 182, 0, 136, 172, 29, 156, 0, 10, 42, 16, 252, 182, 0, 136, 172, 29, 42]
abbrev dktX5_judge_1 : List UInt8 := dkwX5_judge_1 ++ dktX5_judge_2
def dkwX5_judge_0 : List UInt8 := [42, 27, 182, 0, 140, 154, 0, 9, 42, 2, 182, 0, 136, 172, 42, 28, 182, 0, 156, 54, 4, 21, 4]
abbrev dktX5_judge_0 : List UInt8 := dkwX5_judge_0 ++ dktX5_judge_1
theorem dksX5_judge_0 : cX5_judge.data.toList.drop 0 = dktX5_judge_0 := by decide +kernel
theorem dksX5_judge_1 : cX5_judge.data.toList.drop 23 = dktX5_judge_1 := dk_seg dksX5_judge_0 23 rfl rfl
theorem dksX5_judge_2 : cX5_judge.data.toList.drop 46 = dktX5_judge_2 := dk_seg dksX5_judge_1 23 rfl rfl
theorem dksX5_judge_3 : cX5_judge.data.toList.drop 70 = dktX5_judge_3 := dk_seg dksX5_judge_2 24 rfl rfl
theorem dksX5_judge_4 : cX5_judge.data.toList.drop 94 = dktX5_judge_4 := dk_seg dksX5_judge_3 24 rfl rfl
theorem dksX5_judge_5 : cX5_judge.data.toList.drop 117 = dktX5_judge_5 := dk_seg dksX5_judge_4 23 rfl rfl
theorem dksX5_judge_6 : cX5_judge.data.toList.drop 141 = dktX5_judge_6 := dk_seg dksX5_judge_5 24 rfl rfl
theorem dksX5_judge_7 : cX5_judge.data.toList.drop 165 = dktX5_judge_7 := dk_seg dksX5_judge_6 24 rfl rfl
theorem dX5_judge_0 : decode cX5_judge 0 = .ok (.aload_n 0, 1) := dk_42 (dk_at dksX5_judge_0 0 rfl rfl)
theorem dX5_judge_1 : decode cX5_judge 1 = .ok (.iload_n 1, 1) := dk_27 (dk_at dksX5_judge_0 1 rfl rfl)
theorem dX5_judge_2 : decode cX5_judge 2 = .ok (.invokevirtual 140, 3) := dk_182 0 140 (dk_at dksX5_judge_0 2 rfl rfl)
theorem dX5_judge_5 : decode cX5_judge 5 = .ok (.ifCond .ne 9, 3) := dk_154 0 9 (dk_at dksX5_judge_0 5 rfl rfl)
theorem dX5_judge_8 : decode cX5_judge 8 = .ok (.aload_n 0, 1) := dk_42 (dk_at dksX5_judge_0 8 rfl rfl)
theorem dX5_judge_9 : decode cX5_judge 9 = .ok (.iconst (-1), 1) := dk_2 (dk_at dksX5_judge_0 9 rfl rfl)
theorem dX5_judge_10 : decode cX5_judge 10 = .ok (.invokevirtual 136, 3) := dk_182 0 136 (dk_at dksX5_judge_0 10 rfl rfl)
theorem dX5_judge_13 : decode cX5_judge 13 = .ok (.ireturn, 1) := dk_172 (dk_at dksX5_judge_0 13 rfl rfl)
theorem dX5_judge_14 : decode cX5_judge 14 = .ok (.aload_n 0, 1) := dk_42 (dk_at dksX5_judge_0 14 rfl rfl)
theorem dX5_judge_15 : decode cX5_judge 15 = .ok (.iload_n 2, 1) := dk_28 (dk_at dksX5_judge_0 15 rfl rfl)
theorem dX5_judge_16 : decode cX5_judge 16 = .ok (.invokevirtual 156, 3) := dk_182 0 156 (dk_at dksX5_judge_0 16 rfl rfl)
theorem dX5_judge_19 : decode cX5_judge 19 = .ok (.istore 4, 2) := dk_54 4 (dk_at dksX5_judge_0 19 rfl rfl)
theorem dX5_judge_21 : decode cX5_judge 21 = .ok (.iload 4, 2) := dk_21 4 (dk_at dksX5_judge_0 21 rfl rfl)
theorem dX5_judge_23 : decode cX5_judge 23 = .ok (.ifCond .eq 10, 3) := dk_153 0 10 (dk_at dksX5_judge_1 0 rfl rfl)
theorem dX5_judge_26 : decode cX5_judge 26 = .ok (.aload_n 0, 1) := dk_42 (dk_at dksX5_judge_1 3 rfl rfl)
theorem dX5_judge_27 : decode cX5_judge 27 = .ok (.iload 4, 2) := dk_21 4 (dk_at dksX5_judge_1 4 rfl rfl)
theorem dX5_judge_29 : decode cX5_judge 29 = .ok (.invokevirtual 136, 3) := dk_182 0 136 (dk_at dksX5_judge_1 6 rfl rfl)
theorem dX5_judge_32 : decode cX5_judge 32 = .ok (.ireturn, 1) := dk_172 (dk_at dksX5_judge_1 9 rfl rfl)
theorem dX5_judge_33 : decode cX5_judge 33 = .ok (.iload_n 3, 1) := dk_29 (dk_at dksX5_judge_1 10 rfl rfl)
theorem dX5_judge_34 : decode cX5_judge 34 = .ok (.ifCond .ge 10, 3) := dk_156 0 10 (dk_at dksX5_judge_1 11 rfl rfl)
theorem dX5_judge_37 : decode cX5_judge 37 = .ok (.aload_n 0, 1) := dk_42 (dk_at dksX5_judge_1 14 rfl rfl)
theorem dX5_judge_38 : decode cX5_judge 38 = .ok (.bipush (-4), 2) := dk_16 252 (dk_at dksX5_judge_1 15 rfl rfl)
theorem dX5_judge_40 : decode cX5_judge 40 = .ok (.invokevirtual 136, 3) := dk_182 0 136 (dk_at dksX5_judge_1 17 rfl rfl)
theorem dX5_judge_43 : decode cX5_judge 43 = .ok (.ireturn, 1) := dk_172 (dk_at dksX5_judge_1 20 rfl rfl)
theorem dX5_judge_44 : decode cX5_judge 44 = .ok (.iload_n 3, 1) := dk_29 (dk_at dksX5_judge_1 21 rfl rfl)
theorem dX5_judge_45 : decode cX5_judge 45 = .ok (.aload_n 0, 1) := dk_42 (dk_at dksX5_judge_1 22 rfl rfl)
theorem dX5_judge_46 : decode cX5_judge 46 = .ok (.getfield 62, 3) := dk_180 0 62 (dk_at dksX5_judge_2 0 rfl rfl)
theorem dX5_judge_49 : decode cX5_judge 49 = .ok (.iload_n 2, 1) := dk_28 (dk_at dksX5_judge_2 3 rfl rfl)
theorem dX5_judge_50 : decode cX5_judge 50 = .ok (.iaload, 1) := dk_46 (dk_at dksX5_judge_2 4 rfl rfl)
theorem dX5_judge_51 : decode cX5_judge 51 = .ok (.iconst 2, 1) := dk_5 (dk_at dksX5_judge_2 5 rfl rfl)
theorem dX5_judge_52 : decode cX5_judge 52 = .ok (.idiv, 1) := dk_108 (dk_at dksX5_judge_2 6 rfl rfl)
theorem dX5_judge_53 : decode cX5_judge 53 = .ok (.if_icmp .le 10, 3) := dk_164 0 10 (dk_at dksX5_judge_2 7 rfl rfl)
theorem dX5_judge_56 : decode cX5_judge 56 = .ok (.aload_n 0, 1) := dk_42 (dk_at dksX5_judge_2 10 rfl rfl)
theorem dX5_judge_57 : decode cX5_judge 57 = .ok (.bipush (-5), 2) := dk_16 251 (dk_at dksX5_judge_2 11 rfl rfl)
theorem dX5_judge_59 : decode cX5_judge 59 = .ok (.invokevirtual 136, 3) := dk_182 0 136 (dk_at dksX5_judge_2 13 rfl rfl)
theorem dX5_judge_62 : decode cX5_judge 62 = .ok (.ireturn, 1) := dk_172 (dk_at dksX5_judge_2 16 rfl rfl)
theorem dX5_judge_63 : decode cX5_judge 63 = .ok (.iload_n 3, 1) := dk_29 (dk_at dksX5_judge_2 17 rfl rfl)
theorem dX5_judge_64 : decode cX5_judge 64 = .ok (.bipush 40, 2) := dk_16 40 (dk_at dksX5_judge_2 18 rfl rfl)
theorem dX5_judge_66 : decode cX5_judge 66 = .ok (.if_icmp .le 10, 3) := dk_164 0 10 (dk_at dksX5_judge_2 20 rfl rfl)
theorem dX5_judge_69 : decode cX5_judge 69 = .ok (.aload_n 0, 1) := dk_42 (dk_at dksX5_judge_2 23 rfl rfl)
theorem dX5_judge_70 : decode cX5_judge 70 = .ok (.bipush (-6), 2) := dk_16 250 (dk_at dksX5_judge_3 0 rfl rfl)
theorem dX5_judge_72 : decode cX5_judge 72 = .ok (.invokevirtual 136, 3) := dk_182 0 136 (dk_at dksX5_judge_3 2 rfl rfl)
theorem dX5_judge_75 : decode cX5_judge 75 = .ok (.ireturn, 1) := dk_172 (dk_at dksX5_judge_3 5 rfl rfl)
theorem dX5_judge_76 : decode cX5_judge 76 = .ok (.aload_n 0, 1) := dk_42 (dk_at dksX5_judge_3 6 rfl rfl)
theorem dX5_judge_77 : decode cX5_judge 77 = .ok (.aload_n 0, 1) := dk_42 (dk_at dksX5_judge_3 7 rfl rfl)
theorem dX5_judge_78 : decode cX5_judge 78 = .ok (.getfield 87, 3) := dk_180 0 87 (dk_at dksX5_judge_3 8 rfl rfl)
theorem dX5_judge_81 : decode cX5_judge 81 = .ok (.iconst 0, 1) := dk_3 (dk_at dksX5_judge_3 11 rfl rfl)
theorem dX5_judge_82 : decode cX5_judge 82 = .ok (.invokevirtual 226, 3) := dk_182 0 226 (dk_at dksX5_judge_3 12 rfl rfl)
theorem dX5_judge_85 : decode cX5_judge 85 = .ok (.iconst (-1), 1) := dk_2 (dk_at dksX5_judge_3 15 rfl rfl)
theorem dX5_judge_86 : decode cX5_judge 86 = .ok (.istore 5, 2) := dk_54 5 (dk_at dksX5_judge_3 16 rfl rfl)
theorem dX5_judge_88 : decode cX5_judge 88 = .ok (.iconst 0, 1) := dk_3 (dk_at dksX5_judge_3 18 rfl rfl)
theorem dX5_judge_89 : decode cX5_judge 89 = .ok (.istore 6, 2) := dk_54 6 (dk_at dksX5_judge_3 19 rfl rfl)
theorem dX5_judge_91 : decode cX5_judge 91 = .ok (.iload 6, 2) := dk_21 6 (dk_at dksX5_judge_3 21 rfl rfl)
theorem dX5_judge_93 : decode cX5_judge 93 = .ok (.iload_n 3, 1) := dk_29 (dk_at dksX5_judge_3 23 rfl rfl)
theorem dX5_judge_94 : decode cX5_judge 94 = .ok (.if_icmp .ge 80, 3) := dk_162 0 80 (dk_at dksX5_judge_4 0 rfl rfl)
theorem dX5_judge_97 : decode cX5_judge 97 = .ok (.iload 5, 2) := dk_21 5 (dk_at dksX5_judge_4 3 rfl rfl)
theorem dX5_judge_99 : decode cX5_judge 99 = .ok (.iconst (-1), 1) := dk_2 (dk_at dksX5_judge_4 5 rfl rfl)
theorem dX5_judge_100 : decode cX5_judge 100 = .ok (.if_icmp .ne 74, 3) := dk_160 0 74 (dk_at dksX5_judge_4 6 rfl rfl)
theorem dX5_judge_103 : decode cX5_judge 103 = .ok (.aload_n 0, 1) := dk_42 (dk_at dksX5_judge_4 9 rfl rfl)
theorem dX5_judge_104 : decode cX5_judge 104 = .ok (.iload_n 2, 1) := dk_28 (dk_at dksX5_judge_4 10 rfl rfl)
theorem dX5_judge_105 : decode cX5_judge 105 = .ok (.iconst 2, 1) := dk_5 (dk_at dksX5_judge_4 11 rfl rfl)
theorem dX5_judge_106 : decode cX5_judge 106 = .ok (.iload 6, 2) := dk_21 6 (dk_at dksX5_judge_4 12 rfl rfl)
theorem dX5_judge_108 : decode cX5_judge 108 = .ok (.imul, 1) := dk_104 (dk_at dksX5_judge_4 14 rfl rfl)
theorem dX5_judge_109 : decode cX5_judge 109 = .ok (.invokevirtual 159, 3) := dk_182 0 159 (dk_at dksX5_judge_4 15 rfl rfl)
theorem dX5_judge_112 : decode cX5_judge 112 = .ok (.istore 7, 2) := dk_54 7 (dk_at dksX5_judge_4 18 rfl rfl)
theorem dX5_judge_114 : decode cX5_judge 114 = .ok (.aload_n 0, 1) := dk_42 (dk_at dksX5_judge_4 20 rfl rfl)
theorem dX5_judge_115 : decode cX5_judge 115 = .ok (.iload_n 2, 1) := dk_28 (dk_at dksX5_judge_4 21 rfl rfl)
theorem dX5_judge_116 : decode cX5_judge 116 = .ok (.iconst 2, 1) := dk_5 (dk_at dksX5_judge_4 22 rfl rfl)
theorem dX5_judge_117 : decode cX5_judge 117 = .ok (.iload 6, 2) := dk_21 6 (dk_at dksX5_judge_5 0 rfl rfl)
theorem dX5_judge_119 : decode cX5_judge 119 = .ok (.imul, 1) := dk_104 (dk_at dksX5_judge_5 2 rfl rfl)
theorem dX5_judge_120 : decode cX5_judge 120 = .ok (.iconst 1, 1) := dk_4 (dk_at dksX5_judge_5 3 rfl rfl)
theorem dX5_judge_121 : decode cX5_judge 121 = .ok (.iadd, 1) := dk_96 (dk_at dksX5_judge_5 4 rfl rfl)
theorem dX5_judge_122 : decode cX5_judge 122 = .ok (.invokevirtual 159, 3) := dk_182 0 159 (dk_at dksX5_judge_5 5 rfl rfl)
theorem dX5_judge_125 : decode cX5_judge 125 = .ok (.istore 8, 2) := dk_54 8 (dk_at dksX5_judge_5 8 rfl rfl)
theorem dX5_judge_127 : decode cX5_judge 127 = .ok (.aload_n 0, 1) := dk_42 (dk_at dksX5_judge_5 10 rfl rfl)
theorem dX5_judge_128 : decode cX5_judge 128 = .ok (.iload 7, 2) := dk_21 7 (dk_at dksX5_judge_5 11 rfl rfl)
theorem dX5_judge_130 : decode cX5_judge 130 = .ok (.invokevirtual 178, 3) := dk_182 0 178 (dk_at dksX5_judge_5 13 rfl rfl)
theorem dX5_judge_133 : decode cX5_judge 133 = .ok (.ifCond .eq 19, 3) := dk_153 0 19 (dk_at dksX5_judge_5 16 rfl rfl)
theorem dX5_judge_136 : decode cX5_judge 136 = .ok (.aload_n 0, 1) := dk_42 (dk_at dksX5_judge_5 19 rfl rfl)
theorem dX5_judge_137 : decode cX5_judge 137 = .ok (.iload 7, 2) := dk_21 7 (dk_at dksX5_judge_5 20 rfl rfl)
theorem dX5_judge_139 : decode cX5_judge 139 = .ok (.iload_n 1, 1) := dk_27 (dk_at dksX5_judge_5 22 rfl rfl)
theorem dX5_judge_140 : decode cX5_judge 140 = .ok (.aload_n 0, 1) := dk_42 (dk_at dksX5_judge_5 23 rfl rfl)
theorem dX5_judge_141 : decode cX5_judge 141 = .ok (.iload 8, 2) := dk_21 8 (dk_at dksX5_judge_6 0 rfl rfl)
theorem dX5_judge_143 : decode cX5_judge 143 = .ok (.invokevirtual 239, 3) := dk_182 0 239 (dk_at dksX5_judge_6 2 rfl rfl)
theorem dX5_judge_146 : decode cX5_judge 146 = .ok (.invokevirtual 242, 3) := dk_182 0 242 (dk_at dksX5_judge_6 5 rfl rfl)
theorem dX5_judge_149 : decode cX5_judge 149 = .ok (.ifCond .eq 10, 3) := dk_153 0 10 (dk_at dksX5_judge_6 8 rfl rfl)
theorem dX5_judge_152 : decode cX5_judge 152 = .ok (.iload 6, 2) := dk_21 6 (dk_at dksX5_judge_6 11 rfl rfl)
theorem dX5_judge_154 : decode cX5_judge 154 = .ok (.istore 5, 2) := dk_54 5 (dk_at dksX5_judge_6 13 rfl rfl)
theorem dX5_judge_156 : decode cX5_judge 156 = .ok (.goto 12, 3) := dk_167 0 12 (dk_at dksX5_judge_6 15 rfl rfl)
theorem dX5_judge_159 : decode cX5_judge 159 = .ok (.aload_n 0, 1) := dk_42 (dk_at dksX5_judge_6 18 rfl rfl)
theorem dX5_judge_160 : decode cX5_judge 160 = .ok (.iload 7, 2) := dk_21 7 (dk_at dksX5_judge_6 19 rfl rfl)
theorem dX5_judge_162 : decode cX5_judge 162 = .ok (.iload_n 1, 1) := dk_27 (dk_at dksX5_judge_6 21 rfl rfl)
theorem dX5_judge_163 : decode cX5_judge 163 = .ok (.iload 8, 2) := dk_21 8 (dk_at dksX5_judge_6 22 rfl rfl)
theorem dX5_judge_165 : decode cX5_judge 165 = .ok (.invokevirtual 249, 3) := dk_182 0 249 (dk_at dksX5_judge_7 0 rfl rfl)
theorem dX5_judge_168 : decode cX5_judge 168 = .ok (.iinc 6 1, 3) := dk_132 6 1 (dk_at dksX5_judge_7 3 rfl rfl)
theorem dX5_judge_171 : decode cX5_judge 171 = .ok (.goto (-80), 3) := dk_167 255 176 (dk_at dksX5_judge_7 6 rfl rfl)
theorem dX5_judge_174 : decode cX5_judge 174 = .ok (.aload_n 0, 1) := dk_42 (dk_at dksX5_judge_7 9 rfl rfl)
theorem dX5_judge_175 : decode cX5_judge 175 = .ok (.aload_n 0, 1) := dk_42 (dk_at dksX5_judge_7 10 rfl rfl)
theorem dX5_judge_176 : decode cX5_judge 176 = .ok (.getfield 87, 3) := dk_180 0 87 (dk_at dksX5_judge_7 11 rfl rfl)
theorem dX5_judge_179 : decode cX5_judge 179 = .ok (.iconst 1, 1) := dk_4 (dk_at dksX5_judge_7 14 rfl rfl)
theorem dX5_judge_180 : decode cX5_judge 180 = .ok (.invokevirtual 226, 3) := dk_182 0 226 (dk_at dksX5_judge_7 15 rfl rfl)
theorem dX5_judge_183 : decode cX5_judge 183 = .ok (.iload 5, 2) := dk_21 5 (dk_at dksX5_judge_7 18 rfl rfl)
theorem dX5_judge_185 : decode cX5_judge 185 = .ok (.ireturn, 1) := dk_172 (dk_at dksX5_judge_7 20 rfl rfl)
abbrev cX5_end : ByteArray := prog_22_method_59_code
def yX5_end : MethodName := ⟨RX5, "end", "(II)I"⟩
def dkwX5_end_1 : List UInt8 := [42, 180, 0, 7, 182, 1, 6, 42, 180, 0, 90, 28, 46, 172]
abbrev dktX5_end_1 : List UInt8 := dkwX5_end_1 ++ []
def dkwX5_end_0 : List UInt8 := [42, 27, 182, 0, 140, 153, 0, 11, 42, 28, 182, 1, 3, 154, 0, 9, 42, 2, 182, 0, 136, 172, 42, 27]
abbrev dktX5_end_0 : List UInt8 := dkwX5_end_0 ++ dktX5_end_1
theorem dksX5_end_0 : cX5_end.data.toList.drop 0 = dktX5_end_0 := by decide +kernel
theorem dksX5_end_1 : cX5_end.data.toList.drop 24 = dktX5_end_1 := dk_seg dksX5_end_0 24 rfl rfl
theorem dX5_end_0 : decode cX5_end 0 = .ok (.aload_n 0, 1) := dk_42 (dk_at dksX5_end_0 0 rfl rfl)
theorem dX5_end_1 : decode cX5_end 1 = .ok (.iload_n 1, 1) := dk_27 (dk_at dksX5_end_0 1 rfl rfl)
theorem dX5_end_2 : decode cX5_end 2 = .ok (.invokevirtual 140, 3) := dk_182 0 140 (dk_at dksX5_end_0 2 rfl rfl)
theorem dX5_end_5 : decode cX5_end 5 = .ok (.ifCond .eq 11, 3) := dk_153 0 11 (dk_at dksX5_end_0 5 rfl rfl)
theorem dX5_end_8 : decode cX5_end 8 = .ok (.aload_n 0, 1) := dk_42 (dk_at dksX5_end_0 8 rfl rfl)
theorem dX5_end_9 : decode cX5_end 9 = .ok (.iload_n 2, 1) := dk_28 (dk_at dksX5_end_0 9 rfl rfl)
theorem dX5_end_10 : decode cX5_end 10 = .ok (.invokevirtual 259, 3) := dk_182 1 3 (dk_at dksX5_end_0 10 rfl rfl)
theorem dX5_end_13 : decode cX5_end 13 = .ok (.ifCond .ne 9, 3) := dk_154 0 9 (dk_at dksX5_end_0 13 rfl rfl)
theorem dX5_end_16 : decode cX5_end 16 = .ok (.aload_n 0, 1) := dk_42 (dk_at dksX5_end_0 16 rfl rfl)
theorem dX5_end_17 : decode cX5_end 17 = .ok (.iconst (-1), 1) := dk_2 (dk_at dksX5_end_0 17 rfl rfl)
theorem dX5_end_18 : decode cX5_end 18 = .ok (.invokevirtual 136, 3) := dk_182 0 136 (dk_at dksX5_end_0 18 rfl rfl)
theorem dX5_end_21 : decode cX5_end 21 = .ok (.ireturn, 1) := dk_172 (dk_at dksX5_end_0 21 rfl rfl)
theorem dX5_end_22 : decode cX5_end 22 = .ok (.aload_n 0, 1) := dk_42 (dk_at dksX5_end_0 22 rfl rfl)
theorem dX5_end_23 : decode cX5_end 23 = .ok (.iload_n 1, 1) := dk_27 (dk_at dksX5_end_0 23 rfl rfl)
theorem dX5_end_24 : decode cX5_end 24 = .ok (.aload_n 0, 1) := dk_42 (dk_at dksX5_end_1 0 rfl rfl)
theorem dX5_end_25 : decode cX5_end 25 = .ok (.getfield 7, 3) := dk_180 0 7 (dk_at dksX5_end_1 1 rfl rfl)
theorem dX5_end_28 : decode cX5_end 28 = .ok (.invokevirtual 262, 3) := dk_182 1 6 (dk_at dksX5_end_1 4 rfl rfl)
theorem dX5_end_31 : decode cX5_end 31 = .ok (.aload_n 0, 1) := dk_42 (dk_at dksX5_end_1 7 rfl rfl)
theorem dX5_end_32 : decode cX5_end 32 = .ok (.getfield 90, 3) := dk_180 0 90 (dk_at dksX5_end_1 8 rfl rfl)
theorem dX5_end_35 : decode cX5_end 35 = .ok (.iload_n 2, 1) := dk_28 (dk_at dksX5_end_1 11 rfl rfl)
theorem dX5_end_36 : decode cX5_end 36 = .ok (.iaload, 1) := dk_46 (dk_at dksX5_end_1 12 rfl rfl)
theorem dX5_end_37 : decode cX5_end 37 = .ok (.ireturn, 1) := dk_172 (dk_at dksX5_end_1 13 rfl rfl)
abbrev cX5_isSet : ByteArray := prog_22_method_7_code
def yX5_isSet : MethodName := ⟨RX5, "isSet", "(I)Z"⟩
def dkwX5_isSet_0 : List UInt8 := [27, 155, 0, 17, 27, 4, 42, 180, 0, 120, 120, 162, 0, 7, 4, 167, 0, 4, 3, 172]
abbrev dktX5_isSet_0 : List UInt8 := dkwX5_isSet_0 ++ []
theorem dksX5_isSet_0 : cX5_isSet.data.toList.drop 0 = dktX5_isSet_0 := by decide +kernel
theorem dX5_isSet_0 : decode cX5_isSet 0 = .ok (.iload_n 1, 1) := dk_27 (dk_at dksX5_isSet_0 0 rfl rfl)
theorem dX5_isSet_1 : decode cX5_isSet 1 = .ok (.ifCond .lt 17, 3) := dk_155 0 17 (dk_at dksX5_isSet_0 1 rfl rfl)
theorem dX5_isSet_4 : decode cX5_isSet 4 = .ok (.iload_n 1, 1) := dk_27 (dk_at dksX5_isSet_0 4 rfl rfl)
theorem dX5_isSet_5 : decode cX5_isSet 5 = .ok (.iconst 1, 1) := dk_4 (dk_at dksX5_isSet_0 5 rfl rfl)
theorem dX5_isSet_6 : decode cX5_isSet 6 = .ok (.aload_n 0, 1) := dk_42 (dk_at dksX5_isSet_0 6 rfl rfl)
theorem dX5_isSet_7 : decode cX5_isSet 7 = .ok (.getfield 120, 3) := dk_180 0 120 (dk_at dksX5_isSet_0 7 rfl rfl)
theorem dX5_isSet_10 : decode cX5_isSet 10 = .ok (.ishl, 1) := dk_120 (dk_at dksX5_isSet_0 10 rfl rfl)
theorem dX5_isSet_11 : decode cX5_isSet 11 = .ok (.if_icmp .ge 7, 3) := dk_162 0 7 (dk_at dksX5_isSet_0 11 rfl rfl)
theorem dX5_isSet_14 : decode cX5_isSet 14 = .ok (.iconst 1, 1) := dk_4 (dk_at dksX5_isSet_0 14 rfl rfl)
theorem dX5_isSet_15 : decode cX5_isSet 15 = .ok (.goto 4, 3) := dk_167 0 4 (dk_at dksX5_isSet_0 15 rfl rfl)
theorem dX5_isSet_18 : decode cX5_isSet 18 = .ok (.iconst 0, 1) := dk_3 (dk_at dksX5_isSet_0 18 rfl rfl)
theorem dX5_isSet_19 : decode cX5_isSet 19 = .ok (.ireturn, 1) := dk_172 (dk_at dksX5_isSet_0 19 rfl rfl)
abbrev cX5_rowsFor : ByteArray := prog_22_method_58_code
def yX5_rowsFor : MethodName := ⟨RX5, "rowsFor", "(II)V"⟩
def dkwX5_rowsFor_1 : List UInt8 := [132, 3, 1, 167, 255, 233, 42, 27, 42, 180, 0, 32, 27, 46, 28, 182, 1, 0, 177]
abbrev dktX5_rowsFor_1 : List UInt8 := dkwX5_rowsFor_1 ++ []
def dkwX5_rowsFor_0 : List UInt8 := [3, 62, 29, 42, 180, 0, 120, 162, 0, 21, 42, 180, 0, 93, 29, 42, 29, 27, 182, 0, 236, 79]
abbrev dktX5_rowsFor_0 : List UInt8 := dkwX5_rowsFor_0 ++ dktX5_rowsFor_1
theorem dksX5_rowsFor_0 : cX5_rowsFor.data.toList.drop 0 = dktX5_rowsFor_0 := by decide +kernel
theorem dksX5_rowsFor_1 : cX5_rowsFor.data.toList.drop 22 = dktX5_rowsFor_1 := dk_seg dksX5_rowsFor_0 22 rfl rfl
theorem dX5_rowsFor_0 : decode cX5_rowsFor 0 = .ok (.iconst 0, 1) := dk_3 (dk_at dksX5_rowsFor_0 0 rfl rfl)
theorem dX5_rowsFor_1 : decode cX5_rowsFor 1 = .ok (.istore_n 3, 1) := dk_62 (dk_at dksX5_rowsFor_0 1 rfl rfl)
theorem dX5_rowsFor_2 : decode cX5_rowsFor 2 = .ok (.iload_n 3, 1) := dk_29 (dk_at dksX5_rowsFor_0 2 rfl rfl)
theorem dX5_rowsFor_3 : decode cX5_rowsFor 3 = .ok (.aload_n 0, 1) := dk_42 (dk_at dksX5_rowsFor_0 3 rfl rfl)
theorem dX5_rowsFor_4 : decode cX5_rowsFor 4 = .ok (.getfield 120, 3) := dk_180 0 120 (dk_at dksX5_rowsFor_0 4 rfl rfl)
theorem dX5_rowsFor_7 : decode cX5_rowsFor 7 = .ok (.if_icmp .ge 21, 3) := dk_162 0 21 (dk_at dksX5_rowsFor_0 7 rfl rfl)
theorem dX5_rowsFor_10 : decode cX5_rowsFor 10 = .ok (.aload_n 0, 1) := dk_42 (dk_at dksX5_rowsFor_0 10 rfl rfl)
theorem dX5_rowsFor_11 : decode cX5_rowsFor 11 = .ok (.getfield 93, 3) := dk_180 0 93 (dk_at dksX5_rowsFor_0 11 rfl rfl)
theorem dX5_rowsFor_14 : decode cX5_rowsFor 14 = .ok (.iload_n 3, 1) := dk_29 (dk_at dksX5_rowsFor_0 14 rfl rfl)
theorem dX5_rowsFor_15 : decode cX5_rowsFor 15 = .ok (.aload_n 0, 1) := dk_42 (dk_at dksX5_rowsFor_0 15 rfl rfl)
theorem dX5_rowsFor_16 : decode cX5_rowsFor 16 = .ok (.iload_n 3, 1) := dk_29 (dk_at dksX5_rowsFor_0 16 rfl rfl)
theorem dX5_rowsFor_17 : decode cX5_rowsFor 17 = .ok (.iload_n 1, 1) := dk_27 (dk_at dksX5_rowsFor_0 17 rfl rfl)
theorem dX5_rowsFor_18 : decode cX5_rowsFor 18 = .ok (.invokevirtual 236, 3) := dk_182 0 236 (dk_at dksX5_rowsFor_0 18 rfl rfl)
theorem dX5_rowsFor_21 : decode cX5_rowsFor 21 = .ok (.iastore, 1) := dk_79 (dk_at dksX5_rowsFor_0 21 rfl rfl)
theorem dX5_rowsFor_22 : decode cX5_rowsFor 22 = .ok (.iinc 3 1, 3) := dk_132 3 1 (dk_at dksX5_rowsFor_1 0 rfl rfl)
theorem dX5_rowsFor_25 : decode cX5_rowsFor 25 = .ok (.goto (-23), 3) := dk_167 255 233 (dk_at dksX5_rowsFor_1 3 rfl rfl)
theorem dX5_rowsFor_28 : decode cX5_rowsFor 28 = .ok (.aload_n 0, 1) := dk_42 (dk_at dksX5_rowsFor_1 6 rfl rfl)
theorem dX5_rowsFor_29 : decode cX5_rowsFor 29 = .ok (.iload_n 1, 1) := dk_27 (dk_at dksX5_rowsFor_1 7 rfl rfl)
theorem dX5_rowsFor_30 : decode cX5_rowsFor 30 = .ok (.aload_n 0, 1) := dk_42 (dk_at dksX5_rowsFor_1 8 rfl rfl)
theorem dX5_rowsFor_31 : decode cX5_rowsFor 31 = .ok (.getfield 32, 3) := dk_180 0 32 (dk_at dksX5_rowsFor_1 9 rfl rfl)
theorem dX5_rowsFor_34 : decode cX5_rowsFor 34 = .ok (.iload_n 1, 1) := dk_27 (dk_at dksX5_rowsFor_1 12 rfl rfl)
theorem dX5_rowsFor_35 : decode cX5_rowsFor 35 = .ok (.iaload, 1) := dk_46 (dk_at dksX5_rowsFor_1 13 rfl rfl)
theorem dX5_rowsFor_36 : decode cX5_rowsFor 36 = .ok (.iload_n 2, 1) := dk_28 (dk_at dksX5_rowsFor_1 14 rfl rfl)
theorem dX5_rowsFor_37 : decode cX5_rowsFor 37 = .ok (.invokevirtual 256, 3) := dk_182 1 0 (dk_at dksX5_rowsFor_1 15 rfl rfl)
theorem dX5_rowsFor_40 : decode cX5_rowsFor 40 = .ok (.return_, 1) := dk_177 (dk_at dksX5_rowsFor_1 18 rfl rfl)
abbrev cX5_rows : ByteArray := prog_22_method_57_code
def yX5_rows : MethodName := ⟨RX5, "rows", "(III)V"⟩
def dkwX5_rows_4 : List UInt8 := [132, 6, 1, 167, 255, 187, 42, 180, 0, 90, 21, 4, 21, 5, 79, 132, 4, 1, 167, 255, 155, 177]
abbrev dktX5_rows_4 : List UInt8 := dkwX5_rows_4 ++ []
def dkwX5_rows_3 : List UInt8 := [46, 29, 182, 0, 253, 54, 7, 21, 7, 21, 5, 164, 0, 8, 21, 7, 167, 0, 5, 21, 5, 54, 5]
abbrev dktX5_rows_3 : List UInt8 := dkwX5_rows_3 ++ dktX5_rows_4
def dkwX5_rows_2 : List UInt8 := [167, 0, 47, 42, 42, 180, 0, 90, 21, 4, 4, 21, 6, 120, 2, 130, 126, 46, 42, 180, 0, 93, 21, 6]
abbrev dktX5_rows_2 : List UInt8 := dkwX5_rows_2 ++ dktX5_rows_3
def dkwX5_rows_1 : List UInt8 := [3, 54, 6, 21, 6, 42, 180, 0, 120, 162, 0, 66, 21, 4, 21, 6, 122, 4, 126, 154, 0, 6]
abbrev dktX5_rows_1 : List UInt8 := dkwX5_rows_1 ++ dktX5_rows_2
def dkwX5_rows_0 : List UInt8 := [42, 180, 0, 90, 3, 28, 79, 4, 54, 4, 21, 4, 4, 42, 180, 0, 120, 120, 162, 0, 96, 28, 54, 5]
abbrev dktX5_rows_0 : List UInt8 := dkwX5_rows_0 ++ dktX5_rows_1
theorem dksX5_rows_0 : cX5_rows.data.toList.drop 0 = dktX5_rows_0 := by decide +kernel
theorem dksX5_rows_1 : cX5_rows.data.toList.drop 24 = dktX5_rows_1 := dk_seg dksX5_rows_0 24 rfl rfl
theorem dksX5_rows_2 : cX5_rows.data.toList.drop 46 = dktX5_rows_2 := dk_seg dksX5_rows_1 22 rfl rfl
theorem dksX5_rows_3 : cX5_rows.data.toList.drop 70 = dktX5_rows_3 := dk_seg dksX5_rows_2 24 rfl rfl
theorem dksX5_rows_4 : cX5_rows.data.toList.drop 93 = dktX5_rows_4 := dk_seg dksX5_rows_3 23 rfl rfl
theorem dX5_rows_0 : decode cX5_rows 0 = .ok (.aload_n 0, 1) := dk_42 (dk_at dksX5_rows_0 0 rfl rfl)
theorem dX5_rows_1 : decode cX5_rows 1 = .ok (.getfield 90, 3) := dk_180 0 90 (dk_at dksX5_rows_0 1 rfl rfl)
theorem dX5_rows_4 : decode cX5_rows 4 = .ok (.iconst 0, 1) := dk_3 (dk_at dksX5_rows_0 4 rfl rfl)
theorem dX5_rows_5 : decode cX5_rows 5 = .ok (.iload_n 2, 1) := dk_28 (dk_at dksX5_rows_0 5 rfl rfl)
theorem dX5_rows_6 : decode cX5_rows 6 = .ok (.iastore, 1) := dk_79 (dk_at dksX5_rows_0 6 rfl rfl)
theorem dX5_rows_7 : decode cX5_rows 7 = .ok (.iconst 1, 1) := dk_4 (dk_at dksX5_rows_0 7 rfl rfl)
theorem dX5_rows_8 : decode cX5_rows 8 = .ok (.istore 4, 2) := dk_54 4 (dk_at dksX5_rows_0 8 rfl rfl)
theorem dX5_rows_10 : decode cX5_rows 10 = .ok (.iload 4, 2) := dk_21 4 (dk_at dksX5_rows_0 10 rfl rfl)
theorem dX5_rows_12 : decode cX5_rows 12 = .ok (.iconst 1, 1) := dk_4 (dk_at dksX5_rows_0 12 rfl rfl)
theorem dX5_rows_13 : decode cX5_rows 13 = .ok (.aload_n 0, 1) := dk_42 (dk_at dksX5_rows_0 13 rfl rfl)
theorem dX5_rows_14 : decode cX5_rows 14 = .ok (.getfield 120, 3) := dk_180 0 120 (dk_at dksX5_rows_0 14 rfl rfl)
theorem dX5_rows_17 : decode cX5_rows 17 = .ok (.ishl, 1) := dk_120 (dk_at dksX5_rows_0 17 rfl rfl)
theorem dX5_rows_18 : decode cX5_rows 18 = .ok (.if_icmp .ge 96, 3) := dk_162 0 96 (dk_at dksX5_rows_0 18 rfl rfl)
theorem dX5_rows_21 : decode cX5_rows 21 = .ok (.iload_n 2, 1) := dk_28 (dk_at dksX5_rows_0 21 rfl rfl)
theorem dX5_rows_22 : decode cX5_rows 22 = .ok (.istore 5, 2) := dk_54 5 (dk_at dksX5_rows_0 22 rfl rfl)
theorem dX5_rows_24 : decode cX5_rows 24 = .ok (.iconst 0, 1) := dk_3 (dk_at dksX5_rows_1 0 rfl rfl)
theorem dX5_rows_25 : decode cX5_rows 25 = .ok (.istore 6, 2) := dk_54 6 (dk_at dksX5_rows_1 1 rfl rfl)
theorem dX5_rows_27 : decode cX5_rows 27 = .ok (.iload 6, 2) := dk_21 6 (dk_at dksX5_rows_1 3 rfl rfl)
theorem dX5_rows_29 : decode cX5_rows 29 = .ok (.aload_n 0, 1) := dk_42 (dk_at dksX5_rows_1 5 rfl rfl)
theorem dX5_rows_30 : decode cX5_rows 30 = .ok (.getfield 120, 3) := dk_180 0 120 (dk_at dksX5_rows_1 6 rfl rfl)
theorem dX5_rows_33 : decode cX5_rows 33 = .ok (.if_icmp .ge 66, 3) := dk_162 0 66 (dk_at dksX5_rows_1 9 rfl rfl)
theorem dX5_rows_36 : decode cX5_rows 36 = .ok (.iload 4, 2) := dk_21 4 (dk_at dksX5_rows_1 12 rfl rfl)
theorem dX5_rows_38 : decode cX5_rows 38 = .ok (.iload 6, 2) := dk_21 6 (dk_at dksX5_rows_1 14 rfl rfl)
theorem dX5_rows_40 : decode cX5_rows 40 = .ok (.ishr, 1) := dk_122 (dk_at dksX5_rows_1 16 rfl rfl)
theorem dX5_rows_41 : decode cX5_rows 41 = .ok (.iconst 1, 1) := dk_4 (dk_at dksX5_rows_1 17 rfl rfl)
theorem dX5_rows_42 : decode cX5_rows 42 = .ok (.iand, 1) := dk_126 (dk_at dksX5_rows_1 18 rfl rfl)
theorem dX5_rows_43 : decode cX5_rows 43 = .ok (.ifCond .ne 6, 3) := dk_154 0 6 (dk_at dksX5_rows_1 19 rfl rfl)
theorem dX5_rows_46 : decode cX5_rows 46 = .ok (.goto 47, 3) := dk_167 0 47 (dk_at dksX5_rows_2 0 rfl rfl)
theorem dX5_rows_49 : decode cX5_rows 49 = .ok (.aload_n 0, 1) := dk_42 (dk_at dksX5_rows_2 3 rfl rfl)
theorem dX5_rows_50 : decode cX5_rows 50 = .ok (.aload_n 0, 1) := dk_42 (dk_at dksX5_rows_2 4 rfl rfl)
theorem dX5_rows_51 : decode cX5_rows 51 = .ok (.getfield 90, 3) := dk_180 0 90 (dk_at dksX5_rows_2 5 rfl rfl)
theorem dX5_rows_54 : decode cX5_rows 54 = .ok (.iload 4, 2) := dk_21 4 (dk_at dksX5_rows_2 8 rfl rfl)
theorem dX5_rows_56 : decode cX5_rows 56 = .ok (.iconst 1, 1) := dk_4 (dk_at dksX5_rows_2 10 rfl rfl)
theorem dX5_rows_57 : decode cX5_rows 57 = .ok (.iload 6, 2) := dk_21 6 (dk_at dksX5_rows_2 11 rfl rfl)
theorem dX5_rows_59 : decode cX5_rows 59 = .ok (.ishl, 1) := dk_120 (dk_at dksX5_rows_2 13 rfl rfl)
theorem dX5_rows_60 : decode cX5_rows 60 = .ok (.iconst (-1), 1) := dk_2 (dk_at dksX5_rows_2 14 rfl rfl)
theorem dX5_rows_61 : decode cX5_rows 61 = .ok (.ixor, 1) := dk_130 (dk_at dksX5_rows_2 15 rfl rfl)
theorem dX5_rows_62 : decode cX5_rows 62 = .ok (.iand, 1) := dk_126 (dk_at dksX5_rows_2 16 rfl rfl)
theorem dX5_rows_63 : decode cX5_rows 63 = .ok (.iaload, 1) := dk_46 (dk_at dksX5_rows_2 17 rfl rfl)
theorem dX5_rows_64 : decode cX5_rows 64 = .ok (.aload_n 0, 1) := dk_42 (dk_at dksX5_rows_2 18 rfl rfl)
theorem dX5_rows_65 : decode cX5_rows 65 = .ok (.getfield 93, 3) := dk_180 0 93 (dk_at dksX5_rows_2 19 rfl rfl)
theorem dX5_rows_68 : decode cX5_rows 68 = .ok (.iload 6, 2) := dk_21 6 (dk_at dksX5_rows_2 22 rfl rfl)
theorem dX5_rows_70 : decode cX5_rows 70 = .ok (.iaload, 1) := dk_46 (dk_at dksX5_rows_3 0 rfl rfl)
theorem dX5_rows_71 : decode cX5_rows 71 = .ok (.iload_n 3, 1) := dk_29 (dk_at dksX5_rows_3 1 rfl rfl)
theorem dX5_rows_72 : decode cX5_rows 72 = .ok (.invokevirtual 253, 3) := dk_182 0 253 (dk_at dksX5_rows_3 2 rfl rfl)
theorem dX5_rows_75 : decode cX5_rows 75 = .ok (.istore 7, 2) := dk_54 7 (dk_at dksX5_rows_3 5 rfl rfl)
theorem dX5_rows_77 : decode cX5_rows 77 = .ok (.iload 7, 2) := dk_21 7 (dk_at dksX5_rows_3 7 rfl rfl)
theorem dX5_rows_79 : decode cX5_rows 79 = .ok (.iload 5, 2) := dk_21 5 (dk_at dksX5_rows_3 9 rfl rfl)
theorem dX5_rows_81 : decode cX5_rows 81 = .ok (.if_icmp .le 8, 3) := dk_164 0 8 (dk_at dksX5_rows_3 11 rfl rfl)
theorem dX5_rows_84 : decode cX5_rows 84 = .ok (.iload 7, 2) := dk_21 7 (dk_at dksX5_rows_3 14 rfl rfl)
theorem dX5_rows_86 : decode cX5_rows 86 = .ok (.goto 5, 3) := dk_167 0 5 (dk_at dksX5_rows_3 16 rfl rfl)
theorem dX5_rows_89 : decode cX5_rows 89 = .ok (.iload 5, 2) := dk_21 5 (dk_at dksX5_rows_3 19 rfl rfl)
theorem dX5_rows_91 : decode cX5_rows 91 = .ok (.istore 5, 2) := dk_54 5 (dk_at dksX5_rows_3 21 rfl rfl)
theorem dX5_rows_93 : decode cX5_rows 93 = .ok (.iinc 6 1, 3) := dk_132 6 1 (dk_at dksX5_rows_4 0 rfl rfl)
theorem dX5_rows_96 : decode cX5_rows 96 = .ok (.goto (-69), 3) := dk_167 255 187 (dk_at dksX5_rows_4 3 rfl rfl)
theorem dX5_rows_99 : decode cX5_rows 99 = .ok (.aload_n 0, 1) := dk_42 (dk_at dksX5_rows_4 6 rfl rfl)
theorem dX5_rows_100 : decode cX5_rows 100 = .ok (.getfield 90, 3) := dk_180 0 90 (dk_at dksX5_rows_4 7 rfl rfl)
theorem dX5_rows_103 : decode cX5_rows 103 = .ok (.iload 4, 2) := dk_21 4 (dk_at dksX5_rows_4 10 rfl rfl)
theorem dX5_rows_105 : decode cX5_rows 105 = .ok (.iload 5, 2) := dk_21 5 (dk_at dksX5_rows_4 12 rfl rfl)
theorem dX5_rows_107 : decode cX5_rows 107 = .ok (.iastore, 1) := dk_79 (dk_at dksX5_rows_4 14 rfl rfl)
theorem dX5_rows_108 : decode cX5_rows 108 = .ok (.iinc 4 1, 3) := dk_132 4 1 (dk_at dksX5_rows_4 15 rfl rfl)
theorem dX5_rows_111 : decode cX5_rows 111 = .ok (.goto (-101), 3) := dk_167 255 155 (dk_at dksX5_rows_4 18 rfl rfl)
theorem dX5_rows_114 : decode cX5_rows 114 = .ok (.return_, 1) := dk_177 (dk_at dksX5_rows_4 21 rfl rfl)
abbrev cX5_goes : ByteArray := prog_22_method_56_code
def yX5_goes : MethodName := ⟨RX5, "goes", "(III)I"⟩
def dkwX5_goes_1 : List UInt8 := [167, 0, 5, 21, 4, 172]
abbrev dktX5_goes_1 : List UInt8 := dkwX5_goes_1 ++ []
def dkwX5_goes_0 : List UInt8 := [42, 27, 28, 96, 29, 182, 0, 233, 54, 4, 42, 21, 4, 182, 0, 129, 153, 0, 10, 42, 180, 0, 123]
abbrev dktX5_goes_0 : List UInt8 := dkwX5_goes_0 ++ dktX5_goes_1
theorem dksX5_goes_0 : cX5_goes.data.toList.drop 0 = dktX5_goes_0 := by decide +kernel
theorem dksX5_goes_1 : cX5_goes.data.toList.drop 23 = dktX5_goes_1 := dk_seg dksX5_goes_0 23 rfl rfl
theorem dX5_goes_0 : decode cX5_goes 0 = .ok (.aload_n 0, 1) := dk_42 (dk_at dksX5_goes_0 0 rfl rfl)
theorem dX5_goes_1 : decode cX5_goes 1 = .ok (.iload_n 1, 1) := dk_27 (dk_at dksX5_goes_0 1 rfl rfl)
theorem dX5_goes_2 : decode cX5_goes 2 = .ok (.iload_n 2, 1) := dk_28 (dk_at dksX5_goes_0 2 rfl rfl)
theorem dX5_goes_3 : decode cX5_goes 3 = .ok (.iadd, 1) := dk_96 (dk_at dksX5_goes_0 3 rfl rfl)
theorem dX5_goes_4 : decode cX5_goes 4 = .ok (.iload_n 3, 1) := dk_29 (dk_at dksX5_goes_0 4 rfl rfl)
theorem dX5_goes_5 : decode cX5_goes 5 = .ok (.invokevirtual 233, 3) := dk_182 0 233 (dk_at dksX5_goes_0 5 rfl rfl)
theorem dX5_goes_8 : decode cX5_goes 8 = .ok (.istore 4, 2) := dk_54 4 (dk_at dksX5_goes_0 8 rfl rfl)
theorem dX5_goes_10 : decode cX5_goes 10 = .ok (.aload_n 0, 1) := dk_42 (dk_at dksX5_goes_0 10 rfl rfl)
theorem dX5_goes_11 : decode cX5_goes 11 = .ok (.iload 4, 2) := dk_21 4 (dk_at dksX5_goes_0 11 rfl rfl)
theorem dX5_goes_13 : decode cX5_goes 13 = .ok (.invokevirtual 129, 3) := dk_182 0 129 (dk_at dksX5_goes_0 13 rfl rfl)
theorem dX5_goes_16 : decode cX5_goes 16 = .ok (.ifCond .eq 10, 3) := dk_153 0 10 (dk_at dksX5_goes_0 16 rfl rfl)
theorem dX5_goes_19 : decode cX5_goes 19 = .ok (.aload_n 0, 1) := dk_42 (dk_at dksX5_goes_0 19 rfl rfl)
theorem dX5_goes_20 : decode cX5_goes 20 = .ok (.getfield 123, 3) := dk_180 0 123 (dk_at dksX5_goes_0 20 rfl rfl)
theorem dX5_goes_23 : decode cX5_goes 23 = .ok (.goto 5, 3) := dk_167 0 5 (dk_at dksX5_goes_1 0 rfl rfl)
theorem dX5_goes_26 : decode cX5_goes 26 = .ok (.iload 4, 2) := dk_21 4 (dk_at dksX5_goes_1 3 rfl rfl)
theorem dX5_goes_28 : decode cX5_goes 28 = .ok (.ireturn, 1) := dk_172 (dk_at dksX5_goes_1 5 rfl rfl)
abbrev cX5_does : ByteArray := prog_22_method_61_code
def yX5_does : MethodName := ⟨RX5, "does", "(III)I"⟩
def dkwX5_does_2 : List UInt8 := [28, 46, 29, 160, 0, 7, 4, 167, 0, 4, 3, 172]
abbrev dktX5_does_2 : List UInt8 := dkwX5_does_2 ++ []
def dkwX5_does_1 : List UInt8 := [29, 182, 1, 9, 154, 0, 10, 42, 16, 250, 182, 0, 136, 172, 42, 27, 29, 182, 1, 6, 42, 180, 0, 90]
abbrev dktX5_does_1 : List UInt8 := dkwX5_does_1 ++ dktX5_does_2
def dkwX5_does_0 : List UInt8 := [42, 27, 182, 0, 140, 153, 0, 11, 42, 28, 182, 1, 3, 154, 0, 9, 42, 2, 182, 0, 136, 172, 42, 27]
abbrev dktX5_does_0 : List UInt8 := dkwX5_does_0 ++ dktX5_does_1
theorem dksX5_does_0 : cX5_does.data.toList.drop 0 = dktX5_does_0 := by decide +kernel
theorem dksX5_does_1 : cX5_does.data.toList.drop 24 = dktX5_does_1 := dk_seg dksX5_does_0 24 rfl rfl
theorem dksX5_does_2 : cX5_does.data.toList.drop 48 = dktX5_does_2 := dk_seg dksX5_does_1 24 rfl rfl
theorem dX5_does_0 : decode cX5_does 0 = .ok (.aload_n 0, 1) := dk_42 (dk_at dksX5_does_0 0 rfl rfl)
theorem dX5_does_1 : decode cX5_does 1 = .ok (.iload_n 1, 1) := dk_27 (dk_at dksX5_does_0 1 rfl rfl)
theorem dX5_does_2 : decode cX5_does 2 = .ok (.invokevirtual 140, 3) := dk_182 0 140 (dk_at dksX5_does_0 2 rfl rfl)
theorem dX5_does_5 : decode cX5_does 5 = .ok (.ifCond .eq 11, 3) := dk_153 0 11 (dk_at dksX5_does_0 5 rfl rfl)
theorem dX5_does_8 : decode cX5_does 8 = .ok (.aload_n 0, 1) := dk_42 (dk_at dksX5_does_0 8 rfl rfl)
theorem dX5_does_9 : decode cX5_does 9 = .ok (.iload_n 2, 1) := dk_28 (dk_at dksX5_does_0 9 rfl rfl)
theorem dX5_does_10 : decode cX5_does 10 = .ok (.invokevirtual 259, 3) := dk_182 1 3 (dk_at dksX5_does_0 10 rfl rfl)
theorem dX5_does_13 : decode cX5_does 13 = .ok (.ifCond .ne 9, 3) := dk_154 0 9 (dk_at dksX5_does_0 13 rfl rfl)
theorem dX5_does_16 : decode cX5_does 16 = .ok (.aload_n 0, 1) := dk_42 (dk_at dksX5_does_0 16 rfl rfl)
theorem dX5_does_17 : decode cX5_does 17 = .ok (.iconst (-1), 1) := dk_2 (dk_at dksX5_does_0 17 rfl rfl)
theorem dX5_does_18 : decode cX5_does 18 = .ok (.invokevirtual 136, 3) := dk_182 0 136 (dk_at dksX5_does_0 18 rfl rfl)
theorem dX5_does_21 : decode cX5_does 21 = .ok (.ireturn, 1) := dk_172 (dk_at dksX5_does_0 21 rfl rfl)
theorem dX5_does_22 : decode cX5_does 22 = .ok (.aload_n 0, 1) := dk_42 (dk_at dksX5_does_0 22 rfl rfl)
theorem dX5_does_23 : decode cX5_does 23 = .ok (.iload_n 1, 1) := dk_27 (dk_at dksX5_does_0 23 rfl rfl)
theorem dX5_does_24 : decode cX5_does 24 = .ok (.iload_n 3, 1) := dk_29 (dk_at dksX5_does_1 0 rfl rfl)
theorem dX5_does_25 : decode cX5_does 25 = .ok (.invokevirtual 265, 3) := dk_182 1 9 (dk_at dksX5_does_1 1 rfl rfl)
theorem dX5_does_28 : decode cX5_does 28 = .ok (.ifCond .ne 10, 3) := dk_154 0 10 (dk_at dksX5_does_1 4 rfl rfl)
theorem dX5_does_31 : decode cX5_does 31 = .ok (.aload_n 0, 1) := dk_42 (dk_at dksX5_does_1 7 rfl rfl)
theorem dX5_does_32 : decode cX5_does 32 = .ok (.bipush (-6), 2) := dk_16 250 (dk_at dksX5_does_1 8 rfl rfl)
theorem dX5_does_34 : decode cX5_does 34 = .ok (.invokevirtual 136, 3) := dk_182 0 136 (dk_at dksX5_does_1 10 rfl rfl)
theorem dX5_does_37 : decode cX5_does 37 = .ok (.ireturn, 1) := dk_172 (dk_at dksX5_does_1 13 rfl rfl)
theorem dX5_does_38 : decode cX5_does 38 = .ok (.aload_n 0, 1) := dk_42 (dk_at dksX5_does_1 14 rfl rfl)
theorem dX5_does_39 : decode cX5_does 39 = .ok (.iload_n 1, 1) := dk_27 (dk_at dksX5_does_1 15 rfl rfl)
theorem dX5_does_40 : decode cX5_does 40 = .ok (.iload_n 3, 1) := dk_29 (dk_at dksX5_does_1 16 rfl rfl)
theorem dX5_does_41 : decode cX5_does 41 = .ok (.invokevirtual 262, 3) := dk_182 1 6 (dk_at dksX5_does_1 17 rfl rfl)
theorem dX5_does_44 : decode cX5_does 44 = .ok (.aload_n 0, 1) := dk_42 (dk_at dksX5_does_1 20 rfl rfl)
theorem dX5_does_45 : decode cX5_does 45 = .ok (.getfield 90, 3) := dk_180 0 90 (dk_at dksX5_does_1 21 rfl rfl)
theorem dX5_does_48 : decode cX5_does 48 = .ok (.iload_n 2, 1) := dk_28 (dk_at dksX5_does_2 0 rfl rfl)
theorem dX5_does_49 : decode cX5_does 49 = .ok (.iaload, 1) := dk_46 (dk_at dksX5_does_2 1 rfl rfl)
theorem dX5_does_50 : decode cX5_does 50 = .ok (.iload_n 3, 1) := dk_29 (dk_at dksX5_does_2 2 rfl rfl)
theorem dX5_does_51 : decode cX5_does 51 = .ok (.if_icmp .ne 7, 3) := dk_160 0 7 (dk_at dksX5_does_2 3 rfl rfl)
theorem dX5_does_54 : decode cX5_does 54 = .ok (.iconst 1, 1) := dk_4 (dk_at dksX5_does_2 6 rfl rfl)
theorem dX5_does_55 : decode cX5_does 55 = .ok (.goto 4, 3) := dk_167 0 4 (dk_at dksX5_does_2 7 rfl rfl)
theorem dX5_does_58 : decode cX5_does 58 = .ok (.iconst 0, 1) := dk_3 (dk_at dksX5_does_2 10 rfl rfl)
theorem dX5_does_59 : decode cX5_does 59 = .ok (.ireturn, 1) := dk_172 (dk_at dksX5_does_2 11 rfl rfl)
abbrev cX5_isOnward : ByteArray := prog_22_method_60_code
def yX5_isOnward : MethodName := ⟨RX5, "isOnward", "(II)Z"⟩
def dkwX5_isOnward_0 : List UInt8 := [42, 28, 182, 0, 147, 153, 0, 17, 28, 42, 180, 0, 32, 27, 46, 164, 0, 7, 4, 167, 0, 4, 3, 172]
abbrev dktX5_isOnward_0 : List UInt8 := dkwX5_isOnward_0 ++ []
theorem dksX5_isOnward_0 : cX5_isOnward.data.toList.drop 0 = dktX5_isOnward_0 := by decide +kernel
theorem dX5_isOnward_0 : decode cX5_isOnward 0 = .ok (.aload_n 0, 1) := dk_42 (dk_at dksX5_isOnward_0 0 rfl rfl)
theorem dX5_isOnward_1 : decode cX5_isOnward 1 = .ok (.iload_n 2, 1) := dk_28 (dk_at dksX5_isOnward_0 1 rfl rfl)
theorem dX5_isOnward_2 : decode cX5_isOnward 2 = .ok (.invokevirtual 147, 3) := dk_182 0 147 (dk_at dksX5_isOnward_0 2 rfl rfl)
theorem dX5_isOnward_5 : decode cX5_isOnward 5 = .ok (.ifCond .eq 17, 3) := dk_153 0 17 (dk_at dksX5_isOnward_0 5 rfl rfl)
theorem dX5_isOnward_8 : decode cX5_isOnward 8 = .ok (.iload_n 2, 1) := dk_28 (dk_at dksX5_isOnward_0 8 rfl rfl)
theorem dX5_isOnward_9 : decode cX5_isOnward 9 = .ok (.aload_n 0, 1) := dk_42 (dk_at dksX5_isOnward_0 9 rfl rfl)
theorem dX5_isOnward_10 : decode cX5_isOnward 10 = .ok (.getfield 32, 3) := dk_180 0 32 (dk_at dksX5_isOnward_0 10 rfl rfl)
theorem dX5_isOnward_13 : decode cX5_isOnward 13 = .ok (.iload_n 1, 1) := dk_27 (dk_at dksX5_isOnward_0 13 rfl rfl)
theorem dX5_isOnward_14 : decode cX5_isOnward 14 = .ok (.iaload, 1) := dk_46 (dk_at dksX5_isOnward_0 14 rfl rfl)
theorem dX5_isOnward_15 : decode cX5_isOnward 15 = .ok (.if_icmp .le 7, 3) := dk_164 0 7 (dk_at dksX5_isOnward_0 15 rfl rfl)
theorem dX5_isOnward_18 : decode cX5_isOnward 18 = .ok (.iconst 1, 1) := dk_4 (dk_at dksX5_isOnward_0 18 rfl rfl)
theorem dX5_isOnward_19 : decode cX5_isOnward 19 = .ok (.goto 4, 3) := dk_167 0 4 (dk_at dksX5_isOnward_0 19 rfl rfl)
theorem dX5_isOnward_22 : decode cX5_isOnward 22 = .ok (.iconst 0, 1) := dk_3 (dk_at dksX5_isOnward_0 22 rfl rfl)
theorem dX5_isOnward_23 : decode cX5_isOnward 23 = .ok (.ireturn, 1) := dk_172 (dk_at dksX5_isOnward_0 23 rfl rfl)
abbrev cX5_fewest : ByteArray := prog_22_method_63_code
def yX5_fewest : MethodName := ⟨RX5, "fewest", "(II)I"⟩
def dkwX5_fewest_4 : List UInt8 := [160, 0, 12, 42, 16, 251, 182, 0, 136, 167, 0, 4, 29, 172]
abbrev dktX5_fewest_4 : List UInt8 := dkwX5_fewest_4 ++ []
def dkwX5_fewest_3 : List UInt8 := [182, 1, 12, 42, 29, 182, 1, 12, 162, 0, 6, 21, 4, 62, 132, 4, 1, 167, 255, 209, 29, 2]
abbrev dktX5_fewest_3 : List UInt8 := dkwX5_fewest_3 ++ dktX5_fewest_4
def dkwX5_fewest_2 : List UInt8 := [120, 162, 0, 42, 42, 180, 0, 90, 21, 4, 46, 28, 160, 0, 25, 29, 2, 159, 0, 17, 42, 21, 4]
abbrev dktX5_fewest_2 : List UInt8 := dkwX5_fewest_2 ++ dktX5_fewest_3
def dkwX5_fewest_1 : List UInt8 := [16, 250, 182, 0, 136, 172, 42, 27, 28, 182, 1, 6, 2, 62, 3, 54, 4, 21, 4, 4, 42, 180, 0, 120]
abbrev dktX5_fewest_1 : List UInt8 := dkwX5_fewest_1 ++ dktX5_fewest_2
def dkwX5_fewest_0 : List UInt8 := [42, 27, 182, 0, 140, 154, 0, 9, 42, 2, 182, 0, 136, 172, 42, 27, 28, 182, 1, 9, 154, 0, 10, 42]
abbrev dktX5_fewest_0 : List UInt8 := dkwX5_fewest_0 ++ dktX5_fewest_1
theorem dksX5_fewest_0 : cX5_fewest.data.toList.drop 0 = dktX5_fewest_0 := by decide +kernel
theorem dksX5_fewest_1 : cX5_fewest.data.toList.drop 24 = dktX5_fewest_1 := dk_seg dksX5_fewest_0 24 rfl rfl
theorem dksX5_fewest_2 : cX5_fewest.data.toList.drop 48 = dktX5_fewest_2 := dk_seg dksX5_fewest_1 24 rfl rfl
theorem dksX5_fewest_3 : cX5_fewest.data.toList.drop 71 = dktX5_fewest_3 := dk_seg dksX5_fewest_2 23 rfl rfl
theorem dksX5_fewest_4 : cX5_fewest.data.toList.drop 93 = dktX5_fewest_4 := dk_seg dksX5_fewest_3 22 rfl rfl
theorem dX5_fewest_0 : decode cX5_fewest 0 = .ok (.aload_n 0, 1) := dk_42 (dk_at dksX5_fewest_0 0 rfl rfl)
theorem dX5_fewest_1 : decode cX5_fewest 1 = .ok (.iload_n 1, 1) := dk_27 (dk_at dksX5_fewest_0 1 rfl rfl)
theorem dX5_fewest_2 : decode cX5_fewest 2 = .ok (.invokevirtual 140, 3) := dk_182 0 140 (dk_at dksX5_fewest_0 2 rfl rfl)
theorem dX5_fewest_5 : decode cX5_fewest 5 = .ok (.ifCond .ne 9, 3) := dk_154 0 9 (dk_at dksX5_fewest_0 5 rfl rfl)
theorem dX5_fewest_8 : decode cX5_fewest 8 = .ok (.aload_n 0, 1) := dk_42 (dk_at dksX5_fewest_0 8 rfl rfl)
theorem dX5_fewest_9 : decode cX5_fewest 9 = .ok (.iconst (-1), 1) := dk_2 (dk_at dksX5_fewest_0 9 rfl rfl)
theorem dX5_fewest_10 : decode cX5_fewest 10 = .ok (.invokevirtual 136, 3) := dk_182 0 136 (dk_at dksX5_fewest_0 10 rfl rfl)
theorem dX5_fewest_13 : decode cX5_fewest 13 = .ok (.ireturn, 1) := dk_172 (dk_at dksX5_fewest_0 13 rfl rfl)
theorem dX5_fewest_14 : decode cX5_fewest 14 = .ok (.aload_n 0, 1) := dk_42 (dk_at dksX5_fewest_0 14 rfl rfl)
theorem dX5_fewest_15 : decode cX5_fewest 15 = .ok (.iload_n 1, 1) := dk_27 (dk_at dksX5_fewest_0 15 rfl rfl)
theorem dX5_fewest_16 : decode cX5_fewest 16 = .ok (.iload_n 2, 1) := dk_28 (dk_at dksX5_fewest_0 16 rfl rfl)
theorem dX5_fewest_17 : decode cX5_fewest 17 = .ok (.invokevirtual 265, 3) := dk_182 1 9 (dk_at dksX5_fewest_0 17 rfl rfl)
theorem dX5_fewest_20 : decode cX5_fewest 20 = .ok (.ifCond .ne 10, 3) := dk_154 0 10 (dk_at dksX5_fewest_0 20 rfl rfl)
theorem dX5_fewest_23 : decode cX5_fewest 23 = .ok (.aload_n 0, 1) := dk_42 (dk_at dksX5_fewest_0 23 rfl rfl)
theorem dX5_fewest_24 : decode cX5_fewest 24 = .ok (.bipush (-6), 2) := dk_16 250 (dk_at dksX5_fewest_1 0 rfl rfl)
theorem dX5_fewest_26 : decode cX5_fewest 26 = .ok (.invokevirtual 136, 3) := dk_182 0 136 (dk_at dksX5_fewest_1 2 rfl rfl)
theorem dX5_fewest_29 : decode cX5_fewest 29 = .ok (.ireturn, 1) := dk_172 (dk_at dksX5_fewest_1 5 rfl rfl)
theorem dX5_fewest_30 : decode cX5_fewest 30 = .ok (.aload_n 0, 1) := dk_42 (dk_at dksX5_fewest_1 6 rfl rfl)
theorem dX5_fewest_31 : decode cX5_fewest 31 = .ok (.iload_n 1, 1) := dk_27 (dk_at dksX5_fewest_1 7 rfl rfl)
theorem dX5_fewest_32 : decode cX5_fewest 32 = .ok (.iload_n 2, 1) := dk_28 (dk_at dksX5_fewest_1 8 rfl rfl)
theorem dX5_fewest_33 : decode cX5_fewest 33 = .ok (.invokevirtual 262, 3) := dk_182 1 6 (dk_at dksX5_fewest_1 9 rfl rfl)
theorem dX5_fewest_36 : decode cX5_fewest 36 = .ok (.iconst (-1), 1) := dk_2 (dk_at dksX5_fewest_1 12 rfl rfl)
theorem dX5_fewest_37 : decode cX5_fewest 37 = .ok (.istore_n 3, 1) := dk_62 (dk_at dksX5_fewest_1 13 rfl rfl)
theorem dX5_fewest_38 : decode cX5_fewest 38 = .ok (.iconst 0, 1) := dk_3 (dk_at dksX5_fewest_1 14 rfl rfl)
theorem dX5_fewest_39 : decode cX5_fewest 39 = .ok (.istore 4, 2) := dk_54 4 (dk_at dksX5_fewest_1 15 rfl rfl)
theorem dX5_fewest_41 : decode cX5_fewest 41 = .ok (.iload 4, 2) := dk_21 4 (dk_at dksX5_fewest_1 17 rfl rfl)
theorem dX5_fewest_43 : decode cX5_fewest 43 = .ok (.iconst 1, 1) := dk_4 (dk_at dksX5_fewest_1 19 rfl rfl)
theorem dX5_fewest_44 : decode cX5_fewest 44 = .ok (.aload_n 0, 1) := dk_42 (dk_at dksX5_fewest_1 20 rfl rfl)
theorem dX5_fewest_45 : decode cX5_fewest 45 = .ok (.getfield 120, 3) := dk_180 0 120 (dk_at dksX5_fewest_1 21 rfl rfl)
theorem dX5_fewest_48 : decode cX5_fewest 48 = .ok (.ishl, 1) := dk_120 (dk_at dksX5_fewest_2 0 rfl rfl)
theorem dX5_fewest_49 : decode cX5_fewest 49 = .ok (.if_icmp .ge 42, 3) := dk_162 0 42 (dk_at dksX5_fewest_2 1 rfl rfl)
theorem dX5_fewest_52 : decode cX5_fewest 52 = .ok (.aload_n 0, 1) := dk_42 (dk_at dksX5_fewest_2 4 rfl rfl)
theorem dX5_fewest_53 : decode cX5_fewest 53 = .ok (.getfield 90, 3) := dk_180 0 90 (dk_at dksX5_fewest_2 5 rfl rfl)
theorem dX5_fewest_56 : decode cX5_fewest 56 = .ok (.iload 4, 2) := dk_21 4 (dk_at dksX5_fewest_2 8 rfl rfl)
theorem dX5_fewest_58 : decode cX5_fewest 58 = .ok (.iaload, 1) := dk_46 (dk_at dksX5_fewest_2 10 rfl rfl)
theorem dX5_fewest_59 : decode cX5_fewest 59 = .ok (.iload_n 2, 1) := dk_28 (dk_at dksX5_fewest_2 11 rfl rfl)
theorem dX5_fewest_60 : decode cX5_fewest 60 = .ok (.if_icmp .ne 25, 3) := dk_160 0 25 (dk_at dksX5_fewest_2 12 rfl rfl)
theorem dX5_fewest_63 : decode cX5_fewest 63 = .ok (.iload_n 3, 1) := dk_29 (dk_at dksX5_fewest_2 15 rfl rfl)
theorem dX5_fewest_64 : decode cX5_fewest 64 = .ok (.iconst (-1), 1) := dk_2 (dk_at dksX5_fewest_2 16 rfl rfl)
theorem dX5_fewest_65 : decode cX5_fewest 65 = .ok (.if_icmp .eq 17, 3) := dk_159 0 17 (dk_at dksX5_fewest_2 17 rfl rfl)
theorem dX5_fewest_68 : decode cX5_fewest 68 = .ok (.aload_n 0, 1) := dk_42 (dk_at dksX5_fewest_2 20 rfl rfl)
theorem dX5_fewest_69 : decode cX5_fewest 69 = .ok (.iload 4, 2) := dk_21 4 (dk_at dksX5_fewest_2 21 rfl rfl)
theorem dX5_fewest_71 : decode cX5_fewest 71 = .ok (.invokevirtual 268, 3) := dk_182 1 12 (dk_at dksX5_fewest_3 0 rfl rfl)
theorem dX5_fewest_74 : decode cX5_fewest 74 = .ok (.aload_n 0, 1) := dk_42 (dk_at dksX5_fewest_3 3 rfl rfl)
theorem dX5_fewest_75 : decode cX5_fewest 75 = .ok (.iload_n 3, 1) := dk_29 (dk_at dksX5_fewest_3 4 rfl rfl)
theorem dX5_fewest_76 : decode cX5_fewest 76 = .ok (.invokevirtual 268, 3) := dk_182 1 12 (dk_at dksX5_fewest_3 5 rfl rfl)
theorem dX5_fewest_79 : decode cX5_fewest 79 = .ok (.if_icmp .ge 6, 3) := dk_162 0 6 (dk_at dksX5_fewest_3 8 rfl rfl)
theorem dX5_fewest_82 : decode cX5_fewest 82 = .ok (.iload 4, 2) := dk_21 4 (dk_at dksX5_fewest_3 11 rfl rfl)
theorem dX5_fewest_84 : decode cX5_fewest 84 = .ok (.istore_n 3, 1) := dk_62 (dk_at dksX5_fewest_3 13 rfl rfl)
theorem dX5_fewest_85 : decode cX5_fewest 85 = .ok (.iinc 4 1, 3) := dk_132 4 1 (dk_at dksX5_fewest_3 14 rfl rfl)
theorem dX5_fewest_88 : decode cX5_fewest 88 = .ok (.goto (-47), 3) := dk_167 255 209 (dk_at dksX5_fewest_3 17 rfl rfl)
theorem dX5_fewest_91 : decode cX5_fewest 91 = .ok (.iload_n 3, 1) := dk_29 (dk_at dksX5_fewest_3 20 rfl rfl)
theorem dX5_fewest_92 : decode cX5_fewest 92 = .ok (.iconst (-1), 1) := dk_2 (dk_at dksX5_fewest_3 21 rfl rfl)
theorem dX5_fewest_93 : decode cX5_fewest 93 = .ok (.if_icmp .ne 12, 3) := dk_160 0 12 (dk_at dksX5_fewest_4 0 rfl rfl)
theorem dX5_fewest_96 : decode cX5_fewest 96 = .ok (.aload_n 0, 1) := dk_42 (dk_at dksX5_fewest_4 3 rfl rfl)
theorem dX5_fewest_97 : decode cX5_fewest 97 = .ok (.bipush (-5), 2) := dk_16 251 (dk_at dksX5_fewest_4 4 rfl rfl)
theorem dX5_fewest_99 : decode cX5_fewest 99 = .ok (.invokevirtual 136, 3) := dk_182 0 136 (dk_at dksX5_fewest_4 6 rfl rfl)
theorem dX5_fewest_102 : decode cX5_fewest 102 = .ok (.goto 4, 3) := dk_167 0 4 (dk_at dksX5_fewest_4 9 rfl rfl)
theorem dX5_fewest_105 : decode cX5_fewest 105 = .ok (.iload_n 3, 1) := dk_29 (dk_at dksX5_fewest_4 12 rfl rfl)
theorem dX5_fewest_106 : decode cX5_fewest 106 = .ok (.ireturn, 1) := dk_172 (dk_at dksX5_fewest_4 13 rfl rfl)
abbrev cX5_count : ByteArray := prog_22_method_62_code
def yX5_count : MethodName := ⟨RX5, "count", "(I)I"⟩
def dkwX5_count_0 : List UInt8 := [3, 61, 27, 62, 29, 153, 0, 15, 132, 2, 1, 29, 29, 4, 100, 126, 62, 167, 255, 243, 28, 172]
abbrev dktX5_count_0 : List UInt8 := dkwX5_count_0 ++ []
theorem dksX5_count_0 : cX5_count.data.toList.drop 0 = dktX5_count_0 := by decide +kernel
theorem dX5_count_0 : decode cX5_count 0 = .ok (.iconst 0, 1) := dk_3 (dk_at dksX5_count_0 0 rfl rfl)
theorem dX5_count_1 : decode cX5_count 1 = .ok (.istore_n 2, 1) := dk_61 (dk_at dksX5_count_0 1 rfl rfl)
theorem dX5_count_2 : decode cX5_count 2 = .ok (.iload_n 1, 1) := dk_27 (dk_at dksX5_count_0 2 rfl rfl)
theorem dX5_count_3 : decode cX5_count 3 = .ok (.istore_n 3, 1) := dk_62 (dk_at dksX5_count_0 3 rfl rfl)
theorem dX5_count_4 : decode cX5_count 4 = .ok (.iload_n 3, 1) := dk_29 (dk_at dksX5_count_0 4 rfl rfl)
theorem dX5_count_5 : decode cX5_count 5 = .ok (.ifCond .eq 15, 3) := dk_153 0 15 (dk_at dksX5_count_0 5 rfl rfl)
theorem dX5_count_8 : decode cX5_count 8 = .ok (.iinc 2 1, 3) := dk_132 2 1 (dk_at dksX5_count_0 8 rfl rfl)
theorem dX5_count_11 : decode cX5_count 11 = .ok (.iload_n 3, 1) := dk_29 (dk_at dksX5_count_0 11 rfl rfl)
theorem dX5_count_12 : decode cX5_count 12 = .ok (.iload_n 3, 1) := dk_29 (dk_at dksX5_count_0 12 rfl rfl)
theorem dX5_count_13 : decode cX5_count 13 = .ok (.iconst 1, 1) := dk_4 (dk_at dksX5_count_0 13 rfl rfl)
theorem dX5_count_14 : decode cX5_count 14 = .ok (.isub, 1) := dk_100 (dk_at dksX5_count_0 14 rfl rfl)
theorem dX5_count_15 : decode cX5_count 15 = .ok (.iand, 1) := dk_126 (dk_at dksX5_count_0 15 rfl rfl)
theorem dX5_count_16 : decode cX5_count 16 = .ok (.istore_n 3, 1) := dk_62 (dk_at dksX5_count_0 16 rfl rfl)
theorem dX5_count_17 : decode cX5_count 17 = .ok (.goto (-13), 3) := dk_167 255 243 (dk_at dksX5_count_0 17 rfl rfl)
theorem dX5_count_20 : decode cX5_count 20 = .ok (.iload_n 2, 1) := dk_28 (dk_at dksX5_count_0 20 rfl rfl)
theorem dX5_count_21 : decode cX5_count 21 = .ok (.ireturn, 1) := dk_172 (dk_at dksX5_count_0 21 rfl rfl)
abbrev cX5_order : ByteArray := prog_22_method_64_code
def yX5_order : MethodName := ⟨RX5, "order", "(IIII)I"⟩
def dkwX5_order_8 : List UInt8 := [167, 255, 156, 2, 172]
abbrev dktX5_order_8 : List UInt8 := dkwX5_order_8 ++ []
def dkwX5_order_7 : List UInt8 := [21, 6, 4, 21, 8, 120, 2, 130, 126, 54, 6, 21, 7, 21, 4, 160, 0, 6, 21, 8, 172, 132, 7, 1]
abbrev dktX5_order_7 : List UInt8 := dkwX5_order_7 ++ dktX5_order_8
def dkwX5_order_6 : List UInt8 := [21, 8, 120, 2, 130, 126, 46, 29, 160, 0, 10, 21, 9, 54, 5, 167, 0, 9, 132, 8, 1, 167, 255, 193]
abbrev dktX5_order_6 : List UInt8 := dkwX5_order_6 ++ dktX5_order_7
def dkwX5_order_5 : List UInt8 := [21, 8, 46, 29, 182, 0, 253, 54, 9, 42, 27, 21, 9, 29, 182, 1, 0, 42, 180, 0, 90, 21, 6, 4]
abbrev dktX5_order_5 : List UInt8 := dkwX5_order_5 ++ dktX5_order_6
def dkwX5_order_4 : List UInt8 := [163, 0, 99, 3, 54, 8, 21, 6, 21, 8, 122, 4, 126, 4, 160, 0, 52, 42, 21, 5, 42, 180, 0, 93]
abbrev dktX5_order_4 : List UInt8 := dkwX5_order_4 ++ dktX5_order_5
def dkwX5_order_3 : List UInt8 := [182, 0, 136, 172, 42, 180, 0, 32, 27, 46, 54, 5, 28, 54, 6, 3, 54, 7, 21, 7, 21, 4]
abbrev dktX5_order_3 : List UInt8 := dkwX5_order_3 ++ dktX5_order_4
def dkwX5_order_2 : List UInt8 := [28, 46, 29, 160, 0, 18, 21, 4, 155, 0, 13, 21, 4, 42, 28, 182, 1, 12, 161, 0, 10, 42, 16, 251]
abbrev dktX5_order_2 : List UInt8 := dkwX5_order_2 ++ dktX5_order_3
def dkwX5_order_1 : List UInt8 := [29, 182, 1, 9, 154, 0, 10, 42, 16, 250, 182, 0, 136, 172, 42, 27, 29, 182, 1, 6, 42, 180, 0, 90]
abbrev dktX5_order_1 : List UInt8 := dkwX5_order_1 ++ dktX5_order_2
def dkwX5_order_0 : List UInt8 := [42, 27, 182, 0, 140, 153, 0, 11, 42, 28, 182, 1, 3, 154, 0, 9, 42, 2, 182, 0, 136, 172, 42, 27]
abbrev dktX5_order_0 : List UInt8 := dkwX5_order_0 ++ dktX5_order_1
theorem dksX5_order_0 : cX5_order.data.toList.drop 0 = dktX5_order_0 := by decide +kernel
theorem dksX5_order_1 : cX5_order.data.toList.drop 24 = dktX5_order_1 := dk_seg dksX5_order_0 24 rfl rfl
theorem dksX5_order_2 : cX5_order.data.toList.drop 48 = dktX5_order_2 := dk_seg dksX5_order_1 24 rfl rfl
theorem dksX5_order_3 : cX5_order.data.toList.drop 72 = dktX5_order_3 := dk_seg dksX5_order_2 24 rfl rfl
theorem dksX5_order_4 : cX5_order.data.toList.drop 94 = dktX5_order_4 := dk_seg dksX5_order_3 22 rfl rfl
theorem dksX5_order_5 : cX5_order.data.toList.drop 118 = dktX5_order_5 := dk_seg dksX5_order_4 24 rfl rfl
theorem dksX5_order_6 : cX5_order.data.toList.drop 142 = dktX5_order_6 := dk_seg dksX5_order_5 24 rfl rfl
theorem dksX5_order_7 : cX5_order.data.toList.drop 166 = dktX5_order_7 := dk_seg dksX5_order_6 24 rfl rfl
theorem dksX5_order_8 : cX5_order.data.toList.drop 190 = dktX5_order_8 := dk_seg dksX5_order_7 24 rfl rfl
theorem dX5_order_0 : decode cX5_order 0 = .ok (.aload_n 0, 1) := dk_42 (dk_at dksX5_order_0 0 rfl rfl)
theorem dX5_order_1 : decode cX5_order 1 = .ok (.iload_n 1, 1) := dk_27 (dk_at dksX5_order_0 1 rfl rfl)
theorem dX5_order_2 : decode cX5_order 2 = .ok (.invokevirtual 140, 3) := dk_182 0 140 (dk_at dksX5_order_0 2 rfl rfl)
theorem dX5_order_5 : decode cX5_order 5 = .ok (.ifCond .eq 11, 3) := dk_153 0 11 (dk_at dksX5_order_0 5 rfl rfl)
theorem dX5_order_8 : decode cX5_order 8 = .ok (.aload_n 0, 1) := dk_42 (dk_at dksX5_order_0 8 rfl rfl)
theorem dX5_order_9 : decode cX5_order 9 = .ok (.iload_n 2, 1) := dk_28 (dk_at dksX5_order_0 9 rfl rfl)
theorem dX5_order_10 : decode cX5_order 10 = .ok (.invokevirtual 259, 3) := dk_182 1 3 (dk_at dksX5_order_0 10 rfl rfl)
theorem dX5_order_13 : decode cX5_order 13 = .ok (.ifCond .ne 9, 3) := dk_154 0 9 (dk_at dksX5_order_0 13 rfl rfl)
theorem dX5_order_16 : decode cX5_order 16 = .ok (.aload_n 0, 1) := dk_42 (dk_at dksX5_order_0 16 rfl rfl)
theorem dX5_order_17 : decode cX5_order 17 = .ok (.iconst (-1), 1) := dk_2 (dk_at dksX5_order_0 17 rfl rfl)
theorem dX5_order_18 : decode cX5_order 18 = .ok (.invokevirtual 136, 3) := dk_182 0 136 (dk_at dksX5_order_0 18 rfl rfl)
theorem dX5_order_21 : decode cX5_order 21 = .ok (.ireturn, 1) := dk_172 (dk_at dksX5_order_0 21 rfl rfl)
theorem dX5_order_22 : decode cX5_order 22 = .ok (.aload_n 0, 1) := dk_42 (dk_at dksX5_order_0 22 rfl rfl)
theorem dX5_order_23 : decode cX5_order 23 = .ok (.iload_n 1, 1) := dk_27 (dk_at dksX5_order_0 23 rfl rfl)
theorem dX5_order_24 : decode cX5_order 24 = .ok (.iload_n 3, 1) := dk_29 (dk_at dksX5_order_1 0 rfl rfl)
theorem dX5_order_25 : decode cX5_order 25 = .ok (.invokevirtual 265, 3) := dk_182 1 9 (dk_at dksX5_order_1 1 rfl rfl)
theorem dX5_order_28 : decode cX5_order 28 = .ok (.ifCond .ne 10, 3) := dk_154 0 10 (dk_at dksX5_order_1 4 rfl rfl)
theorem dX5_order_31 : decode cX5_order 31 = .ok (.aload_n 0, 1) := dk_42 (dk_at dksX5_order_1 7 rfl rfl)
theorem dX5_order_32 : decode cX5_order 32 = .ok (.bipush (-6), 2) := dk_16 250 (dk_at dksX5_order_1 8 rfl rfl)
theorem dX5_order_34 : decode cX5_order 34 = .ok (.invokevirtual 136, 3) := dk_182 0 136 (dk_at dksX5_order_1 10 rfl rfl)
theorem dX5_order_37 : decode cX5_order 37 = .ok (.ireturn, 1) := dk_172 (dk_at dksX5_order_1 13 rfl rfl)
theorem dX5_order_38 : decode cX5_order 38 = .ok (.aload_n 0, 1) := dk_42 (dk_at dksX5_order_1 14 rfl rfl)
theorem dX5_order_39 : decode cX5_order 39 = .ok (.iload_n 1, 1) := dk_27 (dk_at dksX5_order_1 15 rfl rfl)
theorem dX5_order_40 : decode cX5_order 40 = .ok (.iload_n 3, 1) := dk_29 (dk_at dksX5_order_1 16 rfl rfl)
theorem dX5_order_41 : decode cX5_order 41 = .ok (.invokevirtual 262, 3) := dk_182 1 6 (dk_at dksX5_order_1 17 rfl rfl)
theorem dX5_order_44 : decode cX5_order 44 = .ok (.aload_n 0, 1) := dk_42 (dk_at dksX5_order_1 20 rfl rfl)
theorem dX5_order_45 : decode cX5_order 45 = .ok (.getfield 90, 3) := dk_180 0 90 (dk_at dksX5_order_1 21 rfl rfl)
theorem dX5_order_48 : decode cX5_order 48 = .ok (.iload_n 2, 1) := dk_28 (dk_at dksX5_order_2 0 rfl rfl)
theorem dX5_order_49 : decode cX5_order 49 = .ok (.iaload, 1) := dk_46 (dk_at dksX5_order_2 1 rfl rfl)
theorem dX5_order_50 : decode cX5_order 50 = .ok (.iload_n 3, 1) := dk_29 (dk_at dksX5_order_2 2 rfl rfl)
theorem dX5_order_51 : decode cX5_order 51 = .ok (.if_icmp .ne 18, 3) := dk_160 0 18 (dk_at dksX5_order_2 3 rfl rfl)
theorem dX5_order_54 : decode cX5_order 54 = .ok (.iload 4, 2) := dk_21 4 (dk_at dksX5_order_2 6 rfl rfl)
theorem dX5_order_56 : decode cX5_order 56 = .ok (.ifCond .lt 13, 3) := dk_155 0 13 (dk_at dksX5_order_2 8 rfl rfl)
theorem dX5_order_59 : decode cX5_order 59 = .ok (.iload 4, 2) := dk_21 4 (dk_at dksX5_order_2 11 rfl rfl)
theorem dX5_order_61 : decode cX5_order 61 = .ok (.aload_n 0, 1) := dk_42 (dk_at dksX5_order_2 13 rfl rfl)
theorem dX5_order_62 : decode cX5_order 62 = .ok (.iload_n 2, 1) := dk_28 (dk_at dksX5_order_2 14 rfl rfl)
theorem dX5_order_63 : decode cX5_order 63 = .ok (.invokevirtual 268, 3) := dk_182 1 12 (dk_at dksX5_order_2 15 rfl rfl)
theorem dX5_order_66 : decode cX5_order 66 = .ok (.if_icmp .lt 10, 3) := dk_161 0 10 (dk_at dksX5_order_2 18 rfl rfl)
theorem dX5_order_69 : decode cX5_order 69 = .ok (.aload_n 0, 1) := dk_42 (dk_at dksX5_order_2 21 rfl rfl)
theorem dX5_order_70 : decode cX5_order 70 = .ok (.bipush (-5), 2) := dk_16 251 (dk_at dksX5_order_2 22 rfl rfl)
theorem dX5_order_72 : decode cX5_order 72 = .ok (.invokevirtual 136, 3) := dk_182 0 136 (dk_at dksX5_order_3 0 rfl rfl)
theorem dX5_order_75 : decode cX5_order 75 = .ok (.ireturn, 1) := dk_172 (dk_at dksX5_order_3 3 rfl rfl)
theorem dX5_order_76 : decode cX5_order 76 = .ok (.aload_n 0, 1) := dk_42 (dk_at dksX5_order_3 4 rfl rfl)
theorem dX5_order_77 : decode cX5_order 77 = .ok (.getfield 32, 3) := dk_180 0 32 (dk_at dksX5_order_3 5 rfl rfl)
theorem dX5_order_80 : decode cX5_order 80 = .ok (.iload_n 1, 1) := dk_27 (dk_at dksX5_order_3 8 rfl rfl)
theorem dX5_order_81 : decode cX5_order 81 = .ok (.iaload, 1) := dk_46 (dk_at dksX5_order_3 9 rfl rfl)
theorem dX5_order_82 : decode cX5_order 82 = .ok (.istore 5, 2) := dk_54 5 (dk_at dksX5_order_3 10 rfl rfl)
theorem dX5_order_84 : decode cX5_order 84 = .ok (.iload_n 2, 1) := dk_28 (dk_at dksX5_order_3 12 rfl rfl)
theorem dX5_order_85 : decode cX5_order 85 = .ok (.istore 6, 2) := dk_54 6 (dk_at dksX5_order_3 13 rfl rfl)
theorem dX5_order_87 : decode cX5_order 87 = .ok (.iconst 0, 1) := dk_3 (dk_at dksX5_order_3 15 rfl rfl)
theorem dX5_order_88 : decode cX5_order 88 = .ok (.istore 7, 2) := dk_54 7 (dk_at dksX5_order_3 16 rfl rfl)
theorem dX5_order_90 : decode cX5_order 90 = .ok (.iload 7, 2) := dk_21 7 (dk_at dksX5_order_3 18 rfl rfl)
theorem dX5_order_92 : decode cX5_order 92 = .ok (.iload 4, 2) := dk_21 4 (dk_at dksX5_order_3 20 rfl rfl)
theorem dX5_order_94 : decode cX5_order 94 = .ok (.if_icmp .gt 99, 3) := dk_163 0 99 (dk_at dksX5_order_4 0 rfl rfl)
theorem dX5_order_97 : decode cX5_order 97 = .ok (.iconst 0, 1) := dk_3 (dk_at dksX5_order_4 3 rfl rfl)
theorem dX5_order_98 : decode cX5_order 98 = .ok (.istore 8, 2) := dk_54 8 (dk_at dksX5_order_4 4 rfl rfl)
theorem dX5_order_100 : decode cX5_order 100 = .ok (.iload 6, 2) := dk_21 6 (dk_at dksX5_order_4 6 rfl rfl)
theorem dX5_order_102 : decode cX5_order 102 = .ok (.iload 8, 2) := dk_21 8 (dk_at dksX5_order_4 8 rfl rfl)
theorem dX5_order_104 : decode cX5_order 104 = .ok (.ishr, 1) := dk_122 (dk_at dksX5_order_4 10 rfl rfl)
theorem dX5_order_105 : decode cX5_order 105 = .ok (.iconst 1, 1) := dk_4 (dk_at dksX5_order_4 11 rfl rfl)
theorem dX5_order_106 : decode cX5_order 106 = .ok (.iand, 1) := dk_126 (dk_at dksX5_order_4 12 rfl rfl)
theorem dX5_order_107 : decode cX5_order 107 = .ok (.iconst 1, 1) := dk_4 (dk_at dksX5_order_4 13 rfl rfl)
theorem dX5_order_108 : decode cX5_order 108 = .ok (.if_icmp .ne 52, 3) := dk_160 0 52 (dk_at dksX5_order_4 14 rfl rfl)
theorem dX5_order_111 : decode cX5_order 111 = .ok (.aload_n 0, 1) := dk_42 (dk_at dksX5_order_4 17 rfl rfl)
theorem dX5_order_112 : decode cX5_order 112 = .ok (.iload 5, 2) := dk_21 5 (dk_at dksX5_order_4 18 rfl rfl)
theorem dX5_order_114 : decode cX5_order 114 = .ok (.aload_n 0, 1) := dk_42 (dk_at dksX5_order_4 20 rfl rfl)
theorem dX5_order_115 : decode cX5_order 115 = .ok (.getfield 93, 3) := dk_180 0 93 (dk_at dksX5_order_4 21 rfl rfl)
theorem dX5_order_118 : decode cX5_order 118 = .ok (.iload 8, 2) := dk_21 8 (dk_at dksX5_order_5 0 rfl rfl)
theorem dX5_order_120 : decode cX5_order 120 = .ok (.iaload, 1) := dk_46 (dk_at dksX5_order_5 2 rfl rfl)
theorem dX5_order_121 : decode cX5_order 121 = .ok (.iload_n 3, 1) := dk_29 (dk_at dksX5_order_5 3 rfl rfl)
theorem dX5_order_122 : decode cX5_order 122 = .ok (.invokevirtual 253, 3) := dk_182 0 253 (dk_at dksX5_order_5 4 rfl rfl)
theorem dX5_order_125 : decode cX5_order 125 = .ok (.istore 9, 2) := dk_54 9 (dk_at dksX5_order_5 7 rfl rfl)
theorem dX5_order_127 : decode cX5_order 127 = .ok (.aload_n 0, 1) := dk_42 (dk_at dksX5_order_5 9 rfl rfl)
theorem dX5_order_128 : decode cX5_order 128 = .ok (.iload_n 1, 1) := dk_27 (dk_at dksX5_order_5 10 rfl rfl)
theorem dX5_order_129 : decode cX5_order 129 = .ok (.iload 9, 2) := dk_21 9 (dk_at dksX5_order_5 11 rfl rfl)
theorem dX5_order_131 : decode cX5_order 131 = .ok (.iload_n 3, 1) := dk_29 (dk_at dksX5_order_5 13 rfl rfl)
theorem dX5_order_132 : decode cX5_order 132 = .ok (.invokevirtual 256, 3) := dk_182 1 0 (dk_at dksX5_order_5 14 rfl rfl)
theorem dX5_order_135 : decode cX5_order 135 = .ok (.aload_n 0, 1) := dk_42 (dk_at dksX5_order_5 17 rfl rfl)
theorem dX5_order_136 : decode cX5_order 136 = .ok (.getfield 90, 3) := dk_180 0 90 (dk_at dksX5_order_5 18 rfl rfl)
theorem dX5_order_139 : decode cX5_order 139 = .ok (.iload 6, 2) := dk_21 6 (dk_at dksX5_order_5 21 rfl rfl)
theorem dX5_order_141 : decode cX5_order 141 = .ok (.iconst 1, 1) := dk_4 (dk_at dksX5_order_5 23 rfl rfl)
theorem dX5_order_142 : decode cX5_order 142 = .ok (.iload 8, 2) := dk_21 8 (dk_at dksX5_order_6 0 rfl rfl)
theorem dX5_order_144 : decode cX5_order 144 = .ok (.ishl, 1) := dk_120 (dk_at dksX5_order_6 2 rfl rfl)
theorem dX5_order_145 : decode cX5_order 145 = .ok (.iconst (-1), 1) := dk_2 (dk_at dksX5_order_6 3 rfl rfl)
theorem dX5_order_146 : decode cX5_order 146 = .ok (.ixor, 1) := dk_130 (dk_at dksX5_order_6 4 rfl rfl)
theorem dX5_order_147 : decode cX5_order 147 = .ok (.iand, 1) := dk_126 (dk_at dksX5_order_6 5 rfl rfl)
theorem dX5_order_148 : decode cX5_order 148 = .ok (.iaload, 1) := dk_46 (dk_at dksX5_order_6 6 rfl rfl)
theorem dX5_order_149 : decode cX5_order 149 = .ok (.iload_n 3, 1) := dk_29 (dk_at dksX5_order_6 7 rfl rfl)
theorem dX5_order_150 : decode cX5_order 150 = .ok (.if_icmp .ne 10, 3) := dk_160 0 10 (dk_at dksX5_order_6 8 rfl rfl)
theorem dX5_order_153 : decode cX5_order 153 = .ok (.iload 9, 2) := dk_21 9 (dk_at dksX5_order_6 11 rfl rfl)
theorem dX5_order_155 : decode cX5_order 155 = .ok (.istore 5, 2) := dk_54 5 (dk_at dksX5_order_6 13 rfl rfl)
theorem dX5_order_157 : decode cX5_order 157 = .ok (.goto 9, 3) := dk_167 0 9 (dk_at dksX5_order_6 15 rfl rfl)
theorem dX5_order_160 : decode cX5_order 160 = .ok (.iinc 8 1, 3) := dk_132 8 1 (dk_at dksX5_order_6 18 rfl rfl)
theorem dX5_order_163 : decode cX5_order 163 = .ok (.goto (-63), 3) := dk_167 255 193 (dk_at dksX5_order_6 21 rfl rfl)
theorem dX5_order_166 : decode cX5_order 166 = .ok (.iload 6, 2) := dk_21 6 (dk_at dksX5_order_7 0 rfl rfl)
theorem dX5_order_168 : decode cX5_order 168 = .ok (.iconst 1, 1) := dk_4 (dk_at dksX5_order_7 2 rfl rfl)
theorem dX5_order_169 : decode cX5_order 169 = .ok (.iload 8, 2) := dk_21 8 (dk_at dksX5_order_7 3 rfl rfl)
theorem dX5_order_171 : decode cX5_order 171 = .ok (.ishl, 1) := dk_120 (dk_at dksX5_order_7 5 rfl rfl)
theorem dX5_order_172 : decode cX5_order 172 = .ok (.iconst (-1), 1) := dk_2 (dk_at dksX5_order_7 6 rfl rfl)
theorem dX5_order_173 : decode cX5_order 173 = .ok (.ixor, 1) := dk_130 (dk_at dksX5_order_7 7 rfl rfl)
theorem dX5_order_174 : decode cX5_order 174 = .ok (.iand, 1) := dk_126 (dk_at dksX5_order_7 8 rfl rfl)
theorem dX5_order_175 : decode cX5_order 175 = .ok (.istore 6, 2) := dk_54 6 (dk_at dksX5_order_7 9 rfl rfl)
theorem dX5_order_177 : decode cX5_order 177 = .ok (.iload 7, 2) := dk_21 7 (dk_at dksX5_order_7 11 rfl rfl)
theorem dX5_order_179 : decode cX5_order 179 = .ok (.iload 4, 2) := dk_21 4 (dk_at dksX5_order_7 13 rfl rfl)
theorem dX5_order_181 : decode cX5_order 181 = .ok (.if_icmp .ne 6, 3) := dk_160 0 6 (dk_at dksX5_order_7 15 rfl rfl)
theorem dX5_order_184 : decode cX5_order 184 = .ok (.iload 8, 2) := dk_21 8 (dk_at dksX5_order_7 18 rfl rfl)
theorem dX5_order_186 : decode cX5_order 186 = .ok (.ireturn, 1) := dk_172 (dk_at dksX5_order_7 20 rfl rfl)
theorem dX5_order_187 : decode cX5_order 187 = .ok (.iinc 7 1, 3) := dk_132 7 1 (dk_at dksX5_order_7 21 rfl rfl)
theorem dX5_order_190 : decode cX5_order 190 = .ok (.goto (-100), 3) := dk_167 255 156 (dk_at dksX5_order_8 0 rfl rfl)
theorem dX5_order_193 : decode cX5_order 193 = .ok (.iconst (-1), 1) := dk_2 (dk_at dksX5_order_8 3 rfl rfl)
theorem dX5_order_194 : decode cX5_order 194 = .ok (.ireturn, 1) := dk_172 (dk_at dksX5_order_8 4 rfl rfl)
abbrev cX5_handovers : ByteArray := prog_22_method_65_code
def yX5_handovers : MethodName := ⟨RX5, "handovers", "(II)I"⟩
def dkwX5_handovers_11 : List UInt8 := [21, 4, 46, 79, 132, 4, 1, 167, 255, 232, 132, 3, 1, 167, 255, 71, 2, 172]
abbrev dktX5_handovers_11 : List UInt8 := dkwX5_handovers_11 ++ []
def dkwX5_handovers_10 : List UInt8 := [167, 255, 140, 3, 54, 4, 21, 4, 16, 9, 162, 0, 23, 42, 180, 0, 96, 21, 4, 42, 180, 0, 99]
abbrev dktX5_handovers_10 : List UInt8 := dkwX5_handovers_10 ++ dktX5_handovers_11
def dkwX5_handovers_9 : List UInt8 := [132, 6, 1, 167, 255, 188, 42, 180, 0, 99, 21, 4, 46, 28, 161, 0, 5, 29, 172, 132, 4, 1]
abbrev dktX5_handovers_9 : List UInt8 := dkwX5_handovers_9 ++ dktX5_handovers_10
def dkwX5_handovers_8 : List UInt8 := [21, 4, 46, 164, 0, 20, 42, 180, 0, 99, 21, 4, 42, 180, 0, 96, 21, 6, 46, 21, 5, 96, 79]
abbrev dktX5_handovers_8 : List UInt8 := dkwX5_handovers_8 ++ dktX5_handovers_9
def dkwX5_handovers_7 : List UInt8 := [21, 6, 46, 2, 160, 0, 6, 167, 0, 40, 42, 180, 0, 96, 21, 6, 46, 21, 5, 96, 42, 180, 0, 99]
abbrev dktX5_handovers_7 : List UInt8 := dkwX5_handovers_7 ++ dktX5_handovers_8
def dkwX5_handovers_6 : List UInt8 := [167, 0, 90, 3, 54, 6, 21, 6, 16, 9, 162, 0, 67, 21, 6, 21, 4, 159, 0, 54, 42, 180, 0, 96]
abbrev dktX5_handovers_6 : List UInt8 := dkwX5_handovers_6 ++ dktX5_handovers_7
def dkwX5_handovers_5 : List UInt8 := [21, 4, 42, 180, 0, 120, 162, 0, 113, 42, 21, 4, 27, 182, 0, 236, 54, 5, 21, 5, 154, 0, 6]
abbrev dktX5_handovers_5 : List UInt8 := dkwX5_handovers_5 ++ dktX5_handovers_6
def dkwX5_handovers_4 : List UInt8 := [21, 4, 16, 9, 162, 0, 17, 42, 180, 0, 99, 21, 4, 2, 79, 132, 4, 1, 167, 255, 238, 3, 54, 4]
abbrev dktX5_handovers_4 : List UInt8 := dkwX5_handovers_4 ++ dktX5_handovers_5
def dkwX5_handovers_3 : List UInt8 := [180, 0, 35, 27, 46, 42, 180, 0, 32, 27, 46, 79, 4, 62, 29, 16, 100, 162, 0, 185, 3, 54, 4]
abbrev dktX5_handovers_3 : List UInt8 := dkwX5_handovers_3 ++ dktX5_handovers_4
def dkwX5_handovers_2 : List UInt8 := [167, 255, 240, 42, 180, 0, 96, 42, 180, 0, 35, 27, 46, 2, 160, 0, 8, 16, 8, 167, 0, 9, 42]
abbrev dktX5_handovers_2 : List UInt8 := dkwX5_handovers_2 ++ dktX5_handovers_3
def dkwX5_handovers_1 : List UInt8 := [16, 250, 182, 1, 15, 172, 3, 62, 29, 16, 9, 162, 0, 16, 42, 180, 0, 96, 29, 2, 79, 132, 3, 1]
abbrev dktX5_handovers_1 : List UInt8 := dkwX5_handovers_1 ++ dktX5_handovers_2
def dkwX5_handovers_0 : List UInt8 := [42, 27, 182, 0, 140, 154, 0, 9, 42, 2, 182, 1, 15, 172, 42, 27, 28, 182, 1, 9, 154, 0, 10, 42]
abbrev dktX5_handovers_0 : List UInt8 := dkwX5_handovers_0 ++ dktX5_handovers_1
theorem dksX5_handovers_0 : cX5_handovers.data.toList.drop 0 = dktX5_handovers_0 := by decide +kernel
theorem dksX5_handovers_1 : cX5_handovers.data.toList.drop 24 = dktX5_handovers_1 := dk_seg dksX5_handovers_0 24 rfl rfl
theorem dksX5_handovers_2 : cX5_handovers.data.toList.drop 48 = dktX5_handovers_2 := dk_seg dksX5_handovers_1 24 rfl rfl
theorem dksX5_handovers_3 : cX5_handovers.data.toList.drop 71 = dktX5_handovers_3 := dk_seg dksX5_handovers_2 23 rfl rfl
theorem dksX5_handovers_4 : cX5_handovers.data.toList.drop 94 = dktX5_handovers_4 := dk_seg dksX5_handovers_3 23 rfl rfl
theorem dksX5_handovers_5 : cX5_handovers.data.toList.drop 118 = dktX5_handovers_5 := dk_seg dksX5_handovers_4 24 rfl rfl
theorem dksX5_handovers_6 : cX5_handovers.data.toList.drop 141 = dktX5_handovers_6 := dk_seg dksX5_handovers_5 23 rfl rfl
theorem dksX5_handovers_7 : cX5_handovers.data.toList.drop 165 = dktX5_handovers_7 := dk_seg dksX5_handovers_6 24 rfl rfl
theorem dksX5_handovers_8 : cX5_handovers.data.toList.drop 189 = dktX5_handovers_8 := dk_seg dksX5_handovers_7 24 rfl rfl
theorem dksX5_handovers_9 : cX5_handovers.data.toList.drop 212 = dktX5_handovers_9 := dk_seg dksX5_handovers_8 23 rfl rfl
theorem dksX5_handovers_10 : cX5_handovers.data.toList.drop 234 = dktX5_handovers_10 := dk_seg dksX5_handovers_9 22 rfl rfl
theorem dksX5_handovers_11 : cX5_handovers.data.toList.drop 257 = dktX5_handovers_11 := dk_seg dksX5_handovers_10 23 rfl rfl
theorem dX5_handovers_0 : decode cX5_handovers 0 = .ok (.aload_n 0, 1) := dk_42 (dk_at dksX5_handovers_0 0 rfl rfl)
theorem dX5_handovers_1 : decode cX5_handovers 1 = .ok (.iload_n 1, 1) := dk_27 (dk_at dksX5_handovers_0 1 rfl rfl)
theorem dX5_handovers_2 : decode cX5_handovers 2 = .ok (.invokevirtual 140, 3) := dk_182 0 140 (dk_at dksX5_handovers_0 2 rfl rfl)
theorem dX5_handovers_5 : decode cX5_handovers 5 = .ok (.ifCond .ne 9, 3) := dk_154 0 9 (dk_at dksX5_handovers_0 5 rfl rfl)
theorem dX5_handovers_8 : decode cX5_handovers 8 = .ok (.aload_n 0, 1) := dk_42 (dk_at dksX5_handovers_0 8 rfl rfl)
theorem dX5_handovers_9 : decode cX5_handovers 9 = .ok (.iconst (-1), 1) := dk_2 (dk_at dksX5_handovers_0 9 rfl rfl)
theorem dX5_handovers_10 : decode cX5_handovers 10 = .ok (.invokevirtual 271, 3) := dk_182 1 15 (dk_at dksX5_handovers_0 10 rfl rfl)
theorem dX5_handovers_13 : decode cX5_handovers 13 = .ok (.ireturn, 1) := dk_172 (dk_at dksX5_handovers_0 13 rfl rfl)
theorem dX5_handovers_14 : decode cX5_handovers 14 = .ok (.aload_n 0, 1) := dk_42 (dk_at dksX5_handovers_0 14 rfl rfl)
theorem dX5_handovers_15 : decode cX5_handovers 15 = .ok (.iload_n 1, 1) := dk_27 (dk_at dksX5_handovers_0 15 rfl rfl)
theorem dX5_handovers_16 : decode cX5_handovers 16 = .ok (.iload_n 2, 1) := dk_28 (dk_at dksX5_handovers_0 16 rfl rfl)
theorem dX5_handovers_17 : decode cX5_handovers 17 = .ok (.invokevirtual 265, 3) := dk_182 1 9 (dk_at dksX5_handovers_0 17 rfl rfl)
theorem dX5_handovers_20 : decode cX5_handovers 20 = .ok (.ifCond .ne 10, 3) := dk_154 0 10 (dk_at dksX5_handovers_0 20 rfl rfl)
theorem dX5_handovers_23 : decode cX5_handovers 23 = .ok (.aload_n 0, 1) := dk_42 (dk_at dksX5_handovers_0 23 rfl rfl)
theorem dX5_handovers_24 : decode cX5_handovers 24 = .ok (.bipush (-6), 2) := dk_16 250 (dk_at dksX5_handovers_1 0 rfl rfl)
theorem dX5_handovers_26 : decode cX5_handovers 26 = .ok (.invokevirtual 271, 3) := dk_182 1 15 (dk_at dksX5_handovers_1 2 rfl rfl)
theorem dX5_handovers_29 : decode cX5_handovers 29 = .ok (.ireturn, 1) := dk_172 (dk_at dksX5_handovers_1 5 rfl rfl)
theorem dX5_handovers_30 : decode cX5_handovers 30 = .ok (.iconst 0, 1) := dk_3 (dk_at dksX5_handovers_1 6 rfl rfl)
theorem dX5_handovers_31 : decode cX5_handovers 31 = .ok (.istore_n 3, 1) := dk_62 (dk_at dksX5_handovers_1 7 rfl rfl)
theorem dX5_handovers_32 : decode cX5_handovers 32 = .ok (.iload_n 3, 1) := dk_29 (dk_at dksX5_handovers_1 8 rfl rfl)
theorem dX5_handovers_33 : decode cX5_handovers 33 = .ok (.bipush 9, 2) := dk_16 9 (dk_at dksX5_handovers_1 9 rfl rfl)
theorem dX5_handovers_35 : decode cX5_handovers 35 = .ok (.if_icmp .ge 16, 3) := dk_162 0 16 (dk_at dksX5_handovers_1 11 rfl rfl)
theorem dX5_handovers_38 : decode cX5_handovers 38 = .ok (.aload_n 0, 1) := dk_42 (dk_at dksX5_handovers_1 14 rfl rfl)
theorem dX5_handovers_39 : decode cX5_handovers 39 = .ok (.getfield 96, 3) := dk_180 0 96 (dk_at dksX5_handovers_1 15 rfl rfl)
theorem dX5_handovers_42 : decode cX5_handovers 42 = .ok (.iload_n 3, 1) := dk_29 (dk_at dksX5_handovers_1 18 rfl rfl)
theorem dX5_handovers_43 : decode cX5_handovers 43 = .ok (.iconst (-1), 1) := dk_2 (dk_at dksX5_handovers_1 19 rfl rfl)
theorem dX5_handovers_44 : decode cX5_handovers 44 = .ok (.iastore, 1) := dk_79 (dk_at dksX5_handovers_1 20 rfl rfl)
theorem dX5_handovers_45 : decode cX5_handovers 45 = .ok (.iinc 3 1, 3) := dk_132 3 1 (dk_at dksX5_handovers_1 21 rfl rfl)
theorem dX5_handovers_48 : decode cX5_handovers 48 = .ok (.goto (-16), 3) := dk_167 255 240 (dk_at dksX5_handovers_2 0 rfl rfl)
theorem dX5_handovers_51 : decode cX5_handovers 51 = .ok (.aload_n 0, 1) := dk_42 (dk_at dksX5_handovers_2 3 rfl rfl)
theorem dX5_handovers_52 : decode cX5_handovers 52 = .ok (.getfield 96, 3) := dk_180 0 96 (dk_at dksX5_handovers_2 4 rfl rfl)
theorem dX5_handovers_55 : decode cX5_handovers 55 = .ok (.aload_n 0, 1) := dk_42 (dk_at dksX5_handovers_2 7 rfl rfl)
theorem dX5_handovers_56 : decode cX5_handovers 56 = .ok (.getfield 35, 3) := dk_180 0 35 (dk_at dksX5_handovers_2 8 rfl rfl)
theorem dX5_handovers_59 : decode cX5_handovers 59 = .ok (.iload_n 1, 1) := dk_27 (dk_at dksX5_handovers_2 11 rfl rfl)
theorem dX5_handovers_60 : decode cX5_handovers 60 = .ok (.iaload, 1) := dk_46 (dk_at dksX5_handovers_2 12 rfl rfl)
theorem dX5_handovers_61 : decode cX5_handovers 61 = .ok (.iconst (-1), 1) := dk_2 (dk_at dksX5_handovers_2 13 rfl rfl)
theorem dX5_handovers_62 : decode cX5_handovers 62 = .ok (.if_icmp .ne 8, 3) := dk_160 0 8 (dk_at dksX5_handovers_2 14 rfl rfl)
theorem dX5_handovers_65 : decode cX5_handovers 65 = .ok (.bipush 8, 2) := dk_16 8 (dk_at dksX5_handovers_2 17 rfl rfl)
theorem dX5_handovers_67 : decode cX5_handovers 67 = .ok (.goto 9, 3) := dk_167 0 9 (dk_at dksX5_handovers_2 19 rfl rfl)
theorem dX5_handovers_70 : decode cX5_handovers 70 = .ok (.aload_n 0, 1) := dk_42 (dk_at dksX5_handovers_2 22 rfl rfl)
theorem dX5_handovers_71 : decode cX5_handovers 71 = .ok (.getfield 35, 3) := dk_180 0 35 (dk_at dksX5_handovers_3 0 rfl rfl)
theorem dX5_handovers_74 : decode cX5_handovers 74 = .ok (.iload_n 1, 1) := dk_27 (dk_at dksX5_handovers_3 3 rfl rfl)
theorem dX5_handovers_75 : decode cX5_handovers 75 = .ok (.iaload, 1) := dk_46 (dk_at dksX5_handovers_3 4 rfl rfl)
theorem dX5_handovers_76 : decode cX5_handovers 76 = .ok (.aload_n 0, 1) := dk_42 (dk_at dksX5_handovers_3 5 rfl rfl)
theorem dX5_handovers_77 : decode cX5_handovers 77 = .ok (.getfield 32, 3) := dk_180 0 32 (dk_at dksX5_handovers_3 6 rfl rfl)
theorem dX5_handovers_80 : decode cX5_handovers 80 = .ok (.iload_n 1, 1) := dk_27 (dk_at dksX5_handovers_3 9 rfl rfl)
theorem dX5_handovers_81 : decode cX5_handovers 81 = .ok (.iaload, 1) := dk_46 (dk_at dksX5_handovers_3 10 rfl rfl)
theorem dX5_handovers_82 : decode cX5_handovers 82 = .ok (.iastore, 1) := dk_79 (dk_at dksX5_handovers_3 11 rfl rfl)
theorem dX5_handovers_83 : decode cX5_handovers 83 = .ok (.iconst 1, 1) := dk_4 (dk_at dksX5_handovers_3 12 rfl rfl)
theorem dX5_handovers_84 : decode cX5_handovers 84 = .ok (.istore_n 3, 1) := dk_62 (dk_at dksX5_handovers_3 13 rfl rfl)
theorem dX5_handovers_85 : decode cX5_handovers 85 = .ok (.iload_n 3, 1) := dk_29 (dk_at dksX5_handovers_3 14 rfl rfl)
theorem dX5_handovers_86 : decode cX5_handovers 86 = .ok (.bipush 100, 2) := dk_16 100 (dk_at dksX5_handovers_3 15 rfl rfl)
theorem dX5_handovers_88 : decode cX5_handovers 88 = .ok (.if_icmp .ge 185, 3) := dk_162 0 185 (dk_at dksX5_handovers_3 17 rfl rfl)
theorem dX5_handovers_91 : decode cX5_handovers 91 = .ok (.iconst 0, 1) := dk_3 (dk_at dksX5_handovers_3 20 rfl rfl)
theorem dX5_handovers_92 : decode cX5_handovers 92 = .ok (.istore 4, 2) := dk_54 4 (dk_at dksX5_handovers_3 21 rfl rfl)
theorem dX5_handovers_94 : decode cX5_handovers 94 = .ok (.iload 4, 2) := dk_21 4 (dk_at dksX5_handovers_4 0 rfl rfl)
theorem dX5_handovers_96 : decode cX5_handovers 96 = .ok (.bipush 9, 2) := dk_16 9 (dk_at dksX5_handovers_4 2 rfl rfl)
theorem dX5_handovers_98 : decode cX5_handovers 98 = .ok (.if_icmp .ge 17, 3) := dk_162 0 17 (dk_at dksX5_handovers_4 4 rfl rfl)
theorem dX5_handovers_101 : decode cX5_handovers 101 = .ok (.aload_n 0, 1) := dk_42 (dk_at dksX5_handovers_4 7 rfl rfl)
theorem dX5_handovers_102 : decode cX5_handovers 102 = .ok (.getfield 99, 3) := dk_180 0 99 (dk_at dksX5_handovers_4 8 rfl rfl)
theorem dX5_handovers_105 : decode cX5_handovers 105 = .ok (.iload 4, 2) := dk_21 4 (dk_at dksX5_handovers_4 11 rfl rfl)
theorem dX5_handovers_107 : decode cX5_handovers 107 = .ok (.iconst (-1), 1) := dk_2 (dk_at dksX5_handovers_4 13 rfl rfl)
theorem dX5_handovers_108 : decode cX5_handovers 108 = .ok (.iastore, 1) := dk_79 (dk_at dksX5_handovers_4 14 rfl rfl)
theorem dX5_handovers_109 : decode cX5_handovers 109 = .ok (.iinc 4 1, 3) := dk_132 4 1 (dk_at dksX5_handovers_4 15 rfl rfl)
theorem dX5_handovers_112 : decode cX5_handovers 112 = .ok (.goto (-18), 3) := dk_167 255 238 (dk_at dksX5_handovers_4 18 rfl rfl)
theorem dX5_handovers_115 : decode cX5_handovers 115 = .ok (.iconst 0, 1) := dk_3 (dk_at dksX5_handovers_4 21 rfl rfl)
theorem dX5_handovers_116 : decode cX5_handovers 116 = .ok (.istore 4, 2) := dk_54 4 (dk_at dksX5_handovers_4 22 rfl rfl)
theorem dX5_handovers_118 : decode cX5_handovers 118 = .ok (.iload 4, 2) := dk_21 4 (dk_at dksX5_handovers_5 0 rfl rfl)
theorem dX5_handovers_120 : decode cX5_handovers 120 = .ok (.aload_n 0, 1) := dk_42 (dk_at dksX5_handovers_5 2 rfl rfl)
theorem dX5_handovers_121 : decode cX5_handovers 121 = .ok (.getfield 120, 3) := dk_180 0 120 (dk_at dksX5_handovers_5 3 rfl rfl)
theorem dX5_handovers_124 : decode cX5_handovers 124 = .ok (.if_icmp .ge 113, 3) := dk_162 0 113 (dk_at dksX5_handovers_5 6 rfl rfl)
theorem dX5_handovers_127 : decode cX5_handovers 127 = .ok (.aload_n 0, 1) := dk_42 (dk_at dksX5_handovers_5 9 rfl rfl)
theorem dX5_handovers_128 : decode cX5_handovers 128 = .ok (.iload 4, 2) := dk_21 4 (dk_at dksX5_handovers_5 10 rfl rfl)
theorem dX5_handovers_130 : decode cX5_handovers 130 = .ok (.iload_n 1, 1) := dk_27 (dk_at dksX5_handovers_5 12 rfl rfl)
theorem dX5_handovers_131 : decode cX5_handovers 131 = .ok (.invokevirtual 236, 3) := dk_182 0 236 (dk_at dksX5_handovers_5 13 rfl rfl)
theorem dX5_handovers_134 : decode cX5_handovers 134 = .ok (.istore 5, 2) := dk_54 5 (dk_at dksX5_handovers_5 16 rfl rfl)
theorem dX5_handovers_136 : decode cX5_handovers 136 = .ok (.iload 5, 2) := dk_21 5 (dk_at dksX5_handovers_5 18 rfl rfl)
theorem dX5_handovers_138 : decode cX5_handovers 138 = .ok (.ifCond .ne 6, 3) := dk_154 0 6 (dk_at dksX5_handovers_5 20 rfl rfl)
theorem dX5_handovers_141 : decode cX5_handovers 141 = .ok (.goto 90, 3) := dk_167 0 90 (dk_at dksX5_handovers_6 0 rfl rfl)
theorem dX5_handovers_144 : decode cX5_handovers 144 = .ok (.iconst 0, 1) := dk_3 (dk_at dksX5_handovers_6 3 rfl rfl)
theorem dX5_handovers_145 : decode cX5_handovers 145 = .ok (.istore 6, 2) := dk_54 6 (dk_at dksX5_handovers_6 4 rfl rfl)
theorem dX5_handovers_147 : decode cX5_handovers 147 = .ok (.iload 6, 2) := dk_21 6 (dk_at dksX5_handovers_6 6 rfl rfl)
theorem dX5_handovers_149 : decode cX5_handovers 149 = .ok (.bipush 9, 2) := dk_16 9 (dk_at dksX5_handovers_6 8 rfl rfl)
theorem dX5_handovers_151 : decode cX5_handovers 151 = .ok (.if_icmp .ge 67, 3) := dk_162 0 67 (dk_at dksX5_handovers_6 10 rfl rfl)
theorem dX5_handovers_154 : decode cX5_handovers 154 = .ok (.iload 6, 2) := dk_21 6 (dk_at dksX5_handovers_6 13 rfl rfl)
theorem dX5_handovers_156 : decode cX5_handovers 156 = .ok (.iload 4, 2) := dk_21 4 (dk_at dksX5_handovers_6 15 rfl rfl)
theorem dX5_handovers_158 : decode cX5_handovers 158 = .ok (.if_icmp .eq 54, 3) := dk_159 0 54 (dk_at dksX5_handovers_6 17 rfl rfl)
theorem dX5_handovers_161 : decode cX5_handovers 161 = .ok (.aload_n 0, 1) := dk_42 (dk_at dksX5_handovers_6 20 rfl rfl)
theorem dX5_handovers_162 : decode cX5_handovers 162 = .ok (.getfield 96, 3) := dk_180 0 96 (dk_at dksX5_handovers_6 21 rfl rfl)
theorem dX5_handovers_165 : decode cX5_handovers 165 = .ok (.iload 6, 2) := dk_21 6 (dk_at dksX5_handovers_7 0 rfl rfl)
theorem dX5_handovers_167 : decode cX5_handovers 167 = .ok (.iaload, 1) := dk_46 (dk_at dksX5_handovers_7 2 rfl rfl)
theorem dX5_handovers_168 : decode cX5_handovers 168 = .ok (.iconst (-1), 1) := dk_2 (dk_at dksX5_handovers_7 3 rfl rfl)
theorem dX5_handovers_169 : decode cX5_handovers 169 = .ok (.if_icmp .ne 6, 3) := dk_160 0 6 (dk_at dksX5_handovers_7 4 rfl rfl)
theorem dX5_handovers_172 : decode cX5_handovers 172 = .ok (.goto 40, 3) := dk_167 0 40 (dk_at dksX5_handovers_7 7 rfl rfl)
theorem dX5_handovers_175 : decode cX5_handovers 175 = .ok (.aload_n 0, 1) := dk_42 (dk_at dksX5_handovers_7 10 rfl rfl)
theorem dX5_handovers_176 : decode cX5_handovers 176 = .ok (.getfield 96, 3) := dk_180 0 96 (dk_at dksX5_handovers_7 11 rfl rfl)
theorem dX5_handovers_179 : decode cX5_handovers 179 = .ok (.iload 6, 2) := dk_21 6 (dk_at dksX5_handovers_7 14 rfl rfl)
theorem dX5_handovers_181 : decode cX5_handovers 181 = .ok (.iaload, 1) := dk_46 (dk_at dksX5_handovers_7 16 rfl rfl)
theorem dX5_handovers_182 : decode cX5_handovers 182 = .ok (.iload 5, 2) := dk_21 5 (dk_at dksX5_handovers_7 17 rfl rfl)
theorem dX5_handovers_184 : decode cX5_handovers 184 = .ok (.iadd, 1) := dk_96 (dk_at dksX5_handovers_7 19 rfl rfl)
theorem dX5_handovers_185 : decode cX5_handovers 185 = .ok (.aload_n 0, 1) := dk_42 (dk_at dksX5_handovers_7 20 rfl rfl)
theorem dX5_handovers_186 : decode cX5_handovers 186 = .ok (.getfield 99, 3) := dk_180 0 99 (dk_at dksX5_handovers_7 21 rfl rfl)
theorem dX5_handovers_189 : decode cX5_handovers 189 = .ok (.iload 4, 2) := dk_21 4 (dk_at dksX5_handovers_8 0 rfl rfl)
theorem dX5_handovers_191 : decode cX5_handovers 191 = .ok (.iaload, 1) := dk_46 (dk_at dksX5_handovers_8 2 rfl rfl)
theorem dX5_handovers_192 : decode cX5_handovers 192 = .ok (.if_icmp .le 20, 3) := dk_164 0 20 (dk_at dksX5_handovers_8 3 rfl rfl)
theorem dX5_handovers_195 : decode cX5_handovers 195 = .ok (.aload_n 0, 1) := dk_42 (dk_at dksX5_handovers_8 6 rfl rfl)
theorem dX5_handovers_196 : decode cX5_handovers 196 = .ok (.getfield 99, 3) := dk_180 0 99 (dk_at dksX5_handovers_8 7 rfl rfl)
theorem dX5_handovers_199 : decode cX5_handovers 199 = .ok (.iload 4, 2) := dk_21 4 (dk_at dksX5_handovers_8 10 rfl rfl)
theorem dX5_handovers_201 : decode cX5_handovers 201 = .ok (.aload_n 0, 1) := dk_42 (dk_at dksX5_handovers_8 12 rfl rfl)
theorem dX5_handovers_202 : decode cX5_handovers 202 = .ok (.getfield 96, 3) := dk_180 0 96 (dk_at dksX5_handovers_8 13 rfl rfl)
theorem dX5_handovers_205 : decode cX5_handovers 205 = .ok (.iload 6, 2) := dk_21 6 (dk_at dksX5_handovers_8 16 rfl rfl)
theorem dX5_handovers_207 : decode cX5_handovers 207 = .ok (.iaload, 1) := dk_46 (dk_at dksX5_handovers_8 18 rfl rfl)
theorem dX5_handovers_208 : decode cX5_handovers 208 = .ok (.iload 5, 2) := dk_21 5 (dk_at dksX5_handovers_8 19 rfl rfl)
theorem dX5_handovers_210 : decode cX5_handovers 210 = .ok (.iadd, 1) := dk_96 (dk_at dksX5_handovers_8 21 rfl rfl)
theorem dX5_handovers_211 : decode cX5_handovers 211 = .ok (.iastore, 1) := dk_79 (dk_at dksX5_handovers_8 22 rfl rfl)
theorem dX5_handovers_212 : decode cX5_handovers 212 = .ok (.iinc 6 1, 3) := dk_132 6 1 (dk_at dksX5_handovers_9 0 rfl rfl)
theorem dX5_handovers_215 : decode cX5_handovers 215 = .ok (.goto (-68), 3) := dk_167 255 188 (dk_at dksX5_handovers_9 3 rfl rfl)
theorem dX5_handovers_218 : decode cX5_handovers 218 = .ok (.aload_n 0, 1) := dk_42 (dk_at dksX5_handovers_9 6 rfl rfl)
theorem dX5_handovers_219 : decode cX5_handovers 219 = .ok (.getfield 99, 3) := dk_180 0 99 (dk_at dksX5_handovers_9 7 rfl rfl)
theorem dX5_handovers_222 : decode cX5_handovers 222 = .ok (.iload 4, 2) := dk_21 4 (dk_at dksX5_handovers_9 10 rfl rfl)
theorem dX5_handovers_224 : decode cX5_handovers 224 = .ok (.iaload, 1) := dk_46 (dk_at dksX5_handovers_9 12 rfl rfl)
theorem dX5_handovers_225 : decode cX5_handovers 225 = .ok (.iload_n 2, 1) := dk_28 (dk_at dksX5_handovers_9 13 rfl rfl)
theorem dX5_handovers_226 : decode cX5_handovers 226 = .ok (.if_icmp .lt 5, 3) := dk_161 0 5 (dk_at dksX5_handovers_9 14 rfl rfl)
theorem dX5_handovers_229 : decode cX5_handovers 229 = .ok (.iload_n 3, 1) := dk_29 (dk_at dksX5_handovers_9 17 rfl rfl)
theorem dX5_handovers_230 : decode cX5_handovers 230 = .ok (.ireturn, 1) := dk_172 (dk_at dksX5_handovers_9 18 rfl rfl)
theorem dX5_handovers_231 : decode cX5_handovers 231 = .ok (.iinc 4 1, 3) := dk_132 4 1 (dk_at dksX5_handovers_9 19 rfl rfl)
theorem dX5_handovers_234 : decode cX5_handovers 234 = .ok (.goto (-116), 3) := dk_167 255 140 (dk_at dksX5_handovers_10 0 rfl rfl)
theorem dX5_handovers_237 : decode cX5_handovers 237 = .ok (.iconst 0, 1) := dk_3 (dk_at dksX5_handovers_10 3 rfl rfl)
theorem dX5_handovers_238 : decode cX5_handovers 238 = .ok (.istore 4, 2) := dk_54 4 (dk_at dksX5_handovers_10 4 rfl rfl)
theorem dX5_handovers_240 : decode cX5_handovers 240 = .ok (.iload 4, 2) := dk_21 4 (dk_at dksX5_handovers_10 6 rfl rfl)
theorem dX5_handovers_242 : decode cX5_handovers 242 = .ok (.bipush 9, 2) := dk_16 9 (dk_at dksX5_handovers_10 8 rfl rfl)
theorem dX5_handovers_244 : decode cX5_handovers 244 = .ok (.if_icmp .ge 23, 3) := dk_162 0 23 (dk_at dksX5_handovers_10 10 rfl rfl)
theorem dX5_handovers_247 : decode cX5_handovers 247 = .ok (.aload_n 0, 1) := dk_42 (dk_at dksX5_handovers_10 13 rfl rfl)
theorem dX5_handovers_248 : decode cX5_handovers 248 = .ok (.getfield 96, 3) := dk_180 0 96 (dk_at dksX5_handovers_10 14 rfl rfl)
theorem dX5_handovers_251 : decode cX5_handovers 251 = .ok (.iload 4, 2) := dk_21 4 (dk_at dksX5_handovers_10 17 rfl rfl)
theorem dX5_handovers_253 : decode cX5_handovers 253 = .ok (.aload_n 0, 1) := dk_42 (dk_at dksX5_handovers_10 19 rfl rfl)
theorem dX5_handovers_254 : decode cX5_handovers 254 = .ok (.getfield 99, 3) := dk_180 0 99 (dk_at dksX5_handovers_10 20 rfl rfl)
theorem dX5_handovers_257 : decode cX5_handovers 257 = .ok (.iload 4, 2) := dk_21 4 (dk_at dksX5_handovers_11 0 rfl rfl)
theorem dX5_handovers_259 : decode cX5_handovers 259 = .ok (.iaload, 1) := dk_46 (dk_at dksX5_handovers_11 2 rfl rfl)
theorem dX5_handovers_260 : decode cX5_handovers 260 = .ok (.iastore, 1) := dk_79 (dk_at dksX5_handovers_11 3 rfl rfl)
theorem dX5_handovers_261 : decode cX5_handovers 261 = .ok (.iinc 4 1, 3) := dk_132 4 1 (dk_at dksX5_handovers_11 4 rfl rfl)
theorem dX5_handovers_264 : decode cX5_handovers 264 = .ok (.goto (-24), 3) := dk_167 255 232 (dk_at dksX5_handovers_11 7 rfl rfl)
theorem dX5_handovers_267 : decode cX5_handovers 267 = .ok (.iinc 3 1, 3) := dk_132 3 1 (dk_at dksX5_handovers_11 10 rfl rfl)
theorem dX5_handovers_270 : decode cX5_handovers 270 = .ok (.goto (-185), 3) := dk_167 255 71 (dk_at dksX5_handovers_11 13 rfl rfl)
theorem dX5_handovers_273 : decode cX5_handovers 273 = .ok (.iconst (-1), 1) := dk_2 (dk_at dksX5_handovers_11 16 rfl rfl)
theorem dX5_handovers_274 : decode cX5_handovers 274 = .ok (.ireturn, 1) := dk_172 (dk_at dksX5_handovers_11 17 rfl rfl)
abbrev cX5_noTen : ByteArray := prog_22_method_3_code
def yX5_noTen : MethodName := ⟨RX5, "noTen", "(I)I"⟩
def dkwX5_noTen_0 : List UInt8 := [42, 180, 0, 19, 27, 116, 92, 46, 4, 96, 79, 27, 16, 10, 100, 172]
abbrev dktX5_noTen_0 : List UInt8 := dkwX5_noTen_0 ++ []
theorem dksX5_noTen_0 : cX5_noTen.data.toList.drop 0 = dktX5_noTen_0 := by decide +kernel
theorem dX5_noTen_0 : decode cX5_noTen 0 = .ok (.aload_n 0, 1) := dk_42 (dk_at dksX5_noTen_0 0 rfl rfl)
theorem dX5_noTen_1 : decode cX5_noTen 1 = .ok (.getfield 19, 3) := dk_180 0 19 (dk_at dksX5_noTen_0 1 rfl rfl)
theorem dX5_noTen_4 : decode cX5_noTen 4 = .ok (.iload_n 1, 1) := dk_27 (dk_at dksX5_noTen_0 4 rfl rfl)
theorem dX5_noTen_5 : decode cX5_noTen 5 = .ok (.ineg, 1) := dk_116 (dk_at dksX5_noTen_0 5 rfl rfl)
theorem dX5_noTen_6 : decode cX5_noTen 6 = .ok (.dup2, 1) := dk_92 (dk_at dksX5_noTen_0 6 rfl rfl)
theorem dX5_noTen_7 : decode cX5_noTen 7 = .ok (.iaload, 1) := dk_46 (dk_at dksX5_noTen_0 7 rfl rfl)
theorem dX5_noTen_8 : decode cX5_noTen 8 = .ok (.iconst 1, 1) := dk_4 (dk_at dksX5_noTen_0 8 rfl rfl)
theorem dX5_noTen_9 : decode cX5_noTen 9 = .ok (.iadd, 1) := dk_96 (dk_at dksX5_noTen_0 9 rfl rfl)
theorem dX5_noTen_10 : decode cX5_noTen 10 = .ok (.iastore, 1) := dk_79 (dk_at dksX5_noTen_0 10 rfl rfl)
theorem dX5_noTen_11 : decode cX5_noTen 11 = .ok (.iload_n 1, 1) := dk_27 (dk_at dksX5_noTen_0 11 rfl rfl)
theorem dX5_noTen_12 : decode cX5_noTen 12 = .ok (.bipush 10, 2) := dk_16 10 (dk_at dksX5_noTen_0 12 rfl rfl)
theorem dX5_noTen_14 : decode cX5_noTen 14 = .ok (.isub, 1) := dk_100 (dk_at dksX5_noTen_0 14 rfl rfl)
theorem dX5_noTen_15 : decode cX5_noTen 15 = .ok (.ireturn, 1) := dk_172 (dk_at dksX5_noTen_0 15 rfl rfl)
abbrev cX5_shared : ByteArray := prog_22_method_69_code
def yX5_shared : MethodName := ⟨RX5, "shared", "()I"⟩
def dkwX5_shared_0 : List UInt8 := [42, 182, 1, 28, 42, 180, 1, 21, 172]
abbrev dktX5_shared_0 : List UInt8 := dkwX5_shared_0 ++ []
theorem dksX5_shared_0 : cX5_shared.data.toList.drop 0 = dktX5_shared_0 := by decide +kernel
theorem dX5_shared_0 : decode cX5_shared 0 = .ok (.aload_n 0, 1) := dk_42 (dk_at dksX5_shared_0 0 rfl rfl)
theorem dX5_shared_1 : decode cX5_shared 1 = .ok (.invokevirtual 284, 3) := dk_182 1 28 (dk_at dksX5_shared_0 1 rfl rfl)
theorem dX5_shared_4 : decode cX5_shared 4 = .ok (.aload_n 0, 1) := dk_42 (dk_at dksX5_shared_0 4 rfl rfl)
theorem dX5_shared_5 : decode cX5_shared 5 = .ok (.getfield 277, 3) := dk_180 1 21 (dk_at dksX5_shared_0 5 rfl rfl)
theorem dX5_shared_8 : decode cX5_shared 8 = .ok (.ireturn, 1) := dk_172 (dk_at dksX5_shared_0 8 rfl rfl)
abbrev cX5_shareAll : ByteArray := prog_22_method_68_code
def yX5_shareAll : MethodName := ⟨RX5, "shareAll", "()V"⟩
def dkwX5_shareAll_6 : List UInt8 := [182, 1, 24, 177]
abbrev dktX5_shareAll_6 : List UInt8 := dkwX5_shareAll_6 ++ []
def dkwX5_shareAll_5 : List UInt8 := [167, 255, 198, 42, 180, 0, 105, 27, 3, 79, 132, 1, 1, 167, 255, 127, 42, 2, 181, 1, 21, 42, 3]
abbrev dktX5_shareAll_5 : List UInt8 := dkwX5_shareAll_5 ++ dktX5_shareAll_6
def dkwX5_shareAll_4 : List UInt8 := [164, 0, 18, 42, 180, 0, 90, 21, 5, 46, 29, 160, 0, 7, 4, 167, 0, 4, 3, 79, 132, 5, 1]
abbrev dktX5_shareAll_4 : List UInt8 := dkwX5_shareAll_4 ++ dktX5_shareAll_5
def dkwX5_shareAll_3 : List UInt8 := [180, 0, 102, 17, 1, 0, 27, 104, 21, 5, 96, 21, 4, 154, 0, 24, 29, 42, 180, 0, 32, 28, 46]
abbrev dktX5_shareAll_3 : List UInt8 := dkwX5_shareAll_3 ++ dktX5_shareAll_4
def dkwX5_shareAll_2 : List UInt8 := [164, 0, 9, 42, 28, 29, 182, 1, 6, 3, 54, 5, 21, 5, 4, 42, 180, 0, 120, 120, 162, 0, 53, 42]
abbrev dktX5_shareAll_2 : List UInt8 := dkwX5_shareAll_2 ++ dktX5_shareAll_3
def dkwX5_shareAll_1 : List UInt8 := [42, 180, 0, 32, 28, 46, 29, 160, 0, 7, 4, 167, 0, 4, 3, 54, 4, 29, 42, 180, 0, 32, 28, 46]
abbrev dktX5_shareAll_1 : List UInt8 := dkwX5_shareAll_1 ++ dktX5_shareAll_2
def dkwX5_shareAll_0 : List UInt8 := [3, 60, 27, 42, 180, 0, 162, 162, 0, 127, 42, 180, 0, 47, 27, 46, 61, 42, 180, 0, 50, 27, 46, 62]
abbrev dktX5_shareAll_0 : List UInt8 := dkwX5_shareAll_0 ++ dktX5_shareAll_1
theorem dksX5_shareAll_0 : cX5_shareAll.data.toList.drop 0 = dktX5_shareAll_0 := by decide +kernel
theorem dksX5_shareAll_1 : cX5_shareAll.data.toList.drop 24 = dktX5_shareAll_1 := dk_seg dksX5_shareAll_0 24 rfl rfl
theorem dksX5_shareAll_2 : cX5_shareAll.data.toList.drop 48 = dktX5_shareAll_2 := dk_seg dksX5_shareAll_1 24 rfl rfl
theorem dksX5_shareAll_3 : cX5_shareAll.data.toList.drop 72 = dktX5_shareAll_3 := dk_seg dksX5_shareAll_2 24 rfl rfl
theorem dksX5_shareAll_4 : cX5_shareAll.data.toList.drop 95 = dktX5_shareAll_4 := dk_seg dksX5_shareAll_3 23 rfl rfl
theorem dksX5_shareAll_5 : cX5_shareAll.data.toList.drop 118 = dktX5_shareAll_5 := dk_seg dksX5_shareAll_4 23 rfl rfl
theorem dksX5_shareAll_6 : cX5_shareAll.data.toList.drop 141 = dktX5_shareAll_6 := dk_seg dksX5_shareAll_5 23 rfl rfl
theorem dX5_shareAll_0 : decode cX5_shareAll 0 = .ok (.iconst 0, 1) := dk_3 (dk_at dksX5_shareAll_0 0 rfl rfl)
theorem dX5_shareAll_1 : decode cX5_shareAll 1 = .ok (.istore_n 1, 1) := dk_60 (dk_at dksX5_shareAll_0 1 rfl rfl)
theorem dX5_shareAll_2 : decode cX5_shareAll 2 = .ok (.iload_n 1, 1) := dk_27 (dk_at dksX5_shareAll_0 2 rfl rfl)
theorem dX5_shareAll_3 : decode cX5_shareAll 3 = .ok (.aload_n 0, 1) := dk_42 (dk_at dksX5_shareAll_0 3 rfl rfl)
theorem dX5_shareAll_4 : decode cX5_shareAll 4 = .ok (.getfield 162, 3) := dk_180 0 162 (dk_at dksX5_shareAll_0 4 rfl rfl)
theorem dX5_shareAll_7 : decode cX5_shareAll 7 = .ok (.if_icmp .ge 127, 3) := dk_162 0 127 (dk_at dksX5_shareAll_0 7 rfl rfl)
theorem dX5_shareAll_10 : decode cX5_shareAll 10 = .ok (.aload_n 0, 1) := dk_42 (dk_at dksX5_shareAll_0 10 rfl rfl)
theorem dX5_shareAll_11 : decode cX5_shareAll 11 = .ok (.getfield 47, 3) := dk_180 0 47 (dk_at dksX5_shareAll_0 11 rfl rfl)
theorem dX5_shareAll_14 : decode cX5_shareAll 14 = .ok (.iload_n 1, 1) := dk_27 (dk_at dksX5_shareAll_0 14 rfl rfl)
theorem dX5_shareAll_15 : decode cX5_shareAll 15 = .ok (.iaload, 1) := dk_46 (dk_at dksX5_shareAll_0 15 rfl rfl)
theorem dX5_shareAll_16 : decode cX5_shareAll 16 = .ok (.istore_n 2, 1) := dk_61 (dk_at dksX5_shareAll_0 16 rfl rfl)
theorem dX5_shareAll_17 : decode cX5_shareAll 17 = .ok (.aload_n 0, 1) := dk_42 (dk_at dksX5_shareAll_0 17 rfl rfl)
theorem dX5_shareAll_18 : decode cX5_shareAll 18 = .ok (.getfield 50, 3) := dk_180 0 50 (dk_at dksX5_shareAll_0 18 rfl rfl)
theorem dX5_shareAll_21 : decode cX5_shareAll 21 = .ok (.iload_n 1, 1) := dk_27 (dk_at dksX5_shareAll_0 21 rfl rfl)
theorem dX5_shareAll_22 : decode cX5_shareAll 22 = .ok (.iaload, 1) := dk_46 (dk_at dksX5_shareAll_0 22 rfl rfl)
theorem dX5_shareAll_23 : decode cX5_shareAll 23 = .ok (.istore_n 3, 1) := dk_62 (dk_at dksX5_shareAll_0 23 rfl rfl)
theorem dX5_shareAll_24 : decode cX5_shareAll 24 = .ok (.aload_n 0, 1) := dk_42 (dk_at dksX5_shareAll_1 0 rfl rfl)
theorem dX5_shareAll_25 : decode cX5_shareAll 25 = .ok (.getfield 32, 3) := dk_180 0 32 (dk_at dksX5_shareAll_1 1 rfl rfl)
theorem dX5_shareAll_28 : decode cX5_shareAll 28 = .ok (.iload_n 2, 1) := dk_28 (dk_at dksX5_shareAll_1 4 rfl rfl)
theorem dX5_shareAll_29 : decode cX5_shareAll 29 = .ok (.iaload, 1) := dk_46 (dk_at dksX5_shareAll_1 5 rfl rfl)
theorem dX5_shareAll_30 : decode cX5_shareAll 30 = .ok (.iload_n 3, 1) := dk_29 (dk_at dksX5_shareAll_1 6 rfl rfl)
theorem dX5_shareAll_31 : decode cX5_shareAll 31 = .ok (.if_icmp .ne 7, 3) := dk_160 0 7 (dk_at dksX5_shareAll_1 7 rfl rfl)
theorem dX5_shareAll_34 : decode cX5_shareAll 34 = .ok (.iconst 1, 1) := dk_4 (dk_at dksX5_shareAll_1 10 rfl rfl)
theorem dX5_shareAll_35 : decode cX5_shareAll 35 = .ok (.goto 4, 3) := dk_167 0 4 (dk_at dksX5_shareAll_1 11 rfl rfl)
theorem dX5_shareAll_38 : decode cX5_shareAll 38 = .ok (.iconst 0, 1) := dk_3 (dk_at dksX5_shareAll_1 14 rfl rfl)
theorem dX5_shareAll_39 : decode cX5_shareAll 39 = .ok (.istore 4, 2) := dk_54 4 (dk_at dksX5_shareAll_1 15 rfl rfl)
theorem dX5_shareAll_41 : decode cX5_shareAll 41 = .ok (.iload_n 3, 1) := dk_29 (dk_at dksX5_shareAll_1 17 rfl rfl)
theorem dX5_shareAll_42 : decode cX5_shareAll 42 = .ok (.aload_n 0, 1) := dk_42 (dk_at dksX5_shareAll_1 18 rfl rfl)
theorem dX5_shareAll_43 : decode cX5_shareAll 43 = .ok (.getfield 32, 3) := dk_180 0 32 (dk_at dksX5_shareAll_1 19 rfl rfl)
theorem dX5_shareAll_46 : decode cX5_shareAll 46 = .ok (.iload_n 2, 1) := dk_28 (dk_at dksX5_shareAll_1 22 rfl rfl)
theorem dX5_shareAll_47 : decode cX5_shareAll 47 = .ok (.iaload, 1) := dk_46 (dk_at dksX5_shareAll_1 23 rfl rfl)
theorem dX5_shareAll_48 : decode cX5_shareAll 48 = .ok (.if_icmp .le 9, 3) := dk_164 0 9 (dk_at dksX5_shareAll_2 0 rfl rfl)
theorem dX5_shareAll_51 : decode cX5_shareAll 51 = .ok (.aload_n 0, 1) := dk_42 (dk_at dksX5_shareAll_2 3 rfl rfl)
theorem dX5_shareAll_52 : decode cX5_shareAll 52 = .ok (.iload_n 2, 1) := dk_28 (dk_at dksX5_shareAll_2 4 rfl rfl)
theorem dX5_shareAll_53 : decode cX5_shareAll 53 = .ok (.iload_n 3, 1) := dk_29 (dk_at dksX5_shareAll_2 5 rfl rfl)
theorem dX5_shareAll_54 : decode cX5_shareAll 54 = .ok (.invokevirtual 262, 3) := dk_182 1 6 (dk_at dksX5_shareAll_2 6 rfl rfl)
theorem dX5_shareAll_57 : decode cX5_shareAll 57 = .ok (.iconst 0, 1) := dk_3 (dk_at dksX5_shareAll_2 9 rfl rfl)
theorem dX5_shareAll_58 : decode cX5_shareAll 58 = .ok (.istore 5, 2) := dk_54 5 (dk_at dksX5_shareAll_2 10 rfl rfl)
theorem dX5_shareAll_60 : decode cX5_shareAll 60 = .ok (.iload 5, 2) := dk_21 5 (dk_at dksX5_shareAll_2 12 rfl rfl)
theorem dX5_shareAll_62 : decode cX5_shareAll 62 = .ok (.iconst 1, 1) := dk_4 (dk_at dksX5_shareAll_2 14 rfl rfl)
theorem dX5_shareAll_63 : decode cX5_shareAll 63 = .ok (.aload_n 0, 1) := dk_42 (dk_at dksX5_shareAll_2 15 rfl rfl)
theorem dX5_shareAll_64 : decode cX5_shareAll 64 = .ok (.getfield 120, 3) := dk_180 0 120 (dk_at dksX5_shareAll_2 16 rfl rfl)
theorem dX5_shareAll_67 : decode cX5_shareAll 67 = .ok (.ishl, 1) := dk_120 (dk_at dksX5_shareAll_2 19 rfl rfl)
theorem dX5_shareAll_68 : decode cX5_shareAll 68 = .ok (.if_icmp .ge 53, 3) := dk_162 0 53 (dk_at dksX5_shareAll_2 20 rfl rfl)
theorem dX5_shareAll_71 : decode cX5_shareAll 71 = .ok (.aload_n 0, 1) := dk_42 (dk_at dksX5_shareAll_2 23 rfl rfl)
theorem dX5_shareAll_72 : decode cX5_shareAll 72 = .ok (.getfield 102, 3) := dk_180 0 102 (dk_at dksX5_shareAll_3 0 rfl rfl)
theorem dX5_shareAll_75 : decode cX5_shareAll 75 = .ok (.sipush 256, 3) := dk_17 1 0 (dk_at dksX5_shareAll_3 3 rfl rfl)
theorem dX5_shareAll_78 : decode cX5_shareAll 78 = .ok (.iload_n 1, 1) := dk_27 (dk_at dksX5_shareAll_3 6 rfl rfl)
theorem dX5_shareAll_79 : decode cX5_shareAll 79 = .ok (.imul, 1) := dk_104 (dk_at dksX5_shareAll_3 7 rfl rfl)
theorem dX5_shareAll_80 : decode cX5_shareAll 80 = .ok (.iload 5, 2) := dk_21 5 (dk_at dksX5_shareAll_3 8 rfl rfl)
theorem dX5_shareAll_82 : decode cX5_shareAll 82 = .ok (.iadd, 1) := dk_96 (dk_at dksX5_shareAll_3 10 rfl rfl)
theorem dX5_shareAll_83 : decode cX5_shareAll 83 = .ok (.iload 4, 2) := dk_21 4 (dk_at dksX5_shareAll_3 11 rfl rfl)
theorem dX5_shareAll_85 : decode cX5_shareAll 85 = .ok (.ifCond .ne 24, 3) := dk_154 0 24 (dk_at dksX5_shareAll_3 13 rfl rfl)
theorem dX5_shareAll_88 : decode cX5_shareAll 88 = .ok (.iload_n 3, 1) := dk_29 (dk_at dksX5_shareAll_3 16 rfl rfl)
theorem dX5_shareAll_89 : decode cX5_shareAll 89 = .ok (.aload_n 0, 1) := dk_42 (dk_at dksX5_shareAll_3 17 rfl rfl)
theorem dX5_shareAll_90 : decode cX5_shareAll 90 = .ok (.getfield 32, 3) := dk_180 0 32 (dk_at dksX5_shareAll_3 18 rfl rfl)
theorem dX5_shareAll_93 : decode cX5_shareAll 93 = .ok (.iload_n 2, 1) := dk_28 (dk_at dksX5_shareAll_3 21 rfl rfl)
theorem dX5_shareAll_94 : decode cX5_shareAll 94 = .ok (.iaload, 1) := dk_46 (dk_at dksX5_shareAll_3 22 rfl rfl)
theorem dX5_shareAll_95 : decode cX5_shareAll 95 = .ok (.if_icmp .le 18, 3) := dk_164 0 18 (dk_at dksX5_shareAll_4 0 rfl rfl)
theorem dX5_shareAll_98 : decode cX5_shareAll 98 = .ok (.aload_n 0, 1) := dk_42 (dk_at dksX5_shareAll_4 3 rfl rfl)
theorem dX5_shareAll_99 : decode cX5_shareAll 99 = .ok (.getfield 90, 3) := dk_180 0 90 (dk_at dksX5_shareAll_4 4 rfl rfl)
theorem dX5_shareAll_102 : decode cX5_shareAll 102 = .ok (.iload 5, 2) := dk_21 5 (dk_at dksX5_shareAll_4 7 rfl rfl)
theorem dX5_shareAll_104 : decode cX5_shareAll 104 = .ok (.iaload, 1) := dk_46 (dk_at dksX5_shareAll_4 9 rfl rfl)
theorem dX5_shareAll_105 : decode cX5_shareAll 105 = .ok (.iload_n 3, 1) := dk_29 (dk_at dksX5_shareAll_4 10 rfl rfl)
theorem dX5_shareAll_106 : decode cX5_shareAll 106 = .ok (.if_icmp .ne 7, 3) := dk_160 0 7 (dk_at dksX5_shareAll_4 11 rfl rfl)
theorem dX5_shareAll_109 : decode cX5_shareAll 109 = .ok (.iconst 1, 1) := dk_4 (dk_at dksX5_shareAll_4 14 rfl rfl)
theorem dX5_shareAll_110 : decode cX5_shareAll 110 = .ok (.goto 4, 3) := dk_167 0 4 (dk_at dksX5_shareAll_4 15 rfl rfl)
theorem dX5_shareAll_113 : decode cX5_shareAll 113 = .ok (.iconst 0, 1) := dk_3 (dk_at dksX5_shareAll_4 18 rfl rfl)
theorem dX5_shareAll_114 : decode cX5_shareAll 114 = .ok (.iastore, 1) := dk_79 (dk_at dksX5_shareAll_4 19 rfl rfl)
theorem dX5_shareAll_115 : decode cX5_shareAll 115 = .ok (.iinc 5 1, 3) := dk_132 5 1 (dk_at dksX5_shareAll_4 20 rfl rfl)
theorem dX5_shareAll_118 : decode cX5_shareAll 118 = .ok (.goto (-58), 3) := dk_167 255 198 (dk_at dksX5_shareAll_5 0 rfl rfl)
theorem dX5_shareAll_121 : decode cX5_shareAll 121 = .ok (.aload_n 0, 1) := dk_42 (dk_at dksX5_shareAll_5 3 rfl rfl)
theorem dX5_shareAll_122 : decode cX5_shareAll 122 = .ok (.getfield 105, 3) := dk_180 0 105 (dk_at dksX5_shareAll_5 4 rfl rfl)
theorem dX5_shareAll_125 : decode cX5_shareAll 125 = .ok (.iload_n 1, 1) := dk_27 (dk_at dksX5_shareAll_5 7 rfl rfl)
theorem dX5_shareAll_126 : decode cX5_shareAll 126 = .ok (.iconst 0, 1) := dk_3 (dk_at dksX5_shareAll_5 8 rfl rfl)
theorem dX5_shareAll_127 : decode cX5_shareAll 127 = .ok (.iastore, 1) := dk_79 (dk_at dksX5_shareAll_5 9 rfl rfl)
theorem dX5_shareAll_128 : decode cX5_shareAll 128 = .ok (.iinc 1 1, 3) := dk_132 1 1 (dk_at dksX5_shareAll_5 10 rfl rfl)
theorem dX5_shareAll_131 : decode cX5_shareAll 131 = .ok (.goto (-129), 3) := dk_167 255 127 (dk_at dksX5_shareAll_5 13 rfl rfl)
theorem dX5_shareAll_134 : decode cX5_shareAll 134 = .ok (.aload_n 0, 1) := dk_42 (dk_at dksX5_shareAll_5 16 rfl rfl)
theorem dX5_shareAll_135 : decode cX5_shareAll 135 = .ok (.iconst (-1), 1) := dk_2 (dk_at dksX5_shareAll_5 17 rfl rfl)
theorem dX5_shareAll_136 : decode cX5_shareAll 136 = .ok (.putfield 277, 3) := dk_181 1 21 (dk_at dksX5_shareAll_5 18 rfl rfl)
theorem dX5_shareAll_139 : decode cX5_shareAll 139 = .ok (.aload_n 0, 1) := dk_42 (dk_at dksX5_shareAll_5 21 rfl rfl)
theorem dX5_shareAll_140 : decode cX5_shareAll 140 = .ok (.iconst 0, 1) := dk_3 (dk_at dksX5_shareAll_5 22 rfl rfl)
theorem dX5_shareAll_141 : decode cX5_shareAll 141 = .ok (.invokevirtual 280, 3) := dk_182 1 24 (dk_at dksX5_shareAll_6 0 rfl rfl)
theorem dX5_shareAll_144 : decode cX5_shareAll 144 = .ok (.return_, 1) := dk_177 (dk_at dksX5_shareAll_6 3 rfl rfl)
abbrev cX5_shares : ByteArray := prog_22_method_67_code
def yX5_shares : MethodName := ⟨RX5, "shares", "(I)V"⟩
def dkwX5_shares_5 : List UInt8 := [132, 2, 1, 167, 255, 205, 177]
abbrev dktX5_shares_5 : List UInt8 := dkwX5_shares_5 ++ []
def dkwX5_shares_4 : List UInt8 := [120, 128, 79, 42, 27, 4, 96, 182, 1, 24, 42, 180, 0, 105, 28, 92, 46, 4, 27, 120, 2, 130, 126, 79]
abbrev dktX5_shares_4 : List UInt8 := dkwX5_shares_4 ++ dktX5_shares_5
def dkwX5_shares_3 : List UInt8 := [28, 42, 180, 0, 162, 162, 0, 49, 42, 180, 0, 108, 27, 28, 79, 42, 180, 0, 105, 28, 92, 46, 4, 27]
abbrev dktX5_shares_3 : List UInt8 := dkwX5_shares_3 ++ dktX5_shares_4
def dkwX5_shares_2 : List UInt8 := [79, 132, 3, 1, 167, 255, 233, 177, 42, 180, 0, 108, 27, 2, 79, 42, 27, 4, 96, 182, 1, 24, 3, 61]
abbrev dktX5_shares_2 : List UInt8 := dkwX5_shares_2 ++ dktX5_shares_3
def dkwX5_shares_1 : List UInt8 := [181, 1, 21, 3, 62, 29, 42, 180, 0, 120, 162, 0, 21, 42, 180, 0, 111, 29, 42, 180, 0, 108, 29, 46]
abbrev dktX5_shares_1 : List UInt8 := dkwX5_shares_1 ++ dktX5_shares_2
def dkwX5_shares_0 : List UInt8 := [27, 42, 180, 0, 120, 160, 0, 51, 42, 182, 1, 18, 61, 28, 42, 180, 1, 21, 163, 0, 4, 177, 42, 28]
abbrev dktX5_shares_0 : List UInt8 := dkwX5_shares_0 ++ dktX5_shares_1
theorem dksX5_shares_0 : cX5_shares.data.toList.drop 0 = dktX5_shares_0 := by decide +kernel
theorem dksX5_shares_1 : cX5_shares.data.toList.drop 24 = dktX5_shares_1 := dk_seg dksX5_shares_0 24 rfl rfl
theorem dksX5_shares_2 : cX5_shares.data.toList.drop 48 = dktX5_shares_2 := dk_seg dksX5_shares_1 24 rfl rfl
theorem dksX5_shares_3 : cX5_shares.data.toList.drop 72 = dktX5_shares_3 := dk_seg dksX5_shares_2 24 rfl rfl
theorem dksX5_shares_4 : cX5_shares.data.toList.drop 96 = dktX5_shares_4 := dk_seg dksX5_shares_3 24 rfl rfl
theorem dksX5_shares_5 : cX5_shares.data.toList.drop 120 = dktX5_shares_5 := dk_seg dksX5_shares_4 24 rfl rfl
theorem dX5_shares_0 : decode cX5_shares 0 = .ok (.iload_n 1, 1) := dk_27 (dk_at dksX5_shares_0 0 rfl rfl)
theorem dX5_shares_1 : decode cX5_shares 1 = .ok (.aload_n 0, 1) := dk_42 (dk_at dksX5_shares_0 1 rfl rfl)
theorem dX5_shares_2 : decode cX5_shares 2 = .ok (.getfield 120, 3) := dk_180 0 120 (dk_at dksX5_shares_0 2 rfl rfl)
theorem dX5_shares_5 : decode cX5_shares 5 = .ok (.if_icmp .ne 51, 3) := dk_160 0 51 (dk_at dksX5_shares_0 5 rfl rfl)
theorem dX5_shares_8 : decode cX5_shares 8 = .ok (.aload_n 0, 1) := dk_42 (dk_at dksX5_shares_0 8 rfl rfl)
theorem dX5_shares_9 : decode cX5_shares 9 = .ok (.invokevirtual 274, 3) := dk_182 1 18 (dk_at dksX5_shares_0 9 rfl rfl)
theorem dX5_shares_12 : decode cX5_shares 12 = .ok (.istore_n 2, 1) := dk_61 (dk_at dksX5_shares_0 12 rfl rfl)
theorem dX5_shares_13 : decode cX5_shares 13 = .ok (.iload_n 2, 1) := dk_28 (dk_at dksX5_shares_0 13 rfl rfl)
theorem dX5_shares_14 : decode cX5_shares 14 = .ok (.aload_n 0, 1) := dk_42 (dk_at dksX5_shares_0 14 rfl rfl)
theorem dX5_shares_15 : decode cX5_shares 15 = .ok (.getfield 277, 3) := dk_180 1 21 (dk_at dksX5_shares_0 15 rfl rfl)
theorem dX5_shares_18 : decode cX5_shares 18 = .ok (.if_icmp .gt 4, 3) := dk_163 0 4 (dk_at dksX5_shares_0 18 rfl rfl)
theorem dX5_shares_21 : decode cX5_shares 21 = .ok (.return_, 1) := dk_177 (dk_at dksX5_shares_0 21 rfl rfl)
theorem dX5_shares_22 : decode cX5_shares 22 = .ok (.aload_n 0, 1) := dk_42 (dk_at dksX5_shares_0 22 rfl rfl)
theorem dX5_shares_23 : decode cX5_shares 23 = .ok (.iload_n 2, 1) := dk_28 (dk_at dksX5_shares_0 23 rfl rfl)
theorem dX5_shares_24 : decode cX5_shares 24 = .ok (.putfield 277, 3) := dk_181 1 21 (dk_at dksX5_shares_1 0 rfl rfl)
theorem dX5_shares_27 : decode cX5_shares 27 = .ok (.iconst 0, 1) := dk_3 (dk_at dksX5_shares_1 3 rfl rfl)
theorem dX5_shares_28 : decode cX5_shares 28 = .ok (.istore_n 3, 1) := dk_62 (dk_at dksX5_shares_1 4 rfl rfl)
theorem dX5_shares_29 : decode cX5_shares 29 = .ok (.iload_n 3, 1) := dk_29 (dk_at dksX5_shares_1 5 rfl rfl)
theorem dX5_shares_30 : decode cX5_shares 30 = .ok (.aload_n 0, 1) := dk_42 (dk_at dksX5_shares_1 6 rfl rfl)
theorem dX5_shares_31 : decode cX5_shares 31 = .ok (.getfield 120, 3) := dk_180 0 120 (dk_at dksX5_shares_1 7 rfl rfl)
theorem dX5_shares_34 : decode cX5_shares 34 = .ok (.if_icmp .ge 21, 3) := dk_162 0 21 (dk_at dksX5_shares_1 10 rfl rfl)
theorem dX5_shares_37 : decode cX5_shares 37 = .ok (.aload_n 0, 1) := dk_42 (dk_at dksX5_shares_1 13 rfl rfl)
theorem dX5_shares_38 : decode cX5_shares 38 = .ok (.getfield 111, 3) := dk_180 0 111 (dk_at dksX5_shares_1 14 rfl rfl)
theorem dX5_shares_41 : decode cX5_shares 41 = .ok (.iload_n 3, 1) := dk_29 (dk_at dksX5_shares_1 17 rfl rfl)
theorem dX5_shares_42 : decode cX5_shares 42 = .ok (.aload_n 0, 1) := dk_42 (dk_at dksX5_shares_1 18 rfl rfl)
theorem dX5_shares_43 : decode cX5_shares 43 = .ok (.getfield 108, 3) := dk_180 0 108 (dk_at dksX5_shares_1 19 rfl rfl)
theorem dX5_shares_46 : decode cX5_shares 46 = .ok (.iload_n 3, 1) := dk_29 (dk_at dksX5_shares_1 22 rfl rfl)
theorem dX5_shares_47 : decode cX5_shares 47 = .ok (.iaload, 1) := dk_46 (dk_at dksX5_shares_1 23 rfl rfl)
theorem dX5_shares_48 : decode cX5_shares 48 = .ok (.iastore, 1) := dk_79 (dk_at dksX5_shares_2 0 rfl rfl)
theorem dX5_shares_49 : decode cX5_shares 49 = .ok (.iinc 3 1, 3) := dk_132 3 1 (dk_at dksX5_shares_2 1 rfl rfl)
theorem dX5_shares_52 : decode cX5_shares 52 = .ok (.goto (-23), 3) := dk_167 255 233 (dk_at dksX5_shares_2 4 rfl rfl)
theorem dX5_shares_55 : decode cX5_shares 55 = .ok (.return_, 1) := dk_177 (dk_at dksX5_shares_2 7 rfl rfl)
theorem dX5_shares_56 : decode cX5_shares 56 = .ok (.aload_n 0, 1) := dk_42 (dk_at dksX5_shares_2 8 rfl rfl)
theorem dX5_shares_57 : decode cX5_shares 57 = .ok (.getfield 108, 3) := dk_180 0 108 (dk_at dksX5_shares_2 9 rfl rfl)
theorem dX5_shares_60 : decode cX5_shares 60 = .ok (.iload_n 1, 1) := dk_27 (dk_at dksX5_shares_2 12 rfl rfl)
theorem dX5_shares_61 : decode cX5_shares 61 = .ok (.iconst (-1), 1) := dk_2 (dk_at dksX5_shares_2 13 rfl rfl)
theorem dX5_shares_62 : decode cX5_shares 62 = .ok (.iastore, 1) := dk_79 (dk_at dksX5_shares_2 14 rfl rfl)
theorem dX5_shares_63 : decode cX5_shares 63 = .ok (.aload_n 0, 1) := dk_42 (dk_at dksX5_shares_2 15 rfl rfl)
theorem dX5_shares_64 : decode cX5_shares 64 = .ok (.iload_n 1, 1) := dk_27 (dk_at dksX5_shares_2 16 rfl rfl)
theorem dX5_shares_65 : decode cX5_shares 65 = .ok (.iconst 1, 1) := dk_4 (dk_at dksX5_shares_2 17 rfl rfl)
theorem dX5_shares_66 : decode cX5_shares 66 = .ok (.iadd, 1) := dk_96 (dk_at dksX5_shares_2 18 rfl rfl)
theorem dX5_shares_67 : decode cX5_shares 67 = .ok (.invokevirtual 280, 3) := dk_182 1 24 (dk_at dksX5_shares_2 19 rfl rfl)
theorem dX5_shares_70 : decode cX5_shares 70 = .ok (.iconst 0, 1) := dk_3 (dk_at dksX5_shares_2 22 rfl rfl)
theorem dX5_shares_71 : decode cX5_shares 71 = .ok (.istore_n 2, 1) := dk_61 (dk_at dksX5_shares_2 23 rfl rfl)
theorem dX5_shares_72 : decode cX5_shares 72 = .ok (.iload_n 2, 1) := dk_28 (dk_at dksX5_shares_3 0 rfl rfl)
theorem dX5_shares_73 : decode cX5_shares 73 = .ok (.aload_n 0, 1) := dk_42 (dk_at dksX5_shares_3 1 rfl rfl)
theorem dX5_shares_74 : decode cX5_shares 74 = .ok (.getfield 162, 3) := dk_180 0 162 (dk_at dksX5_shares_3 2 rfl rfl)
theorem dX5_shares_77 : decode cX5_shares 77 = .ok (.if_icmp .ge 49, 3) := dk_162 0 49 (dk_at dksX5_shares_3 5 rfl rfl)
theorem dX5_shares_80 : decode cX5_shares 80 = .ok (.aload_n 0, 1) := dk_42 (dk_at dksX5_shares_3 8 rfl rfl)
theorem dX5_shares_81 : decode cX5_shares 81 = .ok (.getfield 108, 3) := dk_180 0 108 (dk_at dksX5_shares_3 9 rfl rfl)
theorem dX5_shares_84 : decode cX5_shares 84 = .ok (.iload_n 1, 1) := dk_27 (dk_at dksX5_shares_3 12 rfl rfl)
theorem dX5_shares_85 : decode cX5_shares 85 = .ok (.iload_n 2, 1) := dk_28 (dk_at dksX5_shares_3 13 rfl rfl)
theorem dX5_shares_86 : decode cX5_shares 86 = .ok (.iastore, 1) := dk_79 (dk_at dksX5_shares_3 14 rfl rfl)
theorem dX5_shares_87 : decode cX5_shares 87 = .ok (.aload_n 0, 1) := dk_42 (dk_at dksX5_shares_3 15 rfl rfl)
theorem dX5_shares_88 : decode cX5_shares 88 = .ok (.getfield 105, 3) := dk_180 0 105 (dk_at dksX5_shares_3 16 rfl rfl)
theorem dX5_shares_91 : decode cX5_shares 91 = .ok (.iload_n 2, 1) := dk_28 (dk_at dksX5_shares_3 19 rfl rfl)
theorem dX5_shares_92 : decode cX5_shares 92 = .ok (.dup2, 1) := dk_92 (dk_at dksX5_shares_3 20 rfl rfl)
theorem dX5_shares_93 : decode cX5_shares 93 = .ok (.iaload, 1) := dk_46 (dk_at dksX5_shares_3 21 rfl rfl)
theorem dX5_shares_94 : decode cX5_shares 94 = .ok (.iconst 1, 1) := dk_4 (dk_at dksX5_shares_3 22 rfl rfl)
theorem dX5_shares_95 : decode cX5_shares 95 = .ok (.iload_n 1, 1) := dk_27 (dk_at dksX5_shares_3 23 rfl rfl)
theorem dX5_shares_96 : decode cX5_shares 96 = .ok (.ishl, 1) := dk_120 (dk_at dksX5_shares_4 0 rfl rfl)
theorem dX5_shares_97 : decode cX5_shares 97 = .ok (.ior, 1) := dk_128 (dk_at dksX5_shares_4 1 rfl rfl)
theorem dX5_shares_98 : decode cX5_shares 98 = .ok (.iastore, 1) := dk_79 (dk_at dksX5_shares_4 2 rfl rfl)
theorem dX5_shares_99 : decode cX5_shares 99 = .ok (.aload_n 0, 1) := dk_42 (dk_at dksX5_shares_4 3 rfl rfl)
theorem dX5_shares_100 : decode cX5_shares 100 = .ok (.iload_n 1, 1) := dk_27 (dk_at dksX5_shares_4 4 rfl rfl)
theorem dX5_shares_101 : decode cX5_shares 101 = .ok (.iconst 1, 1) := dk_4 (dk_at dksX5_shares_4 5 rfl rfl)
theorem dX5_shares_102 : decode cX5_shares 102 = .ok (.iadd, 1) := dk_96 (dk_at dksX5_shares_4 6 rfl rfl)
theorem dX5_shares_103 : decode cX5_shares 103 = .ok (.invokevirtual 280, 3) := dk_182 1 24 (dk_at dksX5_shares_4 7 rfl rfl)
theorem dX5_shares_106 : decode cX5_shares 106 = .ok (.aload_n 0, 1) := dk_42 (dk_at dksX5_shares_4 10 rfl rfl)
theorem dX5_shares_107 : decode cX5_shares 107 = .ok (.getfield 105, 3) := dk_180 0 105 (dk_at dksX5_shares_4 11 rfl rfl)
theorem dX5_shares_110 : decode cX5_shares 110 = .ok (.iload_n 2, 1) := dk_28 (dk_at dksX5_shares_4 14 rfl rfl)
theorem dX5_shares_111 : decode cX5_shares 111 = .ok (.dup2, 1) := dk_92 (dk_at dksX5_shares_4 15 rfl rfl)
theorem dX5_shares_112 : decode cX5_shares 112 = .ok (.iaload, 1) := dk_46 (dk_at dksX5_shares_4 16 rfl rfl)
theorem dX5_shares_113 : decode cX5_shares 113 = .ok (.iconst 1, 1) := dk_4 (dk_at dksX5_shares_4 17 rfl rfl)
theorem dX5_shares_114 : decode cX5_shares 114 = .ok (.iload_n 1, 1) := dk_27 (dk_at dksX5_shares_4 18 rfl rfl)
theorem dX5_shares_115 : decode cX5_shares 115 = .ok (.ishl, 1) := dk_120 (dk_at dksX5_shares_4 19 rfl rfl)
theorem dX5_shares_116 : decode cX5_shares 116 = .ok (.iconst (-1), 1) := dk_2 (dk_at dksX5_shares_4 20 rfl rfl)
theorem dX5_shares_117 : decode cX5_shares 117 = .ok (.ixor, 1) := dk_130 (dk_at dksX5_shares_4 21 rfl rfl)
theorem dX5_shares_118 : decode cX5_shares 118 = .ok (.iand, 1) := dk_126 (dk_at dksX5_shares_4 22 rfl rfl)
theorem dX5_shares_119 : decode cX5_shares 119 = .ok (.iastore, 1) := dk_79 (dk_at dksX5_shares_4 23 rfl rfl)
theorem dX5_shares_120 : decode cX5_shares 120 = .ok (.iinc 2 1, 3) := dk_132 2 1 (dk_at dksX5_shares_5 0 rfl rfl)
theorem dX5_shares_123 : decode cX5_shares 123 = .ok (.goto (-51), 3) := dk_167 255 205 (dk_at dksX5_shares_5 3 rfl rfl)
theorem dX5_shares_126 : decode cX5_shares 126 = .ok (.return_, 1) := dk_177 (dk_at dksX5_shares_5 6 rfl rfl)
abbrev cX5_worthOf : ByteArray := prog_22_method_66_code
def yX5_worthOf : MethodName := ⟨RX5, "worthOf", "()I"⟩
def dkwX5_worthOf_2 : List UInt8 := [167, 255, 215, 27, 172]
abbrev dktX5_worthOf_2 : List UInt8 := dkwX5_worthOf_2 ++ []
def dkwX5_worthOf_1 : List UInt8 := [180, 0, 105, 28, 46, 96, 46, 4, 160, 0, 12, 27, 42, 180, 0, 53, 28, 46, 96, 60, 132, 2, 1]
abbrev dktX5_worthOf_1 : List UInt8 := dkwX5_worthOf_1 ++ dktX5_worthOf_2
def dkwX5_worthOf_0 : List UInt8 := [3, 60, 3, 61, 28, 42, 180, 0, 162, 162, 0, 39, 42, 180, 0, 102, 17, 1, 0, 28, 104, 42]
abbrev dktX5_worthOf_0 : List UInt8 := dkwX5_worthOf_0 ++ dktX5_worthOf_1
theorem dksX5_worthOf_0 : cX5_worthOf.data.toList.drop 0 = dktX5_worthOf_0 := by decide +kernel
theorem dksX5_worthOf_1 : cX5_worthOf.data.toList.drop 22 = dktX5_worthOf_1 := dk_seg dksX5_worthOf_0 22 rfl rfl
theorem dksX5_worthOf_2 : cX5_worthOf.data.toList.drop 45 = dktX5_worthOf_2 := dk_seg dksX5_worthOf_1 23 rfl rfl
theorem dX5_worthOf_0 : decode cX5_worthOf 0 = .ok (.iconst 0, 1) := dk_3 (dk_at dksX5_worthOf_0 0 rfl rfl)
theorem dX5_worthOf_1 : decode cX5_worthOf 1 = .ok (.istore_n 1, 1) := dk_60 (dk_at dksX5_worthOf_0 1 rfl rfl)
theorem dX5_worthOf_2 : decode cX5_worthOf 2 = .ok (.iconst 0, 1) := dk_3 (dk_at dksX5_worthOf_0 2 rfl rfl)
theorem dX5_worthOf_3 : decode cX5_worthOf 3 = .ok (.istore_n 2, 1) := dk_61 (dk_at dksX5_worthOf_0 3 rfl rfl)
theorem dX5_worthOf_4 : decode cX5_worthOf 4 = .ok (.iload_n 2, 1) := dk_28 (dk_at dksX5_worthOf_0 4 rfl rfl)
theorem dX5_worthOf_5 : decode cX5_worthOf 5 = .ok (.aload_n 0, 1) := dk_42 (dk_at dksX5_worthOf_0 5 rfl rfl)
theorem dX5_worthOf_6 : decode cX5_worthOf 6 = .ok (.getfield 162, 3) := dk_180 0 162 (dk_at dksX5_worthOf_0 6 rfl rfl)
theorem dX5_worthOf_9 : decode cX5_worthOf 9 = .ok (.if_icmp .ge 39, 3) := dk_162 0 39 (dk_at dksX5_worthOf_0 9 rfl rfl)
theorem dX5_worthOf_12 : decode cX5_worthOf 12 = .ok (.aload_n 0, 1) := dk_42 (dk_at dksX5_worthOf_0 12 rfl rfl)
theorem dX5_worthOf_13 : decode cX5_worthOf 13 = .ok (.getfield 102, 3) := dk_180 0 102 (dk_at dksX5_worthOf_0 13 rfl rfl)
theorem dX5_worthOf_16 : decode cX5_worthOf 16 = .ok (.sipush 256, 3) := dk_17 1 0 (dk_at dksX5_worthOf_0 16 rfl rfl)
theorem dX5_worthOf_19 : decode cX5_worthOf 19 = .ok (.iload_n 2, 1) := dk_28 (dk_at dksX5_worthOf_0 19 rfl rfl)
theorem dX5_worthOf_20 : decode cX5_worthOf 20 = .ok (.imul, 1) := dk_104 (dk_at dksX5_worthOf_0 20 rfl rfl)
theorem dX5_worthOf_21 : decode cX5_worthOf 21 = .ok (.aload_n 0, 1) := dk_42 (dk_at dksX5_worthOf_0 21 rfl rfl)
theorem dX5_worthOf_22 : decode cX5_worthOf 22 = .ok (.getfield 105, 3) := dk_180 0 105 (dk_at dksX5_worthOf_1 0 rfl rfl)
theorem dX5_worthOf_25 : decode cX5_worthOf 25 = .ok (.iload_n 2, 1) := dk_28 (dk_at dksX5_worthOf_1 3 rfl rfl)
theorem dX5_worthOf_26 : decode cX5_worthOf 26 = .ok (.iaload, 1) := dk_46 (dk_at dksX5_worthOf_1 4 rfl rfl)
theorem dX5_worthOf_27 : decode cX5_worthOf 27 = .ok (.iadd, 1) := dk_96 (dk_at dksX5_worthOf_1 5 rfl rfl)
theorem dX5_worthOf_28 : decode cX5_worthOf 28 = .ok (.iaload, 1) := dk_46 (dk_at dksX5_worthOf_1 6 rfl rfl)
theorem dX5_worthOf_29 : decode cX5_worthOf 29 = .ok (.iconst 1, 1) := dk_4 (dk_at dksX5_worthOf_1 7 rfl rfl)
theorem dX5_worthOf_30 : decode cX5_worthOf 30 = .ok (.if_icmp .ne 12, 3) := dk_160 0 12 (dk_at dksX5_worthOf_1 8 rfl rfl)
theorem dX5_worthOf_33 : decode cX5_worthOf 33 = .ok (.iload_n 1, 1) := dk_27 (dk_at dksX5_worthOf_1 11 rfl rfl)
theorem dX5_worthOf_34 : decode cX5_worthOf 34 = .ok (.aload_n 0, 1) := dk_42 (dk_at dksX5_worthOf_1 12 rfl rfl)
theorem dX5_worthOf_35 : decode cX5_worthOf 35 = .ok (.getfield 53, 3) := dk_180 0 53 (dk_at dksX5_worthOf_1 13 rfl rfl)
theorem dX5_worthOf_38 : decode cX5_worthOf 38 = .ok (.iload_n 2, 1) := dk_28 (dk_at dksX5_worthOf_1 16 rfl rfl)
theorem dX5_worthOf_39 : decode cX5_worthOf 39 = .ok (.iaload, 1) := dk_46 (dk_at dksX5_worthOf_1 17 rfl rfl)
theorem dX5_worthOf_40 : decode cX5_worthOf 40 = .ok (.iadd, 1) := dk_96 (dk_at dksX5_worthOf_1 18 rfl rfl)
theorem dX5_worthOf_41 : decode cX5_worthOf 41 = .ok (.istore_n 1, 1) := dk_60 (dk_at dksX5_worthOf_1 19 rfl rfl)
theorem dX5_worthOf_42 : decode cX5_worthOf 42 = .ok (.iinc 2 1, 3) := dk_132 2 1 (dk_at dksX5_worthOf_1 20 rfl rfl)
theorem dX5_worthOf_45 : decode cX5_worthOf 45 = .ok (.goto (-41), 3) := dk_167 255 215 (dk_at dksX5_worthOf_2 0 rfl rfl)
theorem dX5_worthOf_48 : decode cX5_worthOf 48 = .ok (.iload_n 1, 1) := dk_27 (dk_at dksX5_worthOf_2 3 rfl rfl)
theorem dX5_worthOf_49 : decode cX5_worthOf 49 = .ok (.ireturn, 1) := dk_172 (dk_at dksX5_worthOf_2 4 rfl rfl)
abbrev cX5_given : ByteArray := prog_22_method_70_code
def yX5_given : MethodName := ⟨RX5, "given", "(I)I"⟩
def dkwX5_given_1 : List UInt8 := [172]
abbrev dktX5_given_1 : List UInt8 := dkwX5_given_1 ++ []
def dkwX5_given_0 : List UInt8 := [42, 27, 182, 0, 178, 154, 0, 9, 42, 2, 182, 1, 15, 172, 42, 182, 1, 28, 42, 180, 0, 111, 27, 46]
abbrev dktX5_given_0 : List UInt8 := dkwX5_given_0 ++ dktX5_given_1
theorem dksX5_given_0 : cX5_given.data.toList.drop 0 = dktX5_given_0 := by decide +kernel
theorem dksX5_given_1 : cX5_given.data.toList.drop 24 = dktX5_given_1 := dk_seg dksX5_given_0 24 rfl rfl
theorem dX5_given_0 : decode cX5_given 0 = .ok (.aload_n 0, 1) := dk_42 (dk_at dksX5_given_0 0 rfl rfl)
theorem dX5_given_1 : decode cX5_given 1 = .ok (.iload_n 1, 1) := dk_27 (dk_at dksX5_given_0 1 rfl rfl)
theorem dX5_given_2 : decode cX5_given 2 = .ok (.invokevirtual 178, 3) := dk_182 0 178 (dk_at dksX5_given_0 2 rfl rfl)
theorem dX5_given_5 : decode cX5_given 5 = .ok (.ifCond .ne 9, 3) := dk_154 0 9 (dk_at dksX5_given_0 5 rfl rfl)
theorem dX5_given_8 : decode cX5_given 8 = .ok (.aload_n 0, 1) := dk_42 (dk_at dksX5_given_0 8 rfl rfl)
theorem dX5_given_9 : decode cX5_given 9 = .ok (.iconst (-1), 1) := dk_2 (dk_at dksX5_given_0 9 rfl rfl)
theorem dX5_given_10 : decode cX5_given 10 = .ok (.invokevirtual 271, 3) := dk_182 1 15 (dk_at dksX5_given_0 10 rfl rfl)
theorem dX5_given_13 : decode cX5_given 13 = .ok (.ireturn, 1) := dk_172 (dk_at dksX5_given_0 13 rfl rfl)
theorem dX5_given_14 : decode cX5_given 14 = .ok (.aload_n 0, 1) := dk_42 (dk_at dksX5_given_0 14 rfl rfl)
theorem dX5_given_15 : decode cX5_given 15 = .ok (.invokevirtual 284, 3) := dk_182 1 28 (dk_at dksX5_given_0 15 rfl rfl)
theorem dX5_given_18 : decode cX5_given 18 = .ok (.aload_n 0, 1) := dk_42 (dk_at dksX5_given_0 18 rfl rfl)
theorem dX5_given_19 : decode cX5_given 19 = .ok (.getfield 111, 3) := dk_180 0 111 (dk_at dksX5_given_0 19 rfl rfl)
theorem dX5_given_22 : decode cX5_given 22 = .ok (.iload_n 1, 1) := dk_27 (dk_at dksX5_given_0 22 rfl rfl)
theorem dX5_given_23 : decode cX5_given 23 = .ok (.iaload, 1) := dk_46 (dk_at dksX5_given_0 23 rfl rfl)
theorem dX5_given_24 : decode cX5_given 24 = .ok (.ireturn, 1) := dk_172 (dk_at dksX5_given_1 0 rfl rfl)
abbrev cX5_mill : ByteArray := prog_22_method_71_code
def yX5_mill : MethodName := ⟨RX5, "mill", "(III)I"⟩
def dkwX5_mill_4 : List UInt8 := [167, 255, 223, 21, 6, 172]
abbrev dktX5_mill_4 : List UInt8 := dkwX5_mill_4 ++ []
def dkwX5_mill_3 : List UInt8 := [28, 182, 0, 253, 54, 7, 21, 7, 21, 5, 160, 0, 5, 2, 172, 21, 7, 54, 5, 132, 6, 1]
abbrev dktX5_mill_3 : List UInt8 := dkwX5_mill_3 ++ dktX5_mill_4
def dkwX5_mill_2 : List UInt8 := [54, 4, 42, 180, 0, 32, 27, 46, 54, 5, 3, 54, 6, 21, 5, 28, 162, 0, 33, 42, 21, 5, 21, 4]
abbrev dktX5_mill_2 : List UInt8 := dkwX5_mill_2 ++ dktX5_mill_3
def dkwX5_mill_1 : List UInt8 := [4, 161, 0, 9, 29, 16, 99, 164, 0, 10, 42, 16, 250, 182, 1, 15, 172, 42, 29, 27, 182, 0, 143]
abbrev dktX5_mill_1 : List UInt8 := dkwX5_mill_1 ++ dktX5_mill_2
def dkwX5_mill_0 : List UInt8 := [42, 27, 182, 0, 140, 154, 0, 9, 42, 2, 182, 1, 15, 172, 42, 27, 28, 182, 1, 9, 153, 0, 14, 29]
abbrev dktX5_mill_0 : List UInt8 := dkwX5_mill_0 ++ dktX5_mill_1
theorem dksX5_mill_0 : cX5_mill.data.toList.drop 0 = dktX5_mill_0 := by decide +kernel
theorem dksX5_mill_1 : cX5_mill.data.toList.drop 24 = dktX5_mill_1 := dk_seg dksX5_mill_0 24 rfl rfl
theorem dksX5_mill_2 : cX5_mill.data.toList.drop 47 = dktX5_mill_2 := dk_seg dksX5_mill_1 23 rfl rfl
theorem dksX5_mill_3 : cX5_mill.data.toList.drop 71 = dktX5_mill_3 := dk_seg dksX5_mill_2 24 rfl rfl
theorem dksX5_mill_4 : cX5_mill.data.toList.drop 93 = dktX5_mill_4 := dk_seg dksX5_mill_3 22 rfl rfl
theorem dX5_mill_0 : decode cX5_mill 0 = .ok (.aload_n 0, 1) := dk_42 (dk_at dksX5_mill_0 0 rfl rfl)
theorem dX5_mill_1 : decode cX5_mill 1 = .ok (.iload_n 1, 1) := dk_27 (dk_at dksX5_mill_0 1 rfl rfl)
theorem dX5_mill_2 : decode cX5_mill 2 = .ok (.invokevirtual 140, 3) := dk_182 0 140 (dk_at dksX5_mill_0 2 rfl rfl)
theorem dX5_mill_5 : decode cX5_mill 5 = .ok (.ifCond .ne 9, 3) := dk_154 0 9 (dk_at dksX5_mill_0 5 rfl rfl)
theorem dX5_mill_8 : decode cX5_mill 8 = .ok (.aload_n 0, 1) := dk_42 (dk_at dksX5_mill_0 8 rfl rfl)
theorem dX5_mill_9 : decode cX5_mill 9 = .ok (.iconst (-1), 1) := dk_2 (dk_at dksX5_mill_0 9 rfl rfl)
theorem dX5_mill_10 : decode cX5_mill 10 = .ok (.invokevirtual 271, 3) := dk_182 1 15 (dk_at dksX5_mill_0 10 rfl rfl)
theorem dX5_mill_13 : decode cX5_mill 13 = .ok (.ireturn, 1) := dk_172 (dk_at dksX5_mill_0 13 rfl rfl)
theorem dX5_mill_14 : decode cX5_mill 14 = .ok (.aload_n 0, 1) := dk_42 (dk_at dksX5_mill_0 14 rfl rfl)
theorem dX5_mill_15 : decode cX5_mill 15 = .ok (.iload_n 1, 1) := dk_27 (dk_at dksX5_mill_0 15 rfl rfl)
theorem dX5_mill_16 : decode cX5_mill 16 = .ok (.iload_n 2, 1) := dk_28 (dk_at dksX5_mill_0 16 rfl rfl)
theorem dX5_mill_17 : decode cX5_mill 17 = .ok (.invokevirtual 265, 3) := dk_182 1 9 (dk_at dksX5_mill_0 17 rfl rfl)
theorem dX5_mill_20 : decode cX5_mill 20 = .ok (.ifCond .eq 14, 3) := dk_153 0 14 (dk_at dksX5_mill_0 20 rfl rfl)
theorem dX5_mill_23 : decode cX5_mill 23 = .ok (.iload_n 3, 1) := dk_29 (dk_at dksX5_mill_0 23 rfl rfl)
theorem dX5_mill_24 : decode cX5_mill 24 = .ok (.iconst 1, 1) := dk_4 (dk_at dksX5_mill_1 0 rfl rfl)
theorem dX5_mill_25 : decode cX5_mill 25 = .ok (.if_icmp .lt 9, 3) := dk_161 0 9 (dk_at dksX5_mill_1 1 rfl rfl)
theorem dX5_mill_28 : decode cX5_mill 28 = .ok (.iload_n 3, 1) := dk_29 (dk_at dksX5_mill_1 4 rfl rfl)
theorem dX5_mill_29 : decode cX5_mill 29 = .ok (.bipush 99, 2) := dk_16 99 (dk_at dksX5_mill_1 5 rfl rfl)
theorem dX5_mill_31 : decode cX5_mill 31 = .ok (.if_icmp .le 10, 3) := dk_164 0 10 (dk_at dksX5_mill_1 7 rfl rfl)
theorem dX5_mill_34 : decode cX5_mill 34 = .ok (.aload_n 0, 1) := dk_42 (dk_at dksX5_mill_1 10 rfl rfl)
theorem dX5_mill_35 : decode cX5_mill 35 = .ok (.bipush (-6), 2) := dk_16 250 (dk_at dksX5_mill_1 11 rfl rfl)
theorem dX5_mill_37 : decode cX5_mill 37 = .ok (.invokevirtual 271, 3) := dk_182 1 15 (dk_at dksX5_mill_1 13 rfl rfl)
theorem dX5_mill_40 : decode cX5_mill 40 = .ok (.ireturn, 1) := dk_172 (dk_at dksX5_mill_1 16 rfl rfl)
theorem dX5_mill_41 : decode cX5_mill 41 = .ok (.aload_n 0, 1) := dk_42 (dk_at dksX5_mill_1 17 rfl rfl)
theorem dX5_mill_42 : decode cX5_mill 42 = .ok (.iload_n 3, 1) := dk_29 (dk_at dksX5_mill_1 18 rfl rfl)
theorem dX5_mill_43 : decode cX5_mill 43 = .ok (.iload_n 1, 1) := dk_27 (dk_at dksX5_mill_1 19 rfl rfl)
theorem dX5_mill_44 : decode cX5_mill 44 = .ok (.invokevirtual 143, 3) := dk_182 0 143 (dk_at dksX5_mill_1 20 rfl rfl)
theorem dX5_mill_47 : decode cX5_mill 47 = .ok (.istore 4, 2) := dk_54 4 (dk_at dksX5_mill_2 0 rfl rfl)
theorem dX5_mill_49 : decode cX5_mill 49 = .ok (.aload_n 0, 1) := dk_42 (dk_at dksX5_mill_2 2 rfl rfl)
theorem dX5_mill_50 : decode cX5_mill 50 = .ok (.getfield 32, 3) := dk_180 0 32 (dk_at dksX5_mill_2 3 rfl rfl)
theorem dX5_mill_53 : decode cX5_mill 53 = .ok (.iload_n 1, 1) := dk_27 (dk_at dksX5_mill_2 6 rfl rfl)
theorem dX5_mill_54 : decode cX5_mill 54 = .ok (.iaload, 1) := dk_46 (dk_at dksX5_mill_2 7 rfl rfl)
theorem dX5_mill_55 : decode cX5_mill 55 = .ok (.istore 5, 2) := dk_54 5 (dk_at dksX5_mill_2 8 rfl rfl)
theorem dX5_mill_57 : decode cX5_mill 57 = .ok (.iconst 0, 1) := dk_3 (dk_at dksX5_mill_2 10 rfl rfl)
theorem dX5_mill_58 : decode cX5_mill 58 = .ok (.istore 6, 2) := dk_54 6 (dk_at dksX5_mill_2 11 rfl rfl)
theorem dX5_mill_60 : decode cX5_mill 60 = .ok (.iload 5, 2) := dk_21 5 (dk_at dksX5_mill_2 13 rfl rfl)
theorem dX5_mill_62 : decode cX5_mill 62 = .ok (.iload_n 2, 1) := dk_28 (dk_at dksX5_mill_2 15 rfl rfl)
theorem dX5_mill_63 : decode cX5_mill 63 = .ok (.if_icmp .ge 33, 3) := dk_162 0 33 (dk_at dksX5_mill_2 16 rfl rfl)
theorem dX5_mill_66 : decode cX5_mill 66 = .ok (.aload_n 0, 1) := dk_42 (dk_at dksX5_mill_2 19 rfl rfl)
theorem dX5_mill_67 : decode cX5_mill 67 = .ok (.iload 5, 2) := dk_21 5 (dk_at dksX5_mill_2 20 rfl rfl)
theorem dX5_mill_69 : decode cX5_mill 69 = .ok (.iload 4, 2) := dk_21 4 (dk_at dksX5_mill_2 22 rfl rfl)
theorem dX5_mill_71 : decode cX5_mill 71 = .ok (.iload_n 2, 1) := dk_28 (dk_at dksX5_mill_3 0 rfl rfl)
theorem dX5_mill_72 : decode cX5_mill 72 = .ok (.invokevirtual 253, 3) := dk_182 0 253 (dk_at dksX5_mill_3 1 rfl rfl)
theorem dX5_mill_75 : decode cX5_mill 75 = .ok (.istore 7, 2) := dk_54 7 (dk_at dksX5_mill_3 4 rfl rfl)
theorem dX5_mill_77 : decode cX5_mill 77 = .ok (.iload 7, 2) := dk_21 7 (dk_at dksX5_mill_3 6 rfl rfl)
theorem dX5_mill_79 : decode cX5_mill 79 = .ok (.iload 5, 2) := dk_21 5 (dk_at dksX5_mill_3 8 rfl rfl)
theorem dX5_mill_81 : decode cX5_mill 81 = .ok (.if_icmp .ne 5, 3) := dk_160 0 5 (dk_at dksX5_mill_3 10 rfl rfl)
theorem dX5_mill_84 : decode cX5_mill 84 = .ok (.iconst (-1), 1) := dk_2 (dk_at dksX5_mill_3 13 rfl rfl)
theorem dX5_mill_85 : decode cX5_mill 85 = .ok (.ireturn, 1) := dk_172 (dk_at dksX5_mill_3 14 rfl rfl)
theorem dX5_mill_86 : decode cX5_mill 86 = .ok (.iload 7, 2) := dk_21 7 (dk_at dksX5_mill_3 15 rfl rfl)
theorem dX5_mill_88 : decode cX5_mill 88 = .ok (.istore 5, 2) := dk_54 5 (dk_at dksX5_mill_3 17 rfl rfl)
theorem dX5_mill_90 : decode cX5_mill 90 = .ok (.iinc 6 1, 3) := dk_132 6 1 (dk_at dksX5_mill_3 19 rfl rfl)
theorem dX5_mill_93 : decode cX5_mill 93 = .ok (.goto (-33), 3) := dk_167 255 223 (dk_at dksX5_mill_4 0 rfl rfl)
theorem dX5_mill_96 : decode cX5_mill 96 = .ok (.iload 6, 2) := dk_21 6 (dk_at dksX5_mill_4 3 rfl rfl)
theorem dX5_mill_98 : decode cX5_mill 98 = .ok (.ireturn, 1) := dk_172 (dk_at dksX5_mill_4 5 rfl rfl)
abbrev cX5_weakest : ByteArray := prog_22_method_72_code
def yX5_weakest : MethodName := ⟨RX5, "weakest", "(II)I"⟩
def dkwX5_weakest_4 : List UInt8 := [163, 0, 6, 167, 0, 10, 21, 5, 62, 21, 6, 54, 4, 132, 5, 1, 167, 255, 195, 29, 172]
abbrev dktX5_weakest_4 : List UInt8 := dkwX5_weakest_4 ++ []
def dkwX5_weakest_3 : List UInt8 := [42, 180, 0, 90, 28, 4, 21, 5, 120, 2, 130, 126, 46, 54, 6, 29, 2, 159, 0, 13, 21, 6, 21, 4]
abbrev dktX5_weakest_3 : List UInt8 := dkwX5_weakest_3 ++ dktX5_weakest_4
def dkwX5_weakest_2 : List UInt8 := [3, 54, 5, 21, 5, 42, 180, 0, 120, 162, 0, 58, 28, 21, 5, 122, 4, 126, 154, 0, 6, 167, 0, 40]
abbrev dktX5_weakest_2 : List UInt8 := dkwX5_weakest_2 ++ dktX5_weakest_3
def dkwX5_weakest_1 : List UInt8 := [154, 0, 10, 42, 16, 251, 182, 0, 136, 172, 42, 27, 42, 180, 0, 7, 182, 1, 6, 2, 62, 3, 54, 4]
abbrev dktX5_weakest_1 : List UInt8 := dkwX5_weakest_1 ++ dktX5_weakest_2
def dkwX5_weakest_0 : List UInt8 := [42, 27, 182, 0, 140, 153, 0, 11, 42, 28, 182, 1, 3, 154, 0, 9, 42, 2, 182, 0, 136, 172, 28]
abbrev dktX5_weakest_0 : List UInt8 := dkwX5_weakest_0 ++ dktX5_weakest_1
theorem dksX5_weakest_0 : cX5_weakest.data.toList.drop 0 = dktX5_weakest_0 := by decide +kernel
theorem dksX5_weakest_1 : cX5_weakest.data.toList.drop 23 = dktX5_weakest_1 := dk_seg dksX5_weakest_0 23 rfl rfl
theorem dksX5_weakest_2 : cX5_weakest.data.toList.drop 47 = dktX5_weakest_2 := dk_seg dksX5_weakest_1 24 rfl rfl
theorem dksX5_weakest_3 : cX5_weakest.data.toList.drop 71 = dktX5_weakest_3 := dk_seg dksX5_weakest_2 24 rfl rfl
theorem dksX5_weakest_4 : cX5_weakest.data.toList.drop 95 = dktX5_weakest_4 := dk_seg dksX5_weakest_3 24 rfl rfl
theorem dX5_weakest_0 : decode cX5_weakest 0 = .ok (.aload_n 0, 1) := dk_42 (dk_at dksX5_weakest_0 0 rfl rfl)
theorem dX5_weakest_1 : decode cX5_weakest 1 = .ok (.iload_n 1, 1) := dk_27 (dk_at dksX5_weakest_0 1 rfl rfl)
theorem dX5_weakest_2 : decode cX5_weakest 2 = .ok (.invokevirtual 140, 3) := dk_182 0 140 (dk_at dksX5_weakest_0 2 rfl rfl)
theorem dX5_weakest_5 : decode cX5_weakest 5 = .ok (.ifCond .eq 11, 3) := dk_153 0 11 (dk_at dksX5_weakest_0 5 rfl rfl)
theorem dX5_weakest_8 : decode cX5_weakest 8 = .ok (.aload_n 0, 1) := dk_42 (dk_at dksX5_weakest_0 8 rfl rfl)
theorem dX5_weakest_9 : decode cX5_weakest 9 = .ok (.iload_n 2, 1) := dk_28 (dk_at dksX5_weakest_0 9 rfl rfl)
theorem dX5_weakest_10 : decode cX5_weakest 10 = .ok (.invokevirtual 259, 3) := dk_182 1 3 (dk_at dksX5_weakest_0 10 rfl rfl)
theorem dX5_weakest_13 : decode cX5_weakest 13 = .ok (.ifCond .ne 9, 3) := dk_154 0 9 (dk_at dksX5_weakest_0 13 rfl rfl)
theorem dX5_weakest_16 : decode cX5_weakest 16 = .ok (.aload_n 0, 1) := dk_42 (dk_at dksX5_weakest_0 16 rfl rfl)
theorem dX5_weakest_17 : decode cX5_weakest 17 = .ok (.iconst (-1), 1) := dk_2 (dk_at dksX5_weakest_0 17 rfl rfl)
theorem dX5_weakest_18 : decode cX5_weakest 18 = .ok (.invokevirtual 136, 3) := dk_182 0 136 (dk_at dksX5_weakest_0 18 rfl rfl)
theorem dX5_weakest_21 : decode cX5_weakest 21 = .ok (.ireturn, 1) := dk_172 (dk_at dksX5_weakest_0 21 rfl rfl)
theorem dX5_weakest_22 : decode cX5_weakest 22 = .ok (.iload_n 2, 1) := dk_28 (dk_at dksX5_weakest_0 22 rfl rfl)
theorem dX5_weakest_23 : decode cX5_weakest 23 = .ok (.ifCond .ne 10, 3) := dk_154 0 10 (dk_at dksX5_weakest_1 0 rfl rfl)
theorem dX5_weakest_26 : decode cX5_weakest 26 = .ok (.aload_n 0, 1) := dk_42 (dk_at dksX5_weakest_1 3 rfl rfl)
theorem dX5_weakest_27 : decode cX5_weakest 27 = .ok (.bipush (-5), 2) := dk_16 251 (dk_at dksX5_weakest_1 4 rfl rfl)
theorem dX5_weakest_29 : decode cX5_weakest 29 = .ok (.invokevirtual 136, 3) := dk_182 0 136 (dk_at dksX5_weakest_1 6 rfl rfl)
theorem dX5_weakest_32 : decode cX5_weakest 32 = .ok (.ireturn, 1) := dk_172 (dk_at dksX5_weakest_1 9 rfl rfl)
theorem dX5_weakest_33 : decode cX5_weakest 33 = .ok (.aload_n 0, 1) := dk_42 (dk_at dksX5_weakest_1 10 rfl rfl)
theorem dX5_weakest_34 : decode cX5_weakest 34 = .ok (.iload_n 1, 1) := dk_27 (dk_at dksX5_weakest_1 11 rfl rfl)
theorem dX5_weakest_35 : decode cX5_weakest 35 = .ok (.aload_n 0, 1) := dk_42 (dk_at dksX5_weakest_1 12 rfl rfl)
theorem dX5_weakest_36 : decode cX5_weakest 36 = .ok (.getfield 7, 3) := dk_180 0 7 (dk_at dksX5_weakest_1 13 rfl rfl)
theorem dX5_weakest_39 : decode cX5_weakest 39 = .ok (.invokevirtual 262, 3) := dk_182 1 6 (dk_at dksX5_weakest_1 16 rfl rfl)
theorem dX5_weakest_42 : decode cX5_weakest 42 = .ok (.iconst (-1), 1) := dk_2 (dk_at dksX5_weakest_1 19 rfl rfl)
theorem dX5_weakest_43 : decode cX5_weakest 43 = .ok (.istore_n 3, 1) := dk_62 (dk_at dksX5_weakest_1 20 rfl rfl)
theorem dX5_weakest_44 : decode cX5_weakest 44 = .ok (.iconst 0, 1) := dk_3 (dk_at dksX5_weakest_1 21 rfl rfl)
theorem dX5_weakest_45 : decode cX5_weakest 45 = .ok (.istore 4, 2) := dk_54 4 (dk_at dksX5_weakest_1 22 rfl rfl)
theorem dX5_weakest_47 : decode cX5_weakest 47 = .ok (.iconst 0, 1) := dk_3 (dk_at dksX5_weakest_2 0 rfl rfl)
theorem dX5_weakest_48 : decode cX5_weakest 48 = .ok (.istore 5, 2) := dk_54 5 (dk_at dksX5_weakest_2 1 rfl rfl)
theorem dX5_weakest_50 : decode cX5_weakest 50 = .ok (.iload 5, 2) := dk_21 5 (dk_at dksX5_weakest_2 3 rfl rfl)
theorem dX5_weakest_52 : decode cX5_weakest 52 = .ok (.aload_n 0, 1) := dk_42 (dk_at dksX5_weakest_2 5 rfl rfl)
theorem dX5_weakest_53 : decode cX5_weakest 53 = .ok (.getfield 120, 3) := dk_180 0 120 (dk_at dksX5_weakest_2 6 rfl rfl)
theorem dX5_weakest_56 : decode cX5_weakest 56 = .ok (.if_icmp .ge 58, 3) := dk_162 0 58 (dk_at dksX5_weakest_2 9 rfl rfl)
theorem dX5_weakest_59 : decode cX5_weakest 59 = .ok (.iload_n 2, 1) := dk_28 (dk_at dksX5_weakest_2 12 rfl rfl)
theorem dX5_weakest_60 : decode cX5_weakest 60 = .ok (.iload 5, 2) := dk_21 5 (dk_at dksX5_weakest_2 13 rfl rfl)
theorem dX5_weakest_62 : decode cX5_weakest 62 = .ok (.ishr, 1) := dk_122 (dk_at dksX5_weakest_2 15 rfl rfl)
theorem dX5_weakest_63 : decode cX5_weakest 63 = .ok (.iconst 1, 1) := dk_4 (dk_at dksX5_weakest_2 16 rfl rfl)
theorem dX5_weakest_64 : decode cX5_weakest 64 = .ok (.iand, 1) := dk_126 (dk_at dksX5_weakest_2 17 rfl rfl)
theorem dX5_weakest_65 : decode cX5_weakest 65 = .ok (.ifCond .ne 6, 3) := dk_154 0 6 (dk_at dksX5_weakest_2 18 rfl rfl)
theorem dX5_weakest_68 : decode cX5_weakest 68 = .ok (.goto 40, 3) := dk_167 0 40 (dk_at dksX5_weakest_2 21 rfl rfl)
theorem dX5_weakest_71 : decode cX5_weakest 71 = .ok (.aload_n 0, 1) := dk_42 (dk_at dksX5_weakest_3 0 rfl rfl)
theorem dX5_weakest_72 : decode cX5_weakest 72 = .ok (.getfield 90, 3) := dk_180 0 90 (dk_at dksX5_weakest_3 1 rfl rfl)
theorem dX5_weakest_75 : decode cX5_weakest 75 = .ok (.iload_n 2, 1) := dk_28 (dk_at dksX5_weakest_3 4 rfl rfl)
theorem dX5_weakest_76 : decode cX5_weakest 76 = .ok (.iconst 1, 1) := dk_4 (dk_at dksX5_weakest_3 5 rfl rfl)
theorem dX5_weakest_77 : decode cX5_weakest 77 = .ok (.iload 5, 2) := dk_21 5 (dk_at dksX5_weakest_3 6 rfl rfl)
theorem dX5_weakest_79 : decode cX5_weakest 79 = .ok (.ishl, 1) := dk_120 (dk_at dksX5_weakest_3 8 rfl rfl)
theorem dX5_weakest_80 : decode cX5_weakest 80 = .ok (.iconst (-1), 1) := dk_2 (dk_at dksX5_weakest_3 9 rfl rfl)
theorem dX5_weakest_81 : decode cX5_weakest 81 = .ok (.ixor, 1) := dk_130 (dk_at dksX5_weakest_3 10 rfl rfl)
theorem dX5_weakest_82 : decode cX5_weakest 82 = .ok (.iand, 1) := dk_126 (dk_at dksX5_weakest_3 11 rfl rfl)
theorem dX5_weakest_83 : decode cX5_weakest 83 = .ok (.iaload, 1) := dk_46 (dk_at dksX5_weakest_3 12 rfl rfl)
theorem dX5_weakest_84 : decode cX5_weakest 84 = .ok (.istore 6, 2) := dk_54 6 (dk_at dksX5_weakest_3 13 rfl rfl)
theorem dX5_weakest_86 : decode cX5_weakest 86 = .ok (.iload_n 3, 1) := dk_29 (dk_at dksX5_weakest_3 15 rfl rfl)
theorem dX5_weakest_87 : decode cX5_weakest 87 = .ok (.iconst (-1), 1) := dk_2 (dk_at dksX5_weakest_3 16 rfl rfl)
theorem dX5_weakest_88 : decode cX5_weakest 88 = .ok (.if_icmp .eq 13, 3) := dk_159 0 13 (dk_at dksX5_weakest_3 17 rfl rfl)
theorem dX5_weakest_91 : decode cX5_weakest 91 = .ok (.iload 6, 2) := dk_21 6 (dk_at dksX5_weakest_3 20 rfl rfl)
theorem dX5_weakest_93 : decode cX5_weakest 93 = .ok (.iload 4, 2) := dk_21 4 (dk_at dksX5_weakest_3 22 rfl rfl)
theorem dX5_weakest_95 : decode cX5_weakest 95 = .ok (.if_icmp .gt 6, 3) := dk_163 0 6 (dk_at dksX5_weakest_4 0 rfl rfl)
theorem dX5_weakest_98 : decode cX5_weakest 98 = .ok (.goto 10, 3) := dk_167 0 10 (dk_at dksX5_weakest_4 3 rfl rfl)
theorem dX5_weakest_101 : decode cX5_weakest 101 = .ok (.iload 5, 2) := dk_21 5 (dk_at dksX5_weakest_4 6 rfl rfl)
theorem dX5_weakest_103 : decode cX5_weakest 103 = .ok (.istore_n 3, 1) := dk_62 (dk_at dksX5_weakest_4 8 rfl rfl)
theorem dX5_weakest_104 : decode cX5_weakest 104 = .ok (.iload 6, 2) := dk_21 6 (dk_at dksX5_weakest_4 9 rfl rfl)
theorem dX5_weakest_106 : decode cX5_weakest 106 = .ok (.istore 4, 2) := dk_54 4 (dk_at dksX5_weakest_4 11 rfl rfl)
theorem dX5_weakest_108 : decode cX5_weakest 108 = .ok (.iinc 5 1, 3) := dk_132 5 1 (dk_at dksX5_weakest_4 13 rfl rfl)
theorem dX5_weakest_111 : decode cX5_weakest 111 = .ok (.goto (-61), 3) := dk_167 255 195 (dk_at dksX5_weakest_4 16 rfl rfl)
theorem dX5_weakest_114 : decode cX5_weakest 114 = .ok (.iload_n 3, 1) := dk_29 (dk_at dksX5_weakest_4 19 rfl rfl)
theorem dX5_weakest_115 : decode cX5_weakest 115 = .ok (.ireturn, 1) := dk_172 (dk_at dksX5_weakest_4 20 rfl rfl)
abbrev cX5_helps : ByteArray := prog_22_method_73_code
def yX5_helps : MethodName := ⟨RX5, "helps", "(IIII)I"⟩
def dkwX5_helps_6 : List UInt8 := [132, 7, 1, 167, 255, 208, 42, 180, 0, 41, 21, 4, 21, 5, 79, 21, 6, 172]
abbrev dktX5_helps_6 : List UInt8 := dkwX5_helps_6 ++ []
def dkwX5_helps_5 : List UInt8 := [21, 7, 96, 79, 42, 27, 29, 182, 1, 6, 42, 180, 0, 90, 28, 46, 29, 160, 0, 7, 21, 7, 54, 6]
abbrev dktX5_helps_5 : List UInt8 := dkwX5_helps_5 ++ dktX5_helps_6
def dkwX5_helps_4 : List UInt8 := [54, 7, 21, 7, 16, 100, 162, 0, 47, 21, 6, 2, 160, 0, 41, 42, 180, 0, 41, 21, 4, 21, 5]
abbrev dktX5_helps_4 : List UInt8 := dkwX5_helps_4 ++ dktX5_helps_5
def dkwX5_helps_3 : List UInt8 := [160, 0, 10, 42, 16, 250, 182, 1, 15, 172, 42, 180, 0, 41, 21, 4, 46, 54, 5, 2, 54, 6, 4]
abbrev dktX5_helps_3 : List UInt8 := dkwX5_helps_3 ++ dktX5_helps_4
def dkwX5_helps_2 : List UInt8 := [154, 0, 10, 42, 16, 250, 182, 1, 15, 172, 42, 27, 29, 182, 1, 6, 42, 180, 0, 90, 28, 46, 29]
abbrev dktX5_helps_2 : List UInt8 := dkwX5_helps_2 ++ dktX5_helps_3
def dkwX5_helps_1 : List UInt8 := [153, 0, 12, 28, 21, 4, 122, 4, 126, 154, 0, 9, 42, 2, 182, 1, 15, 172, 42, 27, 29, 182, 1, 9]
abbrev dktX5_helps_1 : List UInt8 := dkwX5_helps_1 ++ dktX5_helps_2
def dkwX5_helps_0 : List UInt8 := [42, 27, 182, 0, 140, 153, 0, 29, 42, 28, 182, 1, 3, 153, 0, 21, 42, 21, 4, 182, 0, 178]
abbrev dktX5_helps_0 : List UInt8 := dkwX5_helps_0 ++ dktX5_helps_1
theorem dksX5_helps_0 : cX5_helps.data.toList.drop 0 = dktX5_helps_0 := by decide +kernel
theorem dksX5_helps_1 : cX5_helps.data.toList.drop 22 = dktX5_helps_1 := dk_seg dksX5_helps_0 22 rfl rfl
theorem dksX5_helps_2 : cX5_helps.data.toList.drop 46 = dktX5_helps_2 := dk_seg dksX5_helps_1 24 rfl rfl
theorem dksX5_helps_3 : cX5_helps.data.toList.drop 69 = dktX5_helps_3 := dk_seg dksX5_helps_2 23 rfl rfl
theorem dksX5_helps_4 : cX5_helps.data.toList.drop 92 = dktX5_helps_4 := dk_seg dksX5_helps_3 23 rfl rfl
theorem dksX5_helps_5 : cX5_helps.data.toList.drop 115 = dktX5_helps_5 := dk_seg dksX5_helps_4 23 rfl rfl
theorem dksX5_helps_6 : cX5_helps.data.toList.drop 139 = dktX5_helps_6 := dk_seg dksX5_helps_5 24 rfl rfl
theorem dX5_helps_0 : decode cX5_helps 0 = .ok (.aload_n 0, 1) := dk_42 (dk_at dksX5_helps_0 0 rfl rfl)
theorem dX5_helps_1 : decode cX5_helps 1 = .ok (.iload_n 1, 1) := dk_27 (dk_at dksX5_helps_0 1 rfl rfl)
theorem dX5_helps_2 : decode cX5_helps 2 = .ok (.invokevirtual 140, 3) := dk_182 0 140 (dk_at dksX5_helps_0 2 rfl rfl)
theorem dX5_helps_5 : decode cX5_helps 5 = .ok (.ifCond .eq 29, 3) := dk_153 0 29 (dk_at dksX5_helps_0 5 rfl rfl)
theorem dX5_helps_8 : decode cX5_helps 8 = .ok (.aload_n 0, 1) := dk_42 (dk_at dksX5_helps_0 8 rfl rfl)
theorem dX5_helps_9 : decode cX5_helps 9 = .ok (.iload_n 2, 1) := dk_28 (dk_at dksX5_helps_0 9 rfl rfl)
theorem dX5_helps_10 : decode cX5_helps 10 = .ok (.invokevirtual 259, 3) := dk_182 1 3 (dk_at dksX5_helps_0 10 rfl rfl)
theorem dX5_helps_13 : decode cX5_helps 13 = .ok (.ifCond .eq 21, 3) := dk_153 0 21 (dk_at dksX5_helps_0 13 rfl rfl)
theorem dX5_helps_16 : decode cX5_helps 16 = .ok (.aload_n 0, 1) := dk_42 (dk_at dksX5_helps_0 16 rfl rfl)
theorem dX5_helps_17 : decode cX5_helps 17 = .ok (.iload 4, 2) := dk_21 4 (dk_at dksX5_helps_0 17 rfl rfl)
theorem dX5_helps_19 : decode cX5_helps 19 = .ok (.invokevirtual 178, 3) := dk_182 0 178 (dk_at dksX5_helps_0 19 rfl rfl)
theorem dX5_helps_22 : decode cX5_helps 22 = .ok (.ifCond .eq 12, 3) := dk_153 0 12 (dk_at dksX5_helps_1 0 rfl rfl)
theorem dX5_helps_25 : decode cX5_helps 25 = .ok (.iload_n 2, 1) := dk_28 (dk_at dksX5_helps_1 3 rfl rfl)
theorem dX5_helps_26 : decode cX5_helps 26 = .ok (.iload 4, 2) := dk_21 4 (dk_at dksX5_helps_1 4 rfl rfl)
theorem dX5_helps_28 : decode cX5_helps 28 = .ok (.ishr, 1) := dk_122 (dk_at dksX5_helps_1 6 rfl rfl)
theorem dX5_helps_29 : decode cX5_helps 29 = .ok (.iconst 1, 1) := dk_4 (dk_at dksX5_helps_1 7 rfl rfl)
theorem dX5_helps_30 : decode cX5_helps 30 = .ok (.iand, 1) := dk_126 (dk_at dksX5_helps_1 8 rfl rfl)
theorem dX5_helps_31 : decode cX5_helps 31 = .ok (.ifCond .ne 9, 3) := dk_154 0 9 (dk_at dksX5_helps_1 9 rfl rfl)
theorem dX5_helps_34 : decode cX5_helps 34 = .ok (.aload_n 0, 1) := dk_42 (dk_at dksX5_helps_1 12 rfl rfl)
theorem dX5_helps_35 : decode cX5_helps 35 = .ok (.iconst (-1), 1) := dk_2 (dk_at dksX5_helps_1 13 rfl rfl)
theorem dX5_helps_36 : decode cX5_helps 36 = .ok (.invokevirtual 271, 3) := dk_182 1 15 (dk_at dksX5_helps_1 14 rfl rfl)
theorem dX5_helps_39 : decode cX5_helps 39 = .ok (.ireturn, 1) := dk_172 (dk_at dksX5_helps_1 17 rfl rfl)
theorem dX5_helps_40 : decode cX5_helps 40 = .ok (.aload_n 0, 1) := dk_42 (dk_at dksX5_helps_1 18 rfl rfl)
theorem dX5_helps_41 : decode cX5_helps 41 = .ok (.iload_n 1, 1) := dk_27 (dk_at dksX5_helps_1 19 rfl rfl)
theorem dX5_helps_42 : decode cX5_helps 42 = .ok (.iload_n 3, 1) := dk_29 (dk_at dksX5_helps_1 20 rfl rfl)
theorem dX5_helps_43 : decode cX5_helps 43 = .ok (.invokevirtual 265, 3) := dk_182 1 9 (dk_at dksX5_helps_1 21 rfl rfl)
theorem dX5_helps_46 : decode cX5_helps 46 = .ok (.ifCond .ne 10, 3) := dk_154 0 10 (dk_at dksX5_helps_2 0 rfl rfl)
theorem dX5_helps_49 : decode cX5_helps 49 = .ok (.aload_n 0, 1) := dk_42 (dk_at dksX5_helps_2 3 rfl rfl)
theorem dX5_helps_50 : decode cX5_helps 50 = .ok (.bipush (-6), 2) := dk_16 250 (dk_at dksX5_helps_2 4 rfl rfl)
theorem dX5_helps_52 : decode cX5_helps 52 = .ok (.invokevirtual 271, 3) := dk_182 1 15 (dk_at dksX5_helps_2 6 rfl rfl)
theorem dX5_helps_55 : decode cX5_helps 55 = .ok (.ireturn, 1) := dk_172 (dk_at dksX5_helps_2 9 rfl rfl)
theorem dX5_helps_56 : decode cX5_helps 56 = .ok (.aload_n 0, 1) := dk_42 (dk_at dksX5_helps_2 10 rfl rfl)
theorem dX5_helps_57 : decode cX5_helps 57 = .ok (.iload_n 1, 1) := dk_27 (dk_at dksX5_helps_2 11 rfl rfl)
theorem dX5_helps_58 : decode cX5_helps 58 = .ok (.iload_n 3, 1) := dk_29 (dk_at dksX5_helps_2 12 rfl rfl)
theorem dX5_helps_59 : decode cX5_helps 59 = .ok (.invokevirtual 262, 3) := dk_182 1 6 (dk_at dksX5_helps_2 13 rfl rfl)
theorem dX5_helps_62 : decode cX5_helps 62 = .ok (.aload_n 0, 1) := dk_42 (dk_at dksX5_helps_2 16 rfl rfl)
theorem dX5_helps_63 : decode cX5_helps 63 = .ok (.getfield 90, 3) := dk_180 0 90 (dk_at dksX5_helps_2 17 rfl rfl)
theorem dX5_helps_66 : decode cX5_helps 66 = .ok (.iload_n 2, 1) := dk_28 (dk_at dksX5_helps_2 20 rfl rfl)
theorem dX5_helps_67 : decode cX5_helps 67 = .ok (.iaload, 1) := dk_46 (dk_at dksX5_helps_2 21 rfl rfl)
theorem dX5_helps_68 : decode cX5_helps 68 = .ok (.iload_n 3, 1) := dk_29 (dk_at dksX5_helps_2 22 rfl rfl)
theorem dX5_helps_69 : decode cX5_helps 69 = .ok (.if_icmp .ne 10, 3) := dk_160 0 10 (dk_at dksX5_helps_3 0 rfl rfl)
theorem dX5_helps_72 : decode cX5_helps 72 = .ok (.aload_n 0, 1) := dk_42 (dk_at dksX5_helps_3 3 rfl rfl)
theorem dX5_helps_73 : decode cX5_helps 73 = .ok (.bipush (-6), 2) := dk_16 250 (dk_at dksX5_helps_3 4 rfl rfl)
theorem dX5_helps_75 : decode cX5_helps 75 = .ok (.invokevirtual 271, 3) := dk_182 1 15 (dk_at dksX5_helps_3 6 rfl rfl)
theorem dX5_helps_78 : decode cX5_helps 78 = .ok (.ireturn, 1) := dk_172 (dk_at dksX5_helps_3 9 rfl rfl)
theorem dX5_helps_79 : decode cX5_helps 79 = .ok (.aload_n 0, 1) := dk_42 (dk_at dksX5_helps_3 10 rfl rfl)
theorem dX5_helps_80 : decode cX5_helps 80 = .ok (.getfield 41, 3) := dk_180 0 41 (dk_at dksX5_helps_3 11 rfl rfl)
theorem dX5_helps_83 : decode cX5_helps 83 = .ok (.iload 4, 2) := dk_21 4 (dk_at dksX5_helps_3 14 rfl rfl)
theorem dX5_helps_85 : decode cX5_helps 85 = .ok (.iaload, 1) := dk_46 (dk_at dksX5_helps_3 16 rfl rfl)
theorem dX5_helps_86 : decode cX5_helps 86 = .ok (.istore 5, 2) := dk_54 5 (dk_at dksX5_helps_3 17 rfl rfl)
theorem dX5_helps_88 : decode cX5_helps 88 = .ok (.iconst (-1), 1) := dk_2 (dk_at dksX5_helps_3 19 rfl rfl)
theorem dX5_helps_89 : decode cX5_helps 89 = .ok (.istore 6, 2) := dk_54 6 (dk_at dksX5_helps_3 20 rfl rfl)
theorem dX5_helps_91 : decode cX5_helps 91 = .ok (.iconst 1, 1) := dk_4 (dk_at dksX5_helps_3 22 rfl rfl)
theorem dX5_helps_92 : decode cX5_helps 92 = .ok (.istore 7, 2) := dk_54 7 (dk_at dksX5_helps_4 0 rfl rfl)
theorem dX5_helps_94 : decode cX5_helps 94 = .ok (.iload 7, 2) := dk_21 7 (dk_at dksX5_helps_4 2 rfl rfl)
theorem dX5_helps_96 : decode cX5_helps 96 = .ok (.bipush 100, 2) := dk_16 100 (dk_at dksX5_helps_4 4 rfl rfl)
theorem dX5_helps_98 : decode cX5_helps 98 = .ok (.if_icmp .ge 47, 3) := dk_162 0 47 (dk_at dksX5_helps_4 6 rfl rfl)
theorem dX5_helps_101 : decode cX5_helps 101 = .ok (.iload 6, 2) := dk_21 6 (dk_at dksX5_helps_4 9 rfl rfl)
theorem dX5_helps_103 : decode cX5_helps 103 = .ok (.iconst (-1), 1) := dk_2 (dk_at dksX5_helps_4 11 rfl rfl)
theorem dX5_helps_104 : decode cX5_helps 104 = .ok (.if_icmp .ne 41, 3) := dk_160 0 41 (dk_at dksX5_helps_4 12 rfl rfl)
theorem dX5_helps_107 : decode cX5_helps 107 = .ok (.aload_n 0, 1) := dk_42 (dk_at dksX5_helps_4 15 rfl rfl)
theorem dX5_helps_108 : decode cX5_helps 108 = .ok (.getfield 41, 3) := dk_180 0 41 (dk_at dksX5_helps_4 16 rfl rfl)
theorem dX5_helps_111 : decode cX5_helps 111 = .ok (.iload 4, 2) := dk_21 4 (dk_at dksX5_helps_4 19 rfl rfl)
theorem dX5_helps_113 : decode cX5_helps 113 = .ok (.iload 5, 2) := dk_21 5 (dk_at dksX5_helps_4 21 rfl rfl)
theorem dX5_helps_115 : decode cX5_helps 115 = .ok (.iload 7, 2) := dk_21 7 (dk_at dksX5_helps_5 0 rfl rfl)
theorem dX5_helps_117 : decode cX5_helps 117 = .ok (.iadd, 1) := dk_96 (dk_at dksX5_helps_5 2 rfl rfl)
theorem dX5_helps_118 : decode cX5_helps 118 = .ok (.iastore, 1) := dk_79 (dk_at dksX5_helps_5 3 rfl rfl)
theorem dX5_helps_119 : decode cX5_helps 119 = .ok (.aload_n 0, 1) := dk_42 (dk_at dksX5_helps_5 4 rfl rfl)
theorem dX5_helps_120 : decode cX5_helps 120 = .ok (.iload_n 1, 1) := dk_27 (dk_at dksX5_helps_5 5 rfl rfl)
theorem dX5_helps_121 : decode cX5_helps 121 = .ok (.iload_n 3, 1) := dk_29 (dk_at dksX5_helps_5 6 rfl rfl)
theorem dX5_helps_122 : decode cX5_helps 122 = .ok (.invokevirtual 262, 3) := dk_182 1 6 (dk_at dksX5_helps_5 7 rfl rfl)
theorem dX5_helps_125 : decode cX5_helps 125 = .ok (.aload_n 0, 1) := dk_42 (dk_at dksX5_helps_5 10 rfl rfl)
theorem dX5_helps_126 : decode cX5_helps 126 = .ok (.getfield 90, 3) := dk_180 0 90 (dk_at dksX5_helps_5 11 rfl rfl)
theorem dX5_helps_129 : decode cX5_helps 129 = .ok (.iload_n 2, 1) := dk_28 (dk_at dksX5_helps_5 14 rfl rfl)
theorem dX5_helps_130 : decode cX5_helps 130 = .ok (.iaload, 1) := dk_46 (dk_at dksX5_helps_5 15 rfl rfl)
theorem dX5_helps_131 : decode cX5_helps 131 = .ok (.iload_n 3, 1) := dk_29 (dk_at dksX5_helps_5 16 rfl rfl)
theorem dX5_helps_132 : decode cX5_helps 132 = .ok (.if_icmp .ne 7, 3) := dk_160 0 7 (dk_at dksX5_helps_5 17 rfl rfl)
theorem dX5_helps_135 : decode cX5_helps 135 = .ok (.iload 7, 2) := dk_21 7 (dk_at dksX5_helps_5 20 rfl rfl)
theorem dX5_helps_137 : decode cX5_helps 137 = .ok (.istore 6, 2) := dk_54 6 (dk_at dksX5_helps_5 22 rfl rfl)
theorem dX5_helps_139 : decode cX5_helps 139 = .ok (.iinc 7 1, 3) := dk_132 7 1 (dk_at dksX5_helps_6 0 rfl rfl)
theorem dX5_helps_142 : decode cX5_helps 142 = .ok (.goto (-48), 3) := dk_167 255 208 (dk_at dksX5_helps_6 3 rfl rfl)
theorem dX5_helps_145 : decode cX5_helps 145 = .ok (.aload_n 0, 1) := dk_42 (dk_at dksX5_helps_6 6 rfl rfl)
theorem dX5_helps_146 : decode cX5_helps 146 = .ok (.getfield 41, 3) := dk_180 0 41 (dk_at dksX5_helps_6 7 rfl rfl)
theorem dX5_helps_149 : decode cX5_helps 149 = .ok (.iload 4, 2) := dk_21 4 (dk_at dksX5_helps_6 10 rfl rfl)
theorem dX5_helps_151 : decode cX5_helps 151 = .ok (.iload 5, 2) := dk_21 5 (dk_at dksX5_helps_6 12 rfl rfl)
theorem dX5_helps_153 : decode cX5_helps 153 = .ok (.iastore, 1) := dk_79 (dk_at dksX5_helps_6 14 rfl rfl)
theorem dX5_helps_154 : decode cX5_helps 154 = .ok (.iload 6, 2) := dk_21 6 (dk_at dksX5_helps_6 15 rfl rfl)
theorem dX5_helps_156 : decode cX5_helps 156 = .ok (.ireturn, 1) := dk_172 (dk_at dksX5_helps_6 17 rfl rfl)
abbrev cX5_caught : ByteArray := prog_22_method_77_code
def yX5_caught : MethodName := ⟨RX5, "caught", "(III)I"⟩
def dkwX5_caught_1 : List UInt8 := [182, 1, 31, 153, 0, 13, 42, 27, 28, 29, 182, 1, 34, 167, 0, 9, 42, 16, 250, 182, 0, 136, 172]
abbrev dktX5_caught_1 : List UInt8 := dkwX5_caught_1 ++ []
def dkwX5_caught_0 : List UInt8 := [42, 27, 182, 0, 178, 153, 0, 11, 42, 28, 182, 0, 140, 154, 0, 9, 42, 2, 182, 0, 136, 172, 42, 29]
abbrev dktX5_caught_0 : List UInt8 := dkwX5_caught_0 ++ dktX5_caught_1
theorem dksX5_caught_0 : cX5_caught.data.toList.drop 0 = dktX5_caught_0 := by decide +kernel
theorem dksX5_caught_1 : cX5_caught.data.toList.drop 24 = dktX5_caught_1 := dk_seg dksX5_caught_0 24 rfl rfl
theorem dX5_caught_0 : decode cX5_caught 0 = .ok (.aload_n 0, 1) := dk_42 (dk_at dksX5_caught_0 0 rfl rfl)
theorem dX5_caught_1 : decode cX5_caught 1 = .ok (.iload_n 1, 1) := dk_27 (dk_at dksX5_caught_0 1 rfl rfl)
theorem dX5_caught_2 : decode cX5_caught 2 = .ok (.invokevirtual 178, 3) := dk_182 0 178 (dk_at dksX5_caught_0 2 rfl rfl)
theorem dX5_caught_5 : decode cX5_caught 5 = .ok (.ifCond .eq 11, 3) := dk_153 0 11 (dk_at dksX5_caught_0 5 rfl rfl)
theorem dX5_caught_8 : decode cX5_caught 8 = .ok (.aload_n 0, 1) := dk_42 (dk_at dksX5_caught_0 8 rfl rfl)
theorem dX5_caught_9 : decode cX5_caught 9 = .ok (.iload_n 2, 1) := dk_28 (dk_at dksX5_caught_0 9 rfl rfl)
theorem dX5_caught_10 : decode cX5_caught 10 = .ok (.invokevirtual 140, 3) := dk_182 0 140 (dk_at dksX5_caught_0 10 rfl rfl)
theorem dX5_caught_13 : decode cX5_caught 13 = .ok (.ifCond .ne 9, 3) := dk_154 0 9 (dk_at dksX5_caught_0 13 rfl rfl)
theorem dX5_caught_16 : decode cX5_caught 16 = .ok (.aload_n 0, 1) := dk_42 (dk_at dksX5_caught_0 16 rfl rfl)
theorem dX5_caught_17 : decode cX5_caught 17 = .ok (.iconst (-1), 1) := dk_2 (dk_at dksX5_caught_0 17 rfl rfl)
theorem dX5_caught_18 : decode cX5_caught 18 = .ok (.invokevirtual 136, 3) := dk_182 0 136 (dk_at dksX5_caught_0 18 rfl rfl)
theorem dX5_caught_21 : decode cX5_caught 21 = .ok (.ireturn, 1) := dk_172 (dk_at dksX5_caught_0 21 rfl rfl)
theorem dX5_caught_22 : decode cX5_caught 22 = .ok (.aload_n 0, 1) := dk_42 (dk_at dksX5_caught_0 22 rfl rfl)
theorem dX5_caught_23 : decode cX5_caught 23 = .ok (.iload_n 3, 1) := dk_29 (dk_at dksX5_caught_0 23 rfl rfl)
theorem dX5_caught_24 : decode cX5_caught 24 = .ok (.invokevirtual 287, 3) := dk_182 1 31 (dk_at dksX5_caught_1 0 rfl rfl)
theorem dX5_caught_27 : decode cX5_caught 27 = .ok (.ifCond .eq 13, 3) := dk_153 0 13 (dk_at dksX5_caught_1 3 rfl rfl)
theorem dX5_caught_30 : decode cX5_caught 30 = .ok (.aload_n 0, 1) := dk_42 (dk_at dksX5_caught_1 6 rfl rfl)
theorem dX5_caught_31 : decode cX5_caught 31 = .ok (.iload_n 1, 1) := dk_27 (dk_at dksX5_caught_1 7 rfl rfl)
theorem dX5_caught_32 : decode cX5_caught 32 = .ok (.iload_n 2, 1) := dk_28 (dk_at dksX5_caught_1 8 rfl rfl)
theorem dX5_caught_33 : decode cX5_caught 33 = .ok (.iload_n 3, 1) := dk_29 (dk_at dksX5_caught_1 9 rfl rfl)
theorem dX5_caught_34 : decode cX5_caught 34 = .ok (.invokevirtual 290, 3) := dk_182 1 34 (dk_at dksX5_caught_1 10 rfl rfl)
theorem dX5_caught_37 : decode cX5_caught 37 = .ok (.goto 9, 3) := dk_167 0 9 (dk_at dksX5_caught_1 13 rfl rfl)
theorem dX5_caught_40 : decode cX5_caught 40 = .ok (.aload_n 0, 1) := dk_42 (dk_at dksX5_caught_1 16 rfl rfl)
theorem dX5_caught_41 : decode cX5_caught 41 = .ok (.bipush (-6), 2) := dk_16 250 (dk_at dksX5_caught_1 17 rfl rfl)
theorem dX5_caught_43 : decode cX5_caught 43 = .ok (.invokevirtual 136, 3) := dk_182 0 136 (dk_at dksX5_caught_1 19 rfl rfl)
theorem dX5_caught_46 : decode cX5_caught 46 = .ok (.ireturn, 1) := dk_172 (dk_at dksX5_caught_1 22 rfl rfl)
abbrev cX5_isFar : ByteArray := prog_22_method_76_code
def yX5_isFar : MethodName := ⟨RX5, "isFar", "(I)Z"⟩
def dkwX5_isFar_0 : List UInt8 := [27, 4, 161, 0, 13, 27, 16, 40, 163, 0, 7, 4, 167, 0, 4, 3, 172]
abbrev dktX5_isFar_0 : List UInt8 := dkwX5_isFar_0 ++ []
theorem dksX5_isFar_0 : cX5_isFar.data.toList.drop 0 = dktX5_isFar_0 := by decide +kernel
theorem dX5_isFar_0 : decode cX5_isFar 0 = .ok (.iload_n 1, 1) := dk_27 (dk_at dksX5_isFar_0 0 rfl rfl)
theorem dX5_isFar_1 : decode cX5_isFar 1 = .ok (.iconst 1, 1) := dk_4 (dk_at dksX5_isFar_0 1 rfl rfl)
theorem dX5_isFar_2 : decode cX5_isFar 2 = .ok (.if_icmp .lt 13, 3) := dk_161 0 13 (dk_at dksX5_isFar_0 2 rfl rfl)
theorem dX5_isFar_5 : decode cX5_isFar 5 = .ok (.iload_n 1, 1) := dk_27 (dk_at dksX5_isFar_0 5 rfl rfl)
theorem dX5_isFar_6 : decode cX5_isFar 6 = .ok (.bipush 40, 2) := dk_16 40 (dk_at dksX5_isFar_0 6 rfl rfl)
theorem dX5_isFar_8 : decode cX5_isFar 8 = .ok (.if_icmp .gt 7, 3) := dk_163 0 7 (dk_at dksX5_isFar_0 8 rfl rfl)
theorem dX5_isFar_11 : decode cX5_isFar 11 = .ok (.iconst 1, 1) := dk_4 (dk_at dksX5_isFar_0 11 rfl rfl)
theorem dX5_isFar_12 : decode cX5_isFar 12 = .ok (.goto 4, 3) := dk_167 0 4 (dk_at dksX5_isFar_0 12 rfl rfl)
theorem dX5_isFar_15 : decode cX5_isFar 15 = .ok (.iconst 0, 1) := dk_3 (dk_at dksX5_isFar_0 15 rfl rfl)
theorem dX5_isFar_16 : decode cX5_isFar 16 = .ok (.ireturn, 1) := dk_172 (dk_at dksX5_isFar_0 16 rfl rfl)
abbrev cX5_caughtBy : ByteArray := prog_22_method_74_code
def yX5_caughtBy : MethodName := ⟨RX5, "caughtBy", "(III)I"⟩
def dkwX5_caughtBy_1 : List UInt8 := [156, 0, 7, 3, 167, 0, 5, 21, 4, 172]
abbrev dktX5_caughtBy_1 : List UInt8 := dkwX5_caughtBy_1 ++ []
def dkwX5_caughtBy_0 : List UInt8 := [29, 5, 42, 27, 28, 182, 0, 236, 104, 164, 0, 5, 3, 172, 16, 10, 29, 7, 108, 100, 54, 4, 21, 4]
abbrev dktX5_caughtBy_0 : List UInt8 := dkwX5_caughtBy_0 ++ dktX5_caughtBy_1
theorem dksX5_caughtBy_0 : cX5_caughtBy.data.toList.drop 0 = dktX5_caughtBy_0 := by decide +kernel
theorem dksX5_caughtBy_1 : cX5_caughtBy.data.toList.drop 24 = dktX5_caughtBy_1 := dk_seg dksX5_caughtBy_0 24 rfl rfl
theorem dX5_caughtBy_0 : decode cX5_caughtBy 0 = .ok (.iload_n 3, 1) := dk_29 (dk_at dksX5_caughtBy_0 0 rfl rfl)
theorem dX5_caughtBy_1 : decode cX5_caughtBy 1 = .ok (.iconst 2, 1) := dk_5 (dk_at dksX5_caughtBy_0 1 rfl rfl)
theorem dX5_caughtBy_2 : decode cX5_caughtBy 2 = .ok (.aload_n 0, 1) := dk_42 (dk_at dksX5_caughtBy_0 2 rfl rfl)
theorem dX5_caughtBy_3 : decode cX5_caughtBy 3 = .ok (.iload_n 1, 1) := dk_27 (dk_at dksX5_caughtBy_0 3 rfl rfl)
theorem dX5_caughtBy_4 : decode cX5_caughtBy 4 = .ok (.iload_n 2, 1) := dk_28 (dk_at dksX5_caughtBy_0 4 rfl rfl)
theorem dX5_caughtBy_5 : decode cX5_caughtBy 5 = .ok (.invokevirtual 236, 3) := dk_182 0 236 (dk_at dksX5_caughtBy_0 5 rfl rfl)
theorem dX5_caughtBy_8 : decode cX5_caughtBy 8 = .ok (.imul, 1) := dk_104 (dk_at dksX5_caughtBy_0 8 rfl rfl)
theorem dX5_caughtBy_9 : decode cX5_caughtBy 9 = .ok (.if_icmp .le 5, 3) := dk_164 0 5 (dk_at dksX5_caughtBy_0 9 rfl rfl)
theorem dX5_caughtBy_12 : decode cX5_caughtBy 12 = .ok (.iconst 0, 1) := dk_3 (dk_at dksX5_caughtBy_0 12 rfl rfl)
theorem dX5_caughtBy_13 : decode cX5_caughtBy 13 = .ok (.ireturn, 1) := dk_172 (dk_at dksX5_caughtBy_0 13 rfl rfl)
theorem dX5_caughtBy_14 : decode cX5_caughtBy 14 = .ok (.bipush 10, 2) := dk_16 10 (dk_at dksX5_caughtBy_0 14 rfl rfl)
theorem dX5_caughtBy_16 : decode cX5_caughtBy 16 = .ok (.iload_n 3, 1) := dk_29 (dk_at dksX5_caughtBy_0 16 rfl rfl)
theorem dX5_caughtBy_17 : decode cX5_caughtBy 17 = .ok (.iconst 4, 1) := dk_7 (dk_at dksX5_caughtBy_0 17 rfl rfl)
theorem dX5_caughtBy_18 : decode cX5_caughtBy 18 = .ok (.idiv, 1) := dk_108 (dk_at dksX5_caughtBy_0 18 rfl rfl)
theorem dX5_caughtBy_19 : decode cX5_caughtBy 19 = .ok (.isub, 1) := dk_100 (dk_at dksX5_caughtBy_0 19 rfl rfl)
theorem dX5_caughtBy_20 : decode cX5_caughtBy 20 = .ok (.istore 4, 2) := dk_54 4 (dk_at dksX5_caughtBy_0 20 rfl rfl)
theorem dX5_caughtBy_22 : decode cX5_caughtBy 22 = .ok (.iload 4, 2) := dk_21 4 (dk_at dksX5_caughtBy_0 22 rfl rfl)
theorem dX5_caughtBy_24 : decode cX5_caughtBy 24 = .ok (.ifCond .ge 7, 3) := dk_156 0 7 (dk_at dksX5_caughtBy_1 0 rfl rfl)
theorem dX5_caughtBy_27 : decode cX5_caughtBy 27 = .ok (.iconst 0, 1) := dk_3 (dk_at dksX5_caughtBy_1 3 rfl rfl)
theorem dX5_caughtBy_28 : decode cX5_caughtBy 28 = .ok (.goto 5, 3) := dk_167 0 5 (dk_at dksX5_caughtBy_1 4 rfl rfl)
theorem dX5_caughtBy_31 : decode cX5_caughtBy 31 = .ok (.iload 4, 2) := dk_21 4 (dk_at dksX5_caughtBy_1 7 rfl rfl)
theorem dX5_caughtBy_33 : decode cX5_caughtBy 33 = .ok (.ireturn, 1) := dk_172 (dk_at dksX5_caughtBy_1 9 rfl rfl)
abbrev cX5_mean : ByteArray := prog_22_method_79_code
def yX5_mean : MethodName := ⟨RX5, "mean", "(III)I"⟩
def dkwX5_mean_1 : List UInt8 := [182, 1, 31, 153, 0, 13, 42, 27, 28, 29, 182, 1, 41, 167, 0, 9, 42, 16, 250, 182, 0, 136, 172]
abbrev dktX5_mean_1 : List UInt8 := dkwX5_mean_1 ++ []
def dkwX5_mean_0 : List UInt8 := [42, 27, 182, 0, 178, 153, 0, 11, 42, 28, 182, 0, 140, 154, 0, 9, 42, 2, 182, 0, 136, 172, 42, 29]
abbrev dktX5_mean_0 : List UInt8 := dkwX5_mean_0 ++ dktX5_mean_1
theorem dksX5_mean_0 : cX5_mean.data.toList.drop 0 = dktX5_mean_0 := by decide +kernel
theorem dksX5_mean_1 : cX5_mean.data.toList.drop 24 = dktX5_mean_1 := dk_seg dksX5_mean_0 24 rfl rfl
theorem dX5_mean_0 : decode cX5_mean 0 = .ok (.aload_n 0, 1) := dk_42 (dk_at dksX5_mean_0 0 rfl rfl)
theorem dX5_mean_1 : decode cX5_mean 1 = .ok (.iload_n 1, 1) := dk_27 (dk_at dksX5_mean_0 1 rfl rfl)
theorem dX5_mean_2 : decode cX5_mean 2 = .ok (.invokevirtual 178, 3) := dk_182 0 178 (dk_at dksX5_mean_0 2 rfl rfl)
theorem dX5_mean_5 : decode cX5_mean 5 = .ok (.ifCond .eq 11, 3) := dk_153 0 11 (dk_at dksX5_mean_0 5 rfl rfl)
theorem dX5_mean_8 : decode cX5_mean 8 = .ok (.aload_n 0, 1) := dk_42 (dk_at dksX5_mean_0 8 rfl rfl)
theorem dX5_mean_9 : decode cX5_mean 9 = .ok (.iload_n 2, 1) := dk_28 (dk_at dksX5_mean_0 9 rfl rfl)
theorem dX5_mean_10 : decode cX5_mean 10 = .ok (.invokevirtual 140, 3) := dk_182 0 140 (dk_at dksX5_mean_0 10 rfl rfl)
theorem dX5_mean_13 : decode cX5_mean 13 = .ok (.ifCond .ne 9, 3) := dk_154 0 9 (dk_at dksX5_mean_0 13 rfl rfl)
theorem dX5_mean_16 : decode cX5_mean 16 = .ok (.aload_n 0, 1) := dk_42 (dk_at dksX5_mean_0 16 rfl rfl)
theorem dX5_mean_17 : decode cX5_mean 17 = .ok (.iconst (-1), 1) := dk_2 (dk_at dksX5_mean_0 17 rfl rfl)
theorem dX5_mean_18 : decode cX5_mean 18 = .ok (.invokevirtual 136, 3) := dk_182 0 136 (dk_at dksX5_mean_0 18 rfl rfl)
theorem dX5_mean_21 : decode cX5_mean 21 = .ok (.ireturn, 1) := dk_172 (dk_at dksX5_mean_0 21 rfl rfl)
theorem dX5_mean_22 : decode cX5_mean 22 = .ok (.aload_n 0, 1) := dk_42 (dk_at dksX5_mean_0 22 rfl rfl)
theorem dX5_mean_23 : decode cX5_mean 23 = .ok (.iload_n 3, 1) := dk_29 (dk_at dksX5_mean_0 23 rfl rfl)
theorem dX5_mean_24 : decode cX5_mean 24 = .ok (.invokevirtual 287, 3) := dk_182 1 31 (dk_at dksX5_mean_1 0 rfl rfl)
theorem dX5_mean_27 : decode cX5_mean 27 = .ok (.ifCond .eq 13, 3) := dk_153 0 13 (dk_at dksX5_mean_1 3 rfl rfl)
theorem dX5_mean_30 : decode cX5_mean 30 = .ok (.aload_n 0, 1) := dk_42 (dk_at dksX5_mean_1 6 rfl rfl)
theorem dX5_mean_31 : decode cX5_mean 31 = .ok (.iload_n 1, 1) := dk_27 (dk_at dksX5_mean_1 7 rfl rfl)
theorem dX5_mean_32 : decode cX5_mean 32 = .ok (.iload_n 2, 1) := dk_28 (dk_at dksX5_mean_1 8 rfl rfl)
theorem dX5_mean_33 : decode cX5_mean 33 = .ok (.iload_n 3, 1) := dk_29 (dk_at dksX5_mean_1 9 rfl rfl)
theorem dX5_mean_34 : decode cX5_mean 34 = .ok (.invokevirtual 297, 3) := dk_182 1 41 (dk_at dksX5_mean_1 10 rfl rfl)
theorem dX5_mean_37 : decode cX5_mean 37 = .ok (.goto 9, 3) := dk_167 0 9 (dk_at dksX5_mean_1 13 rfl rfl)
theorem dX5_mean_40 : decode cX5_mean 40 = .ok (.aload_n 0, 1) := dk_42 (dk_at dksX5_mean_1 16 rfl rfl)
theorem dX5_mean_41 : decode cX5_mean 41 = .ok (.bipush (-6), 2) := dk_16 250 (dk_at dksX5_mean_1 17 rfl rfl)
theorem dX5_mean_43 : decode cX5_mean 43 = .ok (.invokevirtual 136, 3) := dk_182 0 136 (dk_at dksX5_mean_1 19 rfl rfl)
theorem dX5_mean_46 : decode cX5_mean 46 = .ok (.ireturn, 1) := dk_172 (dk_at dksX5_mean_1 22 rfl rfl)
abbrev cX5_meanOf : ByteArray := prog_22_method_78_code
def yX5_meanOf : MethodName := ⟨RX5, "meanOf", "(III)I"⟩
def dkwX5_meanOf_3 : List UInt8 := [132, 5, 1, 167, 255, 203, 42, 27, 28, 29, 182, 1, 34, 21, 4, 104, 16, 10, 108, 172]
abbrev dktX5_meanOf_3 : List UInt8 := dkwX5_meanOf_3 ++ []
def dkwX5_meanOf_2 : List UInt8 := [180, 0, 32, 28, 46, 29, 96, 160, 0, 15, 21, 4, 42, 180, 0, 53, 21, 5, 46, 96, 54, 4]
abbrev dktX5_meanOf_2 : List UInt8 := dkwX5_meanOf_2 ++ dktX5_meanOf_3
def dkwX5_meanOf_1 : List UInt8 := [162, 0, 50, 42, 180, 0, 47, 21, 5, 46, 28, 160, 0, 33, 42, 180, 0, 50, 21, 5, 46, 42]
abbrev dktX5_meanOf_1 : List UInt8 := dkwX5_meanOf_1 ++ dktX5_meanOf_2
def dkwX5_meanOf_0 : List UInt8 := [42, 27, 28, 29, 182, 1, 37, 154, 0, 5, 3, 172, 3, 54, 4, 3, 54, 5, 21, 5, 42, 180, 0, 162]
abbrev dktX5_meanOf_0 : List UInt8 := dkwX5_meanOf_0 ++ dktX5_meanOf_1
theorem dksX5_meanOf_0 : cX5_meanOf.data.toList.drop 0 = dktX5_meanOf_0 := by decide +kernel
theorem dksX5_meanOf_1 : cX5_meanOf.data.toList.drop 24 = dktX5_meanOf_1 := dk_seg dksX5_meanOf_0 24 rfl rfl
theorem dksX5_meanOf_2 : cX5_meanOf.data.toList.drop 46 = dktX5_meanOf_2 := dk_seg dksX5_meanOf_1 22 rfl rfl
theorem dksX5_meanOf_3 : cX5_meanOf.data.toList.drop 68 = dktX5_meanOf_3 := dk_seg dksX5_meanOf_2 22 rfl rfl
theorem dX5_meanOf_0 : decode cX5_meanOf 0 = .ok (.aload_n 0, 1) := dk_42 (dk_at dksX5_meanOf_0 0 rfl rfl)
theorem dX5_meanOf_1 : decode cX5_meanOf 1 = .ok (.iload_n 1, 1) := dk_27 (dk_at dksX5_meanOf_0 1 rfl rfl)
theorem dX5_meanOf_2 : decode cX5_meanOf 2 = .ok (.iload_n 2, 1) := dk_28 (dk_at dksX5_meanOf_0 2 rfl rfl)
theorem dX5_meanOf_3 : decode cX5_meanOf 3 = .ok (.iload_n 3, 1) := dk_29 (dk_at dksX5_meanOf_0 3 rfl rfl)
theorem dX5_meanOf_4 : decode cX5_meanOf 4 = .ok (.invokevirtual 293, 3) := dk_182 1 37 (dk_at dksX5_meanOf_0 4 rfl rfl)
theorem dX5_meanOf_7 : decode cX5_meanOf 7 = .ok (.ifCond .ne 5, 3) := dk_154 0 5 (dk_at dksX5_meanOf_0 7 rfl rfl)
theorem dX5_meanOf_10 : decode cX5_meanOf 10 = .ok (.iconst 0, 1) := dk_3 (dk_at dksX5_meanOf_0 10 rfl rfl)
theorem dX5_meanOf_11 : decode cX5_meanOf 11 = .ok (.ireturn, 1) := dk_172 (dk_at dksX5_meanOf_0 11 rfl rfl)
theorem dX5_meanOf_12 : decode cX5_meanOf 12 = .ok (.iconst 0, 1) := dk_3 (dk_at dksX5_meanOf_0 12 rfl rfl)
theorem dX5_meanOf_13 : decode cX5_meanOf 13 = .ok (.istore 4, 2) := dk_54 4 (dk_at dksX5_meanOf_0 13 rfl rfl)
theorem dX5_meanOf_15 : decode cX5_meanOf 15 = .ok (.iconst 0, 1) := dk_3 (dk_at dksX5_meanOf_0 15 rfl rfl)
theorem dX5_meanOf_16 : decode cX5_meanOf 16 = .ok (.istore 5, 2) := dk_54 5 (dk_at dksX5_meanOf_0 16 rfl rfl)
theorem dX5_meanOf_18 : decode cX5_meanOf 18 = .ok (.iload 5, 2) := dk_21 5 (dk_at dksX5_meanOf_0 18 rfl rfl)
theorem dX5_meanOf_20 : decode cX5_meanOf 20 = .ok (.aload_n 0, 1) := dk_42 (dk_at dksX5_meanOf_0 20 rfl rfl)
theorem dX5_meanOf_21 : decode cX5_meanOf 21 = .ok (.getfield 162, 3) := dk_180 0 162 (dk_at dksX5_meanOf_0 21 rfl rfl)
theorem dX5_meanOf_24 : decode cX5_meanOf 24 = .ok (.if_icmp .ge 50, 3) := dk_162 0 50 (dk_at dksX5_meanOf_1 0 rfl rfl)
theorem dX5_meanOf_27 : decode cX5_meanOf 27 = .ok (.aload_n 0, 1) := dk_42 (dk_at dksX5_meanOf_1 3 rfl rfl)
theorem dX5_meanOf_28 : decode cX5_meanOf 28 = .ok (.getfield 47, 3) := dk_180 0 47 (dk_at dksX5_meanOf_1 4 rfl rfl)
theorem dX5_meanOf_31 : decode cX5_meanOf 31 = .ok (.iload 5, 2) := dk_21 5 (dk_at dksX5_meanOf_1 7 rfl rfl)
theorem dX5_meanOf_33 : decode cX5_meanOf 33 = .ok (.iaload, 1) := dk_46 (dk_at dksX5_meanOf_1 9 rfl rfl)
theorem dX5_meanOf_34 : decode cX5_meanOf 34 = .ok (.iload_n 2, 1) := dk_28 (dk_at dksX5_meanOf_1 10 rfl rfl)
theorem dX5_meanOf_35 : decode cX5_meanOf 35 = .ok (.if_icmp .ne 33, 3) := dk_160 0 33 (dk_at dksX5_meanOf_1 11 rfl rfl)
theorem dX5_meanOf_38 : decode cX5_meanOf 38 = .ok (.aload_n 0, 1) := dk_42 (dk_at dksX5_meanOf_1 14 rfl rfl)
theorem dX5_meanOf_39 : decode cX5_meanOf 39 = .ok (.getfield 50, 3) := dk_180 0 50 (dk_at dksX5_meanOf_1 15 rfl rfl)
theorem dX5_meanOf_42 : decode cX5_meanOf 42 = .ok (.iload 5, 2) := dk_21 5 (dk_at dksX5_meanOf_1 18 rfl rfl)
theorem dX5_meanOf_44 : decode cX5_meanOf 44 = .ok (.iaload, 1) := dk_46 (dk_at dksX5_meanOf_1 20 rfl rfl)
theorem dX5_meanOf_45 : decode cX5_meanOf 45 = .ok (.aload_n 0, 1) := dk_42 (dk_at dksX5_meanOf_1 21 rfl rfl)
theorem dX5_meanOf_46 : decode cX5_meanOf 46 = .ok (.getfield 32, 3) := dk_180 0 32 (dk_at dksX5_meanOf_2 0 rfl rfl)
theorem dX5_meanOf_49 : decode cX5_meanOf 49 = .ok (.iload_n 2, 1) := dk_28 (dk_at dksX5_meanOf_2 3 rfl rfl)
theorem dX5_meanOf_50 : decode cX5_meanOf 50 = .ok (.iaload, 1) := dk_46 (dk_at dksX5_meanOf_2 4 rfl rfl)
theorem dX5_meanOf_51 : decode cX5_meanOf 51 = .ok (.iload_n 3, 1) := dk_29 (dk_at dksX5_meanOf_2 5 rfl rfl)
theorem dX5_meanOf_52 : decode cX5_meanOf 52 = .ok (.iadd, 1) := dk_96 (dk_at dksX5_meanOf_2 6 rfl rfl)
theorem dX5_meanOf_53 : decode cX5_meanOf 53 = .ok (.if_icmp .ne 15, 3) := dk_160 0 15 (dk_at dksX5_meanOf_2 7 rfl rfl)
theorem dX5_meanOf_56 : decode cX5_meanOf 56 = .ok (.iload 4, 2) := dk_21 4 (dk_at dksX5_meanOf_2 10 rfl rfl)
theorem dX5_meanOf_58 : decode cX5_meanOf 58 = .ok (.aload_n 0, 1) := dk_42 (dk_at dksX5_meanOf_2 12 rfl rfl)
theorem dX5_meanOf_59 : decode cX5_meanOf 59 = .ok (.getfield 53, 3) := dk_180 0 53 (dk_at dksX5_meanOf_2 13 rfl rfl)
theorem dX5_meanOf_62 : decode cX5_meanOf 62 = .ok (.iload 5, 2) := dk_21 5 (dk_at dksX5_meanOf_2 16 rfl rfl)
theorem dX5_meanOf_64 : decode cX5_meanOf 64 = .ok (.iaload, 1) := dk_46 (dk_at dksX5_meanOf_2 18 rfl rfl)
theorem dX5_meanOf_65 : decode cX5_meanOf 65 = .ok (.iadd, 1) := dk_96 (dk_at dksX5_meanOf_2 19 rfl rfl)
theorem dX5_meanOf_66 : decode cX5_meanOf 66 = .ok (.istore 4, 2) := dk_54 4 (dk_at dksX5_meanOf_2 20 rfl rfl)
theorem dX5_meanOf_68 : decode cX5_meanOf 68 = .ok (.iinc 5 1, 3) := dk_132 5 1 (dk_at dksX5_meanOf_3 0 rfl rfl)
theorem dX5_meanOf_71 : decode cX5_meanOf 71 = .ok (.goto (-53), 3) := dk_167 255 203 (dk_at dksX5_meanOf_3 3 rfl rfl)
theorem dX5_meanOf_74 : decode cX5_meanOf 74 = .ok (.aload_n 0, 1) := dk_42 (dk_at dksX5_meanOf_3 6 rfl rfl)
theorem dX5_meanOf_75 : decode cX5_meanOf 75 = .ok (.iload_n 1, 1) := dk_27 (dk_at dksX5_meanOf_3 7 rfl rfl)
theorem dX5_meanOf_76 : decode cX5_meanOf 76 = .ok (.iload_n 2, 1) := dk_28 (dk_at dksX5_meanOf_3 8 rfl rfl)
theorem dX5_meanOf_77 : decode cX5_meanOf 77 = .ok (.iload_n 3, 1) := dk_29 (dk_at dksX5_meanOf_3 9 rfl rfl)
theorem dX5_meanOf_78 : decode cX5_meanOf 78 = .ok (.invokevirtual 290, 3) := dk_182 1 34 (dk_at dksX5_meanOf_3 10 rfl rfl)
theorem dX5_meanOf_81 : decode cX5_meanOf 81 = .ok (.iload 4, 2) := dk_21 4 (dk_at dksX5_meanOf_3 13 rfl rfl)
theorem dX5_meanOf_83 : decode cX5_meanOf 83 = .ok (.imul, 1) := dk_104 (dk_at dksX5_meanOf_3 15 rfl rfl)
theorem dX5_meanOf_84 : decode cX5_meanOf 84 = .ok (.bipush 10, 2) := dk_16 10 (dk_at dksX5_meanOf_3 16 rfl rfl)
theorem dX5_meanOf_86 : decode cX5_meanOf 86 = .ok (.idiv, 1) := dk_108 (dk_at dksX5_meanOf_3 18 rfl rfl)
theorem dX5_meanOf_87 : decode cX5_meanOf 87 = .ok (.ireturn, 1) := dk_172 (dk_at dksX5_meanOf_3 19 rfl rfl)
abbrev cX5_isThrow : ByteArray := prog_22_method_75_code
def yX5_isThrow : MethodName := ⟨RX5, "isThrow", "(III)Z"⟩
def dkwX5_isThrow_1 : List UInt8 := [153, 0, 7, 4, 167, 0, 4, 3, 172]
abbrev dktX5_isThrow_1 : List UInt8 := dkwX5_isThrow_1 ++ []
def dkwX5_isThrow_0 : List UInt8 := [29, 5, 42, 27, 28, 182, 0, 236, 104, 163, 0, 22, 42, 42, 180, 0, 32, 28, 46, 29, 96, 182, 0, 147]
abbrev dktX5_isThrow_0 : List UInt8 := dkwX5_isThrow_0 ++ dktX5_isThrow_1
theorem dksX5_isThrow_0 : cX5_isThrow.data.toList.drop 0 = dktX5_isThrow_0 := by decide +kernel
theorem dksX5_isThrow_1 : cX5_isThrow.data.toList.drop 24 = dktX5_isThrow_1 := dk_seg dksX5_isThrow_0 24 rfl rfl
theorem dX5_isThrow_0 : decode cX5_isThrow 0 = .ok (.iload_n 3, 1) := dk_29 (dk_at dksX5_isThrow_0 0 rfl rfl)
theorem dX5_isThrow_1 : decode cX5_isThrow 1 = .ok (.iconst 2, 1) := dk_5 (dk_at dksX5_isThrow_0 1 rfl rfl)
theorem dX5_isThrow_2 : decode cX5_isThrow 2 = .ok (.aload_n 0, 1) := dk_42 (dk_at dksX5_isThrow_0 2 rfl rfl)
theorem dX5_isThrow_3 : decode cX5_isThrow 3 = .ok (.iload_n 1, 1) := dk_27 (dk_at dksX5_isThrow_0 3 rfl rfl)
theorem dX5_isThrow_4 : decode cX5_isThrow 4 = .ok (.iload_n 2, 1) := dk_28 (dk_at dksX5_isThrow_0 4 rfl rfl)
theorem dX5_isThrow_5 : decode cX5_isThrow 5 = .ok (.invokevirtual 236, 3) := dk_182 0 236 (dk_at dksX5_isThrow_0 5 rfl rfl)
theorem dX5_isThrow_8 : decode cX5_isThrow 8 = .ok (.imul, 1) := dk_104 (dk_at dksX5_isThrow_0 8 rfl rfl)
theorem dX5_isThrow_9 : decode cX5_isThrow 9 = .ok (.if_icmp .gt 22, 3) := dk_163 0 22 (dk_at dksX5_isThrow_0 9 rfl rfl)
theorem dX5_isThrow_12 : decode cX5_isThrow 12 = .ok (.aload_n 0, 1) := dk_42 (dk_at dksX5_isThrow_0 12 rfl rfl)
theorem dX5_isThrow_13 : decode cX5_isThrow 13 = .ok (.aload_n 0, 1) := dk_42 (dk_at dksX5_isThrow_0 13 rfl rfl)
theorem dX5_isThrow_14 : decode cX5_isThrow 14 = .ok (.getfield 32, 3) := dk_180 0 32 (dk_at dksX5_isThrow_0 14 rfl rfl)
theorem dX5_isThrow_17 : decode cX5_isThrow 17 = .ok (.iload_n 2, 1) := dk_28 (dk_at dksX5_isThrow_0 17 rfl rfl)
theorem dX5_isThrow_18 : decode cX5_isThrow 18 = .ok (.iaload, 1) := dk_46 (dk_at dksX5_isThrow_0 18 rfl rfl)
theorem dX5_isThrow_19 : decode cX5_isThrow 19 = .ok (.iload_n 3, 1) := dk_29 (dk_at dksX5_isThrow_0 19 rfl rfl)
theorem dX5_isThrow_20 : decode cX5_isThrow 20 = .ok (.iadd, 1) := dk_96 (dk_at dksX5_isThrow_0 20 rfl rfl)
theorem dX5_isThrow_21 : decode cX5_isThrow 21 = .ok (.invokevirtual 147, 3) := dk_182 0 147 (dk_at dksX5_isThrow_0 21 rfl rfl)
theorem dX5_isThrow_24 : decode cX5_isThrow 24 = .ok (.ifCond .eq 7, 3) := dk_153 0 7 (dk_at dksX5_isThrow_1 0 rfl rfl)
theorem dX5_isThrow_27 : decode cX5_isThrow 27 = .ok (.iconst 1, 1) := dk_4 (dk_at dksX5_isThrow_1 3 rfl rfl)
theorem dX5_isThrow_28 : decode cX5_isThrow 28 = .ok (.goto 4, 3) := dk_167 0 4 (dk_at dksX5_isThrow_1 4 rfl rfl)
theorem dX5_isThrow_31 : decode cX5_isThrow 31 = .ok (.iconst 0, 1) := dk_3 (dk_at dksX5_isThrow_1 7 rfl rfl)
theorem dX5_isThrow_32 : decode cX5_isThrow 32 = .ok (.ireturn, 1) := dk_172 (dk_at dksX5_isThrow_1 8 rfl rfl)
abbrev cX5_cast : ByteArray := prog_22_method_80_code
def yX5_cast : MethodName := ⟨RX5, "cast", "(II)I"⟩
def dkwX5_cast_3 : List UInt8 := [172]
abbrev dktX5_cast_3 : List UInt8 := dkwX5_cast_3 ++ []
def dkwX5_cast_2 : List UInt8 := [21, 6, 21, 4, 163, 0, 6, 167, 0, 10, 21, 5, 62, 21, 6, 54, 4, 132, 5, 1, 167, 255, 219, 29]
abbrev dktX5_cast_2 : List UInt8 := dkwX5_cast_2 ++ dktX5_cast_3
def dkwX5_cast_1 : List UInt8 := [3, 54, 4, 4, 54, 5, 21, 5, 16, 40, 163, 0, 36, 42, 27, 28, 21, 5, 182, 1, 41, 54, 6]
abbrev dktX5_cast_1 : List UInt8 := dkwX5_cast_1 ++ dktX5_cast_2
def dkwX5_cast_0 : List UInt8 := [42, 27, 182, 0, 178, 153, 0, 11, 42, 28, 182, 0, 140, 154, 0, 9, 42, 2, 182, 1, 15, 172, 2, 62]
abbrev dktX5_cast_0 : List UInt8 := dkwX5_cast_0 ++ dktX5_cast_1
theorem dksX5_cast_0 : cX5_cast.data.toList.drop 0 = dktX5_cast_0 := by decide +kernel
theorem dksX5_cast_1 : cX5_cast.data.toList.drop 24 = dktX5_cast_1 := dk_seg dksX5_cast_0 24 rfl rfl
theorem dksX5_cast_2 : cX5_cast.data.toList.drop 47 = dktX5_cast_2 := dk_seg dksX5_cast_1 23 rfl rfl
theorem dksX5_cast_3 : cX5_cast.data.toList.drop 71 = dktX5_cast_3 := dk_seg dksX5_cast_2 24 rfl rfl
theorem dX5_cast_0 : decode cX5_cast 0 = .ok (.aload_n 0, 1) := dk_42 (dk_at dksX5_cast_0 0 rfl rfl)
theorem dX5_cast_1 : decode cX5_cast 1 = .ok (.iload_n 1, 1) := dk_27 (dk_at dksX5_cast_0 1 rfl rfl)
theorem dX5_cast_2 : decode cX5_cast 2 = .ok (.invokevirtual 178, 3) := dk_182 0 178 (dk_at dksX5_cast_0 2 rfl rfl)
theorem dX5_cast_5 : decode cX5_cast 5 = .ok (.ifCond .eq 11, 3) := dk_153 0 11 (dk_at dksX5_cast_0 5 rfl rfl)
theorem dX5_cast_8 : decode cX5_cast 8 = .ok (.aload_n 0, 1) := dk_42 (dk_at dksX5_cast_0 8 rfl rfl)
theorem dX5_cast_9 : decode cX5_cast 9 = .ok (.iload_n 2, 1) := dk_28 (dk_at dksX5_cast_0 9 rfl rfl)
theorem dX5_cast_10 : decode cX5_cast 10 = .ok (.invokevirtual 140, 3) := dk_182 0 140 (dk_at dksX5_cast_0 10 rfl rfl)
theorem dX5_cast_13 : decode cX5_cast 13 = .ok (.ifCond .ne 9, 3) := dk_154 0 9 (dk_at dksX5_cast_0 13 rfl rfl)
theorem dX5_cast_16 : decode cX5_cast 16 = .ok (.aload_n 0, 1) := dk_42 (dk_at dksX5_cast_0 16 rfl rfl)
theorem dX5_cast_17 : decode cX5_cast 17 = .ok (.iconst (-1), 1) := dk_2 (dk_at dksX5_cast_0 17 rfl rfl)
theorem dX5_cast_18 : decode cX5_cast 18 = .ok (.invokevirtual 271, 3) := dk_182 1 15 (dk_at dksX5_cast_0 18 rfl rfl)
theorem dX5_cast_21 : decode cX5_cast 21 = .ok (.ireturn, 1) := dk_172 (dk_at dksX5_cast_0 21 rfl rfl)
theorem dX5_cast_22 : decode cX5_cast 22 = .ok (.iconst (-1), 1) := dk_2 (dk_at dksX5_cast_0 22 rfl rfl)
theorem dX5_cast_23 : decode cX5_cast 23 = .ok (.istore_n 3, 1) := dk_62 (dk_at dksX5_cast_0 23 rfl rfl)
theorem dX5_cast_24 : decode cX5_cast 24 = .ok (.iconst 0, 1) := dk_3 (dk_at dksX5_cast_1 0 rfl rfl)
theorem dX5_cast_25 : decode cX5_cast 25 = .ok (.istore 4, 2) := dk_54 4 (dk_at dksX5_cast_1 1 rfl rfl)
theorem dX5_cast_27 : decode cX5_cast 27 = .ok (.iconst 1, 1) := dk_4 (dk_at dksX5_cast_1 3 rfl rfl)
theorem dX5_cast_28 : decode cX5_cast 28 = .ok (.istore 5, 2) := dk_54 5 (dk_at dksX5_cast_1 4 rfl rfl)
theorem dX5_cast_30 : decode cX5_cast 30 = .ok (.iload 5, 2) := dk_21 5 (dk_at dksX5_cast_1 6 rfl rfl)
theorem dX5_cast_32 : decode cX5_cast 32 = .ok (.bipush 40, 2) := dk_16 40 (dk_at dksX5_cast_1 8 rfl rfl)
theorem dX5_cast_34 : decode cX5_cast 34 = .ok (.if_icmp .gt 36, 3) := dk_163 0 36 (dk_at dksX5_cast_1 10 rfl rfl)
theorem dX5_cast_37 : decode cX5_cast 37 = .ok (.aload_n 0, 1) := dk_42 (dk_at dksX5_cast_1 13 rfl rfl)
theorem dX5_cast_38 : decode cX5_cast 38 = .ok (.iload_n 1, 1) := dk_27 (dk_at dksX5_cast_1 14 rfl rfl)
theorem dX5_cast_39 : decode cX5_cast 39 = .ok (.iload_n 2, 1) := dk_28 (dk_at dksX5_cast_1 15 rfl rfl)
theorem dX5_cast_40 : decode cX5_cast 40 = .ok (.iload 5, 2) := dk_21 5 (dk_at dksX5_cast_1 16 rfl rfl)
theorem dX5_cast_42 : decode cX5_cast 42 = .ok (.invokevirtual 297, 3) := dk_182 1 41 (dk_at dksX5_cast_1 18 rfl rfl)
theorem dX5_cast_45 : decode cX5_cast 45 = .ok (.istore 6, 2) := dk_54 6 (dk_at dksX5_cast_1 21 rfl rfl)
theorem dX5_cast_47 : decode cX5_cast 47 = .ok (.iload 6, 2) := dk_21 6 (dk_at dksX5_cast_2 0 rfl rfl)
theorem dX5_cast_49 : decode cX5_cast 49 = .ok (.iload 4, 2) := dk_21 4 (dk_at dksX5_cast_2 2 rfl rfl)
theorem dX5_cast_51 : decode cX5_cast 51 = .ok (.if_icmp .gt 6, 3) := dk_163 0 6 (dk_at dksX5_cast_2 4 rfl rfl)
theorem dX5_cast_54 : decode cX5_cast 54 = .ok (.goto 10, 3) := dk_167 0 10 (dk_at dksX5_cast_2 7 rfl rfl)
theorem dX5_cast_57 : decode cX5_cast 57 = .ok (.iload 5, 2) := dk_21 5 (dk_at dksX5_cast_2 10 rfl rfl)
theorem dX5_cast_59 : decode cX5_cast 59 = .ok (.istore_n 3, 1) := dk_62 (dk_at dksX5_cast_2 12 rfl rfl)
theorem dX5_cast_60 : decode cX5_cast 60 = .ok (.iload 6, 2) := dk_21 6 (dk_at dksX5_cast_2 13 rfl rfl)
theorem dX5_cast_62 : decode cX5_cast 62 = .ok (.istore 4, 2) := dk_54 4 (dk_at dksX5_cast_2 15 rfl rfl)
theorem dX5_cast_64 : decode cX5_cast 64 = .ok (.iinc 5 1, 3) := dk_132 5 1 (dk_at dksX5_cast_2 17 rfl rfl)
theorem dX5_cast_67 : decode cX5_cast 67 = .ok (.goto (-37), 3) := dk_167 255 219 (dk_at dksX5_cast_2 20 rfl rfl)
theorem dX5_cast_70 : decode cX5_cast 70 = .ok (.iload_n 3, 1) := dk_29 (dk_at dksX5_cast_2 23 rfl rfl)
theorem dX5_cast_71 : decode cX5_cast 71 = .ok (.ireturn, 1) := dk_172 (dk_at dksX5_cast_3 0 rfl rfl)
abbrev cX5_toss : ByteArray := prog_22_method_82_code
def yX5_toss : MethodName := ⟨RX5, "toss", "(III)I"⟩
def dkwX5_toss_6 : List UInt8 := [167, 0, 4, 3, 172]
abbrev dktX5_toss_6 : List UInt8 := dkwX5_toss_6 ++ []
def dkwX5_toss_5 : List UInt8 := [79, 42, 27, 28, 182, 0, 245, 42, 89, 180, 0, 223, 4, 96, 181, 0, 223, 21, 4, 153, 0, 7, 4]
abbrev dktX5_toss_5 : List UInt8 := dkwX5_toss_5 ++ dktX5_toss_6
def dkwX5_toss_4 : List UInt8 := [28, 2, 79, 21, 4, 154, 0, 20, 42, 180, 0, 23, 28, 46, 7, 160, 0, 10, 42, 180, 0, 38, 28, 4]
abbrev dktX5_toss_4 : List UInt8 := dkwX5_toss_4 ++ dktX5_toss_5
def dkwX5_toss_3 : List UInt8 := [162, 0, 7, 4, 167, 0, 4, 3, 54, 4, 42, 180, 0, 32, 28, 92, 46, 29, 96, 79, 42, 180, 0, 35]
abbrev dktX5_toss_3 : List UInt8 := dkwX5_toss_3 ++ dktX5_toss_4
def dkwX5_toss_2 : List UInt8 := [160, 0, 10, 42, 16, 250, 182, 0, 136, 172, 42, 16, 10, 182, 1, 45, 42, 27, 28, 29, 182, 1, 34]
abbrev dktX5_toss_2 : List UInt8 := dkwX5_toss_2 ++ dktX5_toss_3
def dkwX5_toss_1 : List UInt8 := [182, 1, 31, 153, 0, 23, 42, 27, 28, 29, 182, 1, 37, 153, 0, 13, 42, 180, 0, 38, 28, 46, 4]
abbrev dktX5_toss_1 : List UInt8 := dkwX5_toss_1 ++ dktX5_toss_2
def dkwX5_toss_0 : List UInt8 := [42, 27, 182, 0, 178, 153, 0, 11, 42, 28, 182, 0, 140, 154, 0, 9, 42, 2, 182, 0, 136, 172, 42, 29]
abbrev dktX5_toss_0 : List UInt8 := dkwX5_toss_0 ++ dktX5_toss_1
theorem dksX5_toss_0 : cX5_toss.data.toList.drop 0 = dktX5_toss_0 := by decide +kernel
theorem dksX5_toss_1 : cX5_toss.data.toList.drop 24 = dktX5_toss_1 := dk_seg dksX5_toss_0 24 rfl rfl
theorem dksX5_toss_2 : cX5_toss.data.toList.drop 47 = dktX5_toss_2 := dk_seg dksX5_toss_1 23 rfl rfl
theorem dksX5_toss_3 : cX5_toss.data.toList.drop 70 = dktX5_toss_3 := dk_seg dksX5_toss_2 23 rfl rfl
theorem dksX5_toss_4 : cX5_toss.data.toList.drop 94 = dktX5_toss_4 := dk_seg dksX5_toss_3 24 rfl rfl
theorem dksX5_toss_5 : cX5_toss.data.toList.drop 118 = dktX5_toss_5 := dk_seg dksX5_toss_4 24 rfl rfl
theorem dksX5_toss_6 : cX5_toss.data.toList.drop 141 = dktX5_toss_6 := dk_seg dksX5_toss_5 23 rfl rfl
theorem dX5_toss_0 : decode cX5_toss 0 = .ok (.aload_n 0, 1) := dk_42 (dk_at dksX5_toss_0 0 rfl rfl)
theorem dX5_toss_1 : decode cX5_toss 1 = .ok (.iload_n 1, 1) := dk_27 (dk_at dksX5_toss_0 1 rfl rfl)
theorem dX5_toss_2 : decode cX5_toss 2 = .ok (.invokevirtual 178, 3) := dk_182 0 178 (dk_at dksX5_toss_0 2 rfl rfl)
theorem dX5_toss_5 : decode cX5_toss 5 = .ok (.ifCond .eq 11, 3) := dk_153 0 11 (dk_at dksX5_toss_0 5 rfl rfl)
theorem dX5_toss_8 : decode cX5_toss 8 = .ok (.aload_n 0, 1) := dk_42 (dk_at dksX5_toss_0 8 rfl rfl)
theorem dX5_toss_9 : decode cX5_toss 9 = .ok (.iload_n 2, 1) := dk_28 (dk_at dksX5_toss_0 9 rfl rfl)
theorem dX5_toss_10 : decode cX5_toss 10 = .ok (.invokevirtual 140, 3) := dk_182 0 140 (dk_at dksX5_toss_0 10 rfl rfl)
theorem dX5_toss_13 : decode cX5_toss 13 = .ok (.ifCond .ne 9, 3) := dk_154 0 9 (dk_at dksX5_toss_0 13 rfl rfl)
theorem dX5_toss_16 : decode cX5_toss 16 = .ok (.aload_n 0, 1) := dk_42 (dk_at dksX5_toss_0 16 rfl rfl)
theorem dX5_toss_17 : decode cX5_toss 17 = .ok (.iconst (-1), 1) := dk_2 (dk_at dksX5_toss_0 17 rfl rfl)
theorem dX5_toss_18 : decode cX5_toss 18 = .ok (.invokevirtual 136, 3) := dk_182 0 136 (dk_at dksX5_toss_0 18 rfl rfl)
theorem dX5_toss_21 : decode cX5_toss 21 = .ok (.ireturn, 1) := dk_172 (dk_at dksX5_toss_0 21 rfl rfl)
theorem dX5_toss_22 : decode cX5_toss 22 = .ok (.aload_n 0, 1) := dk_42 (dk_at dksX5_toss_0 22 rfl rfl)
theorem dX5_toss_23 : decode cX5_toss 23 = .ok (.iload_n 3, 1) := dk_29 (dk_at dksX5_toss_0 23 rfl rfl)
theorem dX5_toss_24 : decode cX5_toss 24 = .ok (.invokevirtual 287, 3) := dk_182 1 31 (dk_at dksX5_toss_1 0 rfl rfl)
theorem dX5_toss_27 : decode cX5_toss 27 = .ok (.ifCond .eq 23, 3) := dk_153 0 23 (dk_at dksX5_toss_1 3 rfl rfl)
theorem dX5_toss_30 : decode cX5_toss 30 = .ok (.aload_n 0, 1) := dk_42 (dk_at dksX5_toss_1 6 rfl rfl)
theorem dX5_toss_31 : decode cX5_toss 31 = .ok (.iload_n 1, 1) := dk_27 (dk_at dksX5_toss_1 7 rfl rfl)
theorem dX5_toss_32 : decode cX5_toss 32 = .ok (.iload_n 2, 1) := dk_28 (dk_at dksX5_toss_1 8 rfl rfl)
theorem dX5_toss_33 : decode cX5_toss 33 = .ok (.iload_n 3, 1) := dk_29 (dk_at dksX5_toss_1 9 rfl rfl)
theorem dX5_toss_34 : decode cX5_toss 34 = .ok (.invokevirtual 293, 3) := dk_182 1 37 (dk_at dksX5_toss_1 10 rfl rfl)
theorem dX5_toss_37 : decode cX5_toss 37 = .ok (.ifCond .eq 13, 3) := dk_153 0 13 (dk_at dksX5_toss_1 13 rfl rfl)
theorem dX5_toss_40 : decode cX5_toss 40 = .ok (.aload_n 0, 1) := dk_42 (dk_at dksX5_toss_1 16 rfl rfl)
theorem dX5_toss_41 : decode cX5_toss 41 = .ok (.getfield 38, 3) := dk_180 0 38 (dk_at dksX5_toss_1 17 rfl rfl)
theorem dX5_toss_44 : decode cX5_toss 44 = .ok (.iload_n 2, 1) := dk_28 (dk_at dksX5_toss_1 20 rfl rfl)
theorem dX5_toss_45 : decode cX5_toss 45 = .ok (.iaload, 1) := dk_46 (dk_at dksX5_toss_1 21 rfl rfl)
theorem dX5_toss_46 : decode cX5_toss 46 = .ok (.iconst 1, 1) := dk_4 (dk_at dksX5_toss_1 22 rfl rfl)
theorem dX5_toss_47 : decode cX5_toss 47 = .ok (.if_icmp .ne 10, 3) := dk_160 0 10 (dk_at dksX5_toss_2 0 rfl rfl)
theorem dX5_toss_50 : decode cX5_toss 50 = .ok (.aload_n 0, 1) := dk_42 (dk_at dksX5_toss_2 3 rfl rfl)
theorem dX5_toss_51 : decode cX5_toss 51 = .ok (.bipush (-6), 2) := dk_16 250 (dk_at dksX5_toss_2 4 rfl rfl)
theorem dX5_toss_53 : decode cX5_toss 53 = .ok (.invokevirtual 136, 3) := dk_182 0 136 (dk_at dksX5_toss_2 6 rfl rfl)
theorem dX5_toss_56 : decode cX5_toss 56 = .ok (.ireturn, 1) := dk_172 (dk_at dksX5_toss_2 9 rfl rfl)
theorem dX5_toss_57 : decode cX5_toss 57 = .ok (.aload_n 0, 1) := dk_42 (dk_at dksX5_toss_2 10 rfl rfl)
theorem dX5_toss_58 : decode cX5_toss 58 = .ok (.bipush 10, 2) := dk_16 10 (dk_at dksX5_toss_2 11 rfl rfl)
theorem dX5_toss_60 : decode cX5_toss 60 = .ok (.invokevirtual 301, 3) := dk_182 1 45 (dk_at dksX5_toss_2 13 rfl rfl)
theorem dX5_toss_63 : decode cX5_toss 63 = .ok (.aload_n 0, 1) := dk_42 (dk_at dksX5_toss_2 16 rfl rfl)
theorem dX5_toss_64 : decode cX5_toss 64 = .ok (.iload_n 1, 1) := dk_27 (dk_at dksX5_toss_2 17 rfl rfl)
theorem dX5_toss_65 : decode cX5_toss 65 = .ok (.iload_n 2, 1) := dk_28 (dk_at dksX5_toss_2 18 rfl rfl)
theorem dX5_toss_66 : decode cX5_toss 66 = .ok (.iload_n 3, 1) := dk_29 (dk_at dksX5_toss_2 19 rfl rfl)
theorem dX5_toss_67 : decode cX5_toss 67 = .ok (.invokevirtual 290, 3) := dk_182 1 34 (dk_at dksX5_toss_2 20 rfl rfl)
theorem dX5_toss_70 : decode cX5_toss 70 = .ok (.if_icmp .ge 7, 3) := dk_162 0 7 (dk_at dksX5_toss_3 0 rfl rfl)
theorem dX5_toss_73 : decode cX5_toss 73 = .ok (.iconst 1, 1) := dk_4 (dk_at dksX5_toss_3 3 rfl rfl)
theorem dX5_toss_74 : decode cX5_toss 74 = .ok (.goto 4, 3) := dk_167 0 4 (dk_at dksX5_toss_3 4 rfl rfl)
theorem dX5_toss_77 : decode cX5_toss 77 = .ok (.iconst 0, 1) := dk_3 (dk_at dksX5_toss_3 7 rfl rfl)
theorem dX5_toss_78 : decode cX5_toss 78 = .ok (.istore 4, 2) := dk_54 4 (dk_at dksX5_toss_3 8 rfl rfl)
theorem dX5_toss_80 : decode cX5_toss 80 = .ok (.aload_n 0, 1) := dk_42 (dk_at dksX5_toss_3 10 rfl rfl)
theorem dX5_toss_81 : decode cX5_toss 81 = .ok (.getfield 32, 3) := dk_180 0 32 (dk_at dksX5_toss_3 11 rfl rfl)
theorem dX5_toss_84 : decode cX5_toss 84 = .ok (.iload_n 2, 1) := dk_28 (dk_at dksX5_toss_3 14 rfl rfl)
theorem dX5_toss_85 : decode cX5_toss 85 = .ok (.dup2, 1) := dk_92 (dk_at dksX5_toss_3 15 rfl rfl)
theorem dX5_toss_86 : decode cX5_toss 86 = .ok (.iaload, 1) := dk_46 (dk_at dksX5_toss_3 16 rfl rfl)
theorem dX5_toss_87 : decode cX5_toss 87 = .ok (.iload_n 3, 1) := dk_29 (dk_at dksX5_toss_3 17 rfl rfl)
theorem dX5_toss_88 : decode cX5_toss 88 = .ok (.iadd, 1) := dk_96 (dk_at dksX5_toss_3 18 rfl rfl)
theorem dX5_toss_89 : decode cX5_toss 89 = .ok (.iastore, 1) := dk_79 (dk_at dksX5_toss_3 19 rfl rfl)
theorem dX5_toss_90 : decode cX5_toss 90 = .ok (.aload_n 0, 1) := dk_42 (dk_at dksX5_toss_3 20 rfl rfl)
theorem dX5_toss_91 : decode cX5_toss 91 = .ok (.getfield 35, 3) := dk_180 0 35 (dk_at dksX5_toss_3 21 rfl rfl)
theorem dX5_toss_94 : decode cX5_toss 94 = .ok (.iload_n 2, 1) := dk_28 (dk_at dksX5_toss_4 0 rfl rfl)
theorem dX5_toss_95 : decode cX5_toss 95 = .ok (.iconst (-1), 1) := dk_2 (dk_at dksX5_toss_4 1 rfl rfl)
theorem dX5_toss_96 : decode cX5_toss 96 = .ok (.iastore, 1) := dk_79 (dk_at dksX5_toss_4 2 rfl rfl)
theorem dX5_toss_97 : decode cX5_toss 97 = .ok (.iload 4, 2) := dk_21 4 (dk_at dksX5_toss_4 3 rfl rfl)
theorem dX5_toss_99 : decode cX5_toss 99 = .ok (.ifCond .ne 20, 3) := dk_154 0 20 (dk_at dksX5_toss_4 5 rfl rfl)
theorem dX5_toss_102 : decode cX5_toss 102 = .ok (.aload_n 0, 1) := dk_42 (dk_at dksX5_toss_4 8 rfl rfl)
theorem dX5_toss_103 : decode cX5_toss 103 = .ok (.getfield 23, 3) := dk_180 0 23 (dk_at dksX5_toss_4 9 rfl rfl)
theorem dX5_toss_106 : decode cX5_toss 106 = .ok (.iload_n 2, 1) := dk_28 (dk_at dksX5_toss_4 12 rfl rfl)
theorem dX5_toss_107 : decode cX5_toss 107 = .ok (.iaload, 1) := dk_46 (dk_at dksX5_toss_4 13 rfl rfl)
theorem dX5_toss_108 : decode cX5_toss 108 = .ok (.iconst 4, 1) := dk_7 (dk_at dksX5_toss_4 14 rfl rfl)
theorem dX5_toss_109 : decode cX5_toss 109 = .ok (.if_icmp .ne 10, 3) := dk_160 0 10 (dk_at dksX5_toss_4 15 rfl rfl)
theorem dX5_toss_112 : decode cX5_toss 112 = .ok (.aload_n 0, 1) := dk_42 (dk_at dksX5_toss_4 18 rfl rfl)
theorem dX5_toss_113 : decode cX5_toss 113 = .ok (.getfield 38, 3) := dk_180 0 38 (dk_at dksX5_toss_4 19 rfl rfl)
theorem dX5_toss_116 : decode cX5_toss 116 = .ok (.iload_n 2, 1) := dk_28 (dk_at dksX5_toss_4 22 rfl rfl)
theorem dX5_toss_117 : decode cX5_toss 117 = .ok (.iconst 1, 1) := dk_4 (dk_at dksX5_toss_4 23 rfl rfl)
theorem dX5_toss_118 : decode cX5_toss 118 = .ok (.iastore, 1) := dk_79 (dk_at dksX5_toss_5 0 rfl rfl)
theorem dX5_toss_119 : decode cX5_toss 119 = .ok (.aload_n 0, 1) := dk_42 (dk_at dksX5_toss_5 1 rfl rfl)
theorem dX5_toss_120 : decode cX5_toss 120 = .ok (.iload_n 1, 1) := dk_27 (dk_at dksX5_toss_5 2 rfl rfl)
theorem dX5_toss_121 : decode cX5_toss 121 = .ok (.iload_n 2, 1) := dk_28 (dk_at dksX5_toss_5 3 rfl rfl)
theorem dX5_toss_122 : decode cX5_toss 122 = .ok (.invokevirtual 245, 3) := dk_182 0 245 (dk_at dksX5_toss_5 4 rfl rfl)
theorem dX5_toss_125 : decode cX5_toss 125 = .ok (.aload_n 0, 1) := dk_42 (dk_at dksX5_toss_5 7 rfl rfl)
theorem dX5_toss_126 : decode cX5_toss 126 = .ok (.dup, 1) := dk_89 (dk_at dksX5_toss_5 8 rfl rfl)
theorem dX5_toss_127 : decode cX5_toss 127 = .ok (.getfield 223, 3) := dk_180 0 223 (dk_at dksX5_toss_5 9 rfl rfl)
theorem dX5_toss_130 : decode cX5_toss 130 = .ok (.iconst 1, 1) := dk_4 (dk_at dksX5_toss_5 12 rfl rfl)
theorem dX5_toss_131 : decode cX5_toss 131 = .ok (.iadd, 1) := dk_96 (dk_at dksX5_toss_5 13 rfl rfl)
theorem dX5_toss_132 : decode cX5_toss 132 = .ok (.putfield 223, 3) := dk_181 0 223 (dk_at dksX5_toss_5 14 rfl rfl)
theorem dX5_toss_135 : decode cX5_toss 135 = .ok (.iload 4, 2) := dk_21 4 (dk_at dksX5_toss_5 17 rfl rfl)
theorem dX5_toss_137 : decode cX5_toss 137 = .ok (.ifCond .eq 7, 3) := dk_153 0 7 (dk_at dksX5_toss_5 19 rfl rfl)
theorem dX5_toss_140 : decode cX5_toss 140 = .ok (.iconst 1, 1) := dk_4 (dk_at dksX5_toss_5 22 rfl rfl)
theorem dX5_toss_141 : decode cX5_toss 141 = .ok (.goto 4, 3) := dk_167 0 4 (dk_at dksX5_toss_6 0 rfl rfl)
theorem dX5_toss_144 : decode cX5_toss 144 = .ok (.iconst 0, 1) := dk_3 (dk_at dksX5_toss_6 3 rfl rfl)
theorem dX5_toss_145 : decode cX5_toss 145 = .ok (.ireturn, 1) := dk_172 (dk_at dksX5_toss_6 4 rfl rfl)
abbrev cX5_draw : ByteArray := prog_22_method_81_code
def yX5_draw : MethodName := ⟨RX5, "draw", "(I)I"⟩
def dkwX5_draw_1 : List UInt8 := [112, 172]
abbrev dktX5_draw_1 : List UInt8 := dkwX5_draw_1 ++ []
def dkwX5_draw_0 : List UInt8 := [42, 42, 180, 0, 13, 19, 1, 44, 104, 17, 48, 57, 96, 181, 0, 13, 42, 180, 0, 13, 16, 16, 124, 27]
abbrev dktX5_draw_0 : List UInt8 := dkwX5_draw_0 ++ dktX5_draw_1
theorem dksX5_draw_0 : cX5_draw.data.toList.drop 0 = dktX5_draw_0 := by decide +kernel
theorem dksX5_draw_1 : cX5_draw.data.toList.drop 24 = dktX5_draw_1 := dk_seg dksX5_draw_0 24 rfl rfl
theorem dX5_draw_0 : decode cX5_draw 0 = .ok (.aload_n 0, 1) := dk_42 (dk_at dksX5_draw_0 0 rfl rfl)
theorem dX5_draw_1 : decode cX5_draw 1 = .ok (.aload_n 0, 1) := dk_42 (dk_at dksX5_draw_0 1 rfl rfl)
theorem dX5_draw_2 : decode cX5_draw 2 = .ok (.getfield 13, 3) := dk_180 0 13 (dk_at dksX5_draw_0 2 rfl rfl)
theorem dX5_draw_5 : decode cX5_draw 5 = .ok (.ldc_w 300, 3) := dk_19 1 44 (dk_at dksX5_draw_0 5 rfl rfl)
theorem dX5_draw_8 : decode cX5_draw 8 = .ok (.imul, 1) := dk_104 (dk_at dksX5_draw_0 8 rfl rfl)
theorem dX5_draw_9 : decode cX5_draw 9 = .ok (.sipush 12345, 3) := dk_17 48 57 (dk_at dksX5_draw_0 9 rfl rfl)
theorem dX5_draw_12 : decode cX5_draw 12 = .ok (.iadd, 1) := dk_96 (dk_at dksX5_draw_0 12 rfl rfl)
theorem dX5_draw_13 : decode cX5_draw 13 = .ok (.putfield 13, 3) := dk_181 0 13 (dk_at dksX5_draw_0 13 rfl rfl)
theorem dX5_draw_16 : decode cX5_draw 16 = .ok (.aload_n 0, 1) := dk_42 (dk_at dksX5_draw_0 16 rfl rfl)
theorem dX5_draw_17 : decode cX5_draw 17 = .ok (.getfield 13, 3) := dk_180 0 13 (dk_at dksX5_draw_0 17 rfl rfl)
theorem dX5_draw_20 : decode cX5_draw 20 = .ok (.bipush 16, 2) := dk_16 16 (dk_at dksX5_draw_0 20 rfl rfl)
theorem dX5_draw_22 : decode cX5_draw 22 = .ok (.iushr, 1) := dk_124 (dk_at dksX5_draw_0 22 rfl rfl)
theorem dX5_draw_23 : decode cX5_draw 23 = .ok (.iload_n 1, 1) := dk_27 (dk_at dksX5_draw_0 23 rfl rfl)
theorem dX5_draw_24 : decode cX5_draw 24 = .ok (.irem, 1) := dk_112 (dk_at dksX5_draw_1 0 rfl rfl)
theorem dX5_draw_25 : decode cX5_draw 25 = .ok (.ireturn, 1) := dk_172 (dk_at dksX5_draw_1 1 rfl rfl)
abbrev cX5_part : ByteArray := prog_22_method_83_code
def yX5_part : MethodName := ⟨RX5, "part", "(I)I"⟩
def dkwX5_part_5 : List UInt8 := [180, 0, 35, 21, 5, 42, 180, 0, 35, 27, 46, 79, 132, 4, 1, 167, 255, 219, 42, 180, 0, 117, 172]
abbrev dktX5_part_5 : List UInt8 := dkwX5_part_5 ++ []
def dkwX5_part_4 : List UInt8 := [21, 4, 28, 162, 0, 37, 42, 3, 29, 4, 42, 180, 0, 32, 27, 46, 182, 0, 150, 54, 5, 42]
abbrev dktX5_part_4 : List UInt8 := dkwX5_part_4 ++ dktX5_part_5
def dkwX5_part_3 : List UInt8 := [180, 0, 23, 27, 3, 79, 42, 180, 0, 26, 27, 29, 79, 42, 180, 0, 29, 27, 4, 79, 4, 54, 4]
abbrev dktX5_part_3 : List UInt8 := dkwX5_part_3 ++ dktX5_part_4
def dkwX5_part_2 : List UInt8 := [28, 108, 62, 42, 180, 0, 117, 28, 96, 4, 100, 16, 8, 164, 0, 10, 42, 16, 249, 182, 0, 136, 172, 42]
abbrev dktX5_part_2 : List UInt8 := dkwX5_part_2 ++ dktX5_part_3
def dkwX5_part_1 : List UInt8 := [42, 16, 254, 182, 0, 136, 172, 42, 180, 0, 29, 27, 46, 61, 42, 180, 0, 26, 27, 46, 28, 96, 4, 100]
abbrev dktX5_part_1 : List UInt8 := dkwX5_part_1 ++ dktX5_part_2
def dkwX5_part_0 : List UInt8 := [42, 27, 182, 0, 140, 154, 0, 9, 42, 2, 182, 0, 136, 172, 42, 180, 0, 23, 27, 46, 8, 159, 0, 10]
abbrev dktX5_part_0 : List UInt8 := dkwX5_part_0 ++ dktX5_part_1
theorem dksX5_part_0 : cX5_part.data.toList.drop 0 = dktX5_part_0 := by decide +kernel
theorem dksX5_part_1 : cX5_part.data.toList.drop 24 = dktX5_part_1 := dk_seg dksX5_part_0 24 rfl rfl
theorem dksX5_part_2 : cX5_part.data.toList.drop 48 = dktX5_part_2 := dk_seg dksX5_part_1 24 rfl rfl
theorem dksX5_part_3 : cX5_part.data.toList.drop 72 = dktX5_part_3 := dk_seg dksX5_part_2 24 rfl rfl
theorem dksX5_part_4 : cX5_part.data.toList.drop 95 = dktX5_part_4 := dk_seg dksX5_part_3 23 rfl rfl
theorem dksX5_part_5 : cX5_part.data.toList.drop 117 = dktX5_part_5 := dk_seg dksX5_part_4 22 rfl rfl
theorem dX5_part_0 : decode cX5_part 0 = .ok (.aload_n 0, 1) := dk_42 (dk_at dksX5_part_0 0 rfl rfl)
theorem dX5_part_1 : decode cX5_part 1 = .ok (.iload_n 1, 1) := dk_27 (dk_at dksX5_part_0 1 rfl rfl)
theorem dX5_part_2 : decode cX5_part 2 = .ok (.invokevirtual 140, 3) := dk_182 0 140 (dk_at dksX5_part_0 2 rfl rfl)
theorem dX5_part_5 : decode cX5_part 5 = .ok (.ifCond .ne 9, 3) := dk_154 0 9 (dk_at dksX5_part_0 5 rfl rfl)
theorem dX5_part_8 : decode cX5_part 8 = .ok (.aload_n 0, 1) := dk_42 (dk_at dksX5_part_0 8 rfl rfl)
theorem dX5_part_9 : decode cX5_part 9 = .ok (.iconst (-1), 1) := dk_2 (dk_at dksX5_part_0 9 rfl rfl)
theorem dX5_part_10 : decode cX5_part 10 = .ok (.invokevirtual 136, 3) := dk_182 0 136 (dk_at dksX5_part_0 10 rfl rfl)
theorem dX5_part_13 : decode cX5_part 13 = .ok (.ireturn, 1) := dk_172 (dk_at dksX5_part_0 13 rfl rfl)
theorem dX5_part_14 : decode cX5_part 14 = .ok (.aload_n 0, 1) := dk_42 (dk_at dksX5_part_0 14 rfl rfl)
theorem dX5_part_15 : decode cX5_part 15 = .ok (.getfield 23, 3) := dk_180 0 23 (dk_at dksX5_part_0 15 rfl rfl)
theorem dX5_part_18 : decode cX5_part 18 = .ok (.iload_n 1, 1) := dk_27 (dk_at dksX5_part_0 18 rfl rfl)
theorem dX5_part_19 : decode cX5_part 19 = .ok (.iaload, 1) := dk_46 (dk_at dksX5_part_0 19 rfl rfl)
theorem dX5_part_20 : decode cX5_part 20 = .ok (.iconst 5, 1) := dk_8 (dk_at dksX5_part_0 20 rfl rfl)
theorem dX5_part_21 : decode cX5_part 21 = .ok (.if_icmp .eq 10, 3) := dk_159 0 10 (dk_at dksX5_part_0 21 rfl rfl)
theorem dX5_part_24 : decode cX5_part 24 = .ok (.aload_n 0, 1) := dk_42 (dk_at dksX5_part_1 0 rfl rfl)
theorem dX5_part_25 : decode cX5_part 25 = .ok (.bipush (-2), 2) := dk_16 254 (dk_at dksX5_part_1 1 rfl rfl)
theorem dX5_part_27 : decode cX5_part 27 = .ok (.invokevirtual 136, 3) := dk_182 0 136 (dk_at dksX5_part_1 3 rfl rfl)
theorem dX5_part_30 : decode cX5_part 30 = .ok (.ireturn, 1) := dk_172 (dk_at dksX5_part_1 6 rfl rfl)
theorem dX5_part_31 : decode cX5_part 31 = .ok (.aload_n 0, 1) := dk_42 (dk_at dksX5_part_1 7 rfl rfl)
theorem dX5_part_32 : decode cX5_part 32 = .ok (.getfield 29, 3) := dk_180 0 29 (dk_at dksX5_part_1 8 rfl rfl)
theorem dX5_part_35 : decode cX5_part 35 = .ok (.iload_n 1, 1) := dk_27 (dk_at dksX5_part_1 11 rfl rfl)
theorem dX5_part_36 : decode cX5_part 36 = .ok (.iaload, 1) := dk_46 (dk_at dksX5_part_1 12 rfl rfl)
theorem dX5_part_37 : decode cX5_part 37 = .ok (.istore_n 2, 1) := dk_61 (dk_at dksX5_part_1 13 rfl rfl)
theorem dX5_part_38 : decode cX5_part 38 = .ok (.aload_n 0, 1) := dk_42 (dk_at dksX5_part_1 14 rfl rfl)
theorem dX5_part_39 : decode cX5_part 39 = .ok (.getfield 26, 3) := dk_180 0 26 (dk_at dksX5_part_1 15 rfl rfl)
theorem dX5_part_42 : decode cX5_part 42 = .ok (.iload_n 1, 1) := dk_27 (dk_at dksX5_part_1 18 rfl rfl)
theorem dX5_part_43 : decode cX5_part 43 = .ok (.iaload, 1) := dk_46 (dk_at dksX5_part_1 19 rfl rfl)
theorem dX5_part_44 : decode cX5_part 44 = .ok (.iload_n 2, 1) := dk_28 (dk_at dksX5_part_1 20 rfl rfl)
theorem dX5_part_45 : decode cX5_part 45 = .ok (.iadd, 1) := dk_96 (dk_at dksX5_part_1 21 rfl rfl)
theorem dX5_part_46 : decode cX5_part 46 = .ok (.iconst 1, 1) := dk_4 (dk_at dksX5_part_1 22 rfl rfl)
theorem dX5_part_47 : decode cX5_part 47 = .ok (.isub, 1) := dk_100 (dk_at dksX5_part_1 23 rfl rfl)
theorem dX5_part_48 : decode cX5_part 48 = .ok (.iload_n 2, 1) := dk_28 (dk_at dksX5_part_2 0 rfl rfl)
theorem dX5_part_49 : decode cX5_part 49 = .ok (.idiv, 1) := dk_108 (dk_at dksX5_part_2 1 rfl rfl)
theorem dX5_part_50 : decode cX5_part 50 = .ok (.istore_n 3, 1) := dk_62 (dk_at dksX5_part_2 2 rfl rfl)
theorem dX5_part_51 : decode cX5_part 51 = .ok (.aload_n 0, 1) := dk_42 (dk_at dksX5_part_2 3 rfl rfl)
theorem dX5_part_52 : decode cX5_part 52 = .ok (.getfield 117, 3) := dk_180 0 117 (dk_at dksX5_part_2 4 rfl rfl)
theorem dX5_part_55 : decode cX5_part 55 = .ok (.iload_n 2, 1) := dk_28 (dk_at dksX5_part_2 7 rfl rfl)
theorem dX5_part_56 : decode cX5_part 56 = .ok (.iadd, 1) := dk_96 (dk_at dksX5_part_2 8 rfl rfl)
theorem dX5_part_57 : decode cX5_part 57 = .ok (.iconst 1, 1) := dk_4 (dk_at dksX5_part_2 9 rfl rfl)
theorem dX5_part_58 : decode cX5_part 58 = .ok (.isub, 1) := dk_100 (dk_at dksX5_part_2 10 rfl rfl)
theorem dX5_part_59 : decode cX5_part 59 = .ok (.bipush 8, 2) := dk_16 8 (dk_at dksX5_part_2 11 rfl rfl)
theorem dX5_part_61 : decode cX5_part 61 = .ok (.if_icmp .le 10, 3) := dk_164 0 10 (dk_at dksX5_part_2 13 rfl rfl)
theorem dX5_part_64 : decode cX5_part 64 = .ok (.aload_n 0, 1) := dk_42 (dk_at dksX5_part_2 16 rfl rfl)
theorem dX5_part_65 : decode cX5_part 65 = .ok (.bipush (-7), 2) := dk_16 249 (dk_at dksX5_part_2 17 rfl rfl)
theorem dX5_part_67 : decode cX5_part 67 = .ok (.invokevirtual 136, 3) := dk_182 0 136 (dk_at dksX5_part_2 19 rfl rfl)
theorem dX5_part_70 : decode cX5_part 70 = .ok (.ireturn, 1) := dk_172 (dk_at dksX5_part_2 22 rfl rfl)
theorem dX5_part_71 : decode cX5_part 71 = .ok (.aload_n 0, 1) := dk_42 (dk_at dksX5_part_2 23 rfl rfl)
theorem dX5_part_72 : decode cX5_part 72 = .ok (.getfield 23, 3) := dk_180 0 23 (dk_at dksX5_part_3 0 rfl rfl)
theorem dX5_part_75 : decode cX5_part 75 = .ok (.iload_n 1, 1) := dk_27 (dk_at dksX5_part_3 3 rfl rfl)
theorem dX5_part_76 : decode cX5_part 76 = .ok (.iconst 0, 1) := dk_3 (dk_at dksX5_part_3 4 rfl rfl)
theorem dX5_part_77 : decode cX5_part 77 = .ok (.iastore, 1) := dk_79 (dk_at dksX5_part_3 5 rfl rfl)
theorem dX5_part_78 : decode cX5_part 78 = .ok (.aload_n 0, 1) := dk_42 (dk_at dksX5_part_3 6 rfl rfl)
theorem dX5_part_79 : decode cX5_part 79 = .ok (.getfield 26, 3) := dk_180 0 26 (dk_at dksX5_part_3 7 rfl rfl)
theorem dX5_part_82 : decode cX5_part 82 = .ok (.iload_n 1, 1) := dk_27 (dk_at dksX5_part_3 10 rfl rfl)
theorem dX5_part_83 : decode cX5_part 83 = .ok (.iload_n 3, 1) := dk_29 (dk_at dksX5_part_3 11 rfl rfl)
theorem dX5_part_84 : decode cX5_part 84 = .ok (.iastore, 1) := dk_79 (dk_at dksX5_part_3 12 rfl rfl)
theorem dX5_part_85 : decode cX5_part 85 = .ok (.aload_n 0, 1) := dk_42 (dk_at dksX5_part_3 13 rfl rfl)
theorem dX5_part_86 : decode cX5_part 86 = .ok (.getfield 29, 3) := dk_180 0 29 (dk_at dksX5_part_3 14 rfl rfl)
theorem dX5_part_89 : decode cX5_part 89 = .ok (.iload_n 1, 1) := dk_27 (dk_at dksX5_part_3 17 rfl rfl)
theorem dX5_part_90 : decode cX5_part 90 = .ok (.iconst 1, 1) := dk_4 (dk_at dksX5_part_3 18 rfl rfl)
theorem dX5_part_91 : decode cX5_part 91 = .ok (.iastore, 1) := dk_79 (dk_at dksX5_part_3 19 rfl rfl)
theorem dX5_part_92 : decode cX5_part 92 = .ok (.iconst 1, 1) := dk_4 (dk_at dksX5_part_3 20 rfl rfl)
theorem dX5_part_93 : decode cX5_part 93 = .ok (.istore 4, 2) := dk_54 4 (dk_at dksX5_part_3 21 rfl rfl)
theorem dX5_part_95 : decode cX5_part 95 = .ok (.iload 4, 2) := dk_21 4 (dk_at dksX5_part_4 0 rfl rfl)
theorem dX5_part_97 : decode cX5_part 97 = .ok (.iload_n 2, 1) := dk_28 (dk_at dksX5_part_4 2 rfl rfl)
theorem dX5_part_98 : decode cX5_part 98 = .ok (.if_icmp .ge 37, 3) := dk_162 0 37 (dk_at dksX5_part_4 3 rfl rfl)
theorem dX5_part_101 : decode cX5_part 101 = .ok (.aload_n 0, 1) := dk_42 (dk_at dksX5_part_4 6 rfl rfl)
theorem dX5_part_102 : decode cX5_part 102 = .ok (.iconst 0, 1) := dk_3 (dk_at dksX5_part_4 7 rfl rfl)
theorem dX5_part_103 : decode cX5_part 103 = .ok (.iload_n 3, 1) := dk_29 (dk_at dksX5_part_4 8 rfl rfl)
theorem dX5_part_104 : decode cX5_part 104 = .ok (.iconst 1, 1) := dk_4 (dk_at dksX5_part_4 9 rfl rfl)
theorem dX5_part_105 : decode cX5_part 105 = .ok (.aload_n 0, 1) := dk_42 (dk_at dksX5_part_4 10 rfl rfl)
theorem dX5_part_106 : decode cX5_part 106 = .ok (.getfield 32, 3) := dk_180 0 32 (dk_at dksX5_part_4 11 rfl rfl)
theorem dX5_part_109 : decode cX5_part 109 = .ok (.iload_n 1, 1) := dk_27 (dk_at dksX5_part_4 14 rfl rfl)
theorem dX5_part_110 : decode cX5_part 110 = .ok (.iaload, 1) := dk_46 (dk_at dksX5_part_4 15 rfl rfl)
theorem dX5_part_111 : decode cX5_part 111 = .ok (.invokevirtual 150, 3) := dk_182 0 150 (dk_at dksX5_part_4 16 rfl rfl)
theorem dX5_part_114 : decode cX5_part 114 = .ok (.istore 5, 2) := dk_54 5 (dk_at dksX5_part_4 19 rfl rfl)
theorem dX5_part_116 : decode cX5_part 116 = .ok (.aload_n 0, 1) := dk_42 (dk_at dksX5_part_4 21 rfl rfl)
theorem dX5_part_117 : decode cX5_part 117 = .ok (.getfield 35, 3) := dk_180 0 35 (dk_at dksX5_part_5 0 rfl rfl)
theorem dX5_part_120 : decode cX5_part 120 = .ok (.iload 5, 2) := dk_21 5 (dk_at dksX5_part_5 3 rfl rfl)
theorem dX5_part_122 : decode cX5_part 122 = .ok (.aload_n 0, 1) := dk_42 (dk_at dksX5_part_5 5 rfl rfl)
theorem dX5_part_123 : decode cX5_part 123 = .ok (.getfield 35, 3) := dk_180 0 35 (dk_at dksX5_part_5 6 rfl rfl)
theorem dX5_part_126 : decode cX5_part 126 = .ok (.iload_n 1, 1) := dk_27 (dk_at dksX5_part_5 9 rfl rfl)
theorem dX5_part_127 : decode cX5_part 127 = .ok (.iaload, 1) := dk_46 (dk_at dksX5_part_5 10 rfl rfl)
theorem dX5_part_128 : decode cX5_part 128 = .ok (.iastore, 1) := dk_79 (dk_at dksX5_part_5 11 rfl rfl)
theorem dX5_part_129 : decode cX5_part 129 = .ok (.iinc 4 1, 3) := dk_132 4 1 (dk_at dksX5_part_5 12 rfl rfl)
theorem dX5_part_132 : decode cX5_part 132 = .ok (.goto (-37), 3) := dk_167 255 219 (dk_at dksX5_part_5 15 rfl rfl)
theorem dX5_part_135 : decode cX5_part 135 = .ok (.aload_n 0, 1) := dk_42 (dk_at dksX5_part_5 18 rfl rfl)
theorem dX5_part_136 : decode cX5_part 136 = .ok (.getfield 117, 3) := dk_180 0 117 (dk_at dksX5_part_5 19 rfl rfl)
theorem dX5_part_139 : decode cX5_part 139 = .ok (.ireturn, 1) := dk_172 (dk_at dksX5_part_5 22 rfl rfl)
abbrev cX5_night : ByteArray := prog_22_method_84_code
def yX5_night : MethodName := ⟨RX5, "night", "()I"⟩
def dkwX5_night_2 : List UInt8 := [180, 0, 35, 28, 2, 79, 132, 2, 1, 167, 255, 238, 27, 172]
abbrev dktX5_night_2 : List UInt8 := dkwX5_night_2 ++ []
def dkwX5_night_1 : List UInt8 := [180, 0, 44, 28, 46, 96, 60, 132, 2, 1, 167, 255, 226, 3, 61, 28, 42, 180, 0, 117, 162, 0, 16, 42]
abbrev dktX5_night_1 : List UInt8 := dkwX5_night_1 ++ dktX5_night_2
def dkwX5_night_0 : List UInt8 := [3, 60, 3, 61, 28, 42, 180, 0, 120, 162, 0, 28, 42, 180, 0, 44, 28, 92, 46, 5, 108, 79, 27, 42]
abbrev dktX5_night_0 : List UInt8 := dkwX5_night_0 ++ dktX5_night_1
theorem dksX5_night_0 : cX5_night.data.toList.drop 0 = dktX5_night_0 := by decide +kernel
theorem dksX5_night_1 : cX5_night.data.toList.drop 24 = dktX5_night_1 := dk_seg dksX5_night_0 24 rfl rfl
theorem dksX5_night_2 : cX5_night.data.toList.drop 48 = dktX5_night_2 := dk_seg dksX5_night_1 24 rfl rfl
theorem dX5_night_0 : decode cX5_night 0 = .ok (.iconst 0, 1) := dk_3 (dk_at dksX5_night_0 0 rfl rfl)
theorem dX5_night_1 : decode cX5_night 1 = .ok (.istore_n 1, 1) := dk_60 (dk_at dksX5_night_0 1 rfl rfl)
theorem dX5_night_2 : decode cX5_night 2 = .ok (.iconst 0, 1) := dk_3 (dk_at dksX5_night_0 2 rfl rfl)
theorem dX5_night_3 : decode cX5_night 3 = .ok (.istore_n 2, 1) := dk_61 (dk_at dksX5_night_0 3 rfl rfl)
theorem dX5_night_4 : decode cX5_night 4 = .ok (.iload_n 2, 1) := dk_28 (dk_at dksX5_night_0 4 rfl rfl)
theorem dX5_night_5 : decode cX5_night 5 = .ok (.aload_n 0, 1) := dk_42 (dk_at dksX5_night_0 5 rfl rfl)
theorem dX5_night_6 : decode cX5_night 6 = .ok (.getfield 120, 3) := dk_180 0 120 (dk_at dksX5_night_0 6 rfl rfl)
theorem dX5_night_9 : decode cX5_night 9 = .ok (.if_icmp .ge 28, 3) := dk_162 0 28 (dk_at dksX5_night_0 9 rfl rfl)
theorem dX5_night_12 : decode cX5_night 12 = .ok (.aload_n 0, 1) := dk_42 (dk_at dksX5_night_0 12 rfl rfl)
theorem dX5_night_13 : decode cX5_night 13 = .ok (.getfield 44, 3) := dk_180 0 44 (dk_at dksX5_night_0 13 rfl rfl)
theorem dX5_night_16 : decode cX5_night 16 = .ok (.iload_n 2, 1) := dk_28 (dk_at dksX5_night_0 16 rfl rfl)
theorem dX5_night_17 : decode cX5_night 17 = .ok (.dup2, 1) := dk_92 (dk_at dksX5_night_0 17 rfl rfl)
theorem dX5_night_18 : decode cX5_night 18 = .ok (.iaload, 1) := dk_46 (dk_at dksX5_night_0 18 rfl rfl)
theorem dX5_night_19 : decode cX5_night 19 = .ok (.iconst 2, 1) := dk_5 (dk_at dksX5_night_0 19 rfl rfl)
theorem dX5_night_20 : decode cX5_night 20 = .ok (.idiv, 1) := dk_108 (dk_at dksX5_night_0 20 rfl rfl)
theorem dX5_night_21 : decode cX5_night 21 = .ok (.iastore, 1) := dk_79 (dk_at dksX5_night_0 21 rfl rfl)
theorem dX5_night_22 : decode cX5_night 22 = .ok (.iload_n 1, 1) := dk_27 (dk_at dksX5_night_0 22 rfl rfl)
theorem dX5_night_23 : decode cX5_night 23 = .ok (.aload_n 0, 1) := dk_42 (dk_at dksX5_night_0 23 rfl rfl)
theorem dX5_night_24 : decode cX5_night 24 = .ok (.getfield 44, 3) := dk_180 0 44 (dk_at dksX5_night_1 0 rfl rfl)
theorem dX5_night_27 : decode cX5_night 27 = .ok (.iload_n 2, 1) := dk_28 (dk_at dksX5_night_1 3 rfl rfl)
theorem dX5_night_28 : decode cX5_night 28 = .ok (.iaload, 1) := dk_46 (dk_at dksX5_night_1 4 rfl rfl)
theorem dX5_night_29 : decode cX5_night 29 = .ok (.iadd, 1) := dk_96 (dk_at dksX5_night_1 5 rfl rfl)
theorem dX5_night_30 : decode cX5_night 30 = .ok (.istore_n 1, 1) := dk_60 (dk_at dksX5_night_1 6 rfl rfl)
theorem dX5_night_31 : decode cX5_night 31 = .ok (.iinc 2 1, 3) := dk_132 2 1 (dk_at dksX5_night_1 7 rfl rfl)
theorem dX5_night_34 : decode cX5_night 34 = .ok (.goto (-30), 3) := dk_167 255 226 (dk_at dksX5_night_1 10 rfl rfl)
theorem dX5_night_37 : decode cX5_night 37 = .ok (.iconst 0, 1) := dk_3 (dk_at dksX5_night_1 13 rfl rfl)
theorem dX5_night_38 : decode cX5_night 38 = .ok (.istore_n 2, 1) := dk_61 (dk_at dksX5_night_1 14 rfl rfl)
theorem dX5_night_39 : decode cX5_night 39 = .ok (.iload_n 2, 1) := dk_28 (dk_at dksX5_night_1 15 rfl rfl)
theorem dX5_night_40 : decode cX5_night 40 = .ok (.aload_n 0, 1) := dk_42 (dk_at dksX5_night_1 16 rfl rfl)
theorem dX5_night_41 : decode cX5_night 41 = .ok (.getfield 117, 3) := dk_180 0 117 (dk_at dksX5_night_1 17 rfl rfl)
theorem dX5_night_44 : decode cX5_night 44 = .ok (.if_icmp .ge 16, 3) := dk_162 0 16 (dk_at dksX5_night_1 20 rfl rfl)
theorem dX5_night_47 : decode cX5_night 47 = .ok (.aload_n 0, 1) := dk_42 (dk_at dksX5_night_1 23 rfl rfl)
theorem dX5_night_48 : decode cX5_night 48 = .ok (.getfield 35, 3) := dk_180 0 35 (dk_at dksX5_night_2 0 rfl rfl)
theorem dX5_night_51 : decode cX5_night 51 = .ok (.iload_n 2, 1) := dk_28 (dk_at dksX5_night_2 3 rfl rfl)
theorem dX5_night_52 : decode cX5_night 52 = .ok (.iconst (-1), 1) := dk_2 (dk_at dksX5_night_2 4 rfl rfl)
theorem dX5_night_53 : decode cX5_night 53 = .ok (.iastore, 1) := dk_79 (dk_at dksX5_night_2 5 rfl rfl)
theorem dX5_night_54 : decode cX5_night 54 = .ok (.iinc 2 1, 3) := dk_132 2 1 (dk_at dksX5_night_2 6 rfl rfl)
theorem dX5_night_57 : decode cX5_night 57 = .ok (.goto (-18), 3) := dk_167 255 238 (dk_at dksX5_night_2 9 rfl rfl)
theorem dX5_night_60 : decode cX5_night 60 = .ok (.iload_n 1, 1) := dk_27 (dk_at dksX5_night_2 12 rfl rfl)
theorem dX5_night_61 : decode cX5_night 61 = .ok (.ireturn, 1) := dk_172 (dk_at dksX5_night_2 13 rfl rfl)
abbrev cX5_seed : ByteArray := prog_22_method_85_code
def yX5_seed : MethodName := ⟨RX5, "seed", "(I)I"⟩
def dkwX5_seed_0 : List UInt8 := [42, 180, 0, 13, 61, 42, 27, 181, 0, 13, 28, 172]
abbrev dktX5_seed_0 : List UInt8 := dkwX5_seed_0 ++ []
theorem dksX5_seed_0 : cX5_seed.data.toList.drop 0 = dktX5_seed_0 := by decide +kernel
theorem dX5_seed_0 : decode cX5_seed 0 = .ok (.aload_n 0, 1) := dk_42 (dk_at dksX5_seed_0 0 rfl rfl)
theorem dX5_seed_1 : decode cX5_seed 1 = .ok (.getfield 13, 3) := dk_180 0 13 (dk_at dksX5_seed_0 1 rfl rfl)
theorem dX5_seed_4 : decode cX5_seed 4 = .ok (.istore_n 2, 1) := dk_61 (dk_at dksX5_seed_0 4 rfl rfl)
theorem dX5_seed_5 : decode cX5_seed 5 = .ok (.aload_n 0, 1) := dk_42 (dk_at dksX5_seed_0 5 rfl rfl)
theorem dX5_seed_6 : decode cX5_seed 6 = .ok (.iload_n 1, 1) := dk_27 (dk_at dksX5_seed_0 6 rfl rfl)
theorem dX5_seed_7 : decode cX5_seed 7 = .ok (.putfield 13, 3) := dk_181 0 13 (dk_at dksX5_seed_0 7 rfl rfl)
theorem dX5_seed_10 : decode cX5_seed 10 = .ok (.iload_n 2, 1) := dk_28 (dk_at dksX5_seed_0 10 rfl rfl)
theorem dX5_seed_11 : decode cX5_seed 11 = .ok (.ireturn, 1) := dk_172 (dk_at dksX5_seed_0 11 rfl rfl)
abbrev cX5_act : ByteArray := prog_22_method_90_code
def yX5_act : MethodName := ⟨RX5, "act", "(III)I"⟩
def dkwX5_act_2 : List UInt8 := [167, 0, 9, 42, 27, 29, 182, 1, 60, 172]
abbrev dktX5_act_2 : List UInt8 := dkwX5_act_2 ++ []
def dkwX5_act_1 : List UInt8 := [28, 154, 0, 12, 42, 27, 29, 182, 1, 54, 167, 0, 23, 28, 4, 160, 0, 12, 42, 27, 29, 182, 1, 57]
abbrev dktX5_act_1 : List UInt8 := dkwX5_act_1 ++ dktX5_act_2
def dkwX5_act_0 : List UInt8 := [42, 3, 181, 1, 48, 42, 27, 182, 0, 140, 153, 0, 12, 28, 155, 0, 8, 28, 5, 164, 0, 5, 3, 172]
abbrev dktX5_act_0 : List UInt8 := dkwX5_act_0 ++ dktX5_act_1
theorem dksX5_act_0 : cX5_act.data.toList.drop 0 = dktX5_act_0 := by decide +kernel
theorem dksX5_act_1 : cX5_act.data.toList.drop 24 = dktX5_act_1 := dk_seg dksX5_act_0 24 rfl rfl
theorem dksX5_act_2 : cX5_act.data.toList.drop 48 = dktX5_act_2 := dk_seg dksX5_act_1 24 rfl rfl
theorem dX5_act_0 : decode cX5_act 0 = .ok (.aload_n 0, 1) := dk_42 (dk_at dksX5_act_0 0 rfl rfl)
theorem dX5_act_1 : decode cX5_act 1 = .ok (.iconst 0, 1) := dk_3 (dk_at dksX5_act_0 1 rfl rfl)
theorem dX5_act_2 : decode cX5_act 2 = .ok (.putfield 304, 3) := dk_181 1 48 (dk_at dksX5_act_0 2 rfl rfl)
theorem dX5_act_5 : decode cX5_act 5 = .ok (.aload_n 0, 1) := dk_42 (dk_at dksX5_act_0 5 rfl rfl)
theorem dX5_act_6 : decode cX5_act 6 = .ok (.iload_n 1, 1) := dk_27 (dk_at dksX5_act_0 6 rfl rfl)
theorem dX5_act_7 : decode cX5_act 7 = .ok (.invokevirtual 140, 3) := dk_182 0 140 (dk_at dksX5_act_0 7 rfl rfl)
theorem dX5_act_10 : decode cX5_act 10 = .ok (.ifCond .eq 12, 3) := dk_153 0 12 (dk_at dksX5_act_0 10 rfl rfl)
theorem dX5_act_13 : decode cX5_act 13 = .ok (.iload_n 2, 1) := dk_28 (dk_at dksX5_act_0 13 rfl rfl)
theorem dX5_act_14 : decode cX5_act 14 = .ok (.ifCond .lt 8, 3) := dk_155 0 8 (dk_at dksX5_act_0 14 rfl rfl)
theorem dX5_act_17 : decode cX5_act 17 = .ok (.iload_n 2, 1) := dk_28 (dk_at dksX5_act_0 17 rfl rfl)
theorem dX5_act_18 : decode cX5_act 18 = .ok (.iconst 2, 1) := dk_5 (dk_at dksX5_act_0 18 rfl rfl)
theorem dX5_act_19 : decode cX5_act 19 = .ok (.if_icmp .le 5, 3) := dk_164 0 5 (dk_at dksX5_act_0 19 rfl rfl)
theorem dX5_act_22 : decode cX5_act 22 = .ok (.iconst 0, 1) := dk_3 (dk_at dksX5_act_0 22 rfl rfl)
theorem dX5_act_23 : decode cX5_act 23 = .ok (.ireturn, 1) := dk_172 (dk_at dksX5_act_0 23 rfl rfl)
theorem dX5_act_24 : decode cX5_act 24 = .ok (.iload_n 2, 1) := dk_28 (dk_at dksX5_act_1 0 rfl rfl)
theorem dX5_act_25 : decode cX5_act 25 = .ok (.ifCond .ne 12, 3) := dk_154 0 12 (dk_at dksX5_act_1 1 rfl rfl)
theorem dX5_act_28 : decode cX5_act 28 = .ok (.aload_n 0, 1) := dk_42 (dk_at dksX5_act_1 4 rfl rfl)
theorem dX5_act_29 : decode cX5_act 29 = .ok (.iload_n 1, 1) := dk_27 (dk_at dksX5_act_1 5 rfl rfl)
theorem dX5_act_30 : decode cX5_act 30 = .ok (.iload_n 3, 1) := dk_29 (dk_at dksX5_act_1 6 rfl rfl)
theorem dX5_act_31 : decode cX5_act 31 = .ok (.invokevirtual 310, 3) := dk_182 1 54 (dk_at dksX5_act_1 7 rfl rfl)
theorem dX5_act_34 : decode cX5_act 34 = .ok (.goto 23, 3) := dk_167 0 23 (dk_at dksX5_act_1 10 rfl rfl)
theorem dX5_act_37 : decode cX5_act 37 = .ok (.iload_n 2, 1) := dk_28 (dk_at dksX5_act_1 13 rfl rfl)
theorem dX5_act_38 : decode cX5_act 38 = .ok (.iconst 1, 1) := dk_4 (dk_at dksX5_act_1 14 rfl rfl)
theorem dX5_act_39 : decode cX5_act 39 = .ok (.if_icmp .ne 12, 3) := dk_160 0 12 (dk_at dksX5_act_1 15 rfl rfl)
theorem dX5_act_42 : decode cX5_act 42 = .ok (.aload_n 0, 1) := dk_42 (dk_at dksX5_act_1 18 rfl rfl)
theorem dX5_act_43 : decode cX5_act 43 = .ok (.iload_n 1, 1) := dk_27 (dk_at dksX5_act_1 19 rfl rfl)
theorem dX5_act_44 : decode cX5_act 44 = .ok (.iload_n 3, 1) := dk_29 (dk_at dksX5_act_1 20 rfl rfl)
theorem dX5_act_45 : decode cX5_act 45 = .ok (.invokevirtual 313, 3) := dk_182 1 57 (dk_at dksX5_act_1 21 rfl rfl)
theorem dX5_act_48 : decode cX5_act 48 = .ok (.goto 9, 3) := dk_167 0 9 (dk_at dksX5_act_2 0 rfl rfl)
theorem dX5_act_51 : decode cX5_act 51 = .ok (.aload_n 0, 1) := dk_42 (dk_at dksX5_act_2 3 rfl rfl)
theorem dX5_act_52 : decode cX5_act 52 = .ok (.iload_n 1, 1) := dk_27 (dk_at dksX5_act_2 4 rfl rfl)
theorem dX5_act_53 : decode cX5_act 53 = .ok (.iload_n 3, 1) := dk_29 (dk_at dksX5_act_2 5 rfl rfl)
theorem dX5_act_54 : decode cX5_act 54 = .ok (.invokevirtual 316, 3) := dk_182 1 60 (dk_at dksX5_act_2 6 rfl rfl)
theorem dX5_act_57 : decode cX5_act 57 = .ok (.ireturn, 1) := dk_172 (dk_at dksX5_act_2 9 rfl rfl)
abbrev cX5_going : ByteArray := prog_22_method_87_code
def yX5_going : MethodName := ⟨RX5, "going", "(II)I"⟩
def dkwX5_going_4 : List UInt8 := [180, 0, 26, 27, 46, 96, 167, 0, 17, 29, 7, 160, 0, 10, 21, 6, 5, 104, 167, 0, 5, 21, 6, 172]
abbrev dktX5_going_4 : List UInt8 := dkwX5_going_4 ++ []
def dkwX5_going_3 : List UInt8 := [182, 1, 51, 42, 16, 10, 182, 1, 51, 21, 4, 27, 96, 54, 6, 21, 5, 153, 0, 15, 21, 6, 42]
abbrev dktX5_going_3 : List UInt8 := dkwX5_going_3 ++ dktX5_going_4
def dkwX5_going_2 : List UInt8 := [96, 54, 4, 21, 5, 153, 0, 9, 42, 16, 20, 182, 1, 51, 29, 7, 160, 0, 9, 42, 16, 70]
abbrev dktX5_going_2 : List UInt8 := dkwX5_going_2 ++ dktX5_going_3
def dkwX5_going_1 : List UInt8 := [160, 0, 7, 4, 167, 0, 4, 3, 54, 5, 29, 16, 6, 160, 0, 14, 42, 16, 40, 182, 1, 51, 28, 4]
abbrev dktX5_going_1 : List UInt8 := dkwX5_going_1 ++ dktX5_going_2
def dkwX5_going_0 : List UInt8 := [42, 180, 0, 23, 27, 46, 62, 28, 54, 4, 29, 4, 159, 0, 14, 29, 8, 159, 0, 9, 29, 16, 6]
abbrev dktX5_going_0 : List UInt8 := dkwX5_going_0 ++ dktX5_going_1
theorem dksX5_going_0 : cX5_going.data.toList.drop 0 = dktX5_going_0 := by decide +kernel
theorem dksX5_going_1 : cX5_going.data.toList.drop 23 = dktX5_going_1 := dk_seg dksX5_going_0 23 rfl rfl
theorem dksX5_going_2 : cX5_going.data.toList.drop 47 = dktX5_going_2 := dk_seg dksX5_going_1 24 rfl rfl
theorem dksX5_going_3 : cX5_going.data.toList.drop 69 = dktX5_going_3 := dk_seg dksX5_going_2 22 rfl rfl
theorem dksX5_going_4 : cX5_going.data.toList.drop 92 = dktX5_going_4 := dk_seg dksX5_going_3 23 rfl rfl
theorem dX5_going_0 : decode cX5_going 0 = .ok (.aload_n 0, 1) := dk_42 (dk_at dksX5_going_0 0 rfl rfl)
theorem dX5_going_1 : decode cX5_going 1 = .ok (.getfield 23, 3) := dk_180 0 23 (dk_at dksX5_going_0 1 rfl rfl)
theorem dX5_going_4 : decode cX5_going 4 = .ok (.iload_n 1, 1) := dk_27 (dk_at dksX5_going_0 4 rfl rfl)
theorem dX5_going_5 : decode cX5_going 5 = .ok (.iaload, 1) := dk_46 (dk_at dksX5_going_0 5 rfl rfl)
theorem dX5_going_6 : decode cX5_going 6 = .ok (.istore_n 3, 1) := dk_62 (dk_at dksX5_going_0 6 rfl rfl)
theorem dX5_going_7 : decode cX5_going 7 = .ok (.iload_n 2, 1) := dk_28 (dk_at dksX5_going_0 7 rfl rfl)
theorem dX5_going_8 : decode cX5_going 8 = .ok (.istore 4, 2) := dk_54 4 (dk_at dksX5_going_0 8 rfl rfl)
theorem dX5_going_10 : decode cX5_going 10 = .ok (.iload_n 3, 1) := dk_29 (dk_at dksX5_going_0 10 rfl rfl)
theorem dX5_going_11 : decode cX5_going 11 = .ok (.iconst 1, 1) := dk_4 (dk_at dksX5_going_0 11 rfl rfl)
theorem dX5_going_12 : decode cX5_going 12 = .ok (.if_icmp .eq 14, 3) := dk_159 0 14 (dk_at dksX5_going_0 12 rfl rfl)
theorem dX5_going_15 : decode cX5_going 15 = .ok (.iload_n 3, 1) := dk_29 (dk_at dksX5_going_0 15 rfl rfl)
theorem dX5_going_16 : decode cX5_going 16 = .ok (.iconst 5, 1) := dk_8 (dk_at dksX5_going_0 16 rfl rfl)
theorem dX5_going_17 : decode cX5_going 17 = .ok (.if_icmp .eq 9, 3) := dk_159 0 9 (dk_at dksX5_going_0 17 rfl rfl)
theorem dX5_going_20 : decode cX5_going 20 = .ok (.iload_n 3, 1) := dk_29 (dk_at dksX5_going_0 20 rfl rfl)
theorem dX5_going_21 : decode cX5_going 21 = .ok (.bipush 6, 2) := dk_16 6 (dk_at dksX5_going_0 21 rfl rfl)
theorem dX5_going_23 : decode cX5_going 23 = .ok (.if_icmp .ne 7, 3) := dk_160 0 7 (dk_at dksX5_going_1 0 rfl rfl)
theorem dX5_going_26 : decode cX5_going 26 = .ok (.iconst 1, 1) := dk_4 (dk_at dksX5_going_1 3 rfl rfl)
theorem dX5_going_27 : decode cX5_going 27 = .ok (.goto 4, 3) := dk_167 0 4 (dk_at dksX5_going_1 4 rfl rfl)
theorem dX5_going_30 : decode cX5_going 30 = .ok (.iconst 0, 1) := dk_3 (dk_at dksX5_going_1 7 rfl rfl)
theorem dX5_going_31 : decode cX5_going 31 = .ok (.istore 5, 2) := dk_54 5 (dk_at dksX5_going_1 8 rfl rfl)
theorem dX5_going_33 : decode cX5_going 33 = .ok (.iload_n 3, 1) := dk_29 (dk_at dksX5_going_1 10 rfl rfl)
theorem dX5_going_34 : decode cX5_going 34 = .ok (.bipush 6, 2) := dk_16 6 (dk_at dksX5_going_1 11 rfl rfl)
theorem dX5_going_36 : decode cX5_going 36 = .ok (.if_icmp .ne 14, 3) := dk_160 0 14 (dk_at dksX5_going_1 13 rfl rfl)
theorem dX5_going_39 : decode cX5_going 39 = .ok (.aload_n 0, 1) := dk_42 (dk_at dksX5_going_1 16 rfl rfl)
theorem dX5_going_40 : decode cX5_going 40 = .ok (.bipush 40, 2) := dk_16 40 (dk_at dksX5_going_1 17 rfl rfl)
theorem dX5_going_42 : decode cX5_going 42 = .ok (.invokevirtual 307, 3) := dk_182 1 51 (dk_at dksX5_going_1 19 rfl rfl)
theorem dX5_going_45 : decode cX5_going 45 = .ok (.iload_n 2, 1) := dk_28 (dk_at dksX5_going_1 22 rfl rfl)
theorem dX5_going_46 : decode cX5_going 46 = .ok (.iconst 1, 1) := dk_4 (dk_at dksX5_going_1 23 rfl rfl)
theorem dX5_going_47 : decode cX5_going 47 = .ok (.iadd, 1) := dk_96 (dk_at dksX5_going_2 0 rfl rfl)
theorem dX5_going_48 : decode cX5_going 48 = .ok (.istore 4, 2) := dk_54 4 (dk_at dksX5_going_2 1 rfl rfl)
theorem dX5_going_50 : decode cX5_going 50 = .ok (.iload 5, 2) := dk_21 5 (dk_at dksX5_going_2 3 rfl rfl)
theorem dX5_going_52 : decode cX5_going 52 = .ok (.ifCond .eq 9, 3) := dk_153 0 9 (dk_at dksX5_going_2 5 rfl rfl)
theorem dX5_going_55 : decode cX5_going 55 = .ok (.aload_n 0, 1) := dk_42 (dk_at dksX5_going_2 8 rfl rfl)
theorem dX5_going_56 : decode cX5_going 56 = .ok (.bipush 20, 2) := dk_16 20 (dk_at dksX5_going_2 9 rfl rfl)
theorem dX5_going_58 : decode cX5_going 58 = .ok (.invokevirtual 307, 3) := dk_182 1 51 (dk_at dksX5_going_2 11 rfl rfl)
theorem dX5_going_61 : decode cX5_going 61 = .ok (.iload_n 3, 1) := dk_29 (dk_at dksX5_going_2 14 rfl rfl)
theorem dX5_going_62 : decode cX5_going 62 = .ok (.iconst 4, 1) := dk_7 (dk_at dksX5_going_2 15 rfl rfl)
theorem dX5_going_63 : decode cX5_going 63 = .ok (.if_icmp .ne 9, 3) := dk_160 0 9 (dk_at dksX5_going_2 16 rfl rfl)
theorem dX5_going_66 : decode cX5_going 66 = .ok (.aload_n 0, 1) := dk_42 (dk_at dksX5_going_2 19 rfl rfl)
theorem dX5_going_67 : decode cX5_going 67 = .ok (.bipush 70, 2) := dk_16 70 (dk_at dksX5_going_2 20 rfl rfl)
theorem dX5_going_69 : decode cX5_going 69 = .ok (.invokevirtual 307, 3) := dk_182 1 51 (dk_at dksX5_going_3 0 rfl rfl)
theorem dX5_going_72 : decode cX5_going 72 = .ok (.aload_n 0, 1) := dk_42 (dk_at dksX5_going_3 3 rfl rfl)
theorem dX5_going_73 : decode cX5_going 73 = .ok (.bipush 10, 2) := dk_16 10 (dk_at dksX5_going_3 4 rfl rfl)
theorem dX5_going_75 : decode cX5_going 75 = .ok (.invokevirtual 307, 3) := dk_182 1 51 (dk_at dksX5_going_3 6 rfl rfl)
theorem dX5_going_78 : decode cX5_going 78 = .ok (.iload 4, 2) := dk_21 4 (dk_at dksX5_going_3 9 rfl rfl)
theorem dX5_going_80 : decode cX5_going 80 = .ok (.iload_n 1, 1) := dk_27 (dk_at dksX5_going_3 11 rfl rfl)
theorem dX5_going_81 : decode cX5_going 81 = .ok (.iadd, 1) := dk_96 (dk_at dksX5_going_3 12 rfl rfl)
theorem dX5_going_82 : decode cX5_going 82 = .ok (.istore 6, 2) := dk_54 6 (dk_at dksX5_going_3 13 rfl rfl)
theorem dX5_going_84 : decode cX5_going 84 = .ok (.iload 5, 2) := dk_21 5 (dk_at dksX5_going_3 15 rfl rfl)
theorem dX5_going_86 : decode cX5_going 86 = .ok (.ifCond .eq 15, 3) := dk_153 0 15 (dk_at dksX5_going_3 17 rfl rfl)
theorem dX5_going_89 : decode cX5_going 89 = .ok (.iload 6, 2) := dk_21 6 (dk_at dksX5_going_3 20 rfl rfl)
theorem dX5_going_91 : decode cX5_going 91 = .ok (.aload_n 0, 1) := dk_42 (dk_at dksX5_going_3 22 rfl rfl)
theorem dX5_going_92 : decode cX5_going 92 = .ok (.getfield 26, 3) := dk_180 0 26 (dk_at dksX5_going_4 0 rfl rfl)
theorem dX5_going_95 : decode cX5_going 95 = .ok (.iload_n 1, 1) := dk_27 (dk_at dksX5_going_4 3 rfl rfl)
theorem dX5_going_96 : decode cX5_going 96 = .ok (.iaload, 1) := dk_46 (dk_at dksX5_going_4 4 rfl rfl)
theorem dX5_going_97 : decode cX5_going 97 = .ok (.iadd, 1) := dk_96 (dk_at dksX5_going_4 5 rfl rfl)
theorem dX5_going_98 : decode cX5_going 98 = .ok (.goto 17, 3) := dk_167 0 17 (dk_at dksX5_going_4 6 rfl rfl)
theorem dX5_going_101 : decode cX5_going 101 = .ok (.iload_n 3, 1) := dk_29 (dk_at dksX5_going_4 9 rfl rfl)
theorem dX5_going_102 : decode cX5_going 102 = .ok (.iconst 4, 1) := dk_7 (dk_at dksX5_going_4 10 rfl rfl)
theorem dX5_going_103 : decode cX5_going 103 = .ok (.if_icmp .ne 10, 3) := dk_160 0 10 (dk_at dksX5_going_4 11 rfl rfl)
theorem dX5_going_106 : decode cX5_going 106 = .ok (.iload 6, 2) := dk_21 6 (dk_at dksX5_going_4 14 rfl rfl)
theorem dX5_going_108 : decode cX5_going 108 = .ok (.iconst 2, 1) := dk_5 (dk_at dksX5_going_4 16 rfl rfl)
theorem dX5_going_109 : decode cX5_going 109 = .ok (.imul, 1) := dk_104 (dk_at dksX5_going_4 17 rfl rfl)
theorem dX5_going_110 : decode cX5_going 110 = .ok (.goto 5, 3) := dk_167 0 5 (dk_at dksX5_going_4 18 rfl rfl)
theorem dX5_going_113 : decode cX5_going 113 = .ok (.iload 6, 2) := dk_21 6 (dk_at dksX5_going_4 21 rfl rfl)
theorem dX5_going_115 : decode cX5_going 115 = .ok (.ireturn, 1) := dk_172 (dk_at dksX5_going_4 23 rfl rfl)
abbrev cX5_body : ByteArray := prog_22_method_86_code
def yX5_body : MethodName := ⟨RX5, "body", "(I)V"⟩
def dkwX5_body_1 : List UInt8 := [4, 96, 181, 1, 48, 177]
abbrev dktX5_body_1 : List UInt8 := dkwX5_body_1 ++ []
def dkwX5_body_0 : List UInt8 := [42, 180, 1, 48, 16, 20, 162, 0, 13, 42, 180, 0, 114, 42, 180, 1, 48, 27, 79, 42, 89, 180, 1, 48]
abbrev dktX5_body_0 : List UInt8 := dkwX5_body_0 ++ dktX5_body_1
theorem dksX5_body_0 : cX5_body.data.toList.drop 0 = dktX5_body_0 := by decide +kernel
theorem dksX5_body_1 : cX5_body.data.toList.drop 24 = dktX5_body_1 := dk_seg dksX5_body_0 24 rfl rfl
theorem dX5_body_0 : decode cX5_body 0 = .ok (.aload_n 0, 1) := dk_42 (dk_at dksX5_body_0 0 rfl rfl)
theorem dX5_body_1 : decode cX5_body 1 = .ok (.getfield 304, 3) := dk_180 1 48 (dk_at dksX5_body_0 1 rfl rfl)
theorem dX5_body_4 : decode cX5_body 4 = .ok (.bipush 20, 2) := dk_16 20 (dk_at dksX5_body_0 4 rfl rfl)
theorem dX5_body_6 : decode cX5_body 6 = .ok (.if_icmp .ge 13, 3) := dk_162 0 13 (dk_at dksX5_body_0 6 rfl rfl)
theorem dX5_body_9 : decode cX5_body 9 = .ok (.aload_n 0, 1) := dk_42 (dk_at dksX5_body_0 9 rfl rfl)
theorem dX5_body_10 : decode cX5_body 10 = .ok (.getfield 114, 3) := dk_180 0 114 (dk_at dksX5_body_0 10 rfl rfl)
theorem dX5_body_13 : decode cX5_body 13 = .ok (.aload_n 0, 1) := dk_42 (dk_at dksX5_body_0 13 rfl rfl)
theorem dX5_body_14 : decode cX5_body 14 = .ok (.getfield 304, 3) := dk_180 1 48 (dk_at dksX5_body_0 14 rfl rfl)
theorem dX5_body_17 : decode cX5_body 17 = .ok (.iload_n 1, 1) := dk_27 (dk_at dksX5_body_0 17 rfl rfl)
theorem dX5_body_18 : decode cX5_body 18 = .ok (.iastore, 1) := dk_79 (dk_at dksX5_body_0 18 rfl rfl)
theorem dX5_body_19 : decode cX5_body 19 = .ok (.aload_n 0, 1) := dk_42 (dk_at dksX5_body_0 19 rfl rfl)
theorem dX5_body_20 : decode cX5_body 20 = .ok (.dup, 1) := dk_89 (dk_at dksX5_body_0 20 rfl rfl)
theorem dX5_body_21 : decode cX5_body 21 = .ok (.getfield 304, 3) := dk_180 1 48 (dk_at dksX5_body_0 21 rfl rfl)
theorem dX5_body_24 : decode cX5_body 24 = .ok (.iconst 1, 1) := dk_4 (dk_at dksX5_body_1 0 rfl rfl)
theorem dX5_body_25 : decode cX5_body 25 = .ok (.iadd, 1) := dk_96 (dk_at dksX5_body_1 1 rfl rfl)
theorem dX5_body_26 : decode cX5_body 26 = .ok (.putfield 304, 3) := dk_181 1 48 (dk_at dksX5_body_1 2 rfl rfl)
theorem dX5_body_29 : decode cX5_body 29 = .ok (.return_, 1) := dk_177 (dk_at dksX5_body_1 5 rfl rfl)
abbrev cX5_resting : ByteArray := prog_22_method_88_code
def yX5_resting : MethodName := ⟨RX5, "resting", "(II)I"⟩
def dkwX5_resting_4 : List UInt8 := [167, 0, 5, 21, 4, 172]
abbrev dktX5_resting_4 : List UInt8 := dkwX5_resting_4 ++ []
def dkwX5_resting_3 : List UInt8 := [167, 0, 29, 29, 5, 160, 0, 9, 21, 4, 116, 167, 0, 18, 29, 6, 160, 0, 11, 21, 4, 116, 8, 130]
abbrev dktX5_resting_3 : List UInt8 := dkwX5_resting_3 ++ dktX5_resting_4
def dkwX5_resting_2 : List UInt8 := [182, 1, 51, 42, 27, 28, 182, 1, 54, 5, 104, 54, 4, 29, 8, 160, 0, 10, 21, 4, 6, 104]
abbrev dktX5_resting_2 : List UInt8 := dkwX5_resting_2 ++ dktX5_resting_3
def dkwX5_resting_1 : List UInt8 := [16, 60, 182, 1, 51, 29, 5, 159, 0, 8, 29, 6, 160, 0, 9, 42, 16, 50, 182, 1, 51, 42, 16, 11]
abbrev dktX5_resting_1 : List UInt8 := dkwX5_resting_1 ++ dktX5_resting_2
def dkwX5_resting_0 : List UInt8 := [42, 180, 0, 23, 27, 46, 62, 29, 8, 160, 0, 9, 42, 16, 30, 182, 1, 51, 29, 6, 160, 0, 9, 42]
abbrev dktX5_resting_0 : List UInt8 := dkwX5_resting_0 ++ dktX5_resting_1
theorem dksX5_resting_0 : cX5_resting.data.toList.drop 0 = dktX5_resting_0 := by decide +kernel
theorem dksX5_resting_1 : cX5_resting.data.toList.drop 24 = dktX5_resting_1 := dk_seg dksX5_resting_0 24 rfl rfl
theorem dksX5_resting_2 : cX5_resting.data.toList.drop 48 = dktX5_resting_2 := dk_seg dksX5_resting_1 24 rfl rfl
theorem dksX5_resting_3 : cX5_resting.data.toList.drop 70 = dktX5_resting_3 := dk_seg dksX5_resting_2 22 rfl rfl
theorem dksX5_resting_4 : cX5_resting.data.toList.drop 94 = dktX5_resting_4 := dk_seg dksX5_resting_3 24 rfl rfl
theorem dX5_resting_0 : decode cX5_resting 0 = .ok (.aload_n 0, 1) := dk_42 (dk_at dksX5_resting_0 0 rfl rfl)
theorem dX5_resting_1 : decode cX5_resting 1 = .ok (.getfield 23, 3) := dk_180 0 23 (dk_at dksX5_resting_0 1 rfl rfl)
theorem dX5_resting_4 : decode cX5_resting 4 = .ok (.iload_n 1, 1) := dk_27 (dk_at dksX5_resting_0 4 rfl rfl)
theorem dX5_resting_5 : decode cX5_resting 5 = .ok (.iaload, 1) := dk_46 (dk_at dksX5_resting_0 5 rfl rfl)
theorem dX5_resting_6 : decode cX5_resting 6 = .ok (.istore_n 3, 1) := dk_62 (dk_at dksX5_resting_0 6 rfl rfl)
theorem dX5_resting_7 : decode cX5_resting 7 = .ok (.iload_n 3, 1) := dk_29 (dk_at dksX5_resting_0 7 rfl rfl)
theorem dX5_resting_8 : decode cX5_resting 8 = .ok (.iconst 5, 1) := dk_8 (dk_at dksX5_resting_0 8 rfl rfl)
theorem dX5_resting_9 : decode cX5_resting 9 = .ok (.if_icmp .ne 9, 3) := dk_160 0 9 (dk_at dksX5_resting_0 9 rfl rfl)
theorem dX5_resting_12 : decode cX5_resting 12 = .ok (.aload_n 0, 1) := dk_42 (dk_at dksX5_resting_0 12 rfl rfl)
theorem dX5_resting_13 : decode cX5_resting 13 = .ok (.bipush 30, 2) := dk_16 30 (dk_at dksX5_resting_0 13 rfl rfl)
theorem dX5_resting_15 : decode cX5_resting 15 = .ok (.invokevirtual 307, 3) := dk_182 1 51 (dk_at dksX5_resting_0 15 rfl rfl)
theorem dX5_resting_18 : decode cX5_resting 18 = .ok (.iload_n 3, 1) := dk_29 (dk_at dksX5_resting_0 18 rfl rfl)
theorem dX5_resting_19 : decode cX5_resting 19 = .ok (.iconst 3, 1) := dk_6 (dk_at dksX5_resting_0 19 rfl rfl)
theorem dX5_resting_20 : decode cX5_resting 20 = .ok (.if_icmp .ne 9, 3) := dk_160 0 9 (dk_at dksX5_resting_0 20 rfl rfl)
theorem dX5_resting_23 : decode cX5_resting 23 = .ok (.aload_n 0, 1) := dk_42 (dk_at dksX5_resting_0 23 rfl rfl)
theorem dX5_resting_24 : decode cX5_resting 24 = .ok (.bipush 60, 2) := dk_16 60 (dk_at dksX5_resting_1 0 rfl rfl)
theorem dX5_resting_26 : decode cX5_resting 26 = .ok (.invokevirtual 307, 3) := dk_182 1 51 (dk_at dksX5_resting_1 2 rfl rfl)
theorem dX5_resting_29 : decode cX5_resting 29 = .ok (.iload_n 3, 1) := dk_29 (dk_at dksX5_resting_1 5 rfl rfl)
theorem dX5_resting_30 : decode cX5_resting 30 = .ok (.iconst 2, 1) := dk_5 (dk_at dksX5_resting_1 6 rfl rfl)
theorem dX5_resting_31 : decode cX5_resting 31 = .ok (.if_icmp .eq 8, 3) := dk_159 0 8 (dk_at dksX5_resting_1 7 rfl rfl)
theorem dX5_resting_34 : decode cX5_resting 34 = .ok (.iload_n 3, 1) := dk_29 (dk_at dksX5_resting_1 10 rfl rfl)
theorem dX5_resting_35 : decode cX5_resting 35 = .ok (.iconst 3, 1) := dk_6 (dk_at dksX5_resting_1 11 rfl rfl)
theorem dX5_resting_36 : decode cX5_resting 36 = .ok (.if_icmp .ne 9, 3) := dk_160 0 9 (dk_at dksX5_resting_1 12 rfl rfl)
theorem dX5_resting_39 : decode cX5_resting 39 = .ok (.aload_n 0, 1) := dk_42 (dk_at dksX5_resting_1 15 rfl rfl)
theorem dX5_resting_40 : decode cX5_resting 40 = .ok (.bipush 50, 2) := dk_16 50 (dk_at dksX5_resting_1 16 rfl rfl)
theorem dX5_resting_42 : decode cX5_resting 42 = .ok (.invokevirtual 307, 3) := dk_182 1 51 (dk_at dksX5_resting_1 18 rfl rfl)
theorem dX5_resting_45 : decode cX5_resting 45 = .ok (.aload_n 0, 1) := dk_42 (dk_at dksX5_resting_1 21 rfl rfl)
theorem dX5_resting_46 : decode cX5_resting 46 = .ok (.bipush 11, 2) := dk_16 11 (dk_at dksX5_resting_1 22 rfl rfl)
theorem dX5_resting_48 : decode cX5_resting 48 = .ok (.invokevirtual 307, 3) := dk_182 1 51 (dk_at dksX5_resting_2 0 rfl rfl)
theorem dX5_resting_51 : decode cX5_resting 51 = .ok (.aload_n 0, 1) := dk_42 (dk_at dksX5_resting_2 3 rfl rfl)
theorem dX5_resting_52 : decode cX5_resting 52 = .ok (.iload_n 1, 1) := dk_27 (dk_at dksX5_resting_2 4 rfl rfl)
theorem dX5_resting_53 : decode cX5_resting 53 = .ok (.iload_n 2, 1) := dk_28 (dk_at dksX5_resting_2 5 rfl rfl)
theorem dX5_resting_54 : decode cX5_resting 54 = .ok (.invokevirtual 310, 3) := dk_182 1 54 (dk_at dksX5_resting_2 6 rfl rfl)
theorem dX5_resting_57 : decode cX5_resting 57 = .ok (.iconst 2, 1) := dk_5 (dk_at dksX5_resting_2 9 rfl rfl)
theorem dX5_resting_58 : decode cX5_resting 58 = .ok (.imul, 1) := dk_104 (dk_at dksX5_resting_2 10 rfl rfl)
theorem dX5_resting_59 : decode cX5_resting 59 = .ok (.istore 4, 2) := dk_54 4 (dk_at dksX5_resting_2 11 rfl rfl)
theorem dX5_resting_61 : decode cX5_resting 61 = .ok (.iload_n 3, 1) := dk_29 (dk_at dksX5_resting_2 13 rfl rfl)
theorem dX5_resting_62 : decode cX5_resting 62 = .ok (.iconst 5, 1) := dk_8 (dk_at dksX5_resting_2 14 rfl rfl)
theorem dX5_resting_63 : decode cX5_resting 63 = .ok (.if_icmp .ne 10, 3) := dk_160 0 10 (dk_at dksX5_resting_2 15 rfl rfl)
theorem dX5_resting_66 : decode cX5_resting 66 = .ok (.iload 4, 2) := dk_21 4 (dk_at dksX5_resting_2 18 rfl rfl)
theorem dX5_resting_68 : decode cX5_resting 68 = .ok (.iconst 3, 1) := dk_6 (dk_at dksX5_resting_2 20 rfl rfl)
theorem dX5_resting_69 : decode cX5_resting 69 = .ok (.imul, 1) := dk_104 (dk_at dksX5_resting_2 21 rfl rfl)
theorem dX5_resting_70 : decode cX5_resting 70 = .ok (.goto 29, 3) := dk_167 0 29 (dk_at dksX5_resting_3 0 rfl rfl)
theorem dX5_resting_73 : decode cX5_resting 73 = .ok (.iload_n 3, 1) := dk_29 (dk_at dksX5_resting_3 3 rfl rfl)
theorem dX5_resting_74 : decode cX5_resting 74 = .ok (.iconst 2, 1) := dk_5 (dk_at dksX5_resting_3 4 rfl rfl)
theorem dX5_resting_75 : decode cX5_resting 75 = .ok (.if_icmp .ne 9, 3) := dk_160 0 9 (dk_at dksX5_resting_3 5 rfl rfl)
theorem dX5_resting_78 : decode cX5_resting 78 = .ok (.iload 4, 2) := dk_21 4 (dk_at dksX5_resting_3 8 rfl rfl)
theorem dX5_resting_80 : decode cX5_resting 80 = .ok (.ineg, 1) := dk_116 (dk_at dksX5_resting_3 10 rfl rfl)
theorem dX5_resting_81 : decode cX5_resting 81 = .ok (.goto 18, 3) := dk_167 0 18 (dk_at dksX5_resting_3 11 rfl rfl)
theorem dX5_resting_84 : decode cX5_resting 84 = .ok (.iload_n 3, 1) := dk_29 (dk_at dksX5_resting_3 14 rfl rfl)
theorem dX5_resting_85 : decode cX5_resting 85 = .ok (.iconst 3, 1) := dk_6 (dk_at dksX5_resting_3 15 rfl rfl)
theorem dX5_resting_86 : decode cX5_resting 86 = .ok (.if_icmp .ne 11, 3) := dk_160 0 11 (dk_at dksX5_resting_3 16 rfl rfl)
theorem dX5_resting_89 : decode cX5_resting 89 = .ok (.iload 4, 2) := dk_21 4 (dk_at dksX5_resting_3 19 rfl rfl)
theorem dX5_resting_91 : decode cX5_resting 91 = .ok (.ineg, 1) := dk_116 (dk_at dksX5_resting_3 21 rfl rfl)
theorem dX5_resting_92 : decode cX5_resting 92 = .ok (.iconst 5, 1) := dk_8 (dk_at dksX5_resting_3 22 rfl rfl)
theorem dX5_resting_93 : decode cX5_resting 93 = .ok (.ixor, 1) := dk_130 (dk_at dksX5_resting_3 23 rfl rfl)
theorem dX5_resting_94 : decode cX5_resting 94 = .ok (.goto 5, 3) := dk_167 0 5 (dk_at dksX5_resting_4 0 rfl rfl)
theorem dX5_resting_97 : decode cX5_resting 97 = .ok (.iload 4, 2) := dk_21 4 (dk_at dksX5_resting_4 3 rfl rfl)
theorem dX5_resting_99 : decode cX5_resting 99 = .ok (.ireturn, 1) := dk_172 (dk_at dksX5_resting_4 5 rfl rfl)
abbrev cX5_falling : ByteArray := prog_22_method_89_code
def yX5_falling : MethodName := ⟨RX5, "falling", "(II)I"⟩
def dkwX5_falling_3 : List UInt8 := [100, 182, 1, 54, 130, 54, 5, 29, 16, 6, 160, 0, 10, 21, 5, 27, 100, 167, 0, 5, 21, 5, 172]
abbrev dktX5_falling_3 : List UInt8 := dkwX5_falling_3 ++ []
def dkwX5_falling_2 : List UInt8 := [182, 1, 51, 42, 27, 21, 4, 182, 1, 57, 54, 5, 21, 5, 42, 27, 21, 4, 42, 180, 0, 26, 27, 46]
abbrev dktX5_falling_2 : List UInt8 := dkwX5_falling_2 ++ dktX5_falling_3
def dkwX5_falling_1 : List UInt8 := [160, 0, 19, 42, 16, 71, 182, 1, 51, 28, 42, 180, 0, 26, 27, 46, 100, 54, 4, 42, 16, 12]
abbrev dktX5_falling_1 : List UInt8 := dkwX5_falling_1 ++ dktX5_falling_2
def dkwX5_falling_0 : List UInt8 := [42, 180, 0, 23, 27, 46, 62, 28, 54, 4, 29, 16, 6, 160, 0, 9, 42, 16, 41, 182, 1, 51, 29, 7]
abbrev dktX5_falling_0 : List UInt8 := dkwX5_falling_0 ++ dktX5_falling_1
theorem dksX5_falling_0 : cX5_falling.data.toList.drop 0 = dktX5_falling_0 := by decide +kernel
theorem dksX5_falling_1 : cX5_falling.data.toList.drop 24 = dktX5_falling_1 := dk_seg dksX5_falling_0 24 rfl rfl
theorem dksX5_falling_2 : cX5_falling.data.toList.drop 46 = dktX5_falling_2 := dk_seg dksX5_falling_1 22 rfl rfl
theorem dksX5_falling_3 : cX5_falling.data.toList.drop 70 = dktX5_falling_3 := dk_seg dksX5_falling_2 24 rfl rfl
theorem dX5_falling_0 : decode cX5_falling 0 = .ok (.aload_n 0, 1) := dk_42 (dk_at dksX5_falling_0 0 rfl rfl)
theorem dX5_falling_1 : decode cX5_falling 1 = .ok (.getfield 23, 3) := dk_180 0 23 (dk_at dksX5_falling_0 1 rfl rfl)
theorem dX5_falling_4 : decode cX5_falling 4 = .ok (.iload_n 1, 1) := dk_27 (dk_at dksX5_falling_0 4 rfl rfl)
theorem dX5_falling_5 : decode cX5_falling 5 = .ok (.iaload, 1) := dk_46 (dk_at dksX5_falling_0 5 rfl rfl)
theorem dX5_falling_6 : decode cX5_falling 6 = .ok (.istore_n 3, 1) := dk_62 (dk_at dksX5_falling_0 6 rfl rfl)
theorem dX5_falling_7 : decode cX5_falling 7 = .ok (.iload_n 2, 1) := dk_28 (dk_at dksX5_falling_0 7 rfl rfl)
theorem dX5_falling_8 : decode cX5_falling 8 = .ok (.istore 4, 2) := dk_54 4 (dk_at dksX5_falling_0 8 rfl rfl)
theorem dX5_falling_10 : decode cX5_falling 10 = .ok (.iload_n 3, 1) := dk_29 (dk_at dksX5_falling_0 10 rfl rfl)
theorem dX5_falling_11 : decode cX5_falling 11 = .ok (.bipush 6, 2) := dk_16 6 (dk_at dksX5_falling_0 11 rfl rfl)
theorem dX5_falling_13 : decode cX5_falling 13 = .ok (.if_icmp .ne 9, 3) := dk_160 0 9 (dk_at dksX5_falling_0 13 rfl rfl)
theorem dX5_falling_16 : decode cX5_falling 16 = .ok (.aload_n 0, 1) := dk_42 (dk_at dksX5_falling_0 16 rfl rfl)
theorem dX5_falling_17 : decode cX5_falling 17 = .ok (.bipush 41, 2) := dk_16 41 (dk_at dksX5_falling_0 17 rfl rfl)
theorem dX5_falling_19 : decode cX5_falling 19 = .ok (.invokevirtual 307, 3) := dk_182 1 51 (dk_at dksX5_falling_0 19 rfl rfl)
theorem dX5_falling_22 : decode cX5_falling 22 = .ok (.iload_n 3, 1) := dk_29 (dk_at dksX5_falling_0 22 rfl rfl)
theorem dX5_falling_23 : decode cX5_falling 23 = .ok (.iconst 4, 1) := dk_7 (dk_at dksX5_falling_0 23 rfl rfl)
theorem dX5_falling_24 : decode cX5_falling 24 = .ok (.if_icmp .ne 19, 3) := dk_160 0 19 (dk_at dksX5_falling_1 0 rfl rfl)
theorem dX5_falling_27 : decode cX5_falling 27 = .ok (.aload_n 0, 1) := dk_42 (dk_at dksX5_falling_1 3 rfl rfl)
theorem dX5_falling_28 : decode cX5_falling 28 = .ok (.bipush 71, 2) := dk_16 71 (dk_at dksX5_falling_1 4 rfl rfl)
theorem dX5_falling_30 : decode cX5_falling 30 = .ok (.invokevirtual 307, 3) := dk_182 1 51 (dk_at dksX5_falling_1 6 rfl rfl)
theorem dX5_falling_33 : decode cX5_falling 33 = .ok (.iload_n 2, 1) := dk_28 (dk_at dksX5_falling_1 9 rfl rfl)
theorem dX5_falling_34 : decode cX5_falling 34 = .ok (.aload_n 0, 1) := dk_42 (dk_at dksX5_falling_1 10 rfl rfl)
theorem dX5_falling_35 : decode cX5_falling 35 = .ok (.getfield 26, 3) := dk_180 0 26 (dk_at dksX5_falling_1 11 rfl rfl)
theorem dX5_falling_38 : decode cX5_falling 38 = .ok (.iload_n 1, 1) := dk_27 (dk_at dksX5_falling_1 14 rfl rfl)
theorem dX5_falling_39 : decode cX5_falling 39 = .ok (.iaload, 1) := dk_46 (dk_at dksX5_falling_1 15 rfl rfl)
theorem dX5_falling_40 : decode cX5_falling 40 = .ok (.isub, 1) := dk_100 (dk_at dksX5_falling_1 16 rfl rfl)
theorem dX5_falling_41 : decode cX5_falling 41 = .ok (.istore 4, 2) := dk_54 4 (dk_at dksX5_falling_1 17 rfl rfl)
theorem dX5_falling_43 : decode cX5_falling 43 = .ok (.aload_n 0, 1) := dk_42 (dk_at dksX5_falling_1 19 rfl rfl)
theorem dX5_falling_44 : decode cX5_falling 44 = .ok (.bipush 12, 2) := dk_16 12 (dk_at dksX5_falling_1 20 rfl rfl)
theorem dX5_falling_46 : decode cX5_falling 46 = .ok (.invokevirtual 307, 3) := dk_182 1 51 (dk_at dksX5_falling_2 0 rfl rfl)
theorem dX5_falling_49 : decode cX5_falling 49 = .ok (.aload_n 0, 1) := dk_42 (dk_at dksX5_falling_2 3 rfl rfl)
theorem dX5_falling_50 : decode cX5_falling 50 = .ok (.iload_n 1, 1) := dk_27 (dk_at dksX5_falling_2 4 rfl rfl)
theorem dX5_falling_51 : decode cX5_falling 51 = .ok (.iload 4, 2) := dk_21 4 (dk_at dksX5_falling_2 5 rfl rfl)
theorem dX5_falling_53 : decode cX5_falling 53 = .ok (.invokevirtual 313, 3) := dk_182 1 57 (dk_at dksX5_falling_2 7 rfl rfl)
theorem dX5_falling_56 : decode cX5_falling 56 = .ok (.istore 5, 2) := dk_54 5 (dk_at dksX5_falling_2 10 rfl rfl)
theorem dX5_falling_58 : decode cX5_falling 58 = .ok (.iload 5, 2) := dk_21 5 (dk_at dksX5_falling_2 12 rfl rfl)
theorem dX5_falling_60 : decode cX5_falling 60 = .ok (.aload_n 0, 1) := dk_42 (dk_at dksX5_falling_2 14 rfl rfl)
theorem dX5_falling_61 : decode cX5_falling 61 = .ok (.iload_n 1, 1) := dk_27 (dk_at dksX5_falling_2 15 rfl rfl)
theorem dX5_falling_62 : decode cX5_falling 62 = .ok (.iload 4, 2) := dk_21 4 (dk_at dksX5_falling_2 16 rfl rfl)
theorem dX5_falling_64 : decode cX5_falling 64 = .ok (.aload_n 0, 1) := dk_42 (dk_at dksX5_falling_2 18 rfl rfl)
theorem dX5_falling_65 : decode cX5_falling 65 = .ok (.getfield 26, 3) := dk_180 0 26 (dk_at dksX5_falling_2 19 rfl rfl)
theorem dX5_falling_68 : decode cX5_falling 68 = .ok (.iload_n 1, 1) := dk_27 (dk_at dksX5_falling_2 22 rfl rfl)
theorem dX5_falling_69 : decode cX5_falling 69 = .ok (.iaload, 1) := dk_46 (dk_at dksX5_falling_2 23 rfl rfl)
theorem dX5_falling_70 : decode cX5_falling 70 = .ok (.isub, 1) := dk_100 (dk_at dksX5_falling_3 0 rfl rfl)
theorem dX5_falling_71 : decode cX5_falling 71 = .ok (.invokevirtual 310, 3) := dk_182 1 54 (dk_at dksX5_falling_3 1 rfl rfl)
theorem dX5_falling_74 : decode cX5_falling 74 = .ok (.ixor, 1) := dk_130 (dk_at dksX5_falling_3 4 rfl rfl)
theorem dX5_falling_75 : decode cX5_falling 75 = .ok (.istore 5, 2) := dk_54 5 (dk_at dksX5_falling_3 5 rfl rfl)
theorem dX5_falling_77 : decode cX5_falling 77 = .ok (.iload_n 3, 1) := dk_29 (dk_at dksX5_falling_3 7 rfl rfl)
theorem dX5_falling_78 : decode cX5_falling 78 = .ok (.bipush 6, 2) := dk_16 6 (dk_at dksX5_falling_3 8 rfl rfl)
theorem dX5_falling_80 : decode cX5_falling 80 = .ok (.if_icmp .ne 10, 3) := dk_160 0 10 (dk_at dksX5_falling_3 10 rfl rfl)
theorem dX5_falling_83 : decode cX5_falling 83 = .ok (.iload 5, 2) := dk_21 5 (dk_at dksX5_falling_3 13 rfl rfl)
theorem dX5_falling_85 : decode cX5_falling 85 = .ok (.iload_n 1, 1) := dk_27 (dk_at dksX5_falling_3 15 rfl rfl)
theorem dX5_falling_86 : decode cX5_falling 86 = .ok (.isub, 1) := dk_100 (dk_at dksX5_falling_3 16 rfl rfl)
theorem dX5_falling_87 : decode cX5_falling 87 = .ok (.goto 5, 3) := dk_167 0 5 (dk_at dksX5_falling_3 17 rfl rfl)
theorem dX5_falling_90 : decode cX5_falling 90 = .ok (.iload 5, 2) := dk_21 5 (dk_at dksX5_falling_3 20 rfl rfl)
theorem dX5_falling_92 : decode cX5_falling 92 = .ok (.ireturn, 1) := dk_172 (dk_at dksX5_falling_3 22 rfl rfl)
abbrev cX5_trace : ByteArray := prog_22_method_91_code
def yX5_trace : MethodName := ⟨RX5, "trace", "(I)I"⟩
def dkwX5_trace_1 : List UInt8 := [167, 0, 4, 2, 172]
abbrev dktX5_trace_1 : List UInt8 := dkwX5_trace_1 ++ []
def dkwX5_trace_0 : List UInt8 := [27, 155, 0, 26, 27, 16, 20, 162, 0, 20, 27, 42, 180, 1, 48, 162, 0, 12, 42, 180, 0, 114, 27, 46]
abbrev dktX5_trace_0 : List UInt8 := dkwX5_trace_0 ++ dktX5_trace_1
theorem dksX5_trace_0 : cX5_trace.data.toList.drop 0 = dktX5_trace_0 := by decide +kernel
theorem dksX5_trace_1 : cX5_trace.data.toList.drop 24 = dktX5_trace_1 := dk_seg dksX5_trace_0 24 rfl rfl
theorem dX5_trace_0 : decode cX5_trace 0 = .ok (.iload_n 1, 1) := dk_27 (dk_at dksX5_trace_0 0 rfl rfl)
theorem dX5_trace_1 : decode cX5_trace 1 = .ok (.ifCond .lt 26, 3) := dk_155 0 26 (dk_at dksX5_trace_0 1 rfl rfl)
theorem dX5_trace_4 : decode cX5_trace 4 = .ok (.iload_n 1, 1) := dk_27 (dk_at dksX5_trace_0 4 rfl rfl)
theorem dX5_trace_5 : decode cX5_trace 5 = .ok (.bipush 20, 2) := dk_16 20 (dk_at dksX5_trace_0 5 rfl rfl)
theorem dX5_trace_7 : decode cX5_trace 7 = .ok (.if_icmp .ge 20, 3) := dk_162 0 20 (dk_at dksX5_trace_0 7 rfl rfl)
theorem dX5_trace_10 : decode cX5_trace 10 = .ok (.iload_n 1, 1) := dk_27 (dk_at dksX5_trace_0 10 rfl rfl)
theorem dX5_trace_11 : decode cX5_trace 11 = .ok (.aload_n 0, 1) := dk_42 (dk_at dksX5_trace_0 11 rfl rfl)
theorem dX5_trace_12 : decode cX5_trace 12 = .ok (.getfield 304, 3) := dk_180 1 48 (dk_at dksX5_trace_0 12 rfl rfl)
theorem dX5_trace_15 : decode cX5_trace 15 = .ok (.if_icmp .ge 12, 3) := dk_162 0 12 (dk_at dksX5_trace_0 15 rfl rfl)
theorem dX5_trace_18 : decode cX5_trace 18 = .ok (.aload_n 0, 1) := dk_42 (dk_at dksX5_trace_0 18 rfl rfl)
theorem dX5_trace_19 : decode cX5_trace 19 = .ok (.getfield 114, 3) := dk_180 0 114 (dk_at dksX5_trace_0 19 rfl rfl)
theorem dX5_trace_22 : decode cX5_trace 22 = .ok (.iload_n 1, 1) := dk_27 (dk_at dksX5_trace_0 22 rfl rfl)
theorem dX5_trace_23 : decode cX5_trace 23 = .ok (.iaload, 1) := dk_46 (dk_at dksX5_trace_0 23 rfl rfl)
theorem dX5_trace_24 : decode cX5_trace 24 = .ok (.goto 4, 3) := dk_167 0 4 (dk_at dksX5_trace_1 0 rfl rfl)
theorem dX5_trace_27 : decode cX5_trace 27 = .ok (.iconst (-1), 1) := dk_2 (dk_at dksX5_trace_1 3 rfl rfl)
theorem dX5_trace_28 : decode cX5_trace 28 = .ok (.ireturn, 1) := dk_172 (dk_at dksX5_trace_1 4 rfl rfl)
abbrev cX5_image : ByteArray := prog_22_method_92_code
def yX5_image : MethodName := ⟨RX5, "image", "()I"⟩
def dkwX5_image_0 : List UInt8 := [42, 4, 181, 1, 63, 42, 42, 180, 0, 84, 3, 182, 0, 226, 42, 180, 0, 117, 172]
abbrev dktX5_image_0 : List UInt8 := dkwX5_image_0 ++ []
theorem dksX5_image_0 : cX5_image.data.toList.drop 0 = dktX5_image_0 := by decide +kernel
theorem dX5_image_0 : decode cX5_image 0 = .ok (.aload_n 0, 1) := dk_42 (dk_at dksX5_image_0 0 rfl rfl)
theorem dX5_image_1 : decode cX5_image 1 = .ok (.iconst 1, 1) := dk_4 (dk_at dksX5_image_0 1 rfl rfl)
theorem dX5_image_2 : decode cX5_image 2 = .ok (.putfield 319, 3) := dk_181 1 63 (dk_at dksX5_image_0 2 rfl rfl)
theorem dX5_image_5 : decode cX5_image 5 = .ok (.aload_n 0, 1) := dk_42 (dk_at dksX5_image_0 5 rfl rfl)
theorem dX5_image_6 : decode cX5_image 6 = .ok (.aload_n 0, 1) := dk_42 (dk_at dksX5_image_0 6 rfl rfl)
theorem dX5_image_7 : decode cX5_image 7 = .ok (.getfield 84, 3) := dk_180 0 84 (dk_at dksX5_image_0 7 rfl rfl)
theorem dX5_image_10 : decode cX5_image 10 = .ok (.iconst 0, 1) := dk_3 (dk_at dksX5_image_0 10 rfl rfl)
theorem dX5_image_11 : decode cX5_image 11 = .ok (.invokevirtual 226, 3) := dk_182 0 226 (dk_at dksX5_image_0 11 rfl rfl)
theorem dX5_image_14 : decode cX5_image 14 = .ok (.aload_n 0, 1) := dk_42 (dk_at dksX5_image_0 14 rfl rfl)
theorem dX5_image_15 : decode cX5_image 15 = .ok (.getfield 117, 3) := dk_180 0 117 (dk_at dksX5_image_0 15 rfl rfl)
theorem dX5_image_18 : decode cX5_image 18 = .ok (.ireturn, 1) := dk_172 (dk_at dksX5_image_0 18 rfl rfl)
abbrev cX5_restore : ByteArray := prog_22_method_93_code
def yX5_restore : MethodName := ⟨RX5, "restore", "()I"⟩
def dkwX5_restore_2 : List UInt8 := [180, 0, 117, 161, 0, 10, 42, 180, 0, 56, 27, 3, 79, 132, 1, 1, 167, 255, 217, 42, 180, 0, 117, 172]
abbrev dktX5_restore_2 : List UInt8 := dkwX5_restore_2 ++ []
def dkwX5_restore_1 : List UInt8 := [60, 27, 16, 8, 162, 0, 39, 42, 180, 0, 56, 27, 46, 5, 160, 0, 23, 42, 180, 0, 65, 27, 46, 42]
abbrev dktX5_restore_1 : List UInt8 := dkwX5_restore_1 ++ dktX5_restore_2
def dkwX5_restore_0 : List UInt8 := [42, 180, 1, 63, 154, 0, 10, 42, 16, 250, 182, 0, 136, 172, 42, 42, 180, 0, 84, 4, 182, 0, 226, 3]
abbrev dktX5_restore_0 : List UInt8 := dkwX5_restore_0 ++ dktX5_restore_1
theorem dksX5_restore_0 : cX5_restore.data.toList.drop 0 = dktX5_restore_0 := by decide +kernel
theorem dksX5_restore_1 : cX5_restore.data.toList.drop 24 = dktX5_restore_1 := dk_seg dksX5_restore_0 24 rfl rfl
theorem dksX5_restore_2 : cX5_restore.data.toList.drop 48 = dktX5_restore_2 := dk_seg dksX5_restore_1 24 rfl rfl
theorem dX5_restore_0 : decode cX5_restore 0 = .ok (.aload_n 0, 1) := dk_42 (dk_at dksX5_restore_0 0 rfl rfl)
theorem dX5_restore_1 : decode cX5_restore 1 = .ok (.getfield 319, 3) := dk_180 1 63 (dk_at dksX5_restore_0 1 rfl rfl)
theorem dX5_restore_4 : decode cX5_restore 4 = .ok (.ifCond .ne 10, 3) := dk_154 0 10 (dk_at dksX5_restore_0 4 rfl rfl)
theorem dX5_restore_7 : decode cX5_restore 7 = .ok (.aload_n 0, 1) := dk_42 (dk_at dksX5_restore_0 7 rfl rfl)
theorem dX5_restore_8 : decode cX5_restore 8 = .ok (.bipush (-6), 2) := dk_16 250 (dk_at dksX5_restore_0 8 rfl rfl)
theorem dX5_restore_10 : decode cX5_restore 10 = .ok (.invokevirtual 136, 3) := dk_182 0 136 (dk_at dksX5_restore_0 10 rfl rfl)
theorem dX5_restore_13 : decode cX5_restore 13 = .ok (.ireturn, 1) := dk_172 (dk_at dksX5_restore_0 13 rfl rfl)
theorem dX5_restore_14 : decode cX5_restore 14 = .ok (.aload_n 0, 1) := dk_42 (dk_at dksX5_restore_0 14 rfl rfl)
theorem dX5_restore_15 : decode cX5_restore 15 = .ok (.aload_n 0, 1) := dk_42 (dk_at dksX5_restore_0 15 rfl rfl)
theorem dX5_restore_16 : decode cX5_restore 16 = .ok (.getfield 84, 3) := dk_180 0 84 (dk_at dksX5_restore_0 16 rfl rfl)
theorem dX5_restore_19 : decode cX5_restore 19 = .ok (.iconst 1, 1) := dk_4 (dk_at dksX5_restore_0 19 rfl rfl)
theorem dX5_restore_20 : decode cX5_restore 20 = .ok (.invokevirtual 226, 3) := dk_182 0 226 (dk_at dksX5_restore_0 20 rfl rfl)
theorem dX5_restore_23 : decode cX5_restore 23 = .ok (.iconst 0, 1) := dk_3 (dk_at dksX5_restore_0 23 rfl rfl)
theorem dX5_restore_24 : decode cX5_restore 24 = .ok (.istore_n 1, 1) := dk_60 (dk_at dksX5_restore_1 0 rfl rfl)
theorem dX5_restore_25 : decode cX5_restore 25 = .ok (.iload_n 1, 1) := dk_27 (dk_at dksX5_restore_1 1 rfl rfl)
theorem dX5_restore_26 : decode cX5_restore 26 = .ok (.bipush 8, 2) := dk_16 8 (dk_at dksX5_restore_1 2 rfl rfl)
theorem dX5_restore_28 : decode cX5_restore 28 = .ok (.if_icmp .ge 39, 3) := dk_162 0 39 (dk_at dksX5_restore_1 4 rfl rfl)
theorem dX5_restore_31 : decode cX5_restore 31 = .ok (.aload_n 0, 1) := dk_42 (dk_at dksX5_restore_1 7 rfl rfl)
theorem dX5_restore_32 : decode cX5_restore 32 = .ok (.getfield 56, 3) := dk_180 0 56 (dk_at dksX5_restore_1 8 rfl rfl)
theorem dX5_restore_35 : decode cX5_restore 35 = .ok (.iload_n 1, 1) := dk_27 (dk_at dksX5_restore_1 11 rfl rfl)
theorem dX5_restore_36 : decode cX5_restore 36 = .ok (.iaload, 1) := dk_46 (dk_at dksX5_restore_1 12 rfl rfl)
theorem dX5_restore_37 : decode cX5_restore 37 = .ok (.iconst 2, 1) := dk_5 (dk_at dksX5_restore_1 13 rfl rfl)
theorem dX5_restore_38 : decode cX5_restore 38 = .ok (.if_icmp .ne 23, 3) := dk_160 0 23 (dk_at dksX5_restore_1 14 rfl rfl)
theorem dX5_restore_41 : decode cX5_restore 41 = .ok (.aload_n 0, 1) := dk_42 (dk_at dksX5_restore_1 17 rfl rfl)
theorem dX5_restore_42 : decode cX5_restore 42 = .ok (.getfield 65, 3) := dk_180 0 65 (dk_at dksX5_restore_1 18 rfl rfl)
theorem dX5_restore_45 : decode cX5_restore 45 = .ok (.iload_n 1, 1) := dk_27 (dk_at dksX5_restore_1 21 rfl rfl)
theorem dX5_restore_46 : decode cX5_restore 46 = .ok (.iaload, 1) := dk_46 (dk_at dksX5_restore_1 22 rfl rfl)
theorem dX5_restore_47 : decode cX5_restore 47 = .ok (.aload_n 0, 1) := dk_42 (dk_at dksX5_restore_1 23 rfl rfl)
theorem dX5_restore_48 : decode cX5_restore 48 = .ok (.getfield 117, 3) := dk_180 0 117 (dk_at dksX5_restore_2 0 rfl rfl)
theorem dX5_restore_51 : decode cX5_restore 51 = .ok (.if_icmp .lt 10, 3) := dk_161 0 10 (dk_at dksX5_restore_2 3 rfl rfl)
theorem dX5_restore_54 : decode cX5_restore 54 = .ok (.aload_n 0, 1) := dk_42 (dk_at dksX5_restore_2 6 rfl rfl)
theorem dX5_restore_55 : decode cX5_restore 55 = .ok (.getfield 56, 3) := dk_180 0 56 (dk_at dksX5_restore_2 7 rfl rfl)
theorem dX5_restore_58 : decode cX5_restore 58 = .ok (.iload_n 1, 1) := dk_27 (dk_at dksX5_restore_2 10 rfl rfl)
theorem dX5_restore_59 : decode cX5_restore 59 = .ok (.iconst 0, 1) := dk_3 (dk_at dksX5_restore_2 11 rfl rfl)
theorem dX5_restore_60 : decode cX5_restore 60 = .ok (.iastore, 1) := dk_79 (dk_at dksX5_restore_2 12 rfl rfl)
theorem dX5_restore_61 : decode cX5_restore 61 = .ok (.iinc 1 1, 3) := dk_132 1 1 (dk_at dksX5_restore_2 13 rfl rfl)
theorem dX5_restore_64 : decode cX5_restore 64 = .ok (.goto (-39), 3) := dk_167 255 217 (dk_at dksX5_restore_2 16 rfl rfl)
theorem dX5_restore_67 : decode cX5_restore 67 = .ok (.aload_n 0, 1) := dk_42 (dk_at dksX5_restore_2 19 rfl rfl)
theorem dX5_restore_68 : decode cX5_restore 68 = .ok (.getfield 117, 3) := dk_180 0 117 (dk_at dksX5_restore_2 20 rfl rfl)
theorem dX5_restore_71 : decode cX5_restore 71 = .ok (.ireturn, 1) := dk_172 (dk_at dksX5_restore_2 23 rfl rfl)
abbrev cX5_status : ByteArray := prog_22_method_94_code
def yX5_status : MethodName := ⟨RX5, "status", "(I)I"⟩
def dkwX5_status_4 : List UInt8 := [180, 0, 223, 172, 2, 172]
abbrev dktX5_status_4 : List UInt8 := dkwX5_status_4 ++ []
def dkwX5_status_3 : List UInt8 := [172, 42, 180, 0, 126, 172, 42, 180, 0, 171, 172, 42, 180, 0, 13, 172, 42, 180, 1, 48, 172, 42]
abbrev dktX5_status_3 : List UInt8 := dkwX5_status_3 ++ dktX5_status_4
def dkwX5_status_2 : List UInt8 := [42, 180, 0, 117, 172, 42, 180, 0, 120, 172, 42, 180, 0, 162, 172, 42, 180, 0, 7, 172, 42, 180, 0, 123]
abbrev dktX5_status_2 : List UInt8 := dkwX5_status_2 ++ dktX5_status_3
def dkwX5_status_1 : List UInt8 := [170, 0, 0, 0, 103, 0, 0, 0, 0, 0, 0, 0, 9, 0, 0, 0, 53, 0, 0, 0, 58, 0, 0, 0, 63, 0, 0, 0, 68, 0, 0, 0, 73, 0, 0, 0, 78, 0, 0, 0, 83, 0, 0, 0, 88, 0, 0, 0, 93, 0, 0, 0, 98]
abbrev dktX5_status_1 : List UInt8 := dkwX5_status_1 ++ dktX5_status_2
def dkwX5_status_0 : List UInt8 := [27, 16, 11, 161, 0, 19, 27, 16, 17, 163, 0, 13, 42, 180, 0, 19, 27, 16, 10, 100, 46, 172, 27]
abbrev dktX5_status_0 : List UInt8 := dkwX5_status_0 ++ dktX5_status_1
theorem dksX5_status_0 : cX5_status.data.toList.drop 0 = dktX5_status_0 := by decide +kernel
theorem dksX5_status_1 : cX5_status.data.toList.drop 23 = dktX5_status_1 := dk_seg dksX5_status_0 23 rfl rfl
theorem dksX5_status_2 : cX5_status.data.toList.drop 76 = dktX5_status_2 := dk_seg dksX5_status_1 53 rfl rfl
theorem dksX5_status_3 : cX5_status.data.toList.drop 100 = dktX5_status_3 := dk_seg dksX5_status_2 24 rfl rfl
theorem dksX5_status_4 : cX5_status.data.toList.drop 122 = dktX5_status_4 := dk_seg dksX5_status_3 22 rfl rfl
theorem dX5_status_0 : decode cX5_status 0 = .ok (.iload_n 1, 1) := dk_27 (dk_at dksX5_status_0 0 rfl rfl)
theorem dX5_status_1 : decode cX5_status 1 = .ok (.bipush 11, 2) := dk_16 11 (dk_at dksX5_status_0 1 rfl rfl)
theorem dX5_status_3 : decode cX5_status 3 = .ok (.if_icmp .lt 19, 3) := dk_161 0 19 (dk_at dksX5_status_0 3 rfl rfl)
theorem dX5_status_6 : decode cX5_status 6 = .ok (.iload_n 1, 1) := dk_27 (dk_at dksX5_status_0 6 rfl rfl)
theorem dX5_status_7 : decode cX5_status 7 = .ok (.bipush 17, 2) := dk_16 17 (dk_at dksX5_status_0 7 rfl rfl)
theorem dX5_status_9 : decode cX5_status 9 = .ok (.if_icmp .gt 13, 3) := dk_163 0 13 (dk_at dksX5_status_0 9 rfl rfl)
theorem dX5_status_12 : decode cX5_status 12 = .ok (.aload_n 0, 1) := dk_42 (dk_at dksX5_status_0 12 rfl rfl)
theorem dX5_status_13 : decode cX5_status 13 = .ok (.getfield 19, 3) := dk_180 0 19 (dk_at dksX5_status_0 13 rfl rfl)
theorem dX5_status_16 : decode cX5_status 16 = .ok (.iload_n 1, 1) := dk_27 (dk_at dksX5_status_0 16 rfl rfl)
theorem dX5_status_17 : decode cX5_status 17 = .ok (.bipush 10, 2) := dk_16 10 (dk_at dksX5_status_0 17 rfl rfl)
theorem dX5_status_19 : decode cX5_status 19 = .ok (.isub, 1) := dk_100 (dk_at dksX5_status_0 19 rfl rfl)
theorem dX5_status_20 : decode cX5_status 20 = .ok (.iaload, 1) := dk_46 (dk_at dksX5_status_0 20 rfl rfl)
theorem dX5_status_21 : decode cX5_status 21 = .ok (.ireturn, 1) := dk_172 (dk_at dksX5_status_0 21 rfl rfl)
theorem dX5_status_22 : decode cX5_status 22 = .ok (.iload_n 1, 1) := dk_27 (dk_at dksX5_status_0 22 rfl rfl)
theorem dX5_status_23 : decode cX5_status 23 = .ok (.tableswitch 103 0 9 #[53, 58, 63, 68, 73, 78, 83, 88, 93, 98], 53) := by decide +kernel
theorem dX5_status_76 : decode cX5_status 76 = .ok (.aload_n 0, 1) := dk_42 (dk_at dksX5_status_2 0 rfl rfl)
theorem dX5_status_77 : decode cX5_status 77 = .ok (.getfield 117, 3) := dk_180 0 117 (dk_at dksX5_status_2 1 rfl rfl)
theorem dX5_status_80 : decode cX5_status 80 = .ok (.ireturn, 1) := dk_172 (dk_at dksX5_status_2 4 rfl rfl)
theorem dX5_status_81 : decode cX5_status 81 = .ok (.aload_n 0, 1) := dk_42 (dk_at dksX5_status_2 5 rfl rfl)
theorem dX5_status_82 : decode cX5_status 82 = .ok (.getfield 120, 3) := dk_180 0 120 (dk_at dksX5_status_2 6 rfl rfl)
theorem dX5_status_85 : decode cX5_status 85 = .ok (.ireturn, 1) := dk_172 (dk_at dksX5_status_2 9 rfl rfl)
theorem dX5_status_86 : decode cX5_status 86 = .ok (.aload_n 0, 1) := dk_42 (dk_at dksX5_status_2 10 rfl rfl)
theorem dX5_status_87 : decode cX5_status 87 = .ok (.getfield 162, 3) := dk_180 0 162 (dk_at dksX5_status_2 11 rfl rfl)
theorem dX5_status_90 : decode cX5_status 90 = .ok (.ireturn, 1) := dk_172 (dk_at dksX5_status_2 14 rfl rfl)
theorem dX5_status_91 : decode cX5_status 91 = .ok (.aload_n 0, 1) := dk_42 (dk_at dksX5_status_2 15 rfl rfl)
theorem dX5_status_92 : decode cX5_status 92 = .ok (.getfield 7, 3) := dk_180 0 7 (dk_at dksX5_status_2 16 rfl rfl)
theorem dX5_status_95 : decode cX5_status 95 = .ok (.ireturn, 1) := dk_172 (dk_at dksX5_status_2 19 rfl rfl)
theorem dX5_status_96 : decode cX5_status 96 = .ok (.aload_n 0, 1) := dk_42 (dk_at dksX5_status_2 20 rfl rfl)
theorem dX5_status_97 : decode cX5_status 97 = .ok (.getfield 123, 3) := dk_180 0 123 (dk_at dksX5_status_2 21 rfl rfl)
theorem dX5_status_100 : decode cX5_status 100 = .ok (.ireturn, 1) := dk_172 (dk_at dksX5_status_3 0 rfl rfl)
theorem dX5_status_101 : decode cX5_status 101 = .ok (.aload_n 0, 1) := dk_42 (dk_at dksX5_status_3 1 rfl rfl)
theorem dX5_status_102 : decode cX5_status 102 = .ok (.getfield 126, 3) := dk_180 0 126 (dk_at dksX5_status_3 2 rfl rfl)
theorem dX5_status_105 : decode cX5_status 105 = .ok (.ireturn, 1) := dk_172 (dk_at dksX5_status_3 5 rfl rfl)
theorem dX5_status_106 : decode cX5_status 106 = .ok (.aload_n 0, 1) := dk_42 (dk_at dksX5_status_3 6 rfl rfl)
theorem dX5_status_107 : decode cX5_status 107 = .ok (.getfield 171, 3) := dk_180 0 171 (dk_at dksX5_status_3 7 rfl rfl)
theorem dX5_status_110 : decode cX5_status 110 = .ok (.ireturn, 1) := dk_172 (dk_at dksX5_status_3 10 rfl rfl)
theorem dX5_status_111 : decode cX5_status 111 = .ok (.aload_n 0, 1) := dk_42 (dk_at dksX5_status_3 11 rfl rfl)
theorem dX5_status_112 : decode cX5_status 112 = .ok (.getfield 13, 3) := dk_180 0 13 (dk_at dksX5_status_3 12 rfl rfl)
theorem dX5_status_115 : decode cX5_status 115 = .ok (.ireturn, 1) := dk_172 (dk_at dksX5_status_3 15 rfl rfl)
theorem dX5_status_116 : decode cX5_status 116 = .ok (.aload_n 0, 1) := dk_42 (dk_at dksX5_status_3 16 rfl rfl)
theorem dX5_status_117 : decode cX5_status 117 = .ok (.getfield 304, 3) := dk_180 1 48 (dk_at dksX5_status_3 17 rfl rfl)
theorem dX5_status_120 : decode cX5_status 120 = .ok (.ireturn, 1) := dk_172 (dk_at dksX5_status_3 20 rfl rfl)
theorem dX5_status_121 : decode cX5_status 121 = .ok (.aload_n 0, 1) := dk_42 (dk_at dksX5_status_3 21 rfl rfl)
theorem dX5_status_122 : decode cX5_status 122 = .ok (.getfield 223, 3) := dk_180 0 223 (dk_at dksX5_status_4 0 rfl rfl)
theorem dX5_status_125 : decode cX5_status 125 = .ok (.ireturn, 1) := dk_172 (dk_at dksX5_status_4 3 rfl rfl)
theorem dX5_status_126 : decode cX5_status 126 = .ok (.iconst (-1), 1) := dk_2 (dk_at dksX5_status_4 4 rfl rfl)
theorem dX5_status_127 : decode cX5_status 127 = .ok (.ireturn, 1) := dk_172 (dk_at dksX5_status_4 5 rfl rfl)
theorem q84 : (Jvm.Cond.initialized "NoFartherThanAThrowModel") ∈ lw_all := lw_g (lw_at lw_m1 6 rfl) rfl
theorem q1401 : (Jvm.Cond.instantiable "NoFartherThanAThrowModel" (50 : Nat)) ∈ lw_all := lw_g (lw_at lw_m6 123 rfl) rfl
theorem q1403 : (Jvm.Cond.instanceMethod ({ cls := "NoFartherThanAThrowModel", name := "<init>", desc := "()V" } : Jvm.MethodName)) ∈ lw_all := lw_g (lw_at lw_m6 125 rfl) rfl
theorem q1404 : (Jvm.Cond.code ({ cls := "NoFartherThanAThrowModel", name := "<init>", desc := "()V" } : Jvm.MethodName) prog_22_method_1_code (1 : Nat) (Option.none : Option Jvm.ClassFile.FieldType)) ∈ lw_all := lw_g (lw_at lw_m6 126 rfl) rfl
theorem q1405 : (Jvm.Cond.methodLink "NoFartherThanAThrowModel" (1 : Nat) ({ cls := "java/lang/Object", name := "<init>", desc := "()V" } : Jvm.MethodName)) ∈ lw_all := lw_g (lw_at lw_m6 127 rfl) rfl
theorem q1406 : (Jvm.Cond.fieldLink "NoFartherThanAThrowModel" (117 : Nat) "NoFartherThanAThrowModel" "things" "I") ∈ lw_all := lw_g (lw_at lw_m6 128 rfl) rfl
theorem q1407 : (Jvm.Cond.fieldLink "NoFartherThanAThrowModel" (120 : Nat) "NoFartherThanAThrowModel" "people" "I") ∈ lw_all := lw_g (lw_at lw_m6 129 rfl) rfl
theorem q1408 : (Jvm.Cond.fieldLink "NoFartherThanAThrowModel" (162 : Nat) "NoFartherThanAThrowModel" "wants" "I") ∈ lw_all := lw_g (lw_at lw_m6 130 rfl) rfl
theorem q1409 : (Jvm.Cond.fieldLink "NoFartherThanAThrowModel" (7 : Nat) "NoFartherThanAThrowModel" "along" "I") ∈ lw_all := lw_g (lw_at lw_m6 131 rfl) rfl
theorem q1410 : (Jvm.Cond.fieldLink "NoFartherThanAThrowModel" (123 : Nat) "NoFartherThanAThrowModel" "riverFrom" "I") ∈ lw_all := lw_g (lw_at lw_m6 132 rfl) rfl
theorem q1411 : (Jvm.Cond.fieldLink "NoFartherThanAThrowModel" (126 : Nat) "NoFartherThanAThrowModel" "riverTo" "I") ∈ lw_all := lw_g (lw_at lw_m6 133 rfl) rfl
theorem q1412 : (Jvm.Cond.fieldLink "NoFartherThanAThrowModel" (171 : Nat) "NoFartherThanAThrowModel" "wind" "I") ∈ lw_all := lw_g (lw_at lw_m6 134 rfl) rfl
theorem q1413 : (Jvm.Cond.fieldLink "NoFartherThanAThrowModel" (13 : Nat) "NoFartherThanAThrowModel" "seed" "I") ∈ lw_all := lw_g (lw_at lw_m6 135 rfl) rfl
theorem q1414 : (Jvm.Cond.fieldLink "NoFartherThanAThrowModel" (223 : Nat) "NoFartherThanAThrowModel" "done" "I") ∈ lw_all := lw_g (lw_at lw_m6 136 rfl) rfl
theorem q1415 : (Jvm.Cond.fieldLink "NoFartherThanAThrowModel" (16 : Nat) "NoFartherThanAThrowModel" "fault" "I") ∈ lw_all := lw_g (lw_at lw_m6 137 rfl) rfl
theorem q1416 : (Jvm.Cond.fieldLink "NoFartherThanAThrowModel" (19 : Nat) "NoFartherThanAThrowModel" "refused" "[I") ∈ lw_all := lw_g (lw_at lw_m6 138 rfl) rfl
theorem q1417 : (Jvm.Cond.fieldLink "NoFartherThanAThrowModel" (23 : Nat) "NoFartherThanAThrowModel" "kind" "[I") ∈ lw_all := lw_g (lw_at lw_m6 139 rfl) rfl
theorem q1418 : (Jvm.Cond.fieldLink "NoFartherThanAThrowModel" (26 : Nat) "NoFartherThanAThrowModel" "weight" "[I") ∈ lw_all := lw_g (lw_at lw_m6 140 rfl) rfl
theorem q1419 : (Jvm.Cond.fieldLink "NoFartherThanAThrowModel" (29 : Nat) "NoFartherThanAThrowModel" "extra" "[I") ∈ lw_all := lw_g (lw_at lw_m6 141 rfl) rfl
theorem q1420 : (Jvm.Cond.fieldLink "NoFartherThanAThrowModel" (32 : Nat) "NoFartherThanAThrowModel" "step" "[I") ∈ lw_all := lw_g (lw_at lw_m6 142 rfl) rfl
theorem q1421 : (Jvm.Cond.fieldLink "NoFartherThanAThrowModel" (35 : Nat) "NoFartherThanAThrowModel" "had" "[I") ∈ lw_all := lw_g (lw_at lw_m6 143 rfl) rfl
theorem q1422 : (Jvm.Cond.fieldLink "NoFartherThanAThrowModel" (38 : Nat) "NoFartherThanAThrowModel" "broken" "[I") ∈ lw_all := lw_g (lw_at lw_m6 144 rfl) rfl
theorem q1423 : (Jvm.Cond.fieldLink "NoFartherThanAThrowModel" (41 : Nat) "NoFartherThanAThrowModel" "strength" "[I") ∈ lw_all := lw_g (lw_at lw_m6 145 rfl) rfl
theorem q1424 : (Jvm.Cond.fieldLink "NoFartherThanAThrowModel" (44 : Nat) "NoFartherThanAThrowModel" "tired" "[I") ∈ lw_all := lw_g (lw_at lw_m6 146 rfl) rfl
theorem q1425 : (Jvm.Cond.fieldLink "NoFartherThanAThrowModel" (47 : Nat) "NoFartherThanAThrowModel" "wThing" "[I") ∈ lw_all := lw_g (lw_at lw_m6 147 rfl) rfl
theorem q1426 : (Jvm.Cond.fieldLink "NoFartherThanAThrowModel" (50 : Nat) "NoFartherThanAThrowModel" "wStep" "[I") ∈ lw_all := lw_g (lw_at lw_m6 148 rfl) rfl
theorem q1427 : (Jvm.Cond.fieldLink "NoFartherThanAThrowModel" (53 : Nat) "NoFartherThanAThrowModel" "wWorth" "[I") ∈ lw_all := lw_g (lw_at lw_m6 149 rfl) rfl
theorem q1428 : (Jvm.Cond.fieldLink "NoFartherThanAThrowModel" (56 : Nat) "NoFartherThanAThrowModel" "held" "[I") ∈ lw_all := lw_g (lw_at lw_m6 150 rfl) rfl
theorem q1429 : (Jvm.Cond.fieldLink "NoFartherThanAThrowModel" (59 : Nat) "NoFartherThanAThrowModel" "sort" "[I") ∈ lw_all := lw_g (lw_at lw_m6 151 rfl) rfl
theorem q1430 : (Jvm.Cond.fieldLink "NoFartherThanAThrowModel" (62 : Nat) "NoFartherThanAThrowModel" "size" "[I") ∈ lw_all := lw_g (lw_at lw_m6 152 rfl) rfl
theorem q1431 : (Jvm.Cond.fieldLink "NoFartherThanAThrowModel" (65 : Nat) "NoFartherThanAThrowModel" "shown" "[I") ∈ lw_all := lw_g (lw_at lw_m6 153 rfl) rfl
theorem q1432 : (Jvm.Cond.fieldLink "NoFartherThanAThrowModel" (68 : Nat) "NoFartherThanAThrowModel" "cells" "[J") ∈ lw_all := lw_g (lw_at lw_m6 154 rfl) rfl
theorem q1433 : (Jvm.Cond.fieldLink "NoFartherThanAThrowModel" (72 : Nat) "NoFartherThanAThrowModel" "carried" "[J") ∈ lw_all := lw_g (lw_at lw_m6 155 rfl) rfl
theorem q1434 : (Jvm.Cond.fieldLink "NoFartherThanAThrowModel" (75 : Nat) "NoFartherThanAThrowModel" "words" "[I") ∈ lw_all := lw_g (lw_at lw_m6 156 rfl) rfl
theorem q1435 : (Jvm.Cond.fieldLink "NoFartherThanAThrowModel" (78 : Nat) "NoFartherThanAThrowModel" "tell" "[I") ∈ lw_all := lw_g (lw_at lw_m6 157 rfl) rfl
theorem q1436 : (Jvm.Cond.fieldLink "NoFartherThanAThrowModel" (190 : Nat) "NoFartherThanAThrowModel" "base" "I") ∈ lw_all := lw_g (lw_at lw_m6 158 rfl) rfl
theorem q1437 : (Jvm.Cond.fieldLink "NoFartherThanAThrowModel" (184 : Nat) "NoFartherThanAThrowModel" "at" "I") ∈ lw_all := lw_g (lw_at lw_m6 159 rfl) rfl
theorem q1438 : (Jvm.Cond.fieldLink "NoFartherThanAThrowModel" (187 : Nat) "NoFartherThanAThrowModel" "end" "I") ∈ lw_all := lw_g (lw_at lw_m6 160 rfl) rfl
theorem q1439 : (Jvm.Cond.fieldLink "NoFartherThanAThrowModel" (200 : Nat) "NoFartherThanAThrowModel" "told" "I") ∈ lw_all := lw_g (lw_at lw_m6 161 rfl) rfl
theorem q1440 : (Jvm.Cond.fieldLink "NoFartherThanAThrowModel" (181 : Nat) "NoFartherThanAThrowModel" "wrongAt" "I") ∈ lw_all := lw_g (lw_at lw_m6 162 rfl) rfl
theorem q1441 : (Jvm.Cond.fieldLink "NoFartherThanAThrowModel" (81 : Nat) "NoFartherThanAThrowModel" "was" "[I") ∈ lw_all := lw_g (lw_at lw_m6 163 rfl) rfl
theorem q1442 : (Jvm.Cond.fieldLink "NoFartherThanAThrowModel" (84 : Nat) "NoFartherThanAThrowModel" "kept" "[I") ∈ lw_all := lw_g (lw_at lw_m6 164 rfl) rfl
theorem q1443 : (Jvm.Cond.fieldLink "NoFartherThanAThrowModel" (87 : Nat) "NoFartherThanAThrowModel" "aside" "[I") ∈ lw_all := lw_g (lw_at lw_m6 165 rfl) rfl
theorem q1444 : (Jvm.Cond.fieldLink "NoFartherThanAThrowModel" (90 : Nat) "NoFartherThanAThrowModel" "ends" "[I") ∈ lw_all := lw_g (lw_at lw_m6 166 rfl) rfl
theorem q1445 : (Jvm.Cond.fieldLink "NoFartherThanAThrowModel" (93 : Nat) "NoFartherThanAThrowModel" "fars" "[I") ∈ lw_all := lw_g (lw_at lw_m6 167 rfl) rfl
theorem q1446 : (Jvm.Cond.fieldLink "NoFartherThanAThrowModel" (96 : Nat) "NoFartherThanAThrowModel" "now" "[I") ∈ lw_all := lw_g (lw_at lw_m6 168 rfl) rfl
theorem q1447 : (Jvm.Cond.fieldLink "NoFartherThanAThrowModel" (99 : Nat) "NoFartherThanAThrowModel" "then" "[I") ∈ lw_all := lw_g (lw_at lw_m6 169 rfl) rfl
theorem q1448 : (Jvm.Cond.fieldLink "NoFartherThanAThrowModel" (102 : Nat) "NoFartherThanAThrowModel" "brings" "[I") ∈ lw_all := lw_g (lw_at lw_m6 170 rfl) rfl
theorem q1449 : (Jvm.Cond.fieldLink "NoFartherThanAThrowModel" (105 : Nat) "NoFartherThanAThrowModel" "sets" "[I") ∈ lw_all := lw_g (lw_at lw_m6 171 rfl) rfl
theorem q1450 : (Jvm.Cond.fieldLink "NoFartherThanAThrowModel" (108 : Nat) "NoFartherThanAThrowModel" "gives" "[I") ∈ lw_all := lw_g (lw_at lw_m6 172 rfl) rfl
theorem q1451 : (Jvm.Cond.fieldLink "NoFartherThanAThrowModel" (111 : Nat) "NoFartherThanAThrowModel" "best" "[I") ∈ lw_all := lw_g (lw_at lw_m6 173 rfl) rfl
theorem q1452 : (Jvm.Cond.fieldLink "NoFartherThanAThrowModel" (277 : Nat) "NoFartherThanAThrowModel" "bestWorth" "I") ∈ lw_all := lw_g (lw_at lw_m6 174 rfl) rfl
theorem q1453 : (Jvm.Cond.fieldLink "NoFartherThanAThrowModel" (114 : Nat) "NoFartherThanAThrowModel" "trace" "[I") ∈ lw_all := lw_g (lw_at lw_m6 175 rfl) rfl
theorem q1454 : (Jvm.Cond.fieldLink "NoFartherThanAThrowModel" (304 : Nat) "NoFartherThanAThrowModel" "ran" "I") ∈ lw_all := lw_g (lw_at lw_m6 176 rfl) rfl
theorem q1455 : (Jvm.Cond.fieldLink "NoFartherThanAThrowModel" (319 : Nat) "NoFartherThanAThrowModel" "isKept" "Z") ∈ lw_all := lw_g (lw_at lw_m6 177 rfl) rfl
theorem q1456 : (Jvm.Cond.lays "NoFartherThanAThrowModel" "NoFartherThanAThrowModel" "things" "I") ∈ lw_all := lw_g (lw_at lw_m6 178 rfl) rfl
theorem q1457 : (Jvm.Cond.soleField "NoFartherThanAThrowModel" "things") ∈ lw_all := lw_g (lw_at lw_m6 179 rfl) rfl
theorem q1458 : (Jvm.Cond.lays "NoFartherThanAThrowModel" "NoFartherThanAThrowModel" "people" "I") ∈ lw_all := lw_g (lw_at lw_m6 180 rfl) rfl
theorem q1459 : (Jvm.Cond.soleField "NoFartherThanAThrowModel" "people") ∈ lw_all := lw_g (lw_at lw_m6 181 rfl) rfl
theorem q1460 : (Jvm.Cond.lays "NoFartherThanAThrowModel" "NoFartherThanAThrowModel" "wants" "I") ∈ lw_all := lw_g (lw_at lw_m6 182 rfl) rfl
theorem q1461 : (Jvm.Cond.soleField "NoFartherThanAThrowModel" "wants") ∈ lw_all := lw_g (lw_at lw_m6 183 rfl) rfl
theorem q1462 : (Jvm.Cond.lays "NoFartherThanAThrowModel" "NoFartherThanAThrowModel" "along" "I") ∈ lw_all := lw_g (lw_at lw_m6 184 rfl) rfl
theorem q1463 : (Jvm.Cond.soleField "NoFartherThanAThrowModel" "along") ∈ lw_all := lw_g (lw_at lw_m6 185 rfl) rfl
theorem q1464 : (Jvm.Cond.lays "NoFartherThanAThrowModel" "NoFartherThanAThrowModel" "riverFrom" "I") ∈ lw_all := lw_g (lw_at lw_m6 186 rfl) rfl
theorem q1465 : (Jvm.Cond.soleField "NoFartherThanAThrowModel" "riverFrom") ∈ lw_all := lw_g (lw_at lw_m6 187 rfl) rfl
theorem q1466 : (Jvm.Cond.lays "NoFartherThanAThrowModel" "NoFartherThanAThrowModel" "riverTo" "I") ∈ lw_all := lw_g (lw_at lw_m6 188 rfl) rfl
theorem q1467 : (Jvm.Cond.soleField "NoFartherThanAThrowModel" "riverTo") ∈ lw_all := lw_g (lw_at lw_m6 189 rfl) rfl
theorem q1468 : (Jvm.Cond.lays "NoFartherThanAThrowModel" "NoFartherThanAThrowModel" "wind" "I") ∈ lw_all := lw_g (lw_at lw_m6 190 rfl) rfl
theorem q1469 : (Jvm.Cond.soleField "NoFartherThanAThrowModel" "wind") ∈ lw_all := lw_g (lw_at lw_m6 191 rfl) rfl
theorem q1470 : (Jvm.Cond.lays "NoFartherThanAThrowModel" "NoFartherThanAThrowModel" "seed" "I") ∈ lw_all := lw_g (lw_at lw_m6 192 rfl) rfl
theorem q1471 : (Jvm.Cond.soleField "NoFartherThanAThrowModel" "seed") ∈ lw_all := lw_g (lw_at lw_m6 193 rfl) rfl
theorem q1472 : (Jvm.Cond.lays "NoFartherThanAThrowModel" "NoFartherThanAThrowModel" "done" "I") ∈ lw_all := lw_g (lw_at lw_m6 194 rfl) rfl
theorem q1473 : (Jvm.Cond.soleField "NoFartherThanAThrowModel" "done") ∈ lw_all := lw_g (lw_at lw_m6 195 rfl) rfl
theorem q1474 : (Jvm.Cond.lays "NoFartherThanAThrowModel" "NoFartherThanAThrowModel" "fault" "I") ∈ lw_all := lw_g (lw_at lw_m6 196 rfl) rfl
theorem q1475 : (Jvm.Cond.soleField "NoFartherThanAThrowModel" "fault") ∈ lw_all := lw_g (lw_at lw_m6 197 rfl) rfl
theorem q1476 : (Jvm.Cond.laysFinal "NoFartherThanAThrowModel" "NoFartherThanAThrowModel" "refused" "[I") ∈ lw_all := lw_g (lw_at lw_m6 198 rfl) rfl
theorem q1477 : (Jvm.Cond.soleField "NoFartherThanAThrowModel" "refused") ∈ lw_all := lw_g (lw_at lw_m6 199 rfl) rfl
theorem q1478 : (Jvm.Cond.laysFinal "NoFartherThanAThrowModel" "NoFartherThanAThrowModel" "kind" "[I") ∈ lw_all := lw_g (lw_at lw_m6 200 rfl) rfl
theorem q1479 : (Jvm.Cond.soleField "NoFartherThanAThrowModel" "kind") ∈ lw_all := lw_g (lw_at lw_m6 201 rfl) rfl
theorem q1480 : (Jvm.Cond.laysFinal "NoFartherThanAThrowModel" "NoFartherThanAThrowModel" "weight" "[I") ∈ lw_all := lw_g (lw_at lw_m6 202 rfl) rfl
theorem q1481 : (Jvm.Cond.soleField "NoFartherThanAThrowModel" "weight") ∈ lw_all := lw_g (lw_at lw_m6 203 rfl) rfl
theorem q1482 : (Jvm.Cond.laysFinal "NoFartherThanAThrowModel" "NoFartherThanAThrowModel" "extra" "[I") ∈ lw_all := lw_g (lw_at lw_m6 204 rfl) rfl
theorem q1483 : (Jvm.Cond.soleField "NoFartherThanAThrowModel" "extra") ∈ lw_all := lw_g (lw_at lw_m6 205 rfl) rfl
theorem q1484 : (Jvm.Cond.laysFinal "NoFartherThanAThrowModel" "NoFartherThanAThrowModel" "step" "[I") ∈ lw_all := lw_g (lw_at lw_m6 206 rfl) rfl
theorem q1485 : (Jvm.Cond.soleField "NoFartherThanAThrowModel" "step") ∈ lw_all := lw_g (lw_at lw_m6 207 rfl) rfl
theorem q1486 : (Jvm.Cond.laysFinal "NoFartherThanAThrowModel" "NoFartherThanAThrowModel" "had" "[I") ∈ lw_all := lw_g (lw_at lw_m6 208 rfl) rfl
theorem q1487 : (Jvm.Cond.soleField "NoFartherThanAThrowModel" "had") ∈ lw_all := lw_g (lw_at lw_m6 209 rfl) rfl
theorem q1488 : (Jvm.Cond.laysFinal "NoFartherThanAThrowModel" "NoFartherThanAThrowModel" "broken" "[I") ∈ lw_all := lw_g (lw_at lw_m6 210 rfl) rfl
theorem q1489 : (Jvm.Cond.soleField "NoFartherThanAThrowModel" "broken") ∈ lw_all := lw_g (lw_at lw_m6 211 rfl) rfl
theorem q1490 : (Jvm.Cond.laysFinal "NoFartherThanAThrowModel" "NoFartherThanAThrowModel" "strength" "[I") ∈ lw_all := lw_g (lw_at lw_m6 212 rfl) rfl
theorem q1491 : (Jvm.Cond.soleField "NoFartherThanAThrowModel" "strength") ∈ lw_all := lw_g (lw_at lw_m6 213 rfl) rfl
theorem q1492 : (Jvm.Cond.laysFinal "NoFartherThanAThrowModel" "NoFartherThanAThrowModel" "tired" "[I") ∈ lw_all := lw_g (lw_at lw_m6 214 rfl) rfl
theorem q1493 : (Jvm.Cond.soleField "NoFartherThanAThrowModel" "tired") ∈ lw_all := lw_g (lw_at lw_m6 215 rfl) rfl
theorem q1494 : (Jvm.Cond.laysFinal "NoFartherThanAThrowModel" "NoFartherThanAThrowModel" "wThing" "[I") ∈ lw_all := lw_g (lw_at lw_m6 216 rfl) rfl
theorem q1495 : (Jvm.Cond.soleField "NoFartherThanAThrowModel" "wThing") ∈ lw_all := lw_g (lw_at lw_m6 217 rfl) rfl
theorem q1496 : (Jvm.Cond.laysFinal "NoFartherThanAThrowModel" "NoFartherThanAThrowModel" "wStep" "[I") ∈ lw_all := lw_g (lw_at lw_m6 218 rfl) rfl
theorem q1497 : (Jvm.Cond.soleField "NoFartherThanAThrowModel" "wStep") ∈ lw_all := lw_g (lw_at lw_m6 219 rfl) rfl
theorem q1498 : (Jvm.Cond.laysFinal "NoFartherThanAThrowModel" "NoFartherThanAThrowModel" "wWorth" "[I") ∈ lw_all := lw_g (lw_at lw_m6 220 rfl) rfl
theorem q1499 : (Jvm.Cond.soleField "NoFartherThanAThrowModel" "wWorth") ∈ lw_all := lw_g (lw_at lw_m6 221 rfl) rfl
theorem q1500 : (Jvm.Cond.laysFinal "NoFartherThanAThrowModel" "NoFartherThanAThrowModel" "held" "[I") ∈ lw_all := lw_g (lw_at lw_m6 222 rfl) rfl
theorem q1501 : (Jvm.Cond.soleField "NoFartherThanAThrowModel" "held") ∈ lw_all := lw_g (lw_at lw_m6 223 rfl) rfl
theorem q1502 : (Jvm.Cond.laysFinal "NoFartherThanAThrowModel" "NoFartherThanAThrowModel" "sort" "[I") ∈ lw_all := lw_g (lw_at lw_m6 224 rfl) rfl
theorem q1503 : (Jvm.Cond.soleField "NoFartherThanAThrowModel" "sort") ∈ lw_all := lw_g (lw_at lw_m6 225 rfl) rfl
theorem q1504 : (Jvm.Cond.laysFinal "NoFartherThanAThrowModel" "NoFartherThanAThrowModel" "size" "[I") ∈ lw_all := lw_g (lw_at lw_m6 226 rfl) rfl
theorem q1505 : (Jvm.Cond.soleField "NoFartherThanAThrowModel" "size") ∈ lw_all := lw_g (lw_at lw_m6 227 rfl) rfl
theorem q1506 : (Jvm.Cond.laysFinal "NoFartherThanAThrowModel" "NoFartherThanAThrowModel" "shown" "[I") ∈ lw_all := lw_g (lw_at lw_m6 228 rfl) rfl
theorem q1507 : (Jvm.Cond.soleField "NoFartherThanAThrowModel" "shown") ∈ lw_all := lw_g (lw_at lw_m6 229 rfl) rfl
theorem q1508 : (Jvm.Cond.laysFinal "NoFartherThanAThrowModel" "NoFartherThanAThrowModel" "cells" "[J") ∈ lw_all := lw_g (lw_at lw_m6 230 rfl) rfl
theorem q1509 : (Jvm.Cond.soleField "NoFartherThanAThrowModel" "cells") ∈ lw_all := lw_g (lw_at lw_m6 231 rfl) rfl
theorem q1510 : (Jvm.Cond.laysFinal "NoFartherThanAThrowModel" "NoFartherThanAThrowModel" "carried" "[J") ∈ lw_all := lw_g (lw_at lw_m6 232 rfl) rfl
theorem q1511 : (Jvm.Cond.soleField "NoFartherThanAThrowModel" "carried") ∈ lw_all := lw_g (lw_at lw_m6 233 rfl) rfl
theorem q1512 : (Jvm.Cond.laysFinal "NoFartherThanAThrowModel" "NoFartherThanAThrowModel" "words" "[I") ∈ lw_all := lw_g (lw_at lw_m6 234 rfl) rfl
theorem q1513 : (Jvm.Cond.soleField "NoFartherThanAThrowModel" "words") ∈ lw_all := lw_g (lw_at lw_m6 235 rfl) rfl
theorem q1514 : (Jvm.Cond.laysFinal "NoFartherThanAThrowModel" "NoFartherThanAThrowModel" "tell" "[I") ∈ lw_all := lw_g (lw_at lw_m6 236 rfl) rfl
theorem q1515 : (Jvm.Cond.soleField "NoFartherThanAThrowModel" "tell") ∈ lw_all := lw_g (lw_at lw_m6 237 rfl) rfl
theorem q1516 : (Jvm.Cond.lays "NoFartherThanAThrowModel" "NoFartherThanAThrowModel" "base" "I") ∈ lw_all := lw_g (lw_at lw_m6 238 rfl) rfl
theorem q1517 : (Jvm.Cond.soleField "NoFartherThanAThrowModel" "base") ∈ lw_all := lw_g (lw_at lw_m6 239 rfl) rfl
theorem q1518 : (Jvm.Cond.lays "NoFartherThanAThrowModel" "NoFartherThanAThrowModel" "at" "I") ∈ lw_all := lw_g (lw_at lw_m7 0 rfl) rfl
theorem q1519 : (Jvm.Cond.soleField "NoFartherThanAThrowModel" "at") ∈ lw_all := lw_g (lw_at lw_m7 1 rfl) rfl
theorem q1520 : (Jvm.Cond.lays "NoFartherThanAThrowModel" "NoFartherThanAThrowModel" "end" "I") ∈ lw_all := lw_g (lw_at lw_m7 2 rfl) rfl
theorem q1521 : (Jvm.Cond.soleField "NoFartherThanAThrowModel" "end") ∈ lw_all := lw_g (lw_at lw_m7 3 rfl) rfl
theorem q1522 : (Jvm.Cond.lays "NoFartherThanAThrowModel" "NoFartherThanAThrowModel" "told" "I") ∈ lw_all := lw_g (lw_at lw_m7 4 rfl) rfl
theorem q1523 : (Jvm.Cond.soleField "NoFartherThanAThrowModel" "told") ∈ lw_all := lw_g (lw_at lw_m7 5 rfl) rfl
theorem q1524 : (Jvm.Cond.lays "NoFartherThanAThrowModel" "NoFartherThanAThrowModel" "wrongAt" "I") ∈ lw_all := lw_g (lw_at lw_m7 6 rfl) rfl
theorem q1525 : (Jvm.Cond.soleField "NoFartherThanAThrowModel" "wrongAt") ∈ lw_all := lw_g (lw_at lw_m7 7 rfl) rfl
theorem q1526 : (Jvm.Cond.laysFinal "NoFartherThanAThrowModel" "NoFartherThanAThrowModel" "was" "[I") ∈ lw_all := lw_g (lw_at lw_m7 8 rfl) rfl
theorem q1527 : (Jvm.Cond.soleField "NoFartherThanAThrowModel" "was") ∈ lw_all := lw_g (lw_at lw_m7 9 rfl) rfl
theorem q1528 : (Jvm.Cond.laysFinal "NoFartherThanAThrowModel" "NoFartherThanAThrowModel" "kept" "[I") ∈ lw_all := lw_g (lw_at lw_m7 10 rfl) rfl
theorem q1529 : (Jvm.Cond.soleField "NoFartherThanAThrowModel" "kept") ∈ lw_all := lw_g (lw_at lw_m7 11 rfl) rfl
theorem q1530 : (Jvm.Cond.laysFinal "NoFartherThanAThrowModel" "NoFartherThanAThrowModel" "aside" "[I") ∈ lw_all := lw_g (lw_at lw_m7 12 rfl) rfl
theorem q1531 : (Jvm.Cond.soleField "NoFartherThanAThrowModel" "aside") ∈ lw_all := lw_g (lw_at lw_m7 13 rfl) rfl
theorem q1532 : (Jvm.Cond.laysFinal "NoFartherThanAThrowModel" "NoFartherThanAThrowModel" "ends" "[I") ∈ lw_all := lw_g (lw_at lw_m7 14 rfl) rfl
theorem q1533 : (Jvm.Cond.soleField "NoFartherThanAThrowModel" "ends") ∈ lw_all := lw_g (lw_at lw_m7 15 rfl) rfl
theorem q1534 : (Jvm.Cond.laysFinal "NoFartherThanAThrowModel" "NoFartherThanAThrowModel" "fars" "[I") ∈ lw_all := lw_g (lw_at lw_m7 16 rfl) rfl
theorem q1535 : (Jvm.Cond.soleField "NoFartherThanAThrowModel" "fars") ∈ lw_all := lw_g (lw_at lw_m7 17 rfl) rfl
theorem q1536 : (Jvm.Cond.laysFinal "NoFartherThanAThrowModel" "NoFartherThanAThrowModel" "now" "[I") ∈ lw_all := lw_g (lw_at lw_m7 18 rfl) rfl
theorem q1537 : (Jvm.Cond.soleField "NoFartherThanAThrowModel" "now") ∈ lw_all := lw_g (lw_at lw_m7 19 rfl) rfl
theorem q1538 : (Jvm.Cond.laysFinal "NoFartherThanAThrowModel" "NoFartherThanAThrowModel" "then" "[I") ∈ lw_all := lw_g (lw_at lw_m7 20 rfl) rfl
theorem q1539 : (Jvm.Cond.soleField "NoFartherThanAThrowModel" "then") ∈ lw_all := lw_g (lw_at lw_m7 21 rfl) rfl
theorem q1540 : (Jvm.Cond.laysFinal "NoFartherThanAThrowModel" "NoFartherThanAThrowModel" "brings" "[I") ∈ lw_all := lw_g (lw_at lw_m7 22 rfl) rfl
theorem q1541 : (Jvm.Cond.soleField "NoFartherThanAThrowModel" "brings") ∈ lw_all := lw_g (lw_at lw_m7 23 rfl) rfl
theorem q1542 : (Jvm.Cond.laysFinal "NoFartherThanAThrowModel" "NoFartherThanAThrowModel" "sets" "[I") ∈ lw_all := lw_g (lw_at lw_m7 24 rfl) rfl
theorem q1543 : (Jvm.Cond.soleField "NoFartherThanAThrowModel" "sets") ∈ lw_all := lw_g (lw_at lw_m7 25 rfl) rfl
theorem q1544 : (Jvm.Cond.laysFinal "NoFartherThanAThrowModel" "NoFartherThanAThrowModel" "gives" "[I") ∈ lw_all := lw_g (lw_at lw_m7 26 rfl) rfl
theorem q1545 : (Jvm.Cond.soleField "NoFartherThanAThrowModel" "gives") ∈ lw_all := lw_g (lw_at lw_m7 27 rfl) rfl
theorem q1546 : (Jvm.Cond.laysFinal "NoFartherThanAThrowModel" "NoFartherThanAThrowModel" "best" "[I") ∈ lw_all := lw_g (lw_at lw_m7 28 rfl) rfl
theorem q1547 : (Jvm.Cond.soleField "NoFartherThanAThrowModel" "best") ∈ lw_all := lw_g (lw_at lw_m7 29 rfl) rfl
theorem q1548 : (Jvm.Cond.lays "NoFartherThanAThrowModel" "NoFartherThanAThrowModel" "bestWorth" "I") ∈ lw_all := lw_g (lw_at lw_m7 30 rfl) rfl
theorem q1549 : (Jvm.Cond.soleField "NoFartherThanAThrowModel" "bestWorth") ∈ lw_all := lw_g (lw_at lw_m7 31 rfl) rfl
theorem q1550 : (Jvm.Cond.laysFinal "NoFartherThanAThrowModel" "NoFartherThanAThrowModel" "trace" "[I") ∈ lw_all := lw_g (lw_at lw_m7 32 rfl) rfl
theorem q1551 : (Jvm.Cond.soleField "NoFartherThanAThrowModel" "trace") ∈ lw_all := lw_g (lw_at lw_m7 33 rfl) rfl
theorem q1552 : (Jvm.Cond.lays "NoFartherThanAThrowModel" "NoFartherThanAThrowModel" "ran" "I") ∈ lw_all := lw_g (lw_at lw_m7 34 rfl) rfl
theorem q1553 : (Jvm.Cond.soleField "NoFartherThanAThrowModel" "ran") ∈ lw_all := lw_g (lw_at lw_m7 35 rfl) rfl
theorem q1554 : (Jvm.Cond.lays "NoFartherThanAThrowModel" "NoFartherThanAThrowModel" "isKept" "Z") ∈ lw_all := lw_g (lw_at lw_m7 36 rfl) rfl
theorem q1555 : (Jvm.Cond.soleField "NoFartherThanAThrowModel" "isKept") ∈ lw_all := lw_g (lw_at lw_m7 37 rfl) rfl
theorem q1556 : (Jvm.Cond.superclass "NoFartherThanAThrowModel" "java/lang/Object") ∈ lw_all := lw_g (lw_at lw_m7 38 rfl) rfl
theorem q1558 : (Jvm.Cond.instanceMethod ({ cls := "NoFartherThanAThrowModel", name := "row", desc := "(III)I" } : Jvm.MethodName)) ∈ lw_all := lw_g (lw_at lw_m7 40 rfl) rfl
theorem q1559 : (Jvm.Cond.selects "NoFartherThanAThrowModel" ({ cls := "NoFartherThanAThrowModel", name := "row", desc := "(III)I" } : Jvm.MethodName) ({ cls := "NoFartherThanAThrowModel", name := "row", desc := "(III)I" } : Jvm.MethodName)) ∈ lw_all := lw_g (lw_at lw_m7 41 rfl) rfl
theorem q1560 : (Jvm.Cond.code ({ cls := "NoFartherThanAThrowModel", name := "row", desc := "(III)I" } : Jvm.MethodName) prog_22_method_10_code (5 : Nat) (Option.some Jvm.ClassFile.FieldType.int)) ∈ lw_all := lw_g (lw_at lw_m7 42 rfl) rfl
theorem q1561 : (Jvm.Cond.methodLink "NoFartherThanAThrowModel" (133 : Nat) ({ cls := "NoFartherThanAThrowModel", name := "isShelf", desc := "(I)Z" } : Jvm.MethodName)) ∈ lw_all := lw_g (lw_at lw_m7 43 rfl) rfl
theorem q1562 : (Jvm.Cond.privateMethod ({ cls := "NoFartherThanAThrowModel", name := "isShelf", desc := "(I)Z" } : Jvm.MethodName)) ∈ lw_tbl := lw_at lw_m7 44 rfl
theorem q1563 : (Jvm.Cond.instanceMethod ({ cls := "NoFartherThanAThrowModel", name := "isShelf", desc := "(I)Z" } : Jvm.MethodName)) ∈ lw_all := lw_g (lw_at lw_m7 45 rfl) rfl
theorem q1564 : (Jvm.Cond.code ({ cls := "NoFartherThanAThrowModel", name := "isShelf", desc := "(I)Z" } : Jvm.MethodName) prog_22_method_4_code (2 : Nat) (Option.some Jvm.ClassFile.FieldType.boolean)) ∈ lw_all := lw_g (lw_at lw_m7 46 rfl) rfl
theorem q1565 : (Jvm.Cond.methodLink "NoFartherThanAThrowModel" (136 : Nat) ({ cls := "NoFartherThanAThrowModel", name := "no", desc := "(I)I" } : Jvm.MethodName)) ∈ lw_all := lw_g (lw_at lw_m7 47 rfl) rfl
theorem q1566 : (Jvm.Cond.privateMethod ({ cls := "NoFartherThanAThrowModel", name := "no", desc := "(I)I" } : Jvm.MethodName)) ∈ lw_tbl := lw_at lw_m7 48 rfl
theorem q1567 : (Jvm.Cond.instanceMethod ({ cls := "NoFartherThanAThrowModel", name := "no", desc := "(I)I" } : Jvm.MethodName)) ∈ lw_all := lw_g (lw_at lw_m7 49 rfl) rfl
theorem q1568 : (Jvm.Cond.code ({ cls := "NoFartherThanAThrowModel", name := "no", desc := "(I)I" } : Jvm.MethodName) prog_22_method_2_code (2 : Nat) (Option.some Jvm.ClassFile.FieldType.int)) ∈ lw_all := lw_g (lw_at lw_m7 50 rfl) rfl
theorem q1570 : (Jvm.Cond.instanceMethod ({ cls := "NoFartherThanAThrowModel", name := "set", desc := "(IIJ)I" } : Jvm.MethodName)) ∈ lw_all := lw_g (lw_at lw_m7 52 rfl) rfl
theorem q1571 : (Jvm.Cond.selects "NoFartherThanAThrowModel" ({ cls := "NoFartherThanAThrowModel", name := "set", desc := "(IIJ)I" } : Jvm.MethodName) ({ cls := "NoFartherThanAThrowModel", name := "set", desc := "(IIJ)I" } : Jvm.MethodName)) ∈ lw_all := lw_g (lw_at lw_m7 53 rfl) rfl
theorem q1572 : (Jvm.Cond.code ({ cls := "NoFartherThanAThrowModel", name := "set", desc := "(IIJ)I" } : Jvm.MethodName) prog_22_method_11_code (5 : Nat) (Option.some Jvm.ClassFile.FieldType.int)) ∈ lw_all := lw_g (lw_at lw_m7 54 rfl) rfl
theorem q1574 : (Jvm.Cond.instanceMethod ({ cls := "NoFartherThanAThrowModel", name := "copy", desc := "(IIIII)I" } : Jvm.MethodName)) ∈ lw_all := lw_g (lw_at lw_m7 56 rfl) rfl
theorem q1575 : (Jvm.Cond.selects "NoFartherThanAThrowModel" ({ cls := "NoFartherThanAThrowModel", name := "copy", desc := "(IIIII)I" } : Jvm.MethodName) ({ cls := "NoFartherThanAThrowModel", name := "copy", desc := "(IIIII)I" } : Jvm.MethodName)) ∈ lw_all := lw_g (lw_at lw_m7 57 rfl) rfl
theorem q1576 : (Jvm.Cond.code ({ cls := "NoFartherThanAThrowModel", name := "copy", desc := "(IIIII)I" } : Jvm.MethodName) prog_22_method_12_code (7 : Nat) (Option.some Jvm.ClassFile.FieldType.int)) ∈ lw_all := lw_g (lw_at lw_m7 58 rfl) rfl
theorem q1578 : (Jvm.Cond.instanceMethod ({ cls := "NoFartherThanAThrowModel", name := "element", desc := "(II)J" } : Jvm.MethodName)) ∈ lw_all := lw_g (lw_at lw_m7 60 rfl) rfl
theorem q1579 : (Jvm.Cond.selects "NoFartherThanAThrowModel" ({ cls := "NoFartherThanAThrowModel", name := "element", desc := "(II)J" } : Jvm.MethodName) ({ cls := "NoFartherThanAThrowModel", name := "element", desc := "(II)J" } : Jvm.MethodName)) ∈ lw_all := lw_g (lw_at lw_m7 61 rfl) rfl
theorem q1580 : (Jvm.Cond.code ({ cls := "NoFartherThanAThrowModel", name := "element", desc := "(II)J" } : Jvm.MethodName) prog_22_method_13_code (3 : Nat) (Option.some Jvm.ClassFile.FieldType.long)) ∈ lw_all := lw_g (lw_at lw_m7 62 rfl) rfl
theorem q1582 : (Jvm.Cond.instanceMethod ({ cls := "NoFartherThanAThrowModel", name := "show", desc := "(II)I" } : Jvm.MethodName)) ∈ lw_all := lw_g (lw_at lw_m7 64 rfl) rfl
theorem q1583 : (Jvm.Cond.selects "NoFartherThanAThrowModel" ({ cls := "NoFartherThanAThrowModel", name := "show", desc := "(II)I" } : Jvm.MethodName) ({ cls := "NoFartherThanAThrowModel", name := "show", desc := "(II)I" } : Jvm.MethodName)) ∈ lw_all := lw_g (lw_at lw_m7 65 rfl) rfl
theorem q1584 : (Jvm.Cond.code ({ cls := "NoFartherThanAThrowModel", name := "show", desc := "(II)I" } : Jvm.MethodName) prog_22_method_14_code (3 : Nat) (Option.some Jvm.ClassFile.FieldType.int)) ∈ lw_all := lw_g (lw_at lw_m7 66 rfl) rfl
theorem q1585 : (Jvm.Cond.methodLink "NoFartherThanAThrowModel" (140 : Nat) ({ cls := "NoFartherThanAThrowModel", name := "isThing", desc := "(I)Z" } : Jvm.MethodName)) ∈ lw_all := lw_g (lw_at lw_m7 67 rfl) rfl
theorem q1586 : (Jvm.Cond.privateMethod ({ cls := "NoFartherThanAThrowModel", name := "isThing", desc := "(I)Z" } : Jvm.MethodName)) ∈ lw_tbl := lw_at lw_m7 68 rfl
theorem q1587 : (Jvm.Cond.instanceMethod ({ cls := "NoFartherThanAThrowModel", name := "isThing", desc := "(I)Z" } : Jvm.MethodName)) ∈ lw_all := lw_g (lw_at lw_m7 69 rfl) rfl
theorem q1588 : (Jvm.Cond.code ({ cls := "NoFartherThanAThrowModel", name := "isThing", desc := "(I)Z" } : Jvm.MethodName) prog_22_method_5_code (2 : Nat) (Option.some Jvm.ClassFile.FieldType.boolean)) ∈ lw_all := lw_g (lw_at lw_m7 70 rfl) rfl
theorem q1590 : (Jvm.Cond.instanceMethod ({ cls := "NoFartherThanAThrowModel", name := "holds", desc := "(I)I" } : Jvm.MethodName)) ∈ lw_all := lw_g (lw_at lw_m7 72 rfl) rfl
theorem q1591 : (Jvm.Cond.selects "NoFartherThanAThrowModel" ({ cls := "NoFartherThanAThrowModel", name := "holds", desc := "(I)I" } : Jvm.MethodName) ({ cls := "NoFartherThanAThrowModel", name := "holds", desc := "(I)I" } : Jvm.MethodName)) ∈ lw_all := lw_g (lw_at lw_m7 73 rfl) rfl
theorem q1592 : (Jvm.Cond.code ({ cls := "NoFartherThanAThrowModel", name := "holds", desc := "(I)I" } : Jvm.MethodName) prog_22_method_15_code (2 : Nat) (Option.some Jvm.ClassFile.FieldType.int)) ∈ lw_all := lw_g (lw_at lw_m7 74 rfl) rfl
theorem q1594 : (Jvm.Cond.instanceMethod ({ cls := "NoFartherThanAThrowModel", name := "says", desc := "(II)I" } : Jvm.MethodName)) ∈ lw_all := lw_g (lw_at lw_m7 76 rfl) rfl
theorem q1595 : (Jvm.Cond.selects "NoFartherThanAThrowModel" ({ cls := "NoFartherThanAThrowModel", name := "says", desc := "(II)I" } : Jvm.MethodName) ({ cls := "NoFartherThanAThrowModel", name := "says", desc := "(II)I" } : Jvm.MethodName)) ∈ lw_all := lw_g (lw_at lw_m7 77 rfl) rfl
theorem q1596 : (Jvm.Cond.code ({ cls := "NoFartherThanAThrowModel", name := "says", desc := "(II)I" } : Jvm.MethodName) prog_22_method_16_code (5 : Nat) (Option.some Jvm.ClassFile.FieldType.int)) ∈ lw_all := lw_g (lw_at lw_m7 78 rfl) rfl
theorem q1597 : (Jvm.Cond.methodLink "NoFartherThanAThrowModel" (143 : Nat) ({ cls := "NoFartherThanAThrowModel", name := "farBy", desc := "(II)I" } : Jvm.MethodName)) ∈ lw_all := lw_g (lw_at lw_m7 79 rfl) rfl
theorem q1598 : (Jvm.Cond.privateMethod ({ cls := "NoFartherThanAThrowModel", name := "farBy", desc := "(II)I" } : Jvm.MethodName)) ∈ lw_tbl := lw_at lw_m7 80 rfl
theorem q1599 : (Jvm.Cond.instanceMethod ({ cls := "NoFartherThanAThrowModel", name := "farBy", desc := "(II)I" } : Jvm.MethodName)) ∈ lw_all := lw_g (lw_at lw_m7 81 rfl) rfl
theorem q1600 : (Jvm.Cond.code ({ cls := "NoFartherThanAThrowModel", name := "farBy", desc := "(II)I" } : Jvm.MethodName) prog_22_method_46_code (6 : Nat) (Option.some Jvm.ClassFile.FieldType.int)) ∈ lw_all := lw_g (lw_at lw_m7 82 rfl) rfl
theorem q1601 : (Jvm.Cond.methodLink "NoFartherThanAThrowModel" (233 : Nat) ({ cls := "NoFartherThanAThrowModel", name := "low", desc := "(II)I" } : Jvm.MethodName)) ∈ lw_all := lw_g (lw_at lw_m7 83 rfl) rfl
theorem q1602 : (Jvm.Cond.privateMethod ({ cls := "NoFartherThanAThrowModel", name := "low", desc := "(II)I" } : Jvm.MethodName)) ∈ lw_tbl := lw_at lw_m7 84 rfl
theorem q1603 : (Jvm.Cond.instanceMethod ({ cls := "NoFartherThanAThrowModel", name := "low", desc := "(II)I" } : Jvm.MethodName)) ∈ lw_all := lw_g (lw_at lw_m7 85 rfl) rfl
theorem q1604 : (Jvm.Cond.code ({ cls := "NoFartherThanAThrowModel", name := "low", desc := "(II)I" } : Jvm.MethodName) prog_22_method_45_code (3 : Nat) (Option.some Jvm.ClassFile.FieldType.int)) ∈ lw_all := lw_g (lw_at lw_m7 86 rfl) rfl
theorem q1606 : (Jvm.Cond.instanceMethod ({ cls := "NoFartherThanAThrowModel", name := "thing", desc := "(IIII)I" } : Jvm.MethodName)) ∈ lw_all := lw_g (lw_at lw_m7 88 rfl) rfl
theorem q1607 : (Jvm.Cond.selects "NoFartherThanAThrowModel" ({ cls := "NoFartherThanAThrowModel", name := "thing", desc := "(IIII)I" } : Jvm.MethodName) ({ cls := "NoFartherThanAThrowModel", name := "thing", desc := "(IIII)I" } : Jvm.MethodName)) ∈ lw_all := lw_g (lw_at lw_m7 89 rfl) rfl
theorem q1608 : (Jvm.Cond.code ({ cls := "NoFartherThanAThrowModel", name := "thing", desc := "(IIII)I" } : Jvm.MethodName) prog_22_method_20_code (5 : Nat) (Option.some Jvm.ClassFile.FieldType.int)) ∈ lw_all := lw_g (lw_at lw_m7 90 rfl) rfl
theorem q1609 : (Jvm.Cond.methodLink "NoFartherThanAThrowModel" (147 : Nat) ({ cls := "NoFartherThanAThrowModel", name := "isStep", desc := "(I)Z" } : Jvm.MethodName)) ∈ lw_all := lw_g (lw_at lw_m7 91 rfl) rfl
theorem q1610 : (Jvm.Cond.privateMethod ({ cls := "NoFartherThanAThrowModel", name := "isStep", desc := "(I)Z" } : Jvm.MethodName)) ∈ lw_tbl := lw_at lw_m7 92 rfl
theorem q1611 : (Jvm.Cond.instanceMethod ({ cls := "NoFartherThanAThrowModel", name := "isStep", desc := "(I)Z" } : Jvm.MethodName)) ∈ lw_all := lw_g (lw_at lw_m7 93 rfl) rfl
theorem q1612 : (Jvm.Cond.code ({ cls := "NoFartherThanAThrowModel", name := "isStep", desc := "(I)Z" } : Jvm.MethodName) prog_22_method_9_code (2 : Nat) (Option.some Jvm.ClassFile.FieldType.boolean)) ∈ lw_all := lw_g (lw_at lw_m7 94 rfl) rfl
theorem q1613 : (Jvm.Cond.methodLink "NoFartherThanAThrowModel" (129 : Nat) ({ cls := "NoFartherThanAThrowModel", name := "isWet", desc := "(I)Z" } : Jvm.MethodName)) ∈ lw_all := lw_g (lw_at lw_m7 95 rfl) rfl
theorem q1614 : (Jvm.Cond.privateMethod ({ cls := "NoFartherThanAThrowModel", name := "isWet", desc := "(I)Z" } : Jvm.MethodName)) ∈ lw_tbl := lw_at lw_m7 96 rfl
theorem q1615 : (Jvm.Cond.instanceMethod ({ cls := "NoFartherThanAThrowModel", name := "isWet", desc := "(I)Z" } : Jvm.MethodName)) ∈ lw_all := lw_g (lw_at lw_m7 97 rfl) rfl
theorem q1616 : (Jvm.Cond.code ({ cls := "NoFartherThanAThrowModel", name := "isWet", desc := "(I)Z" } : Jvm.MethodName) prog_22_method_8_code (2 : Nat) (Option.some Jvm.ClassFile.FieldType.boolean)) ∈ lw_all := lw_g (lw_at lw_m7 98 rfl) rfl
theorem q1617 : (Jvm.Cond.methodLink "NoFartherThanAThrowModel" (150 : Nat) ({ cls := "NoFartherThanAThrowModel", name := "things", desc := "(IIII)I" } : Jvm.MethodName)) ∈ lw_all := lw_g (lw_at lw_m7 99 rfl) rfl
theorem q1618 : (Jvm.Cond.privateMethod ({ cls := "NoFartherThanAThrowModel", name := "things", desc := "(IIII)I" } : Jvm.MethodName)) ∈ lw_tbl := lw_at lw_m7 100 rfl
theorem q1619 : (Jvm.Cond.instanceMethod ({ cls := "NoFartherThanAThrowModel", name := "things", desc := "(IIII)I" } : Jvm.MethodName)) ∈ lw_all := lw_g (lw_at lw_m7 101 rfl) rfl
theorem q1620 : (Jvm.Cond.code ({ cls := "NoFartherThanAThrowModel", name := "things", desc := "(IIII)I" } : Jvm.MethodName) prog_22_method_19_code (5 : Nat) (Option.some Jvm.ClassFile.FieldType.int)) ∈ lw_all := lw_g (lw_at lw_m7 102 rfl) rfl
theorem q1622 : (Jvm.Cond.instanceMethod ({ cls := "NoFartherThanAThrowModel", name := "man", desc := "(I)I" } : Jvm.MethodName)) ∈ lw_all := lw_g (lw_at lw_m7 104 rfl) rfl
theorem q1623 : (Jvm.Cond.selects "NoFartherThanAThrowModel" ({ cls := "NoFartherThanAThrowModel", name := "man", desc := "(I)I" } : Jvm.MethodName) ({ cls := "NoFartherThanAThrowModel", name := "man", desc := "(I)I" } : Jvm.MethodName)) ∈ lw_all := lw_g (lw_at lw_m7 105 rfl) rfl
theorem q1624 : (Jvm.Cond.code ({ cls := "NoFartherThanAThrowModel", name := "man", desc := "(I)I" } : Jvm.MethodName) prog_22_method_22_code (2 : Nat) (Option.some Jvm.ClassFile.FieldType.int)) ∈ lw_all := lw_g (lw_at lw_m7 106 rfl) rfl
theorem q1625 : (Jvm.Cond.methodLink "NoFartherThanAThrowModel" (153 : Nat) ({ cls := "NoFartherThanAThrowModel", name := "men", desc := "(I)I" } : Jvm.MethodName)) ∈ lw_all := lw_g (lw_at lw_m7 107 rfl) rfl
theorem q1626 : (Jvm.Cond.privateMethod ({ cls := "NoFartherThanAThrowModel", name := "men", desc := "(I)I" } : Jvm.MethodName)) ∈ lw_tbl := lw_at lw_m7 108 rfl
theorem q1627 : (Jvm.Cond.instanceMethod ({ cls := "NoFartherThanAThrowModel", name := "men", desc := "(I)I" } : Jvm.MethodName)) ∈ lw_all := lw_g (lw_at lw_m7 109 rfl) rfl
theorem q1628 : (Jvm.Cond.code ({ cls := "NoFartherThanAThrowModel", name := "men", desc := "(I)I" } : Jvm.MethodName) prog_22_method_21_code (2 : Nat) (Option.some Jvm.ClassFile.FieldType.int)) ∈ lw_all := lw_g (lw_at lw_m7 110 rfl) rfl
theorem q1630 : (Jvm.Cond.instanceMethod ({ cls := "NoFartherThanAThrowModel", name := "men", desc := "(III)I" } : Jvm.MethodName)) ∈ lw_all := lw_g (lw_at lw_m7 112 rfl) rfl
theorem q1631 : (Jvm.Cond.selects "NoFartherThanAThrowModel" ({ cls := "NoFartherThanAThrowModel", name := "men", desc := "(III)I" } : Jvm.MethodName) ({ cls := "NoFartherThanAThrowModel", name := "men", desc := "(III)I" } : Jvm.MethodName)) ∈ lw_all := lw_g (lw_at lw_m7 113 rfl) rfl
theorem q1632 : (Jvm.Cond.code ({ cls := "NoFartherThanAThrowModel", name := "men", desc := "(III)I" } : Jvm.MethodName) prog_22_method_23_code (7 : Nat) (Option.some Jvm.ClassFile.FieldType.int)) ∈ lw_all := lw_g (lw_at lw_m7 114 rfl) rfl
theorem q1633 : (Jvm.Cond.methodLink "NoFartherThanAThrowModel" (156 : Nat) ({ cls := "NoFartherThanAThrowModel", name := "wants", desc := "(I)I" } : Jvm.MethodName)) ∈ lw_all := lw_g (lw_at lw_m7 115 rfl) rfl
theorem q1634 : (Jvm.Cond.privateMethod ({ cls := "NoFartherThanAThrowModel", name := "wants", desc := "(I)I" } : Jvm.MethodName)) ∈ lw_tbl := lw_at lw_m7 116 rfl
theorem q1635 : (Jvm.Cond.instanceMethod ({ cls := "NoFartherThanAThrowModel", name := "wants", desc := "(I)I" } : Jvm.MethodName)) ∈ lw_all := lw_g (lw_at lw_m7 117 rfl) rfl
theorem q1636 : (Jvm.Cond.code ({ cls := "NoFartherThanAThrowModel", name := "wants", desc := "(I)I" } : Jvm.MethodName) prog_22_method_17_code (2 : Nat) (Option.some Jvm.ClassFile.FieldType.int)) ∈ lw_all := lw_g (lw_at lw_m7 118 rfl) rfl
theorem q1637 : (Jvm.Cond.methodLink "NoFartherThanAThrowModel" (159 : Nat) ({ cls := "NoFartherThanAThrowModel", name := "intAt", desc := "(II)I" } : Jvm.MethodName)) ∈ lw_all := lw_g (lw_at lw_m7 119 rfl) rfl
theorem q1638 : (Jvm.Cond.privateMethod ({ cls := "NoFartherThanAThrowModel", name := "intAt", desc := "(II)I" } : Jvm.MethodName)) ∈ lw_tbl := lw_at lw_m7 120 rfl
theorem q1639 : (Jvm.Cond.instanceMethod ({ cls := "NoFartherThanAThrowModel", name := "intAt", desc := "(II)I" } : Jvm.MethodName)) ∈ lw_all := lw_g (lw_at lw_m7 121 rfl) rfl
theorem q1640 : (Jvm.Cond.code ({ cls := "NoFartherThanAThrowModel", name := "intAt", desc := "(II)I" } : Jvm.MethodName) prog_22_method_18_code (3 : Nat) (Option.some Jvm.ClassFile.FieldType.int)) ∈ lw_all := lw_g (lw_at lw_m7 122 rfl) rfl
theorem q1642 : (Jvm.Cond.instanceMethod ({ cls := "NoFartherThanAThrowModel", name := "want", desc := "(III)I" } : Jvm.MethodName)) ∈ lw_all := lw_g (lw_at lw_m7 124 rfl) rfl
theorem q1643 : (Jvm.Cond.selects "NoFartherThanAThrowModel" ({ cls := "NoFartherThanAThrowModel", name := "want", desc := "(III)I" } : Jvm.MethodName) ({ cls := "NoFartherThanAThrowModel", name := "want", desc := "(III)I" } : Jvm.MethodName)) ∈ lw_all := lw_g (lw_at lw_m7 125 rfl) rfl
theorem q1644 : (Jvm.Cond.code ({ cls := "NoFartherThanAThrowModel", name := "want", desc := "(III)I" } : Jvm.MethodName) prog_22_method_25_code (4 : Nat) (Option.some Jvm.ClassFile.FieldType.int)) ∈ lw_all := lw_g (lw_at lw_m7 126 rfl) rfl
theorem q1645 : (Jvm.Cond.methodLink "NoFartherThanAThrowModel" (164 : Nat) ({ cls := "NoFartherThanAThrowModel", name := "wanted", desc := "(III)I" } : Jvm.MethodName)) ∈ lw_all := lw_g (lw_at lw_m7 127 rfl) rfl
theorem q1646 : (Jvm.Cond.privateMethod ({ cls := "NoFartherThanAThrowModel", name := "wanted", desc := "(III)I" } : Jvm.MethodName)) ∈ lw_tbl := lw_at lw_m7 128 rfl
theorem q1647 : (Jvm.Cond.instanceMethod ({ cls := "NoFartherThanAThrowModel", name := "wanted", desc := "(III)I" } : Jvm.MethodName)) ∈ lw_all := lw_g (lw_at lw_m7 129 rfl) rfl
theorem q1648 : (Jvm.Cond.code ({ cls := "NoFartherThanAThrowModel", name := "wanted", desc := "(III)I" } : Jvm.MethodName) prog_22_method_24_code (4 : Nat) (Option.some Jvm.ClassFile.FieldType.int)) ∈ lw_all := lw_g (lw_at lw_m7 130 rfl) rfl
theorem q1650 : (Jvm.Cond.instanceMethod ({ cls := "NoFartherThanAThrowModel", name := "ask", desc := "(II)I" } : Jvm.MethodName)) ∈ lw_all := lw_g (lw_at lw_m7 132 rfl) rfl
theorem q1651 : (Jvm.Cond.selects "NoFartherThanAThrowModel" ({ cls := "NoFartherThanAThrowModel", name := "ask", desc := "(II)I" } : Jvm.MethodName) ({ cls := "NoFartherThanAThrowModel", name := "ask", desc := "(II)I" } : Jvm.MethodName)) ∈ lw_all := lw_g (lw_at lw_m7 133 rfl) rfl
theorem q1652 : (Jvm.Cond.code ({ cls := "NoFartherThanAThrowModel", name := "ask", desc := "(II)I" } : Jvm.MethodName) prog_22_method_28_code (4 : Nat) (Option.some Jvm.ClassFile.FieldType.int)) ∈ lw_all := lw_g (lw_at lw_m7 134 rfl) rfl
theorem q1653 : (Jvm.Cond.methodLink "NoFartherThanAThrowModel" (168 : Nat) ({ cls := "NoFartherThanAThrowModel", name := "isLong", desc := "(I)Z" } : Jvm.MethodName)) ∈ lw_all := lw_g (lw_at lw_m7 135 rfl) rfl
theorem q1654 : (Jvm.Cond.privateMethod ({ cls := "NoFartherThanAThrowModel", name := "isLong", desc := "(I)Z" } : Jvm.MethodName)) ∈ lw_tbl := lw_at lw_m7 136 rfl
theorem q1655 : (Jvm.Cond.instanceMethod ({ cls := "NoFartherThanAThrowModel", name := "isLong", desc := "(I)Z" } : Jvm.MethodName)) ∈ lw_all := lw_g (lw_at lw_m7 137 rfl) rfl
theorem q1656 : (Jvm.Cond.code ({ cls := "NoFartherThanAThrowModel", name := "isLong", desc := "(I)Z" } : Jvm.MethodName) prog_22_method_26_code (3 : Nat) (Option.some Jvm.ClassFile.FieldType.boolean)) ∈ lw_all := lw_g (lw_at lw_m7 138 rfl) rfl
theorem q1658 : (Jvm.Cond.instanceMethod ({ cls := "NoFartherThanAThrowModel", name := "river", desc := "(II)I" } : Jvm.MethodName)) ∈ lw_all := lw_g (lw_at lw_m7 140 rfl) rfl
theorem q1659 : (Jvm.Cond.selects "NoFartherThanAThrowModel" ({ cls := "NoFartherThanAThrowModel", name := "river", desc := "(II)I" } : Jvm.MethodName) ({ cls := "NoFartherThanAThrowModel", name := "river", desc := "(II)I" } : Jvm.MethodName)) ∈ lw_all := lw_g (lw_at lw_m7 141 rfl) rfl
theorem q1660 : (Jvm.Cond.code ({ cls := "NoFartherThanAThrowModel", name := "river", desc := "(II)I" } : Jvm.MethodName) prog_22_method_29_code (3 : Nat) (Option.some Jvm.ClassFile.FieldType.int)) ∈ lw_all := lw_g (lw_at lw_m7 142 rfl) rfl
theorem q1661 : (Jvm.Cond.methodLink "NoFartherThanAThrowModel" (174 : Nat) ({ cls := "NoFartherThanAThrowModel", name := "isRiver", desc := "(II)Z" } : Jvm.MethodName)) ∈ lw_all := lw_g (lw_at lw_m7 143 rfl) rfl
theorem q1662 : (Jvm.Cond.privateMethod ({ cls := "NoFartherThanAThrowModel", name := "isRiver", desc := "(II)Z" } : Jvm.MethodName)) ∈ lw_tbl := lw_at lw_m7 144 rfl
theorem q1663 : (Jvm.Cond.instanceMethod ({ cls := "NoFartherThanAThrowModel", name := "isRiver", desc := "(II)Z" } : Jvm.MethodName)) ∈ lw_all := lw_g (lw_at lw_m7 145 rfl) rfl
theorem q1664 : (Jvm.Cond.code ({ cls := "NoFartherThanAThrowModel", name := "isRiver", desc := "(II)Z" } : Jvm.MethodName) prog_22_method_27_code (4 : Nat) (Option.some Jvm.ClassFile.FieldType.boolean)) ∈ lw_all := lw_g (lw_at lw_m7 146 rfl) rfl
theorem q1666 : (Jvm.Cond.instanceMethod ({ cls := "NoFartherThanAThrowModel", name := "thingOf", desc := "(II)I" } : Jvm.MethodName)) ∈ lw_all := lw_g (lw_at lw_m7 148 rfl) rfl
theorem q1667 : (Jvm.Cond.selects "NoFartherThanAThrowModel" ({ cls := "NoFartherThanAThrowModel", name := "thingOf", desc := "(II)I" } : Jvm.MethodName) ({ cls := "NoFartherThanAThrowModel", name := "thingOf", desc := "(II)I" } : Jvm.MethodName)) ∈ lw_all := lw_g (lw_at lw_m7 149 rfl) rfl
theorem q1668 : (Jvm.Cond.code ({ cls := "NoFartherThanAThrowModel", name := "thingOf", desc := "(II)I" } : Jvm.MethodName) prog_22_method_30_code (3 : Nat) (Option.some Jvm.ClassFile.FieldType.int)) ∈ lw_all := lw_g (lw_at lw_m7 150 rfl) rfl
theorem q1670 : (Jvm.Cond.instanceMethod ({ cls := "NoFartherThanAThrowModel", name := "manOf", desc := "(II)I" } : Jvm.MethodName)) ∈ lw_all := lw_g (lw_at lw_m7 152 rfl) rfl
theorem q1671 : (Jvm.Cond.selects "NoFartherThanAThrowModel" ({ cls := "NoFartherThanAThrowModel", name := "manOf", desc := "(II)I" } : Jvm.MethodName) ({ cls := "NoFartherThanAThrowModel", name := "manOf", desc := "(II)I" } : Jvm.MethodName)) ∈ lw_all := lw_g (lw_at lw_m7 153 rfl) rfl
theorem q1672 : (Jvm.Cond.code ({ cls := "NoFartherThanAThrowModel", name := "manOf", desc := "(II)I" } : Jvm.MethodName) prog_22_method_31_code (3 : Nat) (Option.some Jvm.ClassFile.FieldType.int)) ∈ lw_all := lw_g (lw_at lw_m7 154 rfl) rfl
theorem q1673 : (Jvm.Cond.methodLink "NoFartherThanAThrowModel" (178 : Nat) ({ cls := "NoFartherThanAThrowModel", name := "isMan", desc := "(I)Z" } : Jvm.MethodName)) ∈ lw_all := lw_g (lw_at lw_m7 155 rfl) rfl
theorem q1674 : (Jvm.Cond.privateMethod ({ cls := "NoFartherThanAThrowModel", name := "isMan", desc := "(I)Z" } : Jvm.MethodName)) ∈ lw_tbl := lw_at lw_m7 156 rfl
theorem q1675 : (Jvm.Cond.instanceMethod ({ cls := "NoFartherThanAThrowModel", name := "isMan", desc := "(I)Z" } : Jvm.MethodName)) ∈ lw_all := lw_g (lw_at lw_m7 157 rfl) rfl
theorem q1676 : (Jvm.Cond.code ({ cls := "NoFartherThanAThrowModel", name := "isMan", desc := "(I)Z" } : Jvm.MethodName) prog_22_method_6_code (2 : Nat) (Option.some Jvm.ClassFile.FieldType.boolean)) ∈ lw_all := lw_g (lw_at lw_m7 158 rfl) rfl
theorem q1678 : (Jvm.Cond.instanceMethod ({ cls := "NoFartherThanAThrowModel", name := "wantOf", desc := "(II)I" } : Jvm.MethodName)) ∈ lw_all := lw_g (lw_at lw_m7 160 rfl) rfl
theorem q1679 : (Jvm.Cond.selects "NoFartherThanAThrowModel" ({ cls := "NoFartherThanAThrowModel", name := "wantOf", desc := "(II)I" } : Jvm.MethodName) ({ cls := "NoFartherThanAThrowModel", name := "wantOf", desc := "(II)I" } : Jvm.MethodName)) ∈ lw_all := lw_g (lw_at lw_m7 161 rfl) rfl
theorem q1680 : (Jvm.Cond.code ({ cls := "NoFartherThanAThrowModel", name := "wantOf", desc := "(II)I" } : Jvm.MethodName) prog_22_method_32_code (3 : Nat) (Option.some Jvm.ClassFile.FieldType.int)) ∈ lw_all := lw_g (lw_at lw_m7 162 rfl) rfl
theorem q1682 : (Jvm.Cond.instanceMethod ({ cls := "NoFartherThanAThrowModel", name := "valley", desc := "(I)I" } : Jvm.MethodName)) ∈ lw_all := lw_g (lw_at lw_m7 164 rfl) rfl
theorem q1683 : (Jvm.Cond.selects "NoFartherThanAThrowModel" ({ cls := "NoFartherThanAThrowModel", name := "valley", desc := "(I)I" } : Jvm.MethodName) ({ cls := "NoFartherThanAThrowModel", name := "valley", desc := "(I)I" } : Jvm.MethodName)) ∈ lw_all := lw_g (lw_at lw_m7 165 rfl) rfl
theorem q1684 : (Jvm.Cond.code ({ cls := "NoFartherThanAThrowModel", name := "valley", desc := "(I)I" } : Jvm.MethodName) prog_22_method_43_code (5 : Nat) (Option.some Jvm.ClassFile.FieldType.int)) ∈ lw_all := lw_g (lw_at lw_m7 166 rfl) rfl
theorem q1685 : (Jvm.Cond.methodLink "NoFartherThanAThrowModel" (226 : Nat) ({ cls := "NoFartherThanAThrowModel", name := "all", desc := "([IZ)V" } : Jvm.MethodName)) ∈ lw_all := lw_g (lw_at lw_m7 167 rfl) rfl
theorem q1686 : (Jvm.Cond.privateMethod ({ cls := "NoFartherThanAThrowModel", name := "all", desc := "([IZ)V" } : Jvm.MethodName)) ∈ lw_tbl := lw_at lw_m7 168 rfl
theorem q1687 : (Jvm.Cond.instanceMethod ({ cls := "NoFartherThanAThrowModel", name := "all", desc := "([IZ)V" } : Jvm.MethodName)) ∈ lw_all := lw_g (lw_at lw_m7 169 rfl) rfl
theorem q1688 : (Jvm.Cond.code ({ cls := "NoFartherThanAThrowModel", name := "all", desc := "([IZ)V" } : Jvm.MethodName) prog_22_method_42_code (4 : Nat) (Option.none : Option Jvm.ClassFile.FieldType)) ∈ lw_all := lw_g (lw_at lw_m7 170 rfl) rfl
theorem q1689 : (Jvm.Cond.methodLink "NoFartherThanAThrowModel" (219 : Nat) ({ cls := "NoFartherThanAThrowModel", name := "keeps", desc := "([II[IIZ)I" } : Jvm.MethodName)) ∈ lw_all := lw_g (lw_at lw_m7 171 rfl) rfl
theorem q1690 : (Jvm.Cond.privateMethod ({ cls := "NoFartherThanAThrowModel", name := "keeps", desc := "([II[IIZ)I" } : Jvm.MethodName)) ∈ lw_tbl := lw_at lw_m7 172 rfl
theorem q1691 : (Jvm.Cond.instanceMethod ({ cls := "NoFartherThanAThrowModel", name := "keeps", desc := "([II[IIZ)I" } : Jvm.MethodName)) ∈ lw_all := lw_g (lw_at lw_m7 173 rfl) rfl
theorem q1692 : (Jvm.Cond.code ({ cls := "NoFartherThanAThrowModel", name := "keeps", desc := "([II[IIZ)I" } : Jvm.MethodName) prog_22_method_41_code (7 : Nat) (Option.some Jvm.ClassFile.FieldType.int)) ∈ lw_all := lw_g (lw_at lw_m7 174 rfl) rfl
theorem q1693 : (Jvm.Cond.methodLink "NoFartherThanAThrowModel" (230 : Nat) ({ cls := "NoFartherThanAThrowModel", name := "item", desc := "()Z" } : Jvm.MethodName)) ∈ lw_all := lw_g (lw_at lw_m7 175 rfl) rfl
theorem q1694 : (Jvm.Cond.privateMethod ({ cls := "NoFartherThanAThrowModel", name := "item", desc := "()Z" } : Jvm.MethodName)) ∈ lw_tbl := lw_at lw_m7 176 rfl
theorem q1695 : (Jvm.Cond.instanceMethod ({ cls := "NoFartherThanAThrowModel", name := "item", desc := "()Z" } : Jvm.MethodName)) ∈ lw_all := lw_g (lw_at lw_m7 177 rfl) rfl
theorem q1696 : (Jvm.Cond.code ({ cls := "NoFartherThanAThrowModel", name := "item", desc := "()Z" } : Jvm.MethodName) prog_22_method_40_code (6 : Nat) (Option.some Jvm.ClassFile.FieldType.boolean)) ∈ lw_all := lw_g (lw_at lw_m7 178 rfl) rfl
theorem q1697 : (Jvm.Cond.methodLink "NoFartherThanAThrowModel" (203 : Nat) ({ cls := "NoFartherThanAThrowModel", name := "isWordAt", desc := "(I)Z" } : Jvm.MethodName)) ∈ lw_all := lw_g (lw_at lw_m7 179 rfl) rfl
theorem q1698 : (Jvm.Cond.privateMethod ({ cls := "NoFartherThanAThrowModel", name := "isWordAt", desc := "(I)Z" } : Jvm.MethodName)) ∈ lw_tbl := lw_at lw_m7 180 rfl
theorem q1699 : (Jvm.Cond.instanceMethod ({ cls := "NoFartherThanAThrowModel", name := "isWordAt", desc := "(I)Z" } : Jvm.MethodName)) ∈ lw_all := lw_g (lw_at lw_m7 181 rfl) rfl
theorem q1700 : (Jvm.Cond.code ({ cls := "NoFartherThanAThrowModel", name := "isWordAt", desc := "(I)Z" } : Jvm.MethodName) prog_22_method_39_code (4 : Nat) (Option.some Jvm.ClassFile.FieldType.boolean)) ∈ lw_all := lw_g (lw_at lw_m7 182 rfl) rfl
theorem q1701 : (Jvm.Cond.methodLink "NoFartherThanAThrowModel" (206 : Nat) ({ cls := "NoFartherThanAThrowModel", name := "isFull", desc := "(I)Z" } : Jvm.MethodName)) ∈ lw_all := lw_g (lw_at lw_m7 183 rfl) rfl
theorem q1702 : (Jvm.Cond.privateMethod ({ cls := "NoFartherThanAThrowModel", name := "isFull", desc := "(I)Z" } : Jvm.MethodName)) ∈ lw_tbl := lw_at lw_m7 184 rfl
theorem q1703 : (Jvm.Cond.instanceMethod ({ cls := "NoFartherThanAThrowModel", name := "isFull", desc := "(I)Z" } : Jvm.MethodName)) ∈ lw_all := lw_g (lw_at lw_m7 185 rfl) rfl
theorem q1704 : (Jvm.Cond.code ({ cls := "NoFartherThanAThrowModel", name := "isFull", desc := "(I)Z" } : Jvm.MethodName) prog_22_method_38_code (2 : Nat) (Option.some Jvm.ClassFile.FieldType.boolean)) ∈ lw_all := lw_g (lw_at lw_m7 186 rfl) rfl
theorem q1705 : (Jvm.Cond.methodLink "NoFartherThanAThrowModel" (197 : Nat) ({ cls := "NoFartherThanAThrowModel", name := "wrong", desc := "(I)Z" } : Jvm.MethodName)) ∈ lw_all := lw_g (lw_at lw_m7 187 rfl) rfl
theorem q1706 : (Jvm.Cond.privateMethod ({ cls := "NoFartherThanAThrowModel", name := "wrong", desc := "(I)Z" } : Jvm.MethodName)) ∈ lw_tbl := lw_at lw_m7 188 rfl
theorem q1707 : (Jvm.Cond.instanceMethod ({ cls := "NoFartherThanAThrowModel", name := "wrong", desc := "(I)Z" } : Jvm.MethodName)) ∈ lw_all := lw_g (lw_at lw_m7 189 rfl) rfl
theorem q1708 : (Jvm.Cond.code ({ cls := "NoFartherThanAThrowModel", name := "wrong", desc := "(I)Z" } : Jvm.MethodName) prog_22_method_33_code (2 : Nat) (Option.some Jvm.ClassFile.FieldType.boolean)) ∈ lw_all := lw_g (lw_at lw_m7 190 rfl) rfl
theorem q1709 : (Jvm.Cond.methodLink "NoFartherThanAThrowModel" (209 : Nat) ({ cls := "NoFartherThanAThrowModel", name := "word", desc := "()I" } : Jvm.MethodName)) ∈ lw_all := lw_g (lw_at lw_m7 191 rfl) rfl
theorem q1710 : (Jvm.Cond.privateMethod ({ cls := "NoFartherThanAThrowModel", name := "word", desc := "()I" } : Jvm.MethodName)) ∈ lw_tbl := lw_at lw_m7 192 rfl
theorem q1711 : (Jvm.Cond.instanceMethod ({ cls := "NoFartherThanAThrowModel", name := "word", desc := "()I" } : Jvm.MethodName)) ∈ lw_all := lw_g (lw_at lw_m7 193 rfl) rfl
theorem q1712 : (Jvm.Cond.code ({ cls := "NoFartherThanAThrowModel", name := "word", desc := "()I" } : Jvm.MethodName) prog_22_method_34_code (6 : Nat) (Option.some Jvm.ClassFile.FieldType.int)) ∈ lw_all := lw_g (lw_at lw_m7 194 rfl) rfl
theorem q1713 : (Jvm.Cond.methodLink "NoFartherThanAThrowModel" (213 : Nat) ({ cls := "NoFartherThanAThrowModel", name := "number", desc := "(II)Z" } : Jvm.MethodName)) ∈ lw_all := lw_g (lw_at lw_m7 195 rfl) rfl
theorem q1714 : (Jvm.Cond.privateMethod ({ cls := "NoFartherThanAThrowModel", name := "number", desc := "(II)Z" } : Jvm.MethodName)) ∈ lw_tbl := lw_at lw_m7 196 rfl
theorem q1715 : (Jvm.Cond.instanceMethod ({ cls := "NoFartherThanAThrowModel", name := "number", desc := "(II)Z" } : Jvm.MethodName)) ∈ lw_all := lw_g (lw_at lw_m7 197 rfl) rfl
theorem q1716 : (Jvm.Cond.code ({ cls := "NoFartherThanAThrowModel", name := "number", desc := "(II)Z" } : Jvm.MethodName) prog_22_method_36_code (4 : Nat) (Option.some Jvm.ClassFile.FieldType.boolean)) ∈ lw_all := lw_g (lw_at lw_m7 198 rfl) rfl
theorem q1717 : (Jvm.Cond.methodLink "NoFartherThanAThrowModel" (193 : Nat) ({ cls := "NoFartherThanAThrowModel", name := "isDigit", desc := "()Z" } : Jvm.MethodName)) ∈ lw_all := lw_g (lw_at lw_m7 199 rfl) rfl
theorem q1718 : (Jvm.Cond.privateMethod ({ cls := "NoFartherThanAThrowModel", name := "isDigit", desc := "()Z" } : Jvm.MethodName)) ∈ lw_tbl := lw_at lw_m7 200 rfl
theorem q1719 : (Jvm.Cond.instanceMethod ({ cls := "NoFartherThanAThrowModel", name := "isDigit", desc := "()Z" } : Jvm.MethodName)) ∈ lw_all := lw_g (lw_at lw_m7 201 rfl) rfl
theorem q1720 : (Jvm.Cond.code ({ cls := "NoFartherThanAThrowModel", name := "isDigit", desc := "()Z" } : Jvm.MethodName) prog_22_method_35_code (1 : Nat) (Option.some Jvm.ClassFile.FieldType.boolean)) ∈ lw_all := lw_g (lw_at lw_m7 202 rfl) rfl
theorem q1721 : (Jvm.Cond.methodLink "NoFartherThanAThrowModel" (216 : Nat) ({ cls := "NoFartherThanAThrowModel", name := "isFit", desc := "(II)Z" } : Jvm.MethodName)) ∈ lw_all := lw_g (lw_at lw_m7 203 rfl) rfl
theorem q1722 : (Jvm.Cond.privateMethod ({ cls := "NoFartherThanAThrowModel", name := "isFit", desc := "(II)Z" } : Jvm.MethodName)) ∈ lw_tbl := lw_at lw_m7 204 rfl
theorem q1723 : (Jvm.Cond.instanceMethod ({ cls := "NoFartherThanAThrowModel", name := "isFit", desc := "(II)Z" } : Jvm.MethodName)) ∈ lw_all := lw_g (lw_at lw_m7 205 rfl) rfl
theorem q1724 : (Jvm.Cond.code ({ cls := "NoFartherThanAThrowModel", name := "isFit", desc := "(II)Z" } : Jvm.MethodName) prog_22_method_37_code (3 : Nat) (Option.some Jvm.ClassFile.FieldType.boolean)) ∈ lw_all := lw_g (lw_at lw_m7 206 rfl) rfl
theorem q1726 : (Jvm.Cond.instanceMethod ({ cls := "NoFartherThanAThrowModel", name := "fault", desc := "()I" } : Jvm.MethodName)) ∈ lw_all := lw_g (lw_at lw_m7 208 rfl) rfl
theorem q1727 : (Jvm.Cond.selects "NoFartherThanAThrowModel" ({ cls := "NoFartherThanAThrowModel", name := "fault", desc := "()I" } : Jvm.MethodName) ({ cls := "NoFartherThanAThrowModel", name := "fault", desc := "()I" } : Jvm.MethodName)) ∈ lw_all := lw_g (lw_at lw_m7 209 rfl) rfl
theorem q1728 : (Jvm.Cond.code ({ cls := "NoFartherThanAThrowModel", name := "fault", desc := "()I" } : Jvm.MethodName) prog_22_method_44_code (1 : Nat) (Option.some Jvm.ClassFile.FieldType.int)) ∈ lw_all := lw_g (lw_at lw_m7 210 rfl) rfl
theorem q1730 : (Jvm.Cond.instanceMethod ({ cls := "NoFartherThanAThrowModel", name := "far", desc := "(II)I" } : Jvm.MethodName)) ∈ lw_all := lw_g (lw_at lw_m7 212 rfl) rfl
theorem q1731 : (Jvm.Cond.selects "NoFartherThanAThrowModel" ({ cls := "NoFartherThanAThrowModel", name := "far", desc := "(II)I" } : Jvm.MethodName) ({ cls := "NoFartherThanAThrowModel", name := "far", desc := "(II)I" } : Jvm.MethodName)) ∈ lw_all := lw_g (lw_at lw_m7 213 rfl) rfl
theorem q1732 : (Jvm.Cond.code ({ cls := "NoFartherThanAThrowModel", name := "far", desc := "(II)I" } : Jvm.MethodName) prog_22_method_48_code (3 : Nat) (Option.some Jvm.ClassFile.FieldType.int)) ∈ lw_all := lw_g (lw_at lw_m7 214 rfl) rfl
theorem q1733 : (Jvm.Cond.methodLink "NoFartherThanAThrowModel" (236 : Nat) ({ cls := "NoFartherThanAThrowModel", name := "farOf", desc := "(II)I" } : Jvm.MethodName)) ∈ lw_all := lw_g (lw_at lw_m7 215 rfl) rfl
theorem q1734 : (Jvm.Cond.privateMethod ({ cls := "NoFartherThanAThrowModel", name := "farOf", desc := "(II)I" } : Jvm.MethodName)) ∈ lw_tbl := lw_at lw_m7 216 rfl
theorem q1735 : (Jvm.Cond.instanceMethod ({ cls := "NoFartherThanAThrowModel", name := "farOf", desc := "(II)I" } : Jvm.MethodName)) ∈ lw_all := lw_g (lw_at lw_m7 217 rfl) rfl
theorem q1736 : (Jvm.Cond.code ({ cls := "NoFartherThanAThrowModel", name := "farOf", desc := "(II)I" } : Jvm.MethodName) prog_22_method_47_code (3 : Nat) (Option.some Jvm.ClassFile.FieldType.int)) ∈ lw_all := lw_g (lw_at lw_m7 218 rfl) rfl
theorem q1738 : (Jvm.Cond.instanceMethod ({ cls := "NoFartherThanAThrowModel", name := "wrong", desc := "(III)I" } : Jvm.MethodName)) ∈ lw_all := lw_g (lw_at lw_m7 220 rfl) rfl
theorem q1739 : (Jvm.Cond.selects "NoFartherThanAThrowModel" ({ cls := "NoFartherThanAThrowModel", name := "wrong", desc := "(III)I" } : Jvm.MethodName) ({ cls := "NoFartherThanAThrowModel", name := "wrong", desc := "(III)I" } : Jvm.MethodName)) ∈ lw_all := lw_g (lw_at lw_m7 221 rfl) rfl
theorem q1740 : (Jvm.Cond.code ({ cls := "NoFartherThanAThrowModel", name := "wrong", desc := "(III)I" } : Jvm.MethodName) prog_22_method_50_code (4 : Nat) (Option.some Jvm.ClassFile.FieldType.int)) ∈ lw_all := lw_g (lw_at lw_m7 222 rfl) rfl
theorem q1741 : (Jvm.Cond.methodLink "NoFartherThanAThrowModel" (239 : Nat) ({ cls := "NoFartherThanAThrowModel", name := "near", desc := "(I)I" } : Jvm.MethodName)) ∈ lw_all := lw_g (lw_at lw_m7 223 rfl) rfl
theorem q1742 : (Jvm.Cond.privateMethod ({ cls := "NoFartherThanAThrowModel", name := "near", desc := "(I)I" } : Jvm.MethodName)) ∈ lw_tbl := lw_at lw_m7 224 rfl
theorem q1743 : (Jvm.Cond.instanceMethod ({ cls := "NoFartherThanAThrowModel", name := "near", desc := "(I)I" } : Jvm.MethodName)) ∈ lw_all := lw_g (lw_at lw_m7 225 rfl) rfl
theorem q1744 : (Jvm.Cond.code ({ cls := "NoFartherThanAThrowModel", name := "near", desc := "(I)I" } : Jvm.MethodName) prog_22_method_51_code (2 : Nat) (Option.some Jvm.ClassFile.FieldType.int)) ∈ lw_all := lw_g (lw_at lw_m7 226 rfl) rfl
theorem q1745 : (Jvm.Cond.methodLink "NoFartherThanAThrowModel" (242 : Nat) ({ cls := "NoFartherThanAThrowModel", name := "wrongBy", desc := "(III)I" } : Jvm.MethodName)) ∈ lw_all := lw_g (lw_at lw_m7 227 rfl) rfl
theorem q1746 : (Jvm.Cond.privateMethod ({ cls := "NoFartherThanAThrowModel", name := "wrongBy", desc := "(III)I" } : Jvm.MethodName)) ∈ lw_tbl := lw_at lw_m7 228 rfl
theorem q1747 : (Jvm.Cond.instanceMethod ({ cls := "NoFartherThanAThrowModel", name := "wrongBy", desc := "(III)I" } : Jvm.MethodName)) ∈ lw_all := lw_g (lw_at lw_m7 229 rfl) rfl
theorem q1748 : (Jvm.Cond.code ({ cls := "NoFartherThanAThrowModel", name := "wrongBy", desc := "(III)I" } : Jvm.MethodName) prog_22_method_49_code (5 : Nat) (Option.some Jvm.ClassFile.FieldType.int)) ∈ lw_all := lw_g (lw_at lw_m7 230 rfl) rfl
theorem q1750 : (Jvm.Cond.instanceMethod ({ cls := "NoFartherThanAThrowModel", name := "carry", desc := "(III)I" } : Jvm.MethodName)) ∈ lw_all := lw_g (lw_at lw_m7 232 rfl) rfl
theorem q1751 : (Jvm.Cond.selects "NoFartherThanAThrowModel" ({ cls := "NoFartherThanAThrowModel", name := "carry", desc := "(III)I" } : Jvm.MethodName) ({ cls := "NoFartherThanAThrowModel", name := "carry", desc := "(III)I" } : Jvm.MethodName)) ∈ lw_all := lw_g (lw_at lw_m7 233 rfl) rfl
theorem q1752 : (Jvm.Cond.code ({ cls := "NoFartherThanAThrowModel", name := "carry", desc := "(III)I" } : Jvm.MethodName) prog_22_method_54_code (4 : Nat) (Option.some Jvm.ClassFile.FieldType.int)) ∈ lw_all := lw_g (lw_at lw_m7 234 rfl) rfl
theorem q1753 : (Jvm.Cond.methodLink "NoFartherThanAThrowModel" (249 : Nat) ({ cls := "NoFartherThanAThrowModel", name := "carries", desc := "(III)V" } : Jvm.MethodName)) ∈ lw_all := lw_g (lw_at lw_m7 235 rfl) rfl
theorem q1754 : (Jvm.Cond.privateMethod ({ cls := "NoFartherThanAThrowModel", name := "carries", desc := "(III)V" } : Jvm.MethodName)) ∈ lw_tbl := lw_at lw_m7 236 rfl
theorem q1755 : (Jvm.Cond.instanceMethod ({ cls := "NoFartherThanAThrowModel", name := "carries", desc := "(III)V" } : Jvm.MethodName)) ∈ lw_all := lw_g (lw_at lw_m7 237 rfl) rfl
theorem q1756 : (Jvm.Cond.code ({ cls := "NoFartherThanAThrowModel", name := "carries", desc := "(III)V" } : Jvm.MethodName) prog_22_method_53_code (4 : Nat) (Option.none : Option Jvm.ClassFile.FieldType)) ∈ lw_all := lw_g (lw_at lw_m7 238 rfl) rfl
theorem q1757 : (Jvm.Cond.methodLink "NoFartherThanAThrowModel" (245 : Nat) ({ cls := "NoFartherThanAThrowModel", name := "tires", desc := "(II)V" } : Jvm.MethodName)) ∈ lw_all := lw_g (lw_at lw_m7 239 rfl) rfl
theorem q1758 : (Jvm.Cond.privateMethod ({ cls := "NoFartherThanAThrowModel", name := "tires", desc := "(II)V" } : Jvm.MethodName)) ∈ lw_tbl := lw_at lw_m8 0 rfl
theorem q1759 : (Jvm.Cond.instanceMethod ({ cls := "NoFartherThanAThrowModel", name := "tires", desc := "(II)V" } : Jvm.MethodName)) ∈ lw_all := lw_g (lw_at lw_m8 1 rfl) rfl
theorem q1760 : (Jvm.Cond.code ({ cls := "NoFartherThanAThrowModel", name := "tires", desc := "(II)V" } : Jvm.MethodName) prog_22_method_52_code (3 : Nat) (Option.none : Option Jvm.ClassFile.FieldType)) ∈ lw_all := lw_g (lw_at lw_m8 2 rfl) rfl
theorem q1762 : (Jvm.Cond.instanceMethod ({ cls := "NoFartherThanAThrowModel", name := "judge", desc := "(III)I" } : Jvm.MethodName)) ∈ lw_all := lw_g (lw_at lw_m8 4 rfl) rfl
theorem q1763 : (Jvm.Cond.selects "NoFartherThanAThrowModel" ({ cls := "NoFartherThanAThrowModel", name := "judge", desc := "(III)I" } : Jvm.MethodName) ({ cls := "NoFartherThanAThrowModel", name := "judge", desc := "(III)I" } : Jvm.MethodName)) ∈ lw_all := lw_g (lw_at lw_m8 5 rfl) rfl
theorem q1764 : (Jvm.Cond.code ({ cls := "NoFartherThanAThrowModel", name := "judge", desc := "(III)I" } : Jvm.MethodName) prog_22_method_55_code (9 : Nat) (Option.some Jvm.ClassFile.FieldType.int)) ∈ lw_all := lw_g (lw_at lw_m8 6 rfl) rfl
theorem q1766 : (Jvm.Cond.instanceMethod ({ cls := "NoFartherThanAThrowModel", name := "end", desc := "(II)I" } : Jvm.MethodName)) ∈ lw_all := lw_g (lw_at lw_m8 8 rfl) rfl
theorem q1767 : (Jvm.Cond.selects "NoFartherThanAThrowModel" ({ cls := "NoFartherThanAThrowModel", name := "end", desc := "(II)I" } : Jvm.MethodName) ({ cls := "NoFartherThanAThrowModel", name := "end", desc := "(II)I" } : Jvm.MethodName)) ∈ lw_all := lw_g (lw_at lw_m8 9 rfl) rfl
theorem q1768 : (Jvm.Cond.code ({ cls := "NoFartherThanAThrowModel", name := "end", desc := "(II)I" } : Jvm.MethodName) prog_22_method_59_code (3 : Nat) (Option.some Jvm.ClassFile.FieldType.int)) ∈ lw_all := lw_g (lw_at lw_m8 10 rfl) rfl
theorem q1769 : (Jvm.Cond.methodLink "NoFartherThanAThrowModel" (259 : Nat) ({ cls := "NoFartherThanAThrowModel", name := "isSet", desc := "(I)Z" } : Jvm.MethodName)) ∈ lw_all := lw_g (lw_at lw_m8 11 rfl) rfl
theorem q1770 : (Jvm.Cond.privateMethod ({ cls := "NoFartherThanAThrowModel", name := "isSet", desc := "(I)Z" } : Jvm.MethodName)) ∈ lw_tbl := lw_at lw_m8 12 rfl
theorem q1771 : (Jvm.Cond.instanceMethod ({ cls := "NoFartherThanAThrowModel", name := "isSet", desc := "(I)Z" } : Jvm.MethodName)) ∈ lw_all := lw_g (lw_at lw_m8 13 rfl) rfl
theorem q1772 : (Jvm.Cond.code ({ cls := "NoFartherThanAThrowModel", name := "isSet", desc := "(I)Z" } : Jvm.MethodName) prog_22_method_7_code (2 : Nat) (Option.some Jvm.ClassFile.FieldType.boolean)) ∈ lw_all := lw_g (lw_at lw_m8 14 rfl) rfl
theorem q1773 : (Jvm.Cond.methodLink "NoFartherThanAThrowModel" (262 : Nat) ({ cls := "NoFartherThanAThrowModel", name := "rowsFor", desc := "(II)V" } : Jvm.MethodName)) ∈ lw_all := lw_g (lw_at lw_m8 15 rfl) rfl
theorem q1774 : (Jvm.Cond.privateMethod ({ cls := "NoFartherThanAThrowModel", name := "rowsFor", desc := "(II)V" } : Jvm.MethodName)) ∈ lw_tbl := lw_at lw_m8 16 rfl
theorem q1775 : (Jvm.Cond.instanceMethod ({ cls := "NoFartherThanAThrowModel", name := "rowsFor", desc := "(II)V" } : Jvm.MethodName)) ∈ lw_all := lw_g (lw_at lw_m8 17 rfl) rfl
theorem q1776 : (Jvm.Cond.code ({ cls := "NoFartherThanAThrowModel", name := "rowsFor", desc := "(II)V" } : Jvm.MethodName) prog_22_method_58_code (4 : Nat) (Option.none : Option Jvm.ClassFile.FieldType)) ∈ lw_all := lw_g (lw_at lw_m8 18 rfl) rfl
theorem q1777 : (Jvm.Cond.methodLink "NoFartherThanAThrowModel" (256 : Nat) ({ cls := "NoFartherThanAThrowModel", name := "rows", desc := "(III)V" } : Jvm.MethodName)) ∈ lw_all := lw_g (lw_at lw_m8 19 rfl) rfl
theorem q1778 : (Jvm.Cond.privateMethod ({ cls := "NoFartherThanAThrowModel", name := "rows", desc := "(III)V" } : Jvm.MethodName)) ∈ lw_tbl := lw_at lw_m8 20 rfl
theorem q1779 : (Jvm.Cond.instanceMethod ({ cls := "NoFartherThanAThrowModel", name := "rows", desc := "(III)V" } : Jvm.MethodName)) ∈ lw_all := lw_g (lw_at lw_m8 21 rfl) rfl
theorem q1780 : (Jvm.Cond.code ({ cls := "NoFartherThanAThrowModel", name := "rows", desc := "(III)V" } : Jvm.MethodName) prog_22_method_57_code (8 : Nat) (Option.none : Option Jvm.ClassFile.FieldType)) ∈ lw_all := lw_g (lw_at lw_m8 22 rfl) rfl
theorem q1781 : (Jvm.Cond.methodLink "NoFartherThanAThrowModel" (253 : Nat) ({ cls := "NoFartherThanAThrowModel", name := "goes", desc := "(III)I" } : Jvm.MethodName)) ∈ lw_all := lw_g (lw_at lw_m8 23 rfl) rfl
theorem q1782 : (Jvm.Cond.privateMethod ({ cls := "NoFartherThanAThrowModel", name := "goes", desc := "(III)I" } : Jvm.MethodName)) ∈ lw_tbl := lw_at lw_m8 24 rfl
theorem q1783 : (Jvm.Cond.instanceMethod ({ cls := "NoFartherThanAThrowModel", name := "goes", desc := "(III)I" } : Jvm.MethodName)) ∈ lw_all := lw_g (lw_at lw_m8 25 rfl) rfl
theorem q1784 : (Jvm.Cond.code ({ cls := "NoFartherThanAThrowModel", name := "goes", desc := "(III)I" } : Jvm.MethodName) prog_22_method_56_code (5 : Nat) (Option.some Jvm.ClassFile.FieldType.int)) ∈ lw_all := lw_g (lw_at lw_m8 26 rfl) rfl
theorem q1786 : (Jvm.Cond.instanceMethod ({ cls := "NoFartherThanAThrowModel", name := "does", desc := "(III)I" } : Jvm.MethodName)) ∈ lw_all := lw_g (lw_at lw_m8 28 rfl) rfl
theorem q1787 : (Jvm.Cond.selects "NoFartherThanAThrowModel" ({ cls := "NoFartherThanAThrowModel", name := "does", desc := "(III)I" } : Jvm.MethodName) ({ cls := "NoFartherThanAThrowModel", name := "does", desc := "(III)I" } : Jvm.MethodName)) ∈ lw_all := lw_g (lw_at lw_m8 29 rfl) rfl
theorem q1788 : (Jvm.Cond.code ({ cls := "NoFartherThanAThrowModel", name := "does", desc := "(III)I" } : Jvm.MethodName) prog_22_method_61_code (4 : Nat) (Option.some Jvm.ClassFile.FieldType.int)) ∈ lw_all := lw_g (lw_at lw_m8 30 rfl) rfl
theorem q1789 : (Jvm.Cond.methodLink "NoFartherThanAThrowModel" (265 : Nat) ({ cls := "NoFartherThanAThrowModel", name := "isOnward", desc := "(II)Z" } : Jvm.MethodName)) ∈ lw_all := lw_g (lw_at lw_m8 31 rfl) rfl
theorem q1790 : (Jvm.Cond.privateMethod ({ cls := "NoFartherThanAThrowModel", name := "isOnward", desc := "(II)Z" } : Jvm.MethodName)) ∈ lw_tbl := lw_at lw_m8 32 rfl
theorem q1791 : (Jvm.Cond.instanceMethod ({ cls := "NoFartherThanAThrowModel", name := "isOnward", desc := "(II)Z" } : Jvm.MethodName)) ∈ lw_all := lw_g (lw_at lw_m8 33 rfl) rfl
theorem q1792 : (Jvm.Cond.code ({ cls := "NoFartherThanAThrowModel", name := "isOnward", desc := "(II)Z" } : Jvm.MethodName) prog_22_method_60_code (3 : Nat) (Option.some Jvm.ClassFile.FieldType.boolean)) ∈ lw_all := lw_g (lw_at lw_m8 34 rfl) rfl
theorem q1794 : (Jvm.Cond.instanceMethod ({ cls := "NoFartherThanAThrowModel", name := "fewest", desc := "(II)I" } : Jvm.MethodName)) ∈ lw_all := lw_g (lw_at lw_m8 36 rfl) rfl
theorem q1795 : (Jvm.Cond.selects "NoFartherThanAThrowModel" ({ cls := "NoFartherThanAThrowModel", name := "fewest", desc := "(II)I" } : Jvm.MethodName) ({ cls := "NoFartherThanAThrowModel", name := "fewest", desc := "(II)I" } : Jvm.MethodName)) ∈ lw_all := lw_g (lw_at lw_m8 37 rfl) rfl
theorem q1796 : (Jvm.Cond.code ({ cls := "NoFartherThanAThrowModel", name := "fewest", desc := "(II)I" } : Jvm.MethodName) prog_22_method_63_code (5 : Nat) (Option.some Jvm.ClassFile.FieldType.int)) ∈ lw_all := lw_g (lw_at lw_m8 38 rfl) rfl
theorem q1797 : (Jvm.Cond.methodLink "NoFartherThanAThrowModel" (268 : Nat) ({ cls := "NoFartherThanAThrowModel", name := "count", desc := "(I)I" } : Jvm.MethodName)) ∈ lw_all := lw_g (lw_at lw_m8 39 rfl) rfl
theorem q1798 : (Jvm.Cond.privateMethod ({ cls := "NoFartherThanAThrowModel", name := "count", desc := "(I)I" } : Jvm.MethodName)) ∈ lw_tbl := lw_at lw_m8 40 rfl
theorem q1799 : (Jvm.Cond.instanceMethod ({ cls := "NoFartherThanAThrowModel", name := "count", desc := "(I)I" } : Jvm.MethodName)) ∈ lw_all := lw_g (lw_at lw_m8 41 rfl) rfl
theorem q1800 : (Jvm.Cond.code ({ cls := "NoFartherThanAThrowModel", name := "count", desc := "(I)I" } : Jvm.MethodName) prog_22_method_62_code (4 : Nat) (Option.some Jvm.ClassFile.FieldType.int)) ∈ lw_all := lw_g (lw_at lw_m8 42 rfl) rfl
theorem q1802 : (Jvm.Cond.instanceMethod ({ cls := "NoFartherThanAThrowModel", name := "order", desc := "(IIII)I" } : Jvm.MethodName)) ∈ lw_all := lw_g (lw_at lw_m8 44 rfl) rfl
theorem q1803 : (Jvm.Cond.selects "NoFartherThanAThrowModel" ({ cls := "NoFartherThanAThrowModel", name := "order", desc := "(IIII)I" } : Jvm.MethodName) ({ cls := "NoFartherThanAThrowModel", name := "order", desc := "(IIII)I" } : Jvm.MethodName)) ∈ lw_all := lw_g (lw_at lw_m8 45 rfl) rfl
theorem q1804 : (Jvm.Cond.code ({ cls := "NoFartherThanAThrowModel", name := "order", desc := "(IIII)I" } : Jvm.MethodName) prog_22_method_64_code (10 : Nat) (Option.some Jvm.ClassFile.FieldType.int)) ∈ lw_all := lw_g (lw_at lw_m8 46 rfl) rfl
theorem q1806 : (Jvm.Cond.instanceMethod ({ cls := "NoFartherThanAThrowModel", name := "handovers", desc := "(II)I" } : Jvm.MethodName)) ∈ lw_all := lw_g (lw_at lw_m8 48 rfl) rfl
theorem q1807 : (Jvm.Cond.selects "NoFartherThanAThrowModel" ({ cls := "NoFartherThanAThrowModel", name := "handovers", desc := "(II)I" } : Jvm.MethodName) ({ cls := "NoFartherThanAThrowModel", name := "handovers", desc := "(II)I" } : Jvm.MethodName)) ∈ lw_all := lw_g (lw_at lw_m8 49 rfl) rfl
theorem q1808 : (Jvm.Cond.code ({ cls := "NoFartherThanAThrowModel", name := "handovers", desc := "(II)I" } : Jvm.MethodName) prog_22_method_65_code (7 : Nat) (Option.some Jvm.ClassFile.FieldType.int)) ∈ lw_all := lw_g (lw_at lw_m8 50 rfl) rfl
theorem q1809 : (Jvm.Cond.methodLink "NoFartherThanAThrowModel" (271 : Nat) ({ cls := "NoFartherThanAThrowModel", name := "noTen", desc := "(I)I" } : Jvm.MethodName)) ∈ lw_all := lw_g (lw_at lw_m8 51 rfl) rfl
theorem q1810 : (Jvm.Cond.privateMethod ({ cls := "NoFartherThanAThrowModel", name := "noTen", desc := "(I)I" } : Jvm.MethodName)) ∈ lw_tbl := lw_at lw_m8 52 rfl
theorem q1811 : (Jvm.Cond.instanceMethod ({ cls := "NoFartherThanAThrowModel", name := "noTen", desc := "(I)I" } : Jvm.MethodName)) ∈ lw_all := lw_g (lw_at lw_m8 53 rfl) rfl
theorem q1812 : (Jvm.Cond.code ({ cls := "NoFartherThanAThrowModel", name := "noTen", desc := "(I)I" } : Jvm.MethodName) prog_22_method_3_code (2 : Nat) (Option.some Jvm.ClassFile.FieldType.int)) ∈ lw_all := lw_g (lw_at lw_m8 54 rfl) rfl
theorem q1814 : (Jvm.Cond.instanceMethod ({ cls := "NoFartherThanAThrowModel", name := "shared", desc := "()I" } : Jvm.MethodName)) ∈ lw_all := lw_g (lw_at lw_m8 56 rfl) rfl
theorem q1815 : (Jvm.Cond.selects "NoFartherThanAThrowModel" ({ cls := "NoFartherThanAThrowModel", name := "shared", desc := "()I" } : Jvm.MethodName) ({ cls := "NoFartherThanAThrowModel", name := "shared", desc := "()I" } : Jvm.MethodName)) ∈ lw_all := lw_g (lw_at lw_m8 57 rfl) rfl
theorem q1816 : (Jvm.Cond.code ({ cls := "NoFartherThanAThrowModel", name := "shared", desc := "()I" } : Jvm.MethodName) prog_22_method_69_code (1 : Nat) (Option.some Jvm.ClassFile.FieldType.int)) ∈ lw_all := lw_g (lw_at lw_m8 58 rfl) rfl
theorem q1817 : (Jvm.Cond.methodLink "NoFartherThanAThrowModel" (284 : Nat) ({ cls := "NoFartherThanAThrowModel", name := "shareAll", desc := "()V" } : Jvm.MethodName)) ∈ lw_all := lw_g (lw_at lw_m8 59 rfl) rfl
theorem q1818 : (Jvm.Cond.privateMethod ({ cls := "NoFartherThanAThrowModel", name := "shareAll", desc := "()V" } : Jvm.MethodName)) ∈ lw_tbl := lw_at lw_m8 60 rfl
theorem q1819 : (Jvm.Cond.instanceMethod ({ cls := "NoFartherThanAThrowModel", name := "shareAll", desc := "()V" } : Jvm.MethodName)) ∈ lw_all := lw_g (lw_at lw_m8 61 rfl) rfl
theorem q1820 : (Jvm.Cond.code ({ cls := "NoFartherThanAThrowModel", name := "shareAll", desc := "()V" } : Jvm.MethodName) prog_22_method_68_code (6 : Nat) (Option.none : Option Jvm.ClassFile.FieldType)) ∈ lw_all := lw_g (lw_at lw_m8 62 rfl) rfl
theorem q1821 : (Jvm.Cond.methodLink "NoFartherThanAThrowModel" (280 : Nat) ({ cls := "NoFartherThanAThrowModel", name := "shares", desc := "(I)V" } : Jvm.MethodName)) ∈ lw_all := lw_g (lw_at lw_m8 63 rfl) rfl
theorem q1822 : (Jvm.Cond.privateMethod ({ cls := "NoFartherThanAThrowModel", name := "shares", desc := "(I)V" } : Jvm.MethodName)) ∈ lw_tbl := lw_at lw_m8 64 rfl
theorem q1823 : (Jvm.Cond.instanceMethod ({ cls := "NoFartherThanAThrowModel", name := "shares", desc := "(I)V" } : Jvm.MethodName)) ∈ lw_all := lw_g (lw_at lw_m8 65 rfl) rfl
theorem q1824 : (Jvm.Cond.code ({ cls := "NoFartherThanAThrowModel", name := "shares", desc := "(I)V" } : Jvm.MethodName) prog_22_method_67_code (4 : Nat) (Option.none : Option Jvm.ClassFile.FieldType)) ∈ lw_all := lw_g (lw_at lw_m8 66 rfl) rfl
theorem q1825 : (Jvm.Cond.methodLink "NoFartherThanAThrowModel" (274 : Nat) ({ cls := "NoFartherThanAThrowModel", name := "worthOf", desc := "()I" } : Jvm.MethodName)) ∈ lw_all := lw_g (lw_at lw_m8 67 rfl) rfl
theorem q1826 : (Jvm.Cond.privateMethod ({ cls := "NoFartherThanAThrowModel", name := "worthOf", desc := "()I" } : Jvm.MethodName)) ∈ lw_tbl := lw_at lw_m8 68 rfl
theorem q1827 : (Jvm.Cond.instanceMethod ({ cls := "NoFartherThanAThrowModel", name := "worthOf", desc := "()I" } : Jvm.MethodName)) ∈ lw_all := lw_g (lw_at lw_m8 69 rfl) rfl
theorem q1828 : (Jvm.Cond.code ({ cls := "NoFartherThanAThrowModel", name := "worthOf", desc := "()I" } : Jvm.MethodName) prog_22_method_66_code (3 : Nat) (Option.some Jvm.ClassFile.FieldType.int)) ∈ lw_all := lw_g (lw_at lw_m8 70 rfl) rfl
theorem q1830 : (Jvm.Cond.instanceMethod ({ cls := "NoFartherThanAThrowModel", name := "given", desc := "(I)I" } : Jvm.MethodName)) ∈ lw_all := lw_g (lw_at lw_m8 72 rfl) rfl
theorem q1831 : (Jvm.Cond.selects "NoFartherThanAThrowModel" ({ cls := "NoFartherThanAThrowModel", name := "given", desc := "(I)I" } : Jvm.MethodName) ({ cls := "NoFartherThanAThrowModel", name := "given", desc := "(I)I" } : Jvm.MethodName)) ∈ lw_all := lw_g (lw_at lw_m8 73 rfl) rfl
theorem q1832 : (Jvm.Cond.code ({ cls := "NoFartherThanAThrowModel", name := "given", desc := "(I)I" } : Jvm.MethodName) prog_22_method_70_code (2 : Nat) (Option.some Jvm.ClassFile.FieldType.int)) ∈ lw_all := lw_g (lw_at lw_m8 74 rfl) rfl
theorem q1834 : (Jvm.Cond.instanceMethod ({ cls := "NoFartherThanAThrowModel", name := "mill", desc := "(III)I" } : Jvm.MethodName)) ∈ lw_all := lw_g (lw_at lw_m8 76 rfl) rfl
theorem q1835 : (Jvm.Cond.selects "NoFartherThanAThrowModel" ({ cls := "NoFartherThanAThrowModel", name := "mill", desc := "(III)I" } : Jvm.MethodName) ({ cls := "NoFartherThanAThrowModel", name := "mill", desc := "(III)I" } : Jvm.MethodName)) ∈ lw_all := lw_g (lw_at lw_m8 77 rfl) rfl
theorem q1836 : (Jvm.Cond.code ({ cls := "NoFartherThanAThrowModel", name := "mill", desc := "(III)I" } : Jvm.MethodName) prog_22_method_71_code (8 : Nat) (Option.some Jvm.ClassFile.FieldType.int)) ∈ lw_all := lw_g (lw_at lw_m8 78 rfl) rfl
theorem q1838 : (Jvm.Cond.instanceMethod ({ cls := "NoFartherThanAThrowModel", name := "weakest", desc := "(II)I" } : Jvm.MethodName)) ∈ lw_all := lw_g (lw_at lw_m8 80 rfl) rfl
theorem q1839 : (Jvm.Cond.selects "NoFartherThanAThrowModel" ({ cls := "NoFartherThanAThrowModel", name := "weakest", desc := "(II)I" } : Jvm.MethodName) ({ cls := "NoFartherThanAThrowModel", name := "weakest", desc := "(II)I" } : Jvm.MethodName)) ∈ lw_all := lw_g (lw_at lw_m8 81 rfl) rfl
theorem q1840 : (Jvm.Cond.code ({ cls := "NoFartherThanAThrowModel", name := "weakest", desc := "(II)I" } : Jvm.MethodName) prog_22_method_72_code (7 : Nat) (Option.some Jvm.ClassFile.FieldType.int)) ∈ lw_all := lw_g (lw_at lw_m8 82 rfl) rfl
theorem q1842 : (Jvm.Cond.instanceMethod ({ cls := "NoFartherThanAThrowModel", name := "helps", desc := "(IIII)I" } : Jvm.MethodName)) ∈ lw_all := lw_g (lw_at lw_m8 84 rfl) rfl
theorem q1843 : (Jvm.Cond.selects "NoFartherThanAThrowModel" ({ cls := "NoFartherThanAThrowModel", name := "helps", desc := "(IIII)I" } : Jvm.MethodName) ({ cls := "NoFartherThanAThrowModel", name := "helps", desc := "(IIII)I" } : Jvm.MethodName)) ∈ lw_all := lw_g (lw_at lw_m8 85 rfl) rfl
theorem q1844 : (Jvm.Cond.code ({ cls := "NoFartherThanAThrowModel", name := "helps", desc := "(IIII)I" } : Jvm.MethodName) prog_22_method_73_code (8 : Nat) (Option.some Jvm.ClassFile.FieldType.int)) ∈ lw_all := lw_g (lw_at lw_m8 86 rfl) rfl
theorem q1846 : (Jvm.Cond.instanceMethod ({ cls := "NoFartherThanAThrowModel", name := "caught", desc := "(III)I" } : Jvm.MethodName)) ∈ lw_all := lw_g (lw_at lw_m8 88 rfl) rfl
theorem q1847 : (Jvm.Cond.selects "NoFartherThanAThrowModel" ({ cls := "NoFartherThanAThrowModel", name := "caught", desc := "(III)I" } : Jvm.MethodName) ({ cls := "NoFartherThanAThrowModel", name := "caught", desc := "(III)I" } : Jvm.MethodName)) ∈ lw_all := lw_g (lw_at lw_m8 89 rfl) rfl
theorem q1848 : (Jvm.Cond.code ({ cls := "NoFartherThanAThrowModel", name := "caught", desc := "(III)I" } : Jvm.MethodName) prog_22_method_77_code (4 : Nat) (Option.some Jvm.ClassFile.FieldType.int)) ∈ lw_all := lw_g (lw_at lw_m8 90 rfl) rfl
theorem q1849 : (Jvm.Cond.methodLink "NoFartherThanAThrowModel" (287 : Nat) ({ cls := "NoFartherThanAThrowModel", name := "isFar", desc := "(I)Z" } : Jvm.MethodName)) ∈ lw_all := lw_g (lw_at lw_m8 91 rfl) rfl
theorem q1850 : (Jvm.Cond.privateMethod ({ cls := "NoFartherThanAThrowModel", name := "isFar", desc := "(I)Z" } : Jvm.MethodName)) ∈ lw_tbl := lw_at lw_m8 92 rfl
theorem q1851 : (Jvm.Cond.instanceMethod ({ cls := "NoFartherThanAThrowModel", name := "isFar", desc := "(I)Z" } : Jvm.MethodName)) ∈ lw_all := lw_g (lw_at lw_m8 93 rfl) rfl
theorem q1852 : (Jvm.Cond.code ({ cls := "NoFartherThanAThrowModel", name := "isFar", desc := "(I)Z" } : Jvm.MethodName) prog_22_method_76_code (2 : Nat) (Option.some Jvm.ClassFile.FieldType.boolean)) ∈ lw_all := lw_g (lw_at lw_m8 94 rfl) rfl
theorem q1853 : (Jvm.Cond.methodLink "NoFartherThanAThrowModel" (290 : Nat) ({ cls := "NoFartherThanAThrowModel", name := "caughtBy", desc := "(III)I" } : Jvm.MethodName)) ∈ lw_all := lw_g (lw_at lw_m8 95 rfl) rfl
theorem q1854 : (Jvm.Cond.privateMethod ({ cls := "NoFartherThanAThrowModel", name := "caughtBy", desc := "(III)I" } : Jvm.MethodName)) ∈ lw_tbl := lw_at lw_m8 96 rfl
theorem q1855 : (Jvm.Cond.instanceMethod ({ cls := "NoFartherThanAThrowModel", name := "caughtBy", desc := "(III)I" } : Jvm.MethodName)) ∈ lw_all := lw_g (lw_at lw_m8 97 rfl) rfl
theorem q1856 : (Jvm.Cond.code ({ cls := "NoFartherThanAThrowModel", name := "caughtBy", desc := "(III)I" } : Jvm.MethodName) prog_22_method_74_code (5 : Nat) (Option.some Jvm.ClassFile.FieldType.int)) ∈ lw_all := lw_g (lw_at lw_m8 98 rfl) rfl
theorem q1858 : (Jvm.Cond.instanceMethod ({ cls := "NoFartherThanAThrowModel", name := "mean", desc := "(III)I" } : Jvm.MethodName)) ∈ lw_all := lw_g (lw_at lw_m8 100 rfl) rfl
theorem q1859 : (Jvm.Cond.selects "NoFartherThanAThrowModel" ({ cls := "NoFartherThanAThrowModel", name := "mean", desc := "(III)I" } : Jvm.MethodName) ({ cls := "NoFartherThanAThrowModel", name := "mean", desc := "(III)I" } : Jvm.MethodName)) ∈ lw_all := lw_g (lw_at lw_m8 101 rfl) rfl
theorem q1860 : (Jvm.Cond.code ({ cls := "NoFartherThanAThrowModel", name := "mean", desc := "(III)I" } : Jvm.MethodName) prog_22_method_79_code (4 : Nat) (Option.some Jvm.ClassFile.FieldType.int)) ∈ lw_all := lw_g (lw_at lw_m8 102 rfl) rfl
theorem q1861 : (Jvm.Cond.methodLink "NoFartherThanAThrowModel" (297 : Nat) ({ cls := "NoFartherThanAThrowModel", name := "meanOf", desc := "(III)I" } : Jvm.MethodName)) ∈ lw_all := lw_g (lw_at lw_m8 103 rfl) rfl
theorem q1862 : (Jvm.Cond.privateMethod ({ cls := "NoFartherThanAThrowModel", name := "meanOf", desc := "(III)I" } : Jvm.MethodName)) ∈ lw_tbl := lw_at lw_m8 104 rfl
theorem q1863 : (Jvm.Cond.instanceMethod ({ cls := "NoFartherThanAThrowModel", name := "meanOf", desc := "(III)I" } : Jvm.MethodName)) ∈ lw_all := lw_g (lw_at lw_m8 105 rfl) rfl
theorem q1864 : (Jvm.Cond.code ({ cls := "NoFartherThanAThrowModel", name := "meanOf", desc := "(III)I" } : Jvm.MethodName) prog_22_method_78_code (6 : Nat) (Option.some Jvm.ClassFile.FieldType.int)) ∈ lw_all := lw_g (lw_at lw_m8 106 rfl) rfl
theorem q1865 : (Jvm.Cond.methodLink "NoFartherThanAThrowModel" (293 : Nat) ({ cls := "NoFartherThanAThrowModel", name := "isThrow", desc := "(III)Z" } : Jvm.MethodName)) ∈ lw_all := lw_g (lw_at lw_m8 107 rfl) rfl
theorem q1866 : (Jvm.Cond.privateMethod ({ cls := "NoFartherThanAThrowModel", name := "isThrow", desc := "(III)Z" } : Jvm.MethodName)) ∈ lw_tbl := lw_at lw_m8 108 rfl
theorem q1867 : (Jvm.Cond.instanceMethod ({ cls := "NoFartherThanAThrowModel", name := "isThrow", desc := "(III)Z" } : Jvm.MethodName)) ∈ lw_all := lw_g (lw_at lw_m8 109 rfl) rfl
theorem q1868 : (Jvm.Cond.code ({ cls := "NoFartherThanAThrowModel", name := "isThrow", desc := "(III)Z" } : Jvm.MethodName) prog_22_method_75_code (4 : Nat) (Option.some Jvm.ClassFile.FieldType.boolean)) ∈ lw_all := lw_g (lw_at lw_m8 110 rfl) rfl
theorem q1870 : (Jvm.Cond.instanceMethod ({ cls := "NoFartherThanAThrowModel", name := "cast", desc := "(II)I" } : Jvm.MethodName)) ∈ lw_all := lw_g (lw_at lw_m8 112 rfl) rfl
theorem q1871 : (Jvm.Cond.selects "NoFartherThanAThrowModel" ({ cls := "NoFartherThanAThrowModel", name := "cast", desc := "(II)I" } : Jvm.MethodName) ({ cls := "NoFartherThanAThrowModel", name := "cast", desc := "(II)I" } : Jvm.MethodName)) ∈ lw_all := lw_g (lw_at lw_m8 113 rfl) rfl
theorem q1872 : (Jvm.Cond.code ({ cls := "NoFartherThanAThrowModel", name := "cast", desc := "(II)I" } : Jvm.MethodName) prog_22_method_80_code (7 : Nat) (Option.some Jvm.ClassFile.FieldType.int)) ∈ lw_all := lw_g (lw_at lw_m8 114 rfl) rfl
theorem q1874 : (Jvm.Cond.instanceMethod ({ cls := "NoFartherThanAThrowModel", name := "toss", desc := "(III)I" } : Jvm.MethodName)) ∈ lw_all := lw_g (lw_at lw_m8 116 rfl) rfl
theorem q1875 : (Jvm.Cond.selects "NoFartherThanAThrowModel" ({ cls := "NoFartherThanAThrowModel", name := "toss", desc := "(III)I" } : Jvm.MethodName) ({ cls := "NoFartherThanAThrowModel", name := "toss", desc := "(III)I" } : Jvm.MethodName)) ∈ lw_all := lw_g (lw_at lw_m8 117 rfl) rfl
theorem q1876 : (Jvm.Cond.code ({ cls := "NoFartherThanAThrowModel", name := "toss", desc := "(III)I" } : Jvm.MethodName) prog_22_method_82_code (5 : Nat) (Option.some Jvm.ClassFile.FieldType.int)) ∈ lw_all := lw_g (lw_at lw_m8 118 rfl) rfl
theorem q1877 : (Jvm.Cond.methodLink "NoFartherThanAThrowModel" (301 : Nat) ({ cls := "NoFartherThanAThrowModel", name := "draw", desc := "(I)I" } : Jvm.MethodName)) ∈ lw_all := lw_g (lw_at lw_m8 119 rfl) rfl
theorem q1878 : (Jvm.Cond.privateMethod ({ cls := "NoFartherThanAThrowModel", name := "draw", desc := "(I)I" } : Jvm.MethodName)) ∈ lw_tbl := lw_at lw_m8 120 rfl
theorem q1879 : (Jvm.Cond.instanceMethod ({ cls := "NoFartherThanAThrowModel", name := "draw", desc := "(I)I" } : Jvm.MethodName)) ∈ lw_all := lw_g (lw_at lw_m8 121 rfl) rfl
theorem q1880 : (Jvm.Cond.code ({ cls := "NoFartherThanAThrowModel", name := "draw", desc := "(I)I" } : Jvm.MethodName) prog_22_method_81_code (2 : Nat) (Option.some Jvm.ClassFile.FieldType.int)) ∈ lw_all := lw_g (lw_at lw_m8 122 rfl) rfl
theorem q1881 : (Jvm.Cond.constant "NoFartherThanAThrowModel" (300 : Nat) (1103515245 : Int32)) ∈ lw_all := lw_g (lw_at lw_m8 123 rfl) rfl
theorem q1883 : (Jvm.Cond.instanceMethod ({ cls := "NoFartherThanAThrowModel", name := "part", desc := "(I)I" } : Jvm.MethodName)) ∈ lw_all := lw_g (lw_at lw_m8 125 rfl) rfl
theorem q1884 : (Jvm.Cond.selects "NoFartherThanAThrowModel" ({ cls := "NoFartherThanAThrowModel", name := "part", desc := "(I)I" } : Jvm.MethodName) ({ cls := "NoFartherThanAThrowModel", name := "part", desc := "(I)I" } : Jvm.MethodName)) ∈ lw_all := lw_g (lw_at lw_m8 126 rfl) rfl
theorem q1885 : (Jvm.Cond.code ({ cls := "NoFartherThanAThrowModel", name := "part", desc := "(I)I" } : Jvm.MethodName) prog_22_method_83_code (6 : Nat) (Option.some Jvm.ClassFile.FieldType.int)) ∈ lw_all := lw_g (lw_at lw_m8 127 rfl) rfl
theorem q1887 : (Jvm.Cond.instanceMethod ({ cls := "NoFartherThanAThrowModel", name := "night", desc := "()I" } : Jvm.MethodName)) ∈ lw_all := lw_g (lw_at lw_m8 129 rfl) rfl
theorem q1888 : (Jvm.Cond.selects "NoFartherThanAThrowModel" ({ cls := "NoFartherThanAThrowModel", name := "night", desc := "()I" } : Jvm.MethodName) ({ cls := "NoFartherThanAThrowModel", name := "night", desc := "()I" } : Jvm.MethodName)) ∈ lw_all := lw_g (lw_at lw_m8 130 rfl) rfl
theorem q1889 : (Jvm.Cond.code ({ cls := "NoFartherThanAThrowModel", name := "night", desc := "()I" } : Jvm.MethodName) prog_22_method_84_code (3 : Nat) (Option.some Jvm.ClassFile.FieldType.int)) ∈ lw_all := lw_g (lw_at lw_m8 131 rfl) rfl
theorem q1891 : (Jvm.Cond.instanceMethod ({ cls := "NoFartherThanAThrowModel", name := "seed", desc := "(I)I" } : Jvm.MethodName)) ∈ lw_all := lw_g (lw_at lw_m8 133 rfl) rfl
theorem q1892 : (Jvm.Cond.selects "NoFartherThanAThrowModel" ({ cls := "NoFartherThanAThrowModel", name := "seed", desc := "(I)I" } : Jvm.MethodName) ({ cls := "NoFartherThanAThrowModel", name := "seed", desc := "(I)I" } : Jvm.MethodName)) ∈ lw_all := lw_g (lw_at lw_m8 134 rfl) rfl
theorem q1893 : (Jvm.Cond.code ({ cls := "NoFartherThanAThrowModel", name := "seed", desc := "(I)I" } : Jvm.MethodName) prog_22_method_85_code (3 : Nat) (Option.some Jvm.ClassFile.FieldType.int)) ∈ lw_all := lw_g (lw_at lw_m8 135 rfl) rfl
theorem q1895 : (Jvm.Cond.instanceMethod ({ cls := "NoFartherThanAThrowModel", name := "act", desc := "(III)I" } : Jvm.MethodName)) ∈ lw_all := lw_g (lw_at lw_m8 137 rfl) rfl
theorem q1896 : (Jvm.Cond.selects "NoFartherThanAThrowModel" ({ cls := "NoFartherThanAThrowModel", name := "act", desc := "(III)I" } : Jvm.MethodName) ({ cls := "NoFartherThanAThrowModel", name := "act", desc := "(III)I" } : Jvm.MethodName)) ∈ lw_all := lw_g (lw_at lw_m8 138 rfl) rfl
theorem q1897 : (Jvm.Cond.code ({ cls := "NoFartherThanAThrowModel", name := "act", desc := "(III)I" } : Jvm.MethodName) prog_22_method_90_code (4 : Nat) (Option.some Jvm.ClassFile.FieldType.int)) ∈ lw_all := lw_g (lw_at lw_m8 139 rfl) rfl
theorem q1898 : (Jvm.Cond.methodLink "NoFartherThanAThrowModel" (310 : Nat) ({ cls := "NoFartherThanAThrowModel", name := "going", desc := "(II)I" } : Jvm.MethodName)) ∈ lw_all := lw_g (lw_at lw_m8 140 rfl) rfl
theorem q1899 : (Jvm.Cond.privateMethod ({ cls := "NoFartherThanAThrowModel", name := "going", desc := "(II)I" } : Jvm.MethodName)) ∈ lw_tbl := lw_at lw_m8 141 rfl
theorem q1900 : (Jvm.Cond.instanceMethod ({ cls := "NoFartherThanAThrowModel", name := "going", desc := "(II)I" } : Jvm.MethodName)) ∈ lw_all := lw_g (lw_at lw_m8 142 rfl) rfl
theorem q1901 : (Jvm.Cond.code ({ cls := "NoFartherThanAThrowModel", name := "going", desc := "(II)I" } : Jvm.MethodName) prog_22_method_87_code (7 : Nat) (Option.some Jvm.ClassFile.FieldType.int)) ∈ lw_all := lw_g (lw_at lw_m8 143 rfl) rfl
theorem q1902 : (Jvm.Cond.methodLink "NoFartherThanAThrowModel" (307 : Nat) ({ cls := "NoFartherThanAThrowModel", name := "body", desc := "(I)V" } : Jvm.MethodName)) ∈ lw_all := lw_g (lw_at lw_m8 144 rfl) rfl
theorem q1903 : (Jvm.Cond.privateMethod ({ cls := "NoFartherThanAThrowModel", name := "body", desc := "(I)V" } : Jvm.MethodName)) ∈ lw_tbl := lw_at lw_m8 145 rfl
theorem q1904 : (Jvm.Cond.instanceMethod ({ cls := "NoFartherThanAThrowModel", name := "body", desc := "(I)V" } : Jvm.MethodName)) ∈ lw_all := lw_g (lw_at lw_m8 146 rfl) rfl
theorem q1905 : (Jvm.Cond.code ({ cls := "NoFartherThanAThrowModel", name := "body", desc := "(I)V" } : Jvm.MethodName) prog_22_method_86_code (2 : Nat) (Option.none : Option Jvm.ClassFile.FieldType)) ∈ lw_all := lw_g (lw_at lw_m8 147 rfl) rfl
theorem q1906 : (Jvm.Cond.methodLink "NoFartherThanAThrowModel" (313 : Nat) ({ cls := "NoFartherThanAThrowModel", name := "resting", desc := "(II)I" } : Jvm.MethodName)) ∈ lw_all := lw_g (lw_at lw_m8 148 rfl) rfl
theorem q1907 : (Jvm.Cond.privateMethod ({ cls := "NoFartherThanAThrowModel", name := "resting", desc := "(II)I" } : Jvm.MethodName)) ∈ lw_tbl := lw_at lw_m8 149 rfl
theorem q1908 : (Jvm.Cond.instanceMethod ({ cls := "NoFartherThanAThrowModel", name := "resting", desc := "(II)I" } : Jvm.MethodName)) ∈ lw_all := lw_g (lw_at lw_m8 150 rfl) rfl
theorem q1909 : (Jvm.Cond.code ({ cls := "NoFartherThanAThrowModel", name := "resting", desc := "(II)I" } : Jvm.MethodName) prog_22_method_88_code (5 : Nat) (Option.some Jvm.ClassFile.FieldType.int)) ∈ lw_all := lw_g (lw_at lw_m8 151 rfl) rfl
theorem q1910 : (Jvm.Cond.methodLink "NoFartherThanAThrowModel" (316 : Nat) ({ cls := "NoFartherThanAThrowModel", name := "falling", desc := "(II)I" } : Jvm.MethodName)) ∈ lw_all := lw_g (lw_at lw_m8 152 rfl) rfl
theorem q1911 : (Jvm.Cond.privateMethod ({ cls := "NoFartherThanAThrowModel", name := "falling", desc := "(II)I" } : Jvm.MethodName)) ∈ lw_tbl := lw_at lw_m8 153 rfl
theorem q1912 : (Jvm.Cond.instanceMethod ({ cls := "NoFartherThanAThrowModel", name := "falling", desc := "(II)I" } : Jvm.MethodName)) ∈ lw_all := lw_g (lw_at lw_m8 154 rfl) rfl
theorem q1913 : (Jvm.Cond.code ({ cls := "NoFartherThanAThrowModel", name := "falling", desc := "(II)I" } : Jvm.MethodName) prog_22_method_89_code (6 : Nat) (Option.some Jvm.ClassFile.FieldType.int)) ∈ lw_all := lw_g (lw_at lw_m8 155 rfl) rfl
theorem q1915 : (Jvm.Cond.instanceMethod ({ cls := "NoFartherThanAThrowModel", name := "trace", desc := "(I)I" } : Jvm.MethodName)) ∈ lw_all := lw_g (lw_at lw_m8 157 rfl) rfl
theorem q1916 : (Jvm.Cond.selects "NoFartherThanAThrowModel" ({ cls := "NoFartherThanAThrowModel", name := "trace", desc := "(I)I" } : Jvm.MethodName) ({ cls := "NoFartherThanAThrowModel", name := "trace", desc := "(I)I" } : Jvm.MethodName)) ∈ lw_all := lw_g (lw_at lw_m8 158 rfl) rfl
theorem q1917 : (Jvm.Cond.code ({ cls := "NoFartherThanAThrowModel", name := "trace", desc := "(I)I" } : Jvm.MethodName) prog_22_method_91_code (2 : Nat) (Option.some Jvm.ClassFile.FieldType.int)) ∈ lw_all := lw_g (lw_at lw_m8 159 rfl) rfl
theorem q1919 : (Jvm.Cond.instanceMethod ({ cls := "NoFartherThanAThrowModel", name := "image", desc := "()I" } : Jvm.MethodName)) ∈ lw_all := lw_g (lw_at lw_m8 161 rfl) rfl
theorem q1920 : (Jvm.Cond.selects "NoFartherThanAThrowModel" ({ cls := "NoFartherThanAThrowModel", name := "image", desc := "()I" } : Jvm.MethodName) ({ cls := "NoFartherThanAThrowModel", name := "image", desc := "()I" } : Jvm.MethodName)) ∈ lw_all := lw_g (lw_at lw_m8 162 rfl) rfl
theorem q1921 : (Jvm.Cond.code ({ cls := "NoFartherThanAThrowModel", name := "image", desc := "()I" } : Jvm.MethodName) prog_22_method_92_code (1 : Nat) (Option.some Jvm.ClassFile.FieldType.int)) ∈ lw_all := lw_g (lw_at lw_m8 163 rfl) rfl
theorem q1923 : (Jvm.Cond.instanceMethod ({ cls := "NoFartherThanAThrowModel", name := "restore", desc := "()I" } : Jvm.MethodName)) ∈ lw_all := lw_g (lw_at lw_m8 165 rfl) rfl
theorem q1924 : (Jvm.Cond.selects "NoFartherThanAThrowModel" ({ cls := "NoFartherThanAThrowModel", name := "restore", desc := "()I" } : Jvm.MethodName) ({ cls := "NoFartherThanAThrowModel", name := "restore", desc := "()I" } : Jvm.MethodName)) ∈ lw_all := lw_g (lw_at lw_m8 166 rfl) rfl
theorem q1925 : (Jvm.Cond.code ({ cls := "NoFartherThanAThrowModel", name := "restore", desc := "()I" } : Jvm.MethodName) prog_22_method_93_code (2 : Nat) (Option.some Jvm.ClassFile.FieldType.int)) ∈ lw_all := lw_g (lw_at lw_m8 167 rfl) rfl
theorem q1927 : (Jvm.Cond.instanceMethod ({ cls := "NoFartherThanAThrowModel", name := "status", desc := "(I)I" } : Jvm.MethodName)) ∈ lw_all := lw_g (lw_at lw_m8 169 rfl) rfl
theorem q1928 : (Jvm.Cond.selects "NoFartherThanAThrowModel" ({ cls := "NoFartherThanAThrowModel", name := "status", desc := "(I)I" } : Jvm.MethodName) ({ cls := "NoFartherThanAThrowModel", name := "status", desc := "(I)I" } : Jvm.MethodName)) ∈ lw_all := lw_g (lw_at lw_m8 170 rfl) rfl
theorem q1929 : (Jvm.Cond.code ({ cls := "NoFartherThanAThrowModel", name := "status", desc := "(I)I" } : Jvm.MethodName) prog_22_method_94_code (2 : Nat) (Option.some Jvm.ClassFile.FieldType.int)) ∈ lw_all := lw_g (lw_at lw_m8 171 rfl) rfl
theorem in_X5 : ∀ w ∈ wsX50, w ∈ lw_all := lw_in wsX50 [1456, 1458, 1460, 1462, 1464, 1466, 1468, 1470, 1472, 1474, 1476, 1478, 1480, 1482, 1484, 1486, 1488, 1490, 1492, 1494, 1496, 1498, 1500, 1502, 1504, 1506, 1508, 1510, 1512, 1514, 1516, 1518, 1520, 1522, 1524, 1526, 1528, 1530, 1532, 1534, 1536, 1538, 1540, 1542, 1544, 1546, 1548, 1550, 1552, 1554] (by decide +kernel) (by decide +kernel)
