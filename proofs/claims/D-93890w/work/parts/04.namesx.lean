/-! NoFartherThanAThrow -/
set_option maxRecDepth 100000
def RX0 : String := "NoFartherThanAThrow"
def TX0 : u_T := fun k => match k with
  | 0 => ("NoFartherThanAThrow", "shelves", "[LNoFartherThanAThrow$Shelf;", true)
  | 1 => ("NoFartherThanAThrow", "refusals", "[I", true)
  | 2 => ("NoFartherThanAThrow", "ran", "LNoFartherThanAThrow$Trace;", true)
  | 3 => ("NoFartherThanAThrow", "seeker", "LNoFartherThanAThrow$Seeker;", true)
  | 4 => ("NoFartherThanAThrow", "now", "[I", true)
  | 5 => ("NoFartherThanAThrow", "then", "[I", true)
  | 6 => ("NoFartherThanAThrow", "w", "LNoFartherThanAThrow$World;", false)
  | 7 => ("NoFartherThanAThrow", "imaged", "LNoFartherThanAThrow$World;", false)
  | _ => ("NoFartherThanAThrow", "latestFault", "I", false)
def tyX0 : Nat → FieldType := fun k => match k with
  | 0 => .array (.object "NoFartherThanAThrow$Shelf")
  | 1 => .array .int
  | 2 => .object "NoFartherThanAThrow$Trace"
  | 3 => .object "NoFartherThanAThrow$Seeker"
  | 4 => .array .int
  | 5 => .array .int
  | 6 => .object "NoFartherThanAThrow$World"
  | 7 => .object "NoFartherThanAThrow$World"
  | _ => .int
abbrev wsX00 : List Cond := u_ws RX0 TX0 9
theorem nmX0 : ∀ a, a < 9 → ∀ b, b < 9 → a ≠ b → (TX0 a).2.1 ≠ (TX0 b).2.1 := by decide +kernel
theorem tyX0_ok : ∀ k, k < 9 → parseFieldDescriptor (TX0 k).2.2.1 = some (tyX0 k) := by decide +kernel
abbrev cX0_init : ByteArray := prog_1_method_5_code
def yX0_init : MethodName := ⟨RX0, "<init>", "()V"⟩
def dkwX0_init_4 : List UInt8 := [183, 0, 98, 83, 132, 1, 1, 167, 255, 234, 177]
abbrev dktX0_init_4 : List UInt8 := dkwX0_init_4 ++ []
def dkwX0_init_3 : List UInt8 := [42, 2, 181, 0, 94, 3, 60, 27, 16, 8, 162, 0, 22, 42, 180, 0, 59, 27, 187, 0, 57, 89]
abbrev dktX0_init_3 : List UInt8 := dkwX0_init_3 ++ dktX0_init_4
def dkwX0_init_2 : List UInt8 := [188, 10, 181, 0, 81, 42, 16, 8, 188, 10, 181, 0, 84, 42, 187, 0, 87, 89, 183, 0, 89, 181, 0, 90]
abbrev dktX0_init_2 : List UInt8 := dkwX0_init_2 ++ dktX0_init_3
def dkwX0_init_1 : List UInt8 := [187, 0, 67, 89, 183, 0, 69, 181, 0, 70, 42, 187, 0, 74, 89, 183, 0, 76, 181, 0, 77, 42, 16, 8]
abbrev dktX0_init_1 : List UInt8 := dkwX0_init_1 ++ dktX0_init_2
def dkwX0_init_0 : List UInt8 := [42, 183, 0, 50, 42, 16, 8, 189, 0, 57, 181, 0, 59, 42, 16, 8, 188, 10, 181, 0, 63, 42]
abbrev dktX0_init_0 : List UInt8 := dkwX0_init_0 ++ dktX0_init_1
theorem dksX0_init_0 : cX0_init.data.toList.drop 0 = dktX0_init_0 := by decide +kernel
theorem dksX0_init_1 : cX0_init.data.toList.drop 22 = dktX0_init_1 := dk_seg dksX0_init_0 22 rfl rfl
theorem dksX0_init_2 : cX0_init.data.toList.drop 46 = dktX0_init_2 := dk_seg dksX0_init_1 24 rfl rfl
theorem dksX0_init_3 : cX0_init.data.toList.drop 70 = dktX0_init_3 := dk_seg dksX0_init_2 24 rfl rfl
theorem dksX0_init_4 : cX0_init.data.toList.drop 92 = dktX0_init_4 := dk_seg dksX0_init_3 22 rfl rfl
theorem dX0_init_0 : decode cX0_init 0 = .ok (.aload_n 0, 1) := dk_42 (dk_at dksX0_init_0 0 rfl rfl)
theorem dX0_init_1 : decode cX0_init 1 = .ok (.invokespecial 50, 3) := dk_183 0 50 (dk_at dksX0_init_0 1 rfl rfl)
theorem dX0_init_4 : decode cX0_init 4 = .ok (.aload_n 0, 1) := dk_42 (dk_at dksX0_init_0 4 rfl rfl)
theorem dX0_init_5 : decode cX0_init 5 = .ok (.bipush 8, 2) := dk_16 8 (dk_at dksX0_init_0 5 rfl rfl)
theorem dX0_init_7 : decode cX0_init 7 = .ok (.anewarray 57, 3) := dk_189 0 57 (dk_at dksX0_init_0 7 rfl rfl)
theorem dX0_init_10 : decode cX0_init 10 = .ok (.putfield 59, 3) := dk_181 0 59 (dk_at dksX0_init_0 10 rfl rfl)
theorem dX0_init_13 : decode cX0_init 13 = .ok (.aload_n 0, 1) := dk_42 (dk_at dksX0_init_0 13 rfl rfl)
theorem dX0_init_14 : decode cX0_init 14 = .ok (.bipush 8, 2) := dk_16 8 (dk_at dksX0_init_0 14 rfl rfl)
theorem dX0_init_16 : decode cX0_init 16 = .ok (.newarray .int, 2) := dk_188_10 (dk_at dksX0_init_0 16 rfl rfl)
theorem dX0_init_18 : decode cX0_init 18 = .ok (.putfield 63, 3) := dk_181 0 63 (dk_at dksX0_init_0 18 rfl rfl)
theorem dX0_init_21 : decode cX0_init 21 = .ok (.aload_n 0, 1) := dk_42 (dk_at dksX0_init_0 21 rfl rfl)
theorem dX0_init_22 : decode cX0_init 22 = .ok (.new 67, 3) := dk_187 0 67 (dk_at dksX0_init_1 0 rfl rfl)
theorem dX0_init_25 : decode cX0_init 25 = .ok (.dup, 1) := dk_89 (dk_at dksX0_init_1 3 rfl rfl)
theorem dX0_init_26 : decode cX0_init 26 = .ok (.invokespecial 69, 3) := dk_183 0 69 (dk_at dksX0_init_1 4 rfl rfl)
theorem dX0_init_29 : decode cX0_init 29 = .ok (.putfield 70, 3) := dk_181 0 70 (dk_at dksX0_init_1 7 rfl rfl)
theorem dX0_init_32 : decode cX0_init 32 = .ok (.aload_n 0, 1) := dk_42 (dk_at dksX0_init_1 10 rfl rfl)
theorem dX0_init_33 : decode cX0_init 33 = .ok (.new 74, 3) := dk_187 0 74 (dk_at dksX0_init_1 11 rfl rfl)
theorem dX0_init_36 : decode cX0_init 36 = .ok (.dup, 1) := dk_89 (dk_at dksX0_init_1 14 rfl rfl)
theorem dX0_init_37 : decode cX0_init 37 = .ok (.invokespecial 76, 3) := dk_183 0 76 (dk_at dksX0_init_1 15 rfl rfl)
theorem dX0_init_40 : decode cX0_init 40 = .ok (.putfield 77, 3) := dk_181 0 77 (dk_at dksX0_init_1 18 rfl rfl)
theorem dX0_init_43 : decode cX0_init 43 = .ok (.aload_n 0, 1) := dk_42 (dk_at dksX0_init_1 21 rfl rfl)
theorem dX0_init_44 : decode cX0_init 44 = .ok (.bipush 8, 2) := dk_16 8 (dk_at dksX0_init_1 22 rfl rfl)
theorem dX0_init_46 : decode cX0_init 46 = .ok (.newarray .int, 2) := dk_188_10 (dk_at dksX0_init_2 0 rfl rfl)
theorem dX0_init_48 : decode cX0_init 48 = .ok (.putfield 81, 3) := dk_181 0 81 (dk_at dksX0_init_2 2 rfl rfl)
theorem dX0_init_51 : decode cX0_init 51 = .ok (.aload_n 0, 1) := dk_42 (dk_at dksX0_init_2 5 rfl rfl)
theorem dX0_init_52 : decode cX0_init 52 = .ok (.bipush 8, 2) := dk_16 8 (dk_at dksX0_init_2 6 rfl rfl)
theorem dX0_init_54 : decode cX0_init 54 = .ok (.newarray .int, 2) := dk_188_10 (dk_at dksX0_init_2 8 rfl rfl)
theorem dX0_init_56 : decode cX0_init 56 = .ok (.putfield 84, 3) := dk_181 0 84 (dk_at dksX0_init_2 10 rfl rfl)
theorem dX0_init_59 : decode cX0_init 59 = .ok (.aload_n 0, 1) := dk_42 (dk_at dksX0_init_2 13 rfl rfl)
theorem dX0_init_60 : decode cX0_init 60 = .ok (.new 87, 3) := dk_187 0 87 (dk_at dksX0_init_2 14 rfl rfl)
theorem dX0_init_63 : decode cX0_init 63 = .ok (.dup, 1) := dk_89 (dk_at dksX0_init_2 17 rfl rfl)
theorem dX0_init_64 : decode cX0_init 64 = .ok (.invokespecial 89, 3) := dk_183 0 89 (dk_at dksX0_init_2 18 rfl rfl)
theorem dX0_init_67 : decode cX0_init 67 = .ok (.putfield 90, 3) := dk_181 0 90 (dk_at dksX0_init_2 21 rfl rfl)
theorem dX0_init_70 : decode cX0_init 70 = .ok (.aload_n 0, 1) := dk_42 (dk_at dksX0_init_3 0 rfl rfl)
theorem dX0_init_71 : decode cX0_init 71 = .ok (.iconst (-1), 1) := dk_2 (dk_at dksX0_init_3 1 rfl rfl)
theorem dX0_init_72 : decode cX0_init 72 = .ok (.putfield 94, 3) := dk_181 0 94 (dk_at dksX0_init_3 2 rfl rfl)
theorem dX0_init_75 : decode cX0_init 75 = .ok (.iconst 0, 1) := dk_3 (dk_at dksX0_init_3 5 rfl rfl)
theorem dX0_init_76 : decode cX0_init 76 = .ok (.istore_n 1, 1) := dk_60 (dk_at dksX0_init_3 6 rfl rfl)
theorem dX0_init_77 : decode cX0_init 77 = .ok (.iload_n 1, 1) := dk_27 (dk_at dksX0_init_3 7 rfl rfl)
theorem dX0_init_78 : decode cX0_init 78 = .ok (.bipush 8, 2) := dk_16 8 (dk_at dksX0_init_3 8 rfl rfl)
theorem dX0_init_80 : decode cX0_init 80 = .ok (.if_icmp .ge 22, 3) := dk_162 0 22 (dk_at dksX0_init_3 10 rfl rfl)
theorem dX0_init_83 : decode cX0_init 83 = .ok (.aload_n 0, 1) := dk_42 (dk_at dksX0_init_3 13 rfl rfl)
theorem dX0_init_84 : decode cX0_init 84 = .ok (.getfield 59, 3) := dk_180 0 59 (dk_at dksX0_init_3 14 rfl rfl)
theorem dX0_init_87 : decode cX0_init 87 = .ok (.iload_n 1, 1) := dk_27 (dk_at dksX0_init_3 17 rfl rfl)
theorem dX0_init_88 : decode cX0_init 88 = .ok (.new 57, 3) := dk_187 0 57 (dk_at dksX0_init_3 18 rfl rfl)
theorem dX0_init_91 : decode cX0_init 91 = .ok (.dup, 1) := dk_89 (dk_at dksX0_init_3 21 rfl rfl)
theorem dX0_init_92 : decode cX0_init 92 = .ok (.invokespecial 98, 3) := dk_183 0 98 (dk_at dksX0_init_4 0 rfl rfl)
theorem dX0_init_95 : decode cX0_init 95 = .ok (.aastore, 1) := dk_83 (dk_at dksX0_init_4 3 rfl rfl)
theorem dX0_init_96 : decode cX0_init 96 = .ok (.iinc 1 1, 3) := dk_132 1 1 (dk_at dksX0_init_4 4 rfl rfl)
theorem dX0_init_99 : decode cX0_init 99 = .ok (.goto (-22), 3) := dk_167 255 234 (dk_at dksX0_init_4 7 rfl rfl)
theorem dX0_init_102 : decode cX0_init 102 = .ok (.return_, 1) := dk_177 (dk_at dksX0_init_4 10 rfl rfl)
abbrev cX0_row : ByteArray := prog_1_method_18_code
def yX0_row : MethodName := ⟨RX0, "row", "(III)I"⟩
def dkwX0_row_3 : List UInt8 := [182, 0, 173, 172]
abbrev dktX0_row_3 : List UInt8 := dkwX0_row_3 ++ []
def dkwX0_row_2 : List UInt8 := [16, 249, 184, 0, 115, 25, 4, 28, 29, 184, 0, 169, 181, 0, 143, 4, 172, 58, 4, 42, 25, 4]
abbrev dktX0_row_2 : List UInt8 := dkwX0_row_2 ++ dktX0_row_3
def dkwX0_row_1 : List UInt8 := [20, 0, 167, 184, 0, 107, 16, 250, 184, 0, 115, 29, 17, 0, 160, 163, 0, 7, 4, 167, 0, 4, 3]
abbrev dktX0_row_1 : List UInt8 := dkwX0_row_1 ++ dktX0_row_2
def dkwX0_row_0 : List UInt8 := [42, 27, 182, 0, 163, 58, 4, 29, 155, 0, 7, 4, 167, 0, 4, 3, 16, 252, 184, 0, 115, 28, 133, 9]
abbrev dktX0_row_0 : List UInt8 := dkwX0_row_0 ++ dktX0_row_1
theorem dksX0_row_0 : cX0_row.data.toList.drop 0 = dktX0_row_0 := by decide +kernel
theorem dksX0_row_1 : cX0_row.data.toList.drop 24 = dktX0_row_1 := dk_seg dksX0_row_0 24 rfl rfl
theorem dksX0_row_2 : cX0_row.data.toList.drop 47 = dktX0_row_2 := dk_seg dksX0_row_1 23 rfl rfl
theorem dksX0_row_3 : cX0_row.data.toList.drop 69 = dktX0_row_3 := dk_seg dksX0_row_2 22 rfl rfl
theorem dX0_row_0 : decode cX0_row 0 = .ok (.aload_n 0, 1) := dk_42 (dk_at dksX0_row_0 0 rfl rfl)
theorem dX0_row_1 : decode cX0_row 1 = .ok (.iload_n 1, 1) := dk_27 (dk_at dksX0_row_0 1 rfl rfl)
theorem dX0_row_2 : decode cX0_row 2 = .ok (.invokevirtual 163, 3) := dk_182 0 163 (dk_at dksX0_row_0 2 rfl rfl)
theorem dX0_row_5 : decode cX0_row 5 = .ok (.astore 4, 2) := dk_58 4 (dk_at dksX0_row_0 5 rfl rfl)
theorem dX0_row_7 : decode cX0_row 7 = .ok (.iload_n 3, 1) := dk_29 (dk_at dksX0_row_0 7 rfl rfl)
theorem dX0_row_8 : decode cX0_row 8 = .ok (.ifCond .lt 7, 3) := dk_155 0 7 (dk_at dksX0_row_0 8 rfl rfl)
theorem dX0_row_11 : decode cX0_row 11 = .ok (.iconst 1, 1) := dk_4 (dk_at dksX0_row_0 11 rfl rfl)
theorem dX0_row_12 : decode cX0_row 12 = .ok (.goto 4, 3) := dk_167 0 4 (dk_at dksX0_row_0 12 rfl rfl)
theorem dX0_row_15 : decode cX0_row 15 = .ok (.iconst 0, 1) := dk_3 (dk_at dksX0_row_0 15 rfl rfl)
theorem dX0_row_16 : decode cX0_row 16 = .ok (.bipush (-4), 2) := dk_16 252 (dk_at dksX0_row_0 16 rfl rfl)
theorem dX0_row_18 : decode cX0_row 18 = .ok (.invokestatic 115, 3) := dk_184 0 115 (dk_at dksX0_row_0 18 rfl rfl)
theorem dX0_row_21 : decode cX0_row 21 = .ok (.iload_n 2, 1) := dk_28 (dk_at dksX0_row_0 21 rfl rfl)
theorem dX0_row_22 : decode cX0_row 22 = .ok (.i2l, 1) := dk_133 (dk_at dksX0_row_0 22 rfl rfl)
theorem dX0_row_23 : decode cX0_row 23 = .ok (.lconst 0, 1) := dk_9 (dk_at dksX0_row_0 23 rfl rfl)
theorem dX0_row_24 : decode cX0_row 24 = .ok (.ldc2_w 167, 3) := dk_20 0 167 (dk_at dksX0_row_1 0 rfl rfl)
theorem dX0_row_27 : decode cX0_row 27 = .ok (.invokestatic 107, 3) := dk_184 0 107 (dk_at dksX0_row_1 3 rfl rfl)
theorem dX0_row_30 : decode cX0_row 30 = .ok (.bipush (-6), 2) := dk_16 250 (dk_at dksX0_row_1 6 rfl rfl)
theorem dX0_row_32 : decode cX0_row 32 = .ok (.invokestatic 115, 3) := dk_184 0 115 (dk_at dksX0_row_1 8 rfl rfl)
theorem dX0_row_35 : decode cX0_row 35 = .ok (.iload_n 3, 1) := dk_29 (dk_at dksX0_row_1 11 rfl rfl)
theorem dX0_row_36 : decode cX0_row 36 = .ok (.sipush 160, 3) := dk_17 0 160 (dk_at dksX0_row_1 12 rfl rfl)
theorem dX0_row_39 : decode cX0_row 39 = .ok (.if_icmp .gt 7, 3) := dk_163 0 7 (dk_at dksX0_row_1 15 rfl rfl)
theorem dX0_row_42 : decode cX0_row 42 = .ok (.iconst 1, 1) := dk_4 (dk_at dksX0_row_1 18 rfl rfl)
theorem dX0_row_43 : decode cX0_row 43 = .ok (.goto 4, 3) := dk_167 0 4 (dk_at dksX0_row_1 19 rfl rfl)
theorem dX0_row_46 : decode cX0_row 46 = .ok (.iconst 0, 1) := dk_3 (dk_at dksX0_row_1 22 rfl rfl)
theorem dX0_row_47 : decode cX0_row 47 = .ok (.bipush (-7), 2) := dk_16 249 (dk_at dksX0_row_2 0 rfl rfl)
theorem dX0_row_49 : decode cX0_row 49 = .ok (.invokestatic 115, 3) := dk_184 0 115 (dk_at dksX0_row_2 2 rfl rfl)
theorem dX0_row_52 : decode cX0_row 52 = .ok (.aload 4, 2) := dk_25 4 (dk_at dksX0_row_2 5 rfl rfl)
theorem dX0_row_54 : decode cX0_row 54 = .ok (.iload_n 2, 1) := dk_28 (dk_at dksX0_row_2 7 rfl rfl)
theorem dX0_row_55 : decode cX0_row 55 = .ok (.iload_n 3, 1) := dk_29 (dk_at dksX0_row_2 8 rfl rfl)
theorem dX0_row_56 : decode cX0_row 56 = .ok (.invokestatic 169, 3) := dk_184 0 169 (dk_at dksX0_row_2 9 rfl rfl)
theorem dX0_row_59 : decode cX0_row 59 = .ok (.putfield 143, 3) := dk_181 0 143 (dk_at dksX0_row_2 12 rfl rfl)
theorem dX0_row_62 : decode cX0_row 62 = .ok (.iconst 1, 1) := dk_4 (dk_at dksX0_row_2 15 rfl rfl)
theorem dX0_row_63 : decode cX0_row 63 = .ok (.ireturn, 1) := dk_172 (dk_at dksX0_row_2 16 rfl rfl)
theorem dX0_row_64 : decode cX0_row 64 = .ok (.astore 4, 2) := dk_58 4 (dk_at dksX0_row_2 17 rfl rfl)
theorem dX0_row_66 : decode cX0_row 66 = .ok (.aload_n 0, 1) := dk_42 (dk_at dksX0_row_2 19 rfl rfl)
theorem dX0_row_67 : decode cX0_row 67 = .ok (.aload 4, 2) := dk_25 4 (dk_at dksX0_row_2 20 rfl rfl)
theorem dX0_row_69 : decode cX0_row 69 = .ok (.invokevirtual 173, 3) := dk_182 0 173 (dk_at dksX0_row_3 0 rfl rfl)
theorem dX0_row_72 : decode cX0_row 72 = .ok (.ireturn, 1) := dk_172 (dk_at dksX0_row_3 3 rfl rfl)
abbrev cX0_shelf : ByteArray := prog_1_method_8_code
def yX0_shelf : MethodName := ⟨RX0, "shelf", "(I)LNoFartherThanAThrow$Shelf;"⟩
def dkwX0_shelf_0 : List UInt8 := [42, 180, 0, 59, 27, 50, 176, 77, 187, 0, 21, 89, 2, 183, 0, 23, 191]
abbrev dktX0_shelf_0 : List UInt8 := dkwX0_shelf_0 ++ []
theorem dksX0_shelf_0 : cX0_shelf.data.toList.drop 0 = dktX0_shelf_0 := by decide +kernel
theorem dX0_shelf_0 : decode cX0_shelf 0 = .ok (.aload_n 0, 1) := dk_42 (dk_at dksX0_shelf_0 0 rfl rfl)
theorem dX0_shelf_1 : decode cX0_shelf 1 = .ok (.getfield 59, 3) := dk_180 0 59 (dk_at dksX0_shelf_0 1 rfl rfl)
theorem dX0_shelf_4 : decode cX0_shelf 4 = .ok (.iload_n 1, 1) := dk_27 (dk_at dksX0_shelf_0 4 rfl rfl)
theorem dX0_shelf_5 : decode cX0_shelf 5 = .ok (.aaload, 1) := dk_50 (dk_at dksX0_shelf_0 5 rfl rfl)
theorem dX0_shelf_6 : decode cX0_shelf 6 = .ok (.areturn, 1) := dk_176 (dk_at dksX0_shelf_0 6 rfl rfl)
theorem dX0_shelf_7 : decode cX0_shelf 7 = .ok (.astore_n 2, 1) := dk_77 (dk_at dksX0_shelf_0 7 rfl rfl)
theorem dX0_shelf_8 : decode cX0_shelf 8 = .ok (.new 21, 3) := dk_187 0 21 (dk_at dksX0_shelf_0 8 rfl rfl)
theorem dX0_shelf_11 : decode cX0_shelf 11 = .ok (.dup, 1) := dk_89 (dk_at dksX0_shelf_0 11 rfl rfl)
theorem dX0_shelf_12 : decode cX0_shelf 12 = .ok (.iconst (-1), 1) := dk_2 (dk_at dksX0_shelf_0 12 rfl rfl)
theorem dX0_shelf_13 : decode cX0_shelf 13 = .ok (.invokespecial 23, 3) := dk_183 0 23 (dk_at dksX0_shelf_0 13 rfl rfl)
theorem dX0_shelf_16 : decode cX0_shelf 16 = .ok (.athrow, 1) := dk_191 (dk_at dksX0_shelf_0 16 rfl rfl)
abbrev cX0_need : ByteArray := prog_1_method_2_code
def yX0_need : MethodName := ⟨RX0, "need", "(ZI)V"⟩
def dkwX0_need_0 : List UInt8 := [26, 154, 0, 12, 187, 0, 21, 89, 27, 183, 0, 23, 191, 177]
abbrev dktX0_need_0 : List UInt8 := dkwX0_need_0 ++ []
theorem dksX0_need_0 : cX0_need.data.toList.drop 0 = dktX0_need_0 := by decide +kernel
theorem dX0_need_0 : decode cX0_need 0 = .ok (.iload_n 0, 1) := dk_26 (dk_at dksX0_need_0 0 rfl rfl)
theorem dX0_need_1 : decode cX0_need 1 = .ok (.ifCond .ne 12, 3) := dk_154 0 12 (dk_at dksX0_need_0 1 rfl rfl)
theorem dX0_need_4 : decode cX0_need 4 = .ok (.new 21, 3) := dk_187 0 21 (dk_at dksX0_need_0 4 rfl rfl)
theorem dX0_need_7 : decode cX0_need 7 = .ok (.dup, 1) := dk_89 (dk_at dksX0_need_0 7 rfl rfl)
theorem dX0_need_8 : decode cX0_need 8 = .ok (.iload_n 1, 1) := dk_27 (dk_at dksX0_need_0 8 rfl rfl)
theorem dX0_need_9 : decode cX0_need 9 = .ok (.invokespecial 23, 3) := dk_183 0 23 (dk_at dksX0_need_0 9 rfl rfl)
theorem dX0_need_12 : decode cX0_need 12 = .ok (.athrow, 1) := dk_191 (dk_at dksX0_need_0 12 rfl rfl)
theorem dX0_need_13 : decode cX0_need 13 = .ok (.return_, 1) := dk_177 (dk_at dksX0_need_0 13 rfl rfl)
abbrev cX0_in : ByteArray := prog_1_method_3_code
def yX0_in : MethodName := ⟨RX0, "in", "(JJJ)Z"⟩
def dkwX0_in_0 : List UInt8 := [30, 32, 148, 155, 0, 14, 30, 22, 4, 148, 157, 0, 7, 4, 167, 0, 4, 3, 172]
abbrev dktX0_in_0 : List UInt8 := dkwX0_in_0 ++ []
theorem dksX0_in_0 : cX0_in.data.toList.drop 0 = dktX0_in_0 := by decide +kernel
theorem dX0_in_0 : decode cX0_in 0 = .ok (.lload_n 0, 1) := dk_30 (dk_at dksX0_in_0 0 rfl rfl)
theorem dX0_in_1 : decode cX0_in 1 = .ok (.lload_n 2, 1) := dk_32 (dk_at dksX0_in_0 1 rfl rfl)
theorem dX0_in_2 : decode cX0_in 2 = .ok (.lcmp, 1) := dk_148 (dk_at dksX0_in_0 2 rfl rfl)
theorem dX0_in_3 : decode cX0_in 3 = .ok (.ifCond .lt 14, 3) := dk_155 0 14 (dk_at dksX0_in_0 3 rfl rfl)
theorem dX0_in_6 : decode cX0_in 6 = .ok (.lload_n 0, 1) := dk_30 (dk_at dksX0_in_0 6 rfl rfl)
theorem dX0_in_7 : decode cX0_in 7 = .ok (.lload 4, 2) := dk_22 4 (dk_at dksX0_in_0 7 rfl rfl)
theorem dX0_in_9 : decode cX0_in 9 = .ok (.lcmp, 1) := dk_148 (dk_at dksX0_in_0 9 rfl rfl)
theorem dX0_in_10 : decode cX0_in 10 = .ok (.ifCond .gt 7, 3) := dk_157 0 7 (dk_at dksX0_in_0 10 rfl rfl)
theorem dX0_in_13 : decode cX0_in 13 = .ok (.iconst 1, 1) := dk_4 (dk_at dksX0_in_0 13 rfl rfl)
theorem dX0_in_14 : decode cX0_in 14 = .ok (.goto 4, 3) := dk_167 0 4 (dk_at dksX0_in_0 14 rfl rfl)
theorem dX0_in_17 : decode cX0_in 17 = .ok (.iconst 0, 1) := dk_3 (dk_at dksX0_in_0 17 rfl rfl)
theorem dX0_in_18 : decode cX0_in 18 = .ok (.ireturn, 1) := dk_172 (dk_at dksX0_in_0 18 rfl rfl)
abbrev cX0_newRow : ByteArray := prog_1_method_17_code
def yX0_newRow : MethodName := ⟨RX0, "newRow", "(II)LNoFartherThanAThrow$Row;"⟩
def dkwX0_newRow_4 : List UInt8 := [187, 0, 21, 89, 16, 252, 183, 0, 23, 191]
abbrev dktX0_newRow_4 : List UInt8 := dkwX0_newRow_4 ++ []
def dkwX0_newRow_3 : List UInt8 := [183, 0, 157, 176, 187, 0, 158, 89, 27, 183, 0, 160, 176, 187, 0, 21, 89, 16, 250, 183, 0, 23, 191, 77]
abbrev dktX0_newRow_3 : List UInt8 := dkwX0_newRow_3 ++ dktX0_newRow_4
def dkwX0_newRow_2 : List UInt8 := [187, 0, 149, 89, 27, 183, 0, 151, 176, 187, 0, 152, 89, 27, 183, 0, 154, 176, 187, 0, 155, 89, 27]
abbrev dktX0_newRow_2 : List UInt8 := dkwX0_newRow_2 ++ dktX0_newRow_3
def dkwX0_newRow_1 : List UInt8 := [170, 0, 0, 0, 0, 0, 67, 0, 0, 0, 0, 0, 0, 0, 3, 0, 0, 0, 31, 0, 0, 0, 40, 0, 0, 0, 49, 0, 0, 0, 58]
abbrev dktX0_newRow_1 : List UInt8 := dkwX0_newRow_1 ++ dktX0_newRow_2
def dkwX0_newRow_0 : List UInt8 := [26]
abbrev dktX0_newRow_0 : List UInt8 := dkwX0_newRow_0 ++ dktX0_newRow_1
theorem dksX0_newRow_0 : cX0_newRow.data.toList.drop 0 = dktX0_newRow_0 := by decide +kernel
theorem dksX0_newRow_1 : cX0_newRow.data.toList.drop 1 = dktX0_newRow_1 := dk_seg dksX0_newRow_0 1 rfl rfl
theorem dksX0_newRow_2 : cX0_newRow.data.toList.drop 32 = dktX0_newRow_2 := dk_seg dksX0_newRow_1 31 rfl rfl
theorem dksX0_newRow_3 : cX0_newRow.data.toList.drop 55 = dktX0_newRow_3 := dk_seg dksX0_newRow_2 23 rfl rfl
theorem dksX0_newRow_4 : cX0_newRow.data.toList.drop 79 = dktX0_newRow_4 := dk_seg dksX0_newRow_3 24 rfl rfl
theorem dX0_newRow_0 : decode cX0_newRow 0 = .ok (.iload_n 0, 1) := dk_26 (dk_at dksX0_newRow_0 0 rfl rfl)
theorem dX0_newRow_1 : decode cX0_newRow 1 = .ok (.tableswitch 67 0 3 #[31, 40, 49, 58], 31) := by decide +kernel
theorem dX0_newRow_32 : decode cX0_newRow 32 = .ok (.new 149, 3) := dk_187 0 149 (dk_at dksX0_newRow_2 0 rfl rfl)
theorem dX0_newRow_35 : decode cX0_newRow 35 = .ok (.dup, 1) := dk_89 (dk_at dksX0_newRow_2 3 rfl rfl)
theorem dX0_newRow_36 : decode cX0_newRow 36 = .ok (.iload_n 1, 1) := dk_27 (dk_at dksX0_newRow_2 4 rfl rfl)
theorem dX0_newRow_37 : decode cX0_newRow 37 = .ok (.invokespecial 151, 3) := dk_183 0 151 (dk_at dksX0_newRow_2 5 rfl rfl)
theorem dX0_newRow_40 : decode cX0_newRow 40 = .ok (.areturn, 1) := dk_176 (dk_at dksX0_newRow_2 8 rfl rfl)
theorem dX0_newRow_41 : decode cX0_newRow 41 = .ok (.new 152, 3) := dk_187 0 152 (dk_at dksX0_newRow_2 9 rfl rfl)
theorem dX0_newRow_44 : decode cX0_newRow 44 = .ok (.dup, 1) := dk_89 (dk_at dksX0_newRow_2 12 rfl rfl)
theorem dX0_newRow_45 : decode cX0_newRow 45 = .ok (.iload_n 1, 1) := dk_27 (dk_at dksX0_newRow_2 13 rfl rfl)
theorem dX0_newRow_46 : decode cX0_newRow 46 = .ok (.invokespecial 154, 3) := dk_183 0 154 (dk_at dksX0_newRow_2 14 rfl rfl)
theorem dX0_newRow_49 : decode cX0_newRow 49 = .ok (.areturn, 1) := dk_176 (dk_at dksX0_newRow_2 17 rfl rfl)
theorem dX0_newRow_50 : decode cX0_newRow 50 = .ok (.new 155, 3) := dk_187 0 155 (dk_at dksX0_newRow_2 18 rfl rfl)
theorem dX0_newRow_53 : decode cX0_newRow 53 = .ok (.dup, 1) := dk_89 (dk_at dksX0_newRow_2 21 rfl rfl)
theorem dX0_newRow_54 : decode cX0_newRow 54 = .ok (.iload_n 1, 1) := dk_27 (dk_at dksX0_newRow_2 22 rfl rfl)
theorem dX0_newRow_55 : decode cX0_newRow 55 = .ok (.invokespecial 157, 3) := dk_183 0 157 (dk_at dksX0_newRow_3 0 rfl rfl)
theorem dX0_newRow_58 : decode cX0_newRow 58 = .ok (.areturn, 1) := dk_176 (dk_at dksX0_newRow_3 3 rfl rfl)
theorem dX0_newRow_59 : decode cX0_newRow 59 = .ok (.new 158, 3) := dk_187 0 158 (dk_at dksX0_newRow_3 4 rfl rfl)
theorem dX0_newRow_62 : decode cX0_newRow 62 = .ok (.dup, 1) := dk_89 (dk_at dksX0_newRow_3 7 rfl rfl)
theorem dX0_newRow_63 : decode cX0_newRow 63 = .ok (.iload_n 1, 1) := dk_27 (dk_at dksX0_newRow_3 8 rfl rfl)
theorem dX0_newRow_64 : decode cX0_newRow 64 = .ok (.invokespecial 160, 3) := dk_183 0 160 (dk_at dksX0_newRow_3 9 rfl rfl)
theorem dX0_newRow_67 : decode cX0_newRow 67 = .ok (.areturn, 1) := dk_176 (dk_at dksX0_newRow_3 12 rfl rfl)
theorem dX0_newRow_68 : decode cX0_newRow 68 = .ok (.new 21, 3) := dk_187 0 21 (dk_at dksX0_newRow_3 13 rfl rfl)
theorem dX0_newRow_71 : decode cX0_newRow 71 = .ok (.dup, 1) := dk_89 (dk_at dksX0_newRow_3 16 rfl rfl)
theorem dX0_newRow_72 : decode cX0_newRow 72 = .ok (.bipush (-6), 2) := dk_16 250 (dk_at dksX0_newRow_3 17 rfl rfl)
theorem dX0_newRow_74 : decode cX0_newRow 74 = .ok (.invokespecial 23, 3) := dk_183 0 23 (dk_at dksX0_newRow_3 19 rfl rfl)
theorem dX0_newRow_77 : decode cX0_newRow 77 = .ok (.athrow, 1) := dk_191 (dk_at dksX0_newRow_3 22 rfl rfl)
theorem dX0_newRow_78 : decode cX0_newRow 78 = .ok (.astore_n 2, 1) := dk_77 (dk_at dksX0_newRow_3 23 rfl rfl)
theorem dX0_newRow_79 : decode cX0_newRow 79 = .ok (.new 21, 3) := dk_187 0 21 (dk_at dksX0_newRow_4 0 rfl rfl)
theorem dX0_newRow_82 : decode cX0_newRow 82 = .ok (.dup, 1) := dk_89 (dk_at dksX0_newRow_4 3 rfl rfl)
theorem dX0_newRow_83 : decode cX0_newRow 83 = .ok (.bipush (-4), 2) := dk_16 252 (dk_at dksX0_newRow_4 4 rfl rfl)
theorem dX0_newRow_85 : decode cX0_newRow 85 = .ok (.invokespecial 23, 3) := dk_183 0 23 (dk_at dksX0_newRow_4 6 rfl rfl)
theorem dX0_newRow_88 : decode cX0_newRow 88 = .ok (.athrow, 1) := dk_191 (dk_at dksX0_newRow_4 9 rfl rfl)
abbrev cX0_refused : ByteArray := prog_1_method_6_code
def yX0_refused : MethodName := ⟨RX0, "refused", "(LNoFartherThanAThrow$Refused;)I"⟩
def dkwX0_refused_0 : List UInt8 := [42, 180, 0, 63, 43, 180, 0, 99, 116, 92, 46, 4, 96, 79, 43, 180, 0, 99, 172]
abbrev dktX0_refused_0 : List UInt8 := dkwX0_refused_0 ++ []
theorem dksX0_refused_0 : cX0_refused.data.toList.drop 0 = dktX0_refused_0 := by decide +kernel
theorem dX0_refused_0 : decode cX0_refused 0 = .ok (.aload_n 0, 1) := dk_42 (dk_at dksX0_refused_0 0 rfl rfl)
theorem dX0_refused_1 : decode cX0_refused 1 = .ok (.getfield 63, 3) := dk_180 0 63 (dk_at dksX0_refused_0 1 rfl rfl)
theorem dX0_refused_4 : decode cX0_refused 4 = .ok (.aload_n 1, 1) := dk_43 (dk_at dksX0_refused_0 4 rfl rfl)
theorem dX0_refused_5 : decode cX0_refused 5 = .ok (.getfield 99, 3) := dk_180 0 99 (dk_at dksX0_refused_0 5 rfl rfl)
theorem dX0_refused_8 : decode cX0_refused 8 = .ok (.ineg, 1) := dk_116 (dk_at dksX0_refused_0 8 rfl rfl)
theorem dX0_refused_9 : decode cX0_refused 9 = .ok (.dup2, 1) := dk_92 (dk_at dksX0_refused_0 9 rfl rfl)
theorem dX0_refused_10 : decode cX0_refused 10 = .ok (.iaload, 1) := dk_46 (dk_at dksX0_refused_0 10 rfl rfl)
theorem dX0_refused_11 : decode cX0_refused 11 = .ok (.iconst 1, 1) := dk_4 (dk_at dksX0_refused_0 11 rfl rfl)
theorem dX0_refused_12 : decode cX0_refused 12 = .ok (.iadd, 1) := dk_96 (dk_at dksX0_refused_0 12 rfl rfl)
theorem dX0_refused_13 : decode cX0_refused 13 = .ok (.iastore, 1) := dk_79 (dk_at dksX0_refused_0 13 rfl rfl)
theorem dX0_refused_14 : decode cX0_refused 14 = .ok (.aload_n 1, 1) := dk_43 (dk_at dksX0_refused_0 14 rfl rfl)
theorem dX0_refused_15 : decode cX0_refused 15 = .ok (.getfield 99, 3) := dk_180 0 99 (dk_at dksX0_refused_0 15 rfl rfl)
theorem dX0_refused_18 : decode cX0_refused 18 = .ok (.ireturn, 1) := dk_172 (dk_at dksX0_refused_0 18 rfl rfl)
abbrev cX0_set : ByteArray := prog_1_method_19_code
def yX0_set : MethodName := ⟨RX0, "set", "(IIJ)I"⟩
def dkwX0_set_1 : List UInt8 := [187, 0, 21, 89, 16, 251, 183, 0, 23, 191, 4, 172, 58, 5, 42, 25, 5, 182, 0, 173, 172]
abbrev dktX0_set_1 : List UInt8 := dkwX0_set_1 ++ []
def dkwX0_set_0 : List UInt8 := [42, 27, 182, 0, 163, 182, 0, 177, 58, 5, 25, 5, 28, 33, 182, 0, 180, 167, 0, 15, 58, 6]
abbrev dktX0_set_0 : List UInt8 := dkwX0_set_0 ++ dktX0_set_1
theorem dksX0_set_0 : cX0_set.data.toList.drop 0 = dktX0_set_0 := by decide +kernel
theorem dksX0_set_1 : cX0_set.data.toList.drop 22 = dktX0_set_1 := dk_seg dksX0_set_0 22 rfl rfl
theorem dX0_set_0 : decode cX0_set 0 = .ok (.aload_n 0, 1) := dk_42 (dk_at dksX0_set_0 0 rfl rfl)
theorem dX0_set_1 : decode cX0_set 1 = .ok (.iload_n 1, 1) := dk_27 (dk_at dksX0_set_0 1 rfl rfl)
theorem dX0_set_2 : decode cX0_set 2 = .ok (.invokevirtual 163, 3) := dk_182 0 163 (dk_at dksX0_set_0 2 rfl rfl)
theorem dX0_set_5 : decode cX0_set 5 = .ok (.invokevirtual 177, 3) := dk_182 0 177 (dk_at dksX0_set_0 5 rfl rfl)
theorem dX0_set_8 : decode cX0_set 8 = .ok (.astore 5, 2) := dk_58 5 (dk_at dksX0_set_0 8 rfl rfl)
theorem dX0_set_10 : decode cX0_set 10 = .ok (.aload 5, 2) := dk_25 5 (dk_at dksX0_set_0 10 rfl rfl)
theorem dX0_set_12 : decode cX0_set 12 = .ok (.iload_n 2, 1) := dk_28 (dk_at dksX0_set_0 12 rfl rfl)
theorem dX0_set_13 : decode cX0_set 13 = .ok (.lload_n 3, 1) := dk_33 (dk_at dksX0_set_0 13 rfl rfl)
theorem dX0_set_14 : decode cX0_set 14 = .ok (.invokevirtual 180, 3) := dk_182 0 180 (dk_at dksX0_set_0 14 rfl rfl)
theorem dX0_set_17 : decode cX0_set 17 = .ok (.goto 15, 3) := dk_167 0 15 (dk_at dksX0_set_0 17 rfl rfl)
theorem dX0_set_20 : decode cX0_set 20 = .ok (.astore 6, 2) := dk_58 6 (dk_at dksX0_set_0 20 rfl rfl)
theorem dX0_set_22 : decode cX0_set 22 = .ok (.new 21, 3) := dk_187 0 21 (dk_at dksX0_set_1 0 rfl rfl)
theorem dX0_set_25 : decode cX0_set 25 = .ok (.dup, 1) := dk_89 (dk_at dksX0_set_1 3 rfl rfl)
theorem dX0_set_26 : decode cX0_set 26 = .ok (.bipush (-5), 2) := dk_16 251 (dk_at dksX0_set_1 4 rfl rfl)
theorem dX0_set_28 : decode cX0_set 28 = .ok (.invokespecial 23, 3) := dk_183 0 23 (dk_at dksX0_set_1 6 rfl rfl)
theorem dX0_set_31 : decode cX0_set 31 = .ok (.athrow, 1) := dk_191 (dk_at dksX0_set_1 9 rfl rfl)
theorem dX0_set_32 : decode cX0_set 32 = .ok (.iconst 1, 1) := dk_4 (dk_at dksX0_set_1 10 rfl rfl)
theorem dX0_set_33 : decode cX0_set 33 = .ok (.ireturn, 1) := dk_172 (dk_at dksX0_set_1 11 rfl rfl)
theorem dX0_set_34 : decode cX0_set 34 = .ok (.astore 5, 2) := dk_58 5 (dk_at dksX0_set_1 12 rfl rfl)
theorem dX0_set_36 : decode cX0_set 36 = .ok (.aload_n 0, 1) := dk_42 (dk_at dksX0_set_1 14 rfl rfl)
theorem dX0_set_37 : decode cX0_set 37 = .ok (.aload 5, 2) := dk_25 5 (dk_at dksX0_set_1 15 rfl rfl)
theorem dX0_set_39 : decode cX0_set 39 = .ok (.invokevirtual 173, 3) := dk_182 0 173 (dk_at dksX0_set_1 17 rfl rfl)
theorem dX0_set_42 : decode cX0_set 42 = .ok (.ireturn, 1) := dk_172 (dk_at dksX0_set_1 20 rfl rfl)
abbrev cX0_copy : ByteArray := prog_1_method_20_code
def yX0_copy : MethodName := ⟨RX0, "copy", "(IIIII)I"⟩
def dkwX0_copy_6 : List UInt8 := [89, 16, 251, 183, 0, 23, 191, 4, 172, 58, 6, 42, 25, 6, 182, 0, 173, 172]
abbrev dktX0_copy_6 : List UInt8 := dkwX0_copy_6 ++ []
def dkwX0_copy_5 : List UInt8 := [182, 0, 7, 29, 25, 9, 182, 0, 7, 21, 4, 21, 5, 184, 0, 15, 167, 0, 15, 58, 10, 187, 0, 21]
abbrev dktX0_copy_5 : List UInt8 := dkwX0_copy_5 ++ dktX0_copy_6
def dkwX0_copy_4 : List UInt8 := [182, 0, 177, 58, 9, 21, 5, 155, 0, 7, 4, 167, 0, 4, 3, 16, 252, 184, 0, 115, 25, 8]
abbrev dktX0_copy_4 : List UInt8 := dkwX0_copy_4 ++ dktX0_copy_5
def dkwX0_copy_3 : List UInt8 := [160, 0, 7, 4, 167, 0, 4, 3, 16, 254, 184, 0, 115, 25, 6, 182, 0, 177, 58, 8, 25, 7]
abbrev dktX0_copy_3 : List UInt8 := dkwX0_copy_3 ++ dktX0_copy_4
def dkwX0_copy_2 : List UInt8 := [25, 7, 180, 0, 143, 198, 0, 32, 25, 6, 182, 0, 177, 182, 0, 184, 25, 7, 182, 0, 177, 182, 0, 184]
abbrev dktX0_copy_2 : List UInt8 := dkwX0_copy_2 ++ dktX0_copy_3
def dkwX0_copy_1 : List UInt8 := [182, 0, 139, 154, 0, 7, 4, 167, 0, 4, 3, 16, 254, 184, 0, 115, 25, 6, 180, 0, 143, 198, 0, 40]
abbrev dktX0_copy_1 : List UInt8 := dkwX0_copy_1 ++ dktX0_copy_2
def dkwX0_copy_0 : List UInt8 := [42, 27, 182, 0, 163, 58, 6, 42, 28, 182, 0, 163, 58, 7, 25, 6, 182, 0, 139, 154, 0, 15, 25, 7]
abbrev dktX0_copy_0 : List UInt8 := dkwX0_copy_0 ++ dktX0_copy_1
theorem dksX0_copy_0 : cX0_copy.data.toList.drop 0 = dktX0_copy_0 := by decide +kernel
theorem dksX0_copy_1 : cX0_copy.data.toList.drop 24 = dktX0_copy_1 := dk_seg dksX0_copy_0 24 rfl rfl
theorem dksX0_copy_2 : cX0_copy.data.toList.drop 48 = dktX0_copy_2 := dk_seg dksX0_copy_1 24 rfl rfl
theorem dksX0_copy_3 : cX0_copy.data.toList.drop 72 = dktX0_copy_3 := dk_seg dksX0_copy_2 24 rfl rfl
theorem dksX0_copy_4 : cX0_copy.data.toList.drop 94 = dktX0_copy_4 := dk_seg dksX0_copy_3 22 rfl rfl
theorem dksX0_copy_5 : cX0_copy.data.toList.drop 116 = dktX0_copy_5 := dk_seg dksX0_copy_4 22 rfl rfl
theorem dksX0_copy_6 : cX0_copy.data.toList.drop 140 = dktX0_copy_6 := dk_seg dksX0_copy_5 24 rfl rfl
theorem dX0_copy_0 : decode cX0_copy 0 = .ok (.aload_n 0, 1) := dk_42 (dk_at dksX0_copy_0 0 rfl rfl)
theorem dX0_copy_1 : decode cX0_copy 1 = .ok (.iload_n 1, 1) := dk_27 (dk_at dksX0_copy_0 1 rfl rfl)
theorem dX0_copy_2 : decode cX0_copy 2 = .ok (.invokevirtual 163, 3) := dk_182 0 163 (dk_at dksX0_copy_0 2 rfl rfl)
theorem dX0_copy_5 : decode cX0_copy 5 = .ok (.astore 6, 2) := dk_58 6 (dk_at dksX0_copy_0 5 rfl rfl)
theorem dX0_copy_7 : decode cX0_copy 7 = .ok (.aload_n 0, 1) := dk_42 (dk_at dksX0_copy_0 7 rfl rfl)
theorem dX0_copy_8 : decode cX0_copy 8 = .ok (.iload_n 2, 1) := dk_28 (dk_at dksX0_copy_0 8 rfl rfl)
theorem dX0_copy_9 : decode cX0_copy 9 = .ok (.invokevirtual 163, 3) := dk_182 0 163 (dk_at dksX0_copy_0 9 rfl rfl)
theorem dX0_copy_12 : decode cX0_copy 12 = .ok (.astore 7, 2) := dk_58 7 (dk_at dksX0_copy_0 12 rfl rfl)
theorem dX0_copy_14 : decode cX0_copy 14 = .ok (.aload 6, 2) := dk_25 6 (dk_at dksX0_copy_0 14 rfl rfl)
theorem dX0_copy_16 : decode cX0_copy 16 = .ok (.invokevirtual 139, 3) := dk_182 0 139 (dk_at dksX0_copy_0 16 rfl rfl)
theorem dX0_copy_19 : decode cX0_copy 19 = .ok (.ifCond .ne 15, 3) := dk_154 0 15 (dk_at dksX0_copy_0 19 rfl rfl)
theorem dX0_copy_22 : decode cX0_copy 22 = .ok (.aload 7, 2) := dk_25 7 (dk_at dksX0_copy_0 22 rfl rfl)
theorem dX0_copy_24 : decode cX0_copy 24 = .ok (.invokevirtual 139, 3) := dk_182 0 139 (dk_at dksX0_copy_1 0 rfl rfl)
theorem dX0_copy_27 : decode cX0_copy 27 = .ok (.ifCond .ne 7, 3) := dk_154 0 7 (dk_at dksX0_copy_1 3 rfl rfl)
theorem dX0_copy_30 : decode cX0_copy 30 = .ok (.iconst 1, 1) := dk_4 (dk_at dksX0_copy_1 6 rfl rfl)
theorem dX0_copy_31 : decode cX0_copy 31 = .ok (.goto 4, 3) := dk_167 0 4 (dk_at dksX0_copy_1 7 rfl rfl)
theorem dX0_copy_34 : decode cX0_copy 34 = .ok (.iconst 0, 1) := dk_3 (dk_at dksX0_copy_1 10 rfl rfl)
theorem dX0_copy_35 : decode cX0_copy 35 = .ok (.bipush (-2), 2) := dk_16 254 (dk_at dksX0_copy_1 11 rfl rfl)
theorem dX0_copy_37 : decode cX0_copy 37 = .ok (.invokestatic 115, 3) := dk_184 0 115 (dk_at dksX0_copy_1 13 rfl rfl)
theorem dX0_copy_40 : decode cX0_copy 40 = .ok (.aload 6, 2) := dk_25 6 (dk_at dksX0_copy_1 16 rfl rfl)
theorem dX0_copy_42 : decode cX0_copy 42 = .ok (.getfield 143, 3) := dk_180 0 143 (dk_at dksX0_copy_1 18 rfl rfl)
theorem dX0_copy_45 : decode cX0_copy 45 = .ok (.ifnull 40, 3) := dk_198 0 40 (dk_at dksX0_copy_1 21 rfl rfl)
theorem dX0_copy_48 : decode cX0_copy 48 = .ok (.aload 7, 2) := dk_25 7 (dk_at dksX0_copy_2 0 rfl rfl)
theorem dX0_copy_50 : decode cX0_copy 50 = .ok (.getfield 143, 3) := dk_180 0 143 (dk_at dksX0_copy_2 2 rfl rfl)
theorem dX0_copy_53 : decode cX0_copy 53 = .ok (.ifnull 32, 3) := dk_198 0 32 (dk_at dksX0_copy_2 5 rfl rfl)
theorem dX0_copy_56 : decode cX0_copy 56 = .ok (.aload 6, 2) := dk_25 6 (dk_at dksX0_copy_2 8 rfl rfl)
theorem dX0_copy_58 : decode cX0_copy 58 = .ok (.invokevirtual 177, 3) := dk_182 0 177 (dk_at dksX0_copy_2 10 rfl rfl)
theorem dX0_copy_61 : decode cX0_copy 61 = .ok (.invokevirtual 184, 3) := dk_182 0 184 (dk_at dksX0_copy_2 13 rfl rfl)
theorem dX0_copy_64 : decode cX0_copy 64 = .ok (.aload 7, 2) := dk_25 7 (dk_at dksX0_copy_2 16 rfl rfl)
theorem dX0_copy_66 : decode cX0_copy 66 = .ok (.invokevirtual 177, 3) := dk_182 0 177 (dk_at dksX0_copy_2 18 rfl rfl)
theorem dX0_copy_69 : decode cX0_copy 69 = .ok (.invokevirtual 184, 3) := dk_182 0 184 (dk_at dksX0_copy_2 21 rfl rfl)
theorem dX0_copy_72 : decode cX0_copy 72 = .ok (.if_icmp .ne 7, 3) := dk_160 0 7 (dk_at dksX0_copy_3 0 rfl rfl)
theorem dX0_copy_75 : decode cX0_copy 75 = .ok (.iconst 1, 1) := dk_4 (dk_at dksX0_copy_3 3 rfl rfl)
theorem dX0_copy_76 : decode cX0_copy 76 = .ok (.goto 4, 3) := dk_167 0 4 (dk_at dksX0_copy_3 4 rfl rfl)
theorem dX0_copy_79 : decode cX0_copy 79 = .ok (.iconst 0, 1) := dk_3 (dk_at dksX0_copy_3 7 rfl rfl)
theorem dX0_copy_80 : decode cX0_copy 80 = .ok (.bipush (-2), 2) := dk_16 254 (dk_at dksX0_copy_3 8 rfl rfl)
theorem dX0_copy_82 : decode cX0_copy 82 = .ok (.invokestatic 115, 3) := dk_184 0 115 (dk_at dksX0_copy_3 10 rfl rfl)
theorem dX0_copy_85 : decode cX0_copy 85 = .ok (.aload 6, 2) := dk_25 6 (dk_at dksX0_copy_3 13 rfl rfl)
theorem dX0_copy_87 : decode cX0_copy 87 = .ok (.invokevirtual 177, 3) := dk_182 0 177 (dk_at dksX0_copy_3 15 rfl rfl)
theorem dX0_copy_90 : decode cX0_copy 90 = .ok (.astore 8, 2) := dk_58 8 (dk_at dksX0_copy_3 18 rfl rfl)
theorem dX0_copy_92 : decode cX0_copy 92 = .ok (.aload 7, 2) := dk_25 7 (dk_at dksX0_copy_3 20 rfl rfl)
theorem dX0_copy_94 : decode cX0_copy 94 = .ok (.invokevirtual 177, 3) := dk_182 0 177 (dk_at dksX0_copy_4 0 rfl rfl)
theorem dX0_copy_97 : decode cX0_copy 97 = .ok (.astore 9, 2) := dk_58 9 (dk_at dksX0_copy_4 3 rfl rfl)
theorem dX0_copy_99 : decode cX0_copy 99 = .ok (.iload 5, 2) := dk_21 5 (dk_at dksX0_copy_4 5 rfl rfl)
theorem dX0_copy_101 : decode cX0_copy 101 = .ok (.ifCond .lt 7, 3) := dk_155 0 7 (dk_at dksX0_copy_4 7 rfl rfl)
theorem dX0_copy_104 : decode cX0_copy 104 = .ok (.iconst 1, 1) := dk_4 (dk_at dksX0_copy_4 10 rfl rfl)
theorem dX0_copy_105 : decode cX0_copy 105 = .ok (.goto 4, 3) := dk_167 0 4 (dk_at dksX0_copy_4 11 rfl rfl)
theorem dX0_copy_108 : decode cX0_copy 108 = .ok (.iconst 0, 1) := dk_3 (dk_at dksX0_copy_4 14 rfl rfl)
theorem dX0_copy_109 : decode cX0_copy 109 = .ok (.bipush (-4), 2) := dk_16 252 (dk_at dksX0_copy_4 15 rfl rfl)
theorem dX0_copy_111 : decode cX0_copy 111 = .ok (.invokestatic 115, 3) := dk_184 0 115 (dk_at dksX0_copy_4 17 rfl rfl)
theorem dX0_copy_114 : decode cX0_copy 114 = .ok (.aload 8, 2) := dk_25 8 (dk_at dksX0_copy_4 20 rfl rfl)
theorem dX0_copy_116 : decode cX0_copy 116 = .ok (.invokevirtual 7, 3) := dk_182 0 7 (dk_at dksX0_copy_5 0 rfl rfl)
theorem dX0_copy_119 : decode cX0_copy 119 = .ok (.iload_n 3, 1) := dk_29 (dk_at dksX0_copy_5 3 rfl rfl)
theorem dX0_copy_120 : decode cX0_copy 120 = .ok (.aload 9, 2) := dk_25 9 (dk_at dksX0_copy_5 4 rfl rfl)
theorem dX0_copy_122 : decode cX0_copy 122 = .ok (.invokevirtual 7, 3) := dk_182 0 7 (dk_at dksX0_copy_5 6 rfl rfl)
theorem dX0_copy_125 : decode cX0_copy 125 = .ok (.iload 4, 2) := dk_21 4 (dk_at dksX0_copy_5 9 rfl rfl)
theorem dX0_copy_127 : decode cX0_copy 127 = .ok (.iload 5, 2) := dk_21 5 (dk_at dksX0_copy_5 11 rfl rfl)
theorem dX0_copy_129 : decode cX0_copy 129 = .ok (.invokestatic 15, 3) := dk_184 0 15 (dk_at dksX0_copy_5 13 rfl rfl)
theorem dX0_copy_132 : decode cX0_copy 132 = .ok (.goto 15, 3) := dk_167 0 15 (dk_at dksX0_copy_5 16 rfl rfl)
theorem dX0_copy_135 : decode cX0_copy 135 = .ok (.astore 10, 2) := dk_58 10 (dk_at dksX0_copy_5 19 rfl rfl)
theorem dX0_copy_137 : decode cX0_copy 137 = .ok (.new 21, 3) := dk_187 0 21 (dk_at dksX0_copy_5 21 rfl rfl)
theorem dX0_copy_140 : decode cX0_copy 140 = .ok (.dup, 1) := dk_89 (dk_at dksX0_copy_6 0 rfl rfl)
theorem dX0_copy_141 : decode cX0_copy 141 = .ok (.bipush (-5), 2) := dk_16 251 (dk_at dksX0_copy_6 1 rfl rfl)
theorem dX0_copy_143 : decode cX0_copy 143 = .ok (.invokespecial 23, 3) := dk_183 0 23 (dk_at dksX0_copy_6 3 rfl rfl)
theorem dX0_copy_146 : decode cX0_copy 146 = .ok (.athrow, 1) := dk_191 (dk_at dksX0_copy_6 6 rfl rfl)
theorem dX0_copy_147 : decode cX0_copy 147 = .ok (.iconst 1, 1) := dk_4 (dk_at dksX0_copy_6 7 rfl rfl)
theorem dX0_copy_148 : decode cX0_copy 148 = .ok (.ireturn, 1) := dk_172 (dk_at dksX0_copy_6 8 rfl rfl)
theorem dX0_copy_149 : decode cX0_copy 149 = .ok (.astore 6, 2) := dk_58 6 (dk_at dksX0_copy_6 9 rfl rfl)
theorem dX0_copy_151 : decode cX0_copy 151 = .ok (.aload_n 0, 1) := dk_42 (dk_at dksX0_copy_6 11 rfl rfl)
theorem dX0_copy_152 : decode cX0_copy 152 = .ok (.aload 6, 2) := dk_25 6 (dk_at dksX0_copy_6 12 rfl rfl)
theorem dX0_copy_154 : decode cX0_copy 154 = .ok (.invokevirtual 173, 3) := dk_182 0 173 (dk_at dksX0_copy_6 14 rfl rfl)
theorem dX0_copy_157 : decode cX0_copy 157 = .ok (.ireturn, 1) := dk_172 (dk_at dksX0_copy_6 17 rfl rfl)
abbrev cX0_element : ByteArray := prog_1_method_21_code
def yX0_element : MethodName := ⟨RX0, "element", "(II)J"⟩
def dkwX0_element_0 : List UInt8 := [42, 27, 182, 0, 163, 182, 0, 177, 28, 182, 0, 189, 173, 78, 9, 173, 78, 9, 173]
abbrev dktX0_element_0 : List UInt8 := dkwX0_element_0 ++ []
theorem dksX0_element_0 : cX0_element.data.toList.drop 0 = dktX0_element_0 := by decide +kernel
theorem dX0_element_0 : decode cX0_element 0 = .ok (.aload_n 0, 1) := dk_42 (dk_at dksX0_element_0 0 rfl rfl)
theorem dX0_element_1 : decode cX0_element 1 = .ok (.iload_n 1, 1) := dk_27 (dk_at dksX0_element_0 1 rfl rfl)
theorem dX0_element_2 : decode cX0_element 2 = .ok (.invokevirtual 163, 3) := dk_182 0 163 (dk_at dksX0_element_0 2 rfl rfl)
theorem dX0_element_5 : decode cX0_element 5 = .ok (.invokevirtual 177, 3) := dk_182 0 177 (dk_at dksX0_element_0 5 rfl rfl)
theorem dX0_element_8 : decode cX0_element 8 = .ok (.iload_n 2, 1) := dk_28 (dk_at dksX0_element_0 8 rfl rfl)
theorem dX0_element_9 : decode cX0_element 9 = .ok (.invokevirtual 189, 3) := dk_182 0 189 (dk_at dksX0_element_0 9 rfl rfl)
theorem dX0_element_12 : decode cX0_element 12 = .ok (.lreturn, 1) := dk_173 (dk_at dksX0_element_0 12 rfl rfl)
theorem dX0_element_13 : decode cX0_element 13 = .ok (.astore_n 3, 1) := dk_78 (dk_at dksX0_element_0 13 rfl rfl)
theorem dX0_element_14 : decode cX0_element 14 = .ok (.lconst 0, 1) := dk_9 (dk_at dksX0_element_0 14 rfl rfl)
theorem dX0_element_15 : decode cX0_element 15 = .ok (.lreturn, 1) := dk_173 (dk_at dksX0_element_0 15 rfl rfl)
theorem dX0_element_16 : decode cX0_element 16 = .ok (.astore_n 3, 1) := dk_78 (dk_at dksX0_element_0 16 rfl rfl)
theorem dX0_element_17 : decode cX0_element 17 = .ok (.lconst 0, 1) := dk_9 (dk_at dksX0_element_0 17 rfl rfl)
theorem dX0_element_18 : decode cX0_element 18 = .ok (.lreturn, 1) := dk_173 (dk_at dksX0_element_0 18 rfl rfl)
abbrev cX0_show : ByteArray := prog_1_method_22_code
def yX0_show : MethodName := ⟨RX0, "show", "(II)I"⟩
def dkwX0_show_1 : List UInt8 := [181, 0, 143, 4, 172, 78, 42, 45, 182, 0, 173, 172]
abbrev dktX0_show_1 : List UInt8 := dkwX0_show_1 ++ []
def dkwX0_show_0 : List UInt8 := [42, 27, 182, 0, 163, 78, 28, 2, 160, 0, 10, 45, 1, 181, 0, 143, 3, 172, 45, 42, 28, 182, 0, 193]
abbrev dktX0_show_0 : List UInt8 := dkwX0_show_0 ++ dktX0_show_1
theorem dksX0_show_0 : cX0_show.data.toList.drop 0 = dktX0_show_0 := by decide +kernel
theorem dksX0_show_1 : cX0_show.data.toList.drop 24 = dktX0_show_1 := dk_seg dksX0_show_0 24 rfl rfl
theorem dX0_show_0 : decode cX0_show 0 = .ok (.aload_n 0, 1) := dk_42 (dk_at dksX0_show_0 0 rfl rfl)
theorem dX0_show_1 : decode cX0_show 1 = .ok (.iload_n 1, 1) := dk_27 (dk_at dksX0_show_0 1 rfl rfl)
theorem dX0_show_2 : decode cX0_show 2 = .ok (.invokevirtual 163, 3) := dk_182 0 163 (dk_at dksX0_show_0 2 rfl rfl)
theorem dX0_show_5 : decode cX0_show 5 = .ok (.astore_n 3, 1) := dk_78 (dk_at dksX0_show_0 5 rfl rfl)
theorem dX0_show_6 : decode cX0_show 6 = .ok (.iload_n 2, 1) := dk_28 (dk_at dksX0_show_0 6 rfl rfl)
theorem dX0_show_7 : decode cX0_show 7 = .ok (.iconst (-1), 1) := dk_2 (dk_at dksX0_show_0 7 rfl rfl)
theorem dX0_show_8 : decode cX0_show 8 = .ok (.if_icmp .ne 10, 3) := dk_160 0 10 (dk_at dksX0_show_0 8 rfl rfl)
theorem dX0_show_11 : decode cX0_show 11 = .ok (.aload_n 3, 1) := dk_45 (dk_at dksX0_show_0 11 rfl rfl)
theorem dX0_show_12 : decode cX0_show 12 = .ok (.aconst_null, 1) := dk_1 (dk_at dksX0_show_0 12 rfl rfl)
theorem dX0_show_13 : decode cX0_show 13 = .ok (.putfield 143, 3) := dk_181 0 143 (dk_at dksX0_show_0 13 rfl rfl)
theorem dX0_show_16 : decode cX0_show 16 = .ok (.iconst 0, 1) := dk_3 (dk_at dksX0_show_0 16 rfl rfl)
theorem dX0_show_17 : decode cX0_show 17 = .ok (.ireturn, 1) := dk_172 (dk_at dksX0_show_0 17 rfl rfl)
theorem dX0_show_18 : decode cX0_show 18 = .ok (.aload_n 3, 1) := dk_45 (dk_at dksX0_show_0 18 rfl rfl)
theorem dX0_show_19 : decode cX0_show 19 = .ok (.aload_n 0, 1) := dk_42 (dk_at dksX0_show_0 19 rfl rfl)
theorem dX0_show_20 : decode cX0_show 20 = .ok (.iload_n 2, 1) := dk_28 (dk_at dksX0_show_0 20 rfl rfl)
theorem dX0_show_21 : decode cX0_show 21 = .ok (.invokevirtual 193, 3) := dk_182 0 193 (dk_at dksX0_show_0 21 rfl rfl)
theorem dX0_show_24 : decode cX0_show 24 = .ok (.putfield 143, 3) := dk_181 0 143 (dk_at dksX0_show_1 0 rfl rfl)
theorem dX0_show_27 : decode cX0_show 27 = .ok (.iconst 1, 1) := dk_4 (dk_at dksX0_show_1 3 rfl rfl)
theorem dX0_show_28 : decode cX0_show 28 = .ok (.ireturn, 1) := dk_172 (dk_at dksX0_show_1 4 rfl rfl)
theorem dX0_show_29 : decode cX0_show 29 = .ok (.astore_n 3, 1) := dk_78 (dk_at dksX0_show_1 5 rfl rfl)
theorem dX0_show_30 : decode cX0_show 30 = .ok (.aload_n 0, 1) := dk_42 (dk_at dksX0_show_1 6 rfl rfl)
theorem dX0_show_31 : decode cX0_show 31 = .ok (.aload_n 3, 1) := dk_45 (dk_at dksX0_show_1 7 rfl rfl)
theorem dX0_show_32 : decode cX0_show 32 = .ok (.invokevirtual 173, 3) := dk_182 0 173 (dk_at dksX0_show_1 8 rfl rfl)
theorem dX0_show_35 : decode cX0_show 35 = .ok (.ireturn, 1) := dk_172 (dk_at dksX0_show_1 11 rfl rfl)
abbrev cX0_thingAt : ByteArray := prog_1_method_10_code
def yX0_thingAt : MethodName := ⟨RX0, "thingAt", "(I)LNoFartherThanAThrow$Thing;"⟩
def dkwX0_thingAt_0 : List UInt8 := [42, 27, 182, 0, 111, 2, 184, 0, 115, 42, 180, 0, 90, 180, 0, 119, 27, 50, 176]
abbrev dktX0_thingAt_0 : List UInt8 := dkwX0_thingAt_0 ++ []
theorem dksX0_thingAt_0 : cX0_thingAt.data.toList.drop 0 = dktX0_thingAt_0 := by decide +kernel
theorem dX0_thingAt_0 : decode cX0_thingAt 0 = .ok (.aload_n 0, 1) := dk_42 (dk_at dksX0_thingAt_0 0 rfl rfl)
theorem dX0_thingAt_1 : decode cX0_thingAt 1 = .ok (.iload_n 1, 1) := dk_27 (dk_at dksX0_thingAt_0 1 rfl rfl)
theorem dX0_thingAt_2 : decode cX0_thingAt 2 = .ok (.invokevirtual 111, 3) := dk_182 0 111 (dk_at dksX0_thingAt_0 2 rfl rfl)
theorem dX0_thingAt_5 : decode cX0_thingAt 5 = .ok (.iconst (-1), 1) := dk_2 (dk_at dksX0_thingAt_0 5 rfl rfl)
theorem dX0_thingAt_6 : decode cX0_thingAt 6 = .ok (.invokestatic 115, 3) := dk_184 0 115 (dk_at dksX0_thingAt_0 6 rfl rfl)
theorem dX0_thingAt_9 : decode cX0_thingAt 9 = .ok (.aload_n 0, 1) := dk_42 (dk_at dksX0_thingAt_0 9 rfl rfl)
theorem dX0_thingAt_10 : decode cX0_thingAt 10 = .ok (.getfield 90, 3) := dk_180 0 90 (dk_at dksX0_thingAt_0 10 rfl rfl)
theorem dX0_thingAt_13 : decode cX0_thingAt 13 = .ok (.getfield 119, 3) := dk_180 0 119 (dk_at dksX0_thingAt_0 13 rfl rfl)
theorem dX0_thingAt_16 : decode cX0_thingAt 16 = .ok (.iload_n 1, 1) := dk_27 (dk_at dksX0_thingAt_0 16 rfl rfl)
theorem dX0_thingAt_17 : decode cX0_thingAt 17 = .ok (.aaload, 1) := dk_50 (dk_at dksX0_thingAt_0 17 rfl rfl)
theorem dX0_thingAt_18 : decode cX0_thingAt 18 = .ok (.areturn, 1) := dk_176 (dk_at dksX0_thingAt_0 18 rfl rfl)
abbrev cX0_isThing : ByteArray := prog_1_method_9_code
def yX0_isThing : MethodName := ⟨RX0, "isThing", "(I)Z"⟩
def dkwX0_isThing_0 : List UInt8 := [27, 133, 9, 42, 180, 0, 90, 180, 0, 104, 4, 100, 133, 184, 0, 107, 172]
abbrev dktX0_isThing_0 : List UInt8 := dkwX0_isThing_0 ++ []
theorem dksX0_isThing_0 : cX0_isThing.data.toList.drop 0 = dktX0_isThing_0 := by decide +kernel
theorem dX0_isThing_0 : decode cX0_isThing 0 = .ok (.iload_n 1, 1) := dk_27 (dk_at dksX0_isThing_0 0 rfl rfl)
theorem dX0_isThing_1 : decode cX0_isThing 1 = .ok (.i2l, 1) := dk_133 (dk_at dksX0_isThing_0 1 rfl rfl)
theorem dX0_isThing_2 : decode cX0_isThing 2 = .ok (.lconst 0, 1) := dk_9 (dk_at dksX0_isThing_0 2 rfl rfl)
theorem dX0_isThing_3 : decode cX0_isThing 3 = .ok (.aload_n 0, 1) := dk_42 (dk_at dksX0_isThing_0 3 rfl rfl)
theorem dX0_isThing_4 : decode cX0_isThing 4 = .ok (.getfield 90, 3) := dk_180 0 90 (dk_at dksX0_isThing_0 4 rfl rfl)
theorem dX0_isThing_7 : decode cX0_isThing 7 = .ok (.getfield 104, 3) := dk_180 0 104 (dk_at dksX0_isThing_0 7 rfl rfl)
theorem dX0_isThing_10 : decode cX0_isThing 10 = .ok (.iconst 1, 1) := dk_4 (dk_at dksX0_isThing_0 10 rfl rfl)
theorem dX0_isThing_11 : decode cX0_isThing 11 = .ok (.isub, 1) := dk_100 (dk_at dksX0_isThing_0 11 rfl rfl)
theorem dX0_isThing_12 : decode cX0_isThing 12 = .ok (.i2l, 1) := dk_133 (dk_at dksX0_isThing_0 12 rfl rfl)
theorem dX0_isThing_13 : decode cX0_isThing 13 = .ok (.invokestatic 107, 3) := dk_184 0 107 (dk_at dksX0_isThing_0 13 rfl rfl)
theorem dX0_isThing_16 : decode cX0_isThing 16 = .ok (.ireturn, 1) := dk_172 (dk_at dksX0_isThing_0 16 rfl rfl)
abbrev cX0_holds : ByteArray := prog_1_method_23_code
def yX0_holds : MethodName := ⟨RX0, "holds", "(I)I"⟩
def dkwX0_holds_2 : List UInt8 := [167, 0, 13, 16, 100, 44, 192, 0, 2, 182, 0, 184, 96, 172]
abbrev dktX0_holds_2 : List UInt8 := dkwX0_holds_2 ++ []
def dkwX0_holds_1 : List UInt8 := [42, 180, 0, 59, 27, 50, 180, 0, 143, 77, 44, 193, 0, 47, 153, 0, 13, 44, 192, 0, 47, 180, 0, 146]
abbrev dktX0_holds_1 : List UInt8 := dkwX0_holds_1 ++ dktX0_holds_2
def dkwX0_holds_0 : List UInt8 := [27, 155, 0, 21, 27, 16, 8, 162, 0, 15, 42, 180, 0, 59, 27, 50, 180, 0, 143, 199, 0, 5, 2, 172]
abbrev dktX0_holds_0 : List UInt8 := dkwX0_holds_0 ++ dktX0_holds_1
theorem dksX0_holds_0 : cX0_holds.data.toList.drop 0 = dktX0_holds_0 := by decide +kernel
theorem dksX0_holds_1 : cX0_holds.data.toList.drop 24 = dktX0_holds_1 := dk_seg dksX0_holds_0 24 rfl rfl
theorem dksX0_holds_2 : cX0_holds.data.toList.drop 48 = dktX0_holds_2 := dk_seg dksX0_holds_1 24 rfl rfl
theorem dX0_holds_0 : decode cX0_holds 0 = .ok (.iload_n 1, 1) := dk_27 (dk_at dksX0_holds_0 0 rfl rfl)
theorem dX0_holds_1 : decode cX0_holds 1 = .ok (.ifCond .lt 21, 3) := dk_155 0 21 (dk_at dksX0_holds_0 1 rfl rfl)
theorem dX0_holds_4 : decode cX0_holds 4 = .ok (.iload_n 1, 1) := dk_27 (dk_at dksX0_holds_0 4 rfl rfl)
theorem dX0_holds_5 : decode cX0_holds 5 = .ok (.bipush 8, 2) := dk_16 8 (dk_at dksX0_holds_0 5 rfl rfl)
theorem dX0_holds_7 : decode cX0_holds 7 = .ok (.if_icmp .ge 15, 3) := dk_162 0 15 (dk_at dksX0_holds_0 7 rfl rfl)
theorem dX0_holds_10 : decode cX0_holds 10 = .ok (.aload_n 0, 1) := dk_42 (dk_at dksX0_holds_0 10 rfl rfl)
theorem dX0_holds_11 : decode cX0_holds 11 = .ok (.getfield 59, 3) := dk_180 0 59 (dk_at dksX0_holds_0 11 rfl rfl)
theorem dX0_holds_14 : decode cX0_holds 14 = .ok (.iload_n 1, 1) := dk_27 (dk_at dksX0_holds_0 14 rfl rfl)
theorem dX0_holds_15 : decode cX0_holds 15 = .ok (.aaload, 1) := dk_50 (dk_at dksX0_holds_0 15 rfl rfl)
theorem dX0_holds_16 : decode cX0_holds 16 = .ok (.getfield 143, 3) := dk_180 0 143 (dk_at dksX0_holds_0 16 rfl rfl)
theorem dX0_holds_19 : decode cX0_holds 19 = .ok (.ifnonnull 5, 3) := dk_199 0 5 (dk_at dksX0_holds_0 19 rfl rfl)
theorem dX0_holds_22 : decode cX0_holds 22 = .ok (.iconst (-1), 1) := dk_2 (dk_at dksX0_holds_0 22 rfl rfl)
theorem dX0_holds_23 : decode cX0_holds 23 = .ok (.ireturn, 1) := dk_172 (dk_at dksX0_holds_0 23 rfl rfl)
theorem dX0_holds_24 : decode cX0_holds 24 = .ok (.aload_n 0, 1) := dk_42 (dk_at dksX0_holds_1 0 rfl rfl)
theorem dX0_holds_25 : decode cX0_holds 25 = .ok (.getfield 59, 3) := dk_180 0 59 (dk_at dksX0_holds_1 1 rfl rfl)
theorem dX0_holds_28 : decode cX0_holds 28 = .ok (.iload_n 1, 1) := dk_27 (dk_at dksX0_holds_1 4 rfl rfl)
theorem dX0_holds_29 : decode cX0_holds 29 = .ok (.aaload, 1) := dk_50 (dk_at dksX0_holds_1 5 rfl rfl)
theorem dX0_holds_30 : decode cX0_holds 30 = .ok (.getfield 143, 3) := dk_180 0 143 (dk_at dksX0_holds_1 6 rfl rfl)
theorem dX0_holds_33 : decode cX0_holds 33 = .ok (.astore_n 2, 1) := dk_77 (dk_at dksX0_holds_1 9 rfl rfl)
theorem dX0_holds_34 : decode cX0_holds 34 = .ok (.aload_n 2, 1) := dk_44 (dk_at dksX0_holds_1 10 rfl rfl)
theorem dX0_holds_35 : decode cX0_holds 35 = .ok (.instanceof 47, 3) := dk_193 0 47 (dk_at dksX0_holds_1 11 rfl rfl)
theorem dX0_holds_38 : decode cX0_holds 38 = .ok (.ifCond .eq 13, 3) := dk_153 0 13 (dk_at dksX0_holds_1 14 rfl rfl)
theorem dX0_holds_41 : decode cX0_holds 41 = .ok (.aload_n 2, 1) := dk_44 (dk_at dksX0_holds_1 17 rfl rfl)
theorem dX0_holds_42 : decode cX0_holds 42 = .ok (.checkcast 47, 3) := dk_192 0 47 (dk_at dksX0_holds_1 18 rfl rfl)
theorem dX0_holds_45 : decode cX0_holds 45 = .ok (.getfield 146, 3) := dk_180 0 146 (dk_at dksX0_holds_1 21 rfl rfl)
theorem dX0_holds_48 : decode cX0_holds 48 = .ok (.goto 13, 3) := dk_167 0 13 (dk_at dksX0_holds_2 0 rfl rfl)
theorem dX0_holds_51 : decode cX0_holds 51 = .ok (.bipush 100, 2) := dk_16 100 (dk_at dksX0_holds_2 3 rfl rfl)
theorem dX0_holds_53 : decode cX0_holds 53 = .ok (.aload_n 2, 1) := dk_44 (dk_at dksX0_holds_2 5 rfl rfl)
theorem dX0_holds_54 : decode cX0_holds 54 = .ok (.checkcast 2, 3) := dk_192 0 2 (dk_at dksX0_holds_2 6 rfl rfl)
theorem dX0_holds_57 : decode cX0_holds 57 = .ok (.invokevirtual 184, 3) := dk_182 0 184 (dk_at dksX0_holds_2 9 rfl rfl)
theorem dX0_holds_60 : decode cX0_holds 60 = .ok (.iadd, 1) := dk_96 (dk_at dksX0_holds_2 12 rfl rfl)
theorem dX0_holds_61 : decode cX0_holds 61 = .ok (.ireturn, 1) := dk_172 (dk_at dksX0_holds_2 13 rfl rfl)
abbrev cX0_says : ByteArray := prog_1_method_24_code
def yX0_says : MethodName := ⟨RX0, "says", "(II)I"⟩
def dkwX0_says_1 : List UInt8 := [180, 0, 90, 182, 0, 199, 172, 78, 42, 45, 182, 0, 173, 172]
abbrev dktX0_says_1 : List UInt8 := dkwX0_says_1 ++ []
def dkwX0_says_0 : List UInt8 := [42, 27, 182, 0, 163, 78, 28, 133, 9, 20, 0, 197, 184, 0, 107, 2, 184, 0, 115, 45, 28, 42]
abbrev dktX0_says_0 : List UInt8 := dkwX0_says_0 ++ dktX0_says_1
theorem dksX0_says_0 : cX0_says.data.toList.drop 0 = dktX0_says_0 := by decide +kernel
theorem dksX0_says_1 : cX0_says.data.toList.drop 22 = dktX0_says_1 := dk_seg dksX0_says_0 22 rfl rfl
theorem dX0_says_0 : decode cX0_says 0 = .ok (.aload_n 0, 1) := dk_42 (dk_at dksX0_says_0 0 rfl rfl)
theorem dX0_says_1 : decode cX0_says 1 = .ok (.iload_n 1, 1) := dk_27 (dk_at dksX0_says_0 1 rfl rfl)
theorem dX0_says_2 : decode cX0_says 2 = .ok (.invokevirtual 163, 3) := dk_182 0 163 (dk_at dksX0_says_0 2 rfl rfl)
theorem dX0_says_5 : decode cX0_says 5 = .ok (.astore_n 3, 1) := dk_78 (dk_at dksX0_says_0 5 rfl rfl)
theorem dX0_says_6 : decode cX0_says 6 = .ok (.iload_n 2, 1) := dk_28 (dk_at dksX0_says_0 6 rfl rfl)
theorem dX0_says_7 : decode cX0_says 7 = .ok (.i2l, 1) := dk_133 (dk_at dksX0_says_0 7 rfl rfl)
theorem dX0_says_8 : decode cX0_says 8 = .ok (.lconst 0, 1) := dk_9 (dk_at dksX0_says_0 8 rfl rfl)
theorem dX0_says_9 : decode cX0_says 9 = .ok (.ldc2_w 197, 3) := dk_20 0 197 (dk_at dksX0_says_0 9 rfl rfl)
theorem dX0_says_12 : decode cX0_says 12 = .ok (.invokestatic 107, 3) := dk_184 0 107 (dk_at dksX0_says_0 12 rfl rfl)
theorem dX0_says_15 : decode cX0_says 15 = .ok (.iconst (-1), 1) := dk_2 (dk_at dksX0_says_0 15 rfl rfl)
theorem dX0_says_16 : decode cX0_says 16 = .ok (.invokestatic 115, 3) := dk_184 0 115 (dk_at dksX0_says_0 16 rfl rfl)
theorem dX0_says_19 : decode cX0_says 19 = .ok (.aload_n 3, 1) := dk_45 (dk_at dksX0_says_0 19 rfl rfl)
theorem dX0_says_20 : decode cX0_says 20 = .ok (.iload_n 2, 1) := dk_28 (dk_at dksX0_says_0 20 rfl rfl)
theorem dX0_says_21 : decode cX0_says 21 = .ok (.aload_n 0, 1) := dk_42 (dk_at dksX0_says_0 21 rfl rfl)
theorem dX0_says_22 : decode cX0_says 22 = .ok (.getfield 90, 3) := dk_180 0 90 (dk_at dksX0_says_1 0 rfl rfl)
theorem dX0_says_25 : decode cX0_says 25 = .ok (.invokevirtual 199, 3) := dk_182 0 199 (dk_at dksX0_says_1 3 rfl rfl)
theorem dX0_says_28 : decode cX0_says 28 = .ok (.ireturn, 1) := dk_172 (dk_at dksX0_says_1 6 rfl rfl)
theorem dX0_says_29 : decode cX0_says 29 = .ok (.astore_n 3, 1) := dk_78 (dk_at dksX0_says_1 7 rfl rfl)
theorem dX0_says_30 : decode cX0_says 30 = .ok (.aload_n 0, 1) := dk_42 (dk_at dksX0_says_1 8 rfl rfl)
theorem dX0_says_31 : decode cX0_says 31 = .ok (.aload_n 3, 1) := dk_45 (dk_at dksX0_says_1 9 rfl rfl)
theorem dX0_says_32 : decode cX0_says 32 = .ok (.invokevirtual 173, 3) := dk_182 0 173 (dk_at dksX0_says_1 10 rfl rfl)
theorem dX0_says_35 : decode cX0_says 35 = .ok (.ireturn, 1) := dk_172 (dk_at dksX0_says_1 13 rfl rfl)
abbrev cX0_thing : ByteArray := prog_1_method_25_code
def yX0_thing : MethodName := ⟨RX0, "thing", "(IIII)I"⟩
def dkwX0_thing_4 : List UInt8 := [182, 0, 207, 42, 180, 0, 90, 180, 0, 104, 4, 100, 172, 58, 5, 42, 25, 5, 182, 0, 173, 172]
abbrev dktX0_thing_4 : List UInt8 := dkwX0_thing_4 ++ []
def dkwX0_thing_3 : List UInt8 := [162, 0, 7, 4, 167, 0, 4, 3, 16, 249, 184, 0, 115, 42, 180, 0, 90, 27, 28, 29, 21, 4, 2]
abbrev dktX0_thing_3 : List UInt8 := dkwX0_thing_3 ++ dktX0_thing_4
def dkwX0_thing_2 : List UInt8 := [153, 0, 7, 4, 167, 0, 4, 3, 16, 250, 184, 0, 115, 42, 180, 0, 90, 180, 0, 104, 16, 8]
abbrev dktX0_thing_2 : List UInt8 := dkwX0_thing_2 ++ dktX0_thing_3
def dkwX0_thing_1 : List UInt8 := [153, 0, 31, 29, 133, 10, 20, 0, 205, 184, 0, 107, 153, 0, 19, 42, 180, 0, 90, 21, 4, 182, 0, 129]
abbrev dktX0_thing_1 : List UInt8 := dkwX0_thing_1 ++ dktX0_thing_2
def dkwX0_thing_0 : List UInt8 := [27, 133, 9, 20, 0, 197, 184, 0, 107, 2, 184, 0, 115, 28, 133, 10, 20, 0, 203, 184, 0, 107]
abbrev dktX0_thing_0 : List UInt8 := dkwX0_thing_0 ++ dktX0_thing_1
theorem dksX0_thing_0 : cX0_thing.data.toList.drop 0 = dktX0_thing_0 := by decide +kernel
theorem dksX0_thing_1 : cX0_thing.data.toList.drop 22 = dktX0_thing_1 := dk_seg dksX0_thing_0 22 rfl rfl
theorem dksX0_thing_2 : cX0_thing.data.toList.drop 46 = dktX0_thing_2 := dk_seg dksX0_thing_1 24 rfl rfl
theorem dksX0_thing_3 : cX0_thing.data.toList.drop 68 = dktX0_thing_3 := dk_seg dksX0_thing_2 22 rfl rfl
theorem dksX0_thing_4 : cX0_thing.data.toList.drop 91 = dktX0_thing_4 := dk_seg dksX0_thing_3 23 rfl rfl
theorem dX0_thing_0 : decode cX0_thing 0 = .ok (.iload_n 1, 1) := dk_27 (dk_at dksX0_thing_0 0 rfl rfl)
theorem dX0_thing_1 : decode cX0_thing 1 = .ok (.i2l, 1) := dk_133 (dk_at dksX0_thing_0 1 rfl rfl)
theorem dX0_thing_2 : decode cX0_thing 2 = .ok (.lconst 0, 1) := dk_9 (dk_at dksX0_thing_0 2 rfl rfl)
theorem dX0_thing_3 : decode cX0_thing 3 = .ok (.ldc2_w 197, 3) := dk_20 0 197 (dk_at dksX0_thing_0 3 rfl rfl)
theorem dX0_thing_6 : decode cX0_thing 6 = .ok (.invokestatic 107, 3) := dk_184 0 107 (dk_at dksX0_thing_0 6 rfl rfl)
theorem dX0_thing_9 : decode cX0_thing 9 = .ok (.iconst (-1), 1) := dk_2 (dk_at dksX0_thing_0 9 rfl rfl)
theorem dX0_thing_10 : decode cX0_thing 10 = .ok (.invokestatic 115, 3) := dk_184 0 115 (dk_at dksX0_thing_0 10 rfl rfl)
theorem dX0_thing_13 : decode cX0_thing 13 = .ok (.iload_n 2, 1) := dk_28 (dk_at dksX0_thing_0 13 rfl rfl)
theorem dX0_thing_14 : decode cX0_thing 14 = .ok (.i2l, 1) := dk_133 (dk_at dksX0_thing_0 14 rfl rfl)
theorem dX0_thing_15 : decode cX0_thing 15 = .ok (.lconst 1, 1) := dk_10 (dk_at dksX0_thing_0 15 rfl rfl)
theorem dX0_thing_16 : decode cX0_thing 16 = .ok (.ldc2_w 203, 3) := dk_20 0 203 (dk_at dksX0_thing_0 16 rfl rfl)
theorem dX0_thing_19 : decode cX0_thing 19 = .ok (.invokestatic 107, 3) := dk_184 0 107 (dk_at dksX0_thing_0 19 rfl rfl)
theorem dX0_thing_22 : decode cX0_thing 22 = .ok (.ifCond .eq 31, 3) := dk_153 0 31 (dk_at dksX0_thing_1 0 rfl rfl)
theorem dX0_thing_25 : decode cX0_thing 25 = .ok (.iload_n 3, 1) := dk_29 (dk_at dksX0_thing_1 3 rfl rfl)
theorem dX0_thing_26 : decode cX0_thing 26 = .ok (.i2l, 1) := dk_133 (dk_at dksX0_thing_1 4 rfl rfl)
theorem dX0_thing_27 : decode cX0_thing 27 = .ok (.lconst 1, 1) := dk_10 (dk_at dksX0_thing_1 5 rfl rfl)
theorem dX0_thing_28 : decode cX0_thing 28 = .ok (.ldc2_w 205, 3) := dk_20 0 205 (dk_at dksX0_thing_1 6 rfl rfl)
theorem dX0_thing_31 : decode cX0_thing 31 = .ok (.invokestatic 107, 3) := dk_184 0 107 (dk_at dksX0_thing_1 9 rfl rfl)
theorem dX0_thing_34 : decode cX0_thing 34 = .ok (.ifCond .eq 19, 3) := dk_153 0 19 (dk_at dksX0_thing_1 12 rfl rfl)
theorem dX0_thing_37 : decode cX0_thing 37 = .ok (.aload_n 0, 1) := dk_42 (dk_at dksX0_thing_1 15 rfl rfl)
theorem dX0_thing_38 : decode cX0_thing 38 = .ok (.getfield 90, 3) := dk_180 0 90 (dk_at dksX0_thing_1 16 rfl rfl)
theorem dX0_thing_41 : decode cX0_thing 41 = .ok (.iload 4, 2) := dk_21 4 (dk_at dksX0_thing_1 19 rfl rfl)
theorem dX0_thing_43 : decode cX0_thing 43 = .ok (.invokevirtual 129, 3) := dk_182 0 129 (dk_at dksX0_thing_1 21 rfl rfl)
theorem dX0_thing_46 : decode cX0_thing 46 = .ok (.ifCond .eq 7, 3) := dk_153 0 7 (dk_at dksX0_thing_2 0 rfl rfl)
theorem dX0_thing_49 : decode cX0_thing 49 = .ok (.iconst 1, 1) := dk_4 (dk_at dksX0_thing_2 3 rfl rfl)
theorem dX0_thing_50 : decode cX0_thing 50 = .ok (.goto 4, 3) := dk_167 0 4 (dk_at dksX0_thing_2 4 rfl rfl)
theorem dX0_thing_53 : decode cX0_thing 53 = .ok (.iconst 0, 1) := dk_3 (dk_at dksX0_thing_2 7 rfl rfl)
theorem dX0_thing_54 : decode cX0_thing 54 = .ok (.bipush (-6), 2) := dk_16 250 (dk_at dksX0_thing_2 8 rfl rfl)
theorem dX0_thing_56 : decode cX0_thing 56 = .ok (.invokestatic 115, 3) := dk_184 0 115 (dk_at dksX0_thing_2 10 rfl rfl)
theorem dX0_thing_59 : decode cX0_thing 59 = .ok (.aload_n 0, 1) := dk_42 (dk_at dksX0_thing_2 13 rfl rfl)
theorem dX0_thing_60 : decode cX0_thing 60 = .ok (.getfield 90, 3) := dk_180 0 90 (dk_at dksX0_thing_2 14 rfl rfl)
theorem dX0_thing_63 : decode cX0_thing 63 = .ok (.getfield 104, 3) := dk_180 0 104 (dk_at dksX0_thing_2 17 rfl rfl)
theorem dX0_thing_66 : decode cX0_thing 66 = .ok (.bipush 8, 2) := dk_16 8 (dk_at dksX0_thing_2 20 rfl rfl)
theorem dX0_thing_68 : decode cX0_thing 68 = .ok (.if_icmp .ge 7, 3) := dk_162 0 7 (dk_at dksX0_thing_3 0 rfl rfl)
theorem dX0_thing_71 : decode cX0_thing 71 = .ok (.iconst 1, 1) := dk_4 (dk_at dksX0_thing_3 3 rfl rfl)
theorem dX0_thing_72 : decode cX0_thing 72 = .ok (.goto 4, 3) := dk_167 0 4 (dk_at dksX0_thing_3 4 rfl rfl)
theorem dX0_thing_75 : decode cX0_thing 75 = .ok (.iconst 0, 1) := dk_3 (dk_at dksX0_thing_3 7 rfl rfl)
theorem dX0_thing_76 : decode cX0_thing 76 = .ok (.bipush (-7), 2) := dk_16 249 (dk_at dksX0_thing_3 8 rfl rfl)
theorem dX0_thing_78 : decode cX0_thing 78 = .ok (.invokestatic 115, 3) := dk_184 0 115 (dk_at dksX0_thing_3 10 rfl rfl)
theorem dX0_thing_81 : decode cX0_thing 81 = .ok (.aload_n 0, 1) := dk_42 (dk_at dksX0_thing_3 13 rfl rfl)
theorem dX0_thing_82 : decode cX0_thing 82 = .ok (.getfield 90, 3) := dk_180 0 90 (dk_at dksX0_thing_3 14 rfl rfl)
theorem dX0_thing_85 : decode cX0_thing 85 = .ok (.iload_n 1, 1) := dk_27 (dk_at dksX0_thing_3 17 rfl rfl)
theorem dX0_thing_86 : decode cX0_thing 86 = .ok (.iload_n 2, 1) := dk_28 (dk_at dksX0_thing_3 18 rfl rfl)
theorem dX0_thing_87 : decode cX0_thing 87 = .ok (.iload_n 3, 1) := dk_29 (dk_at dksX0_thing_3 19 rfl rfl)
theorem dX0_thing_88 : decode cX0_thing 88 = .ok (.iload 4, 2) := dk_21 4 (dk_at dksX0_thing_3 20 rfl rfl)
theorem dX0_thing_90 : decode cX0_thing 90 = .ok (.iconst (-1), 1) := dk_2 (dk_at dksX0_thing_3 22 rfl rfl)
theorem dX0_thing_91 : decode cX0_thing 91 = .ok (.invokevirtual 207, 3) := dk_182 0 207 (dk_at dksX0_thing_4 0 rfl rfl)
theorem dX0_thing_94 : decode cX0_thing 94 = .ok (.aload_n 0, 1) := dk_42 (dk_at dksX0_thing_4 3 rfl rfl)
theorem dX0_thing_95 : decode cX0_thing 95 = .ok (.getfield 90, 3) := dk_180 0 90 (dk_at dksX0_thing_4 4 rfl rfl)
theorem dX0_thing_98 : decode cX0_thing 98 = .ok (.getfield 104, 3) := dk_180 0 104 (dk_at dksX0_thing_4 7 rfl rfl)
theorem dX0_thing_101 : decode cX0_thing 101 = .ok (.iconst 1, 1) := dk_4 (dk_at dksX0_thing_4 10 rfl rfl)
theorem dX0_thing_102 : decode cX0_thing 102 = .ok (.isub, 1) := dk_100 (dk_at dksX0_thing_4 11 rfl rfl)
theorem dX0_thing_103 : decode cX0_thing 103 = .ok (.ireturn, 1) := dk_172 (dk_at dksX0_thing_4 12 rfl rfl)
theorem dX0_thing_104 : decode cX0_thing 104 = .ok (.astore 5, 2) := dk_58 5 (dk_at dksX0_thing_4 13 rfl rfl)
theorem dX0_thing_106 : decode cX0_thing 106 = .ok (.aload_n 0, 1) := dk_42 (dk_at dksX0_thing_4 15 rfl rfl)
theorem dX0_thing_107 : decode cX0_thing 107 = .ok (.aload 5, 2) := dk_25 5 (dk_at dksX0_thing_4 16 rfl rfl)
theorem dX0_thing_109 : decode cX0_thing 109 = .ok (.invokevirtual 173, 3) := dk_182 0 173 (dk_at dksX0_thing_4 18 rfl rfl)
theorem dX0_thing_112 : decode cX0_thing 112 = .ok (.ireturn, 1) := dk_172 (dk_at dksX0_thing_4 21 rfl rfl)
abbrev cX0_thingOfKind : ByteArray := prog_1_method_4_code
def yX0_thingOfKind : MethodName := ⟨RX0, "thingOfKind", "(IIII)LNoFartherThanAThrow$Thing;"⟩
def dkwX0_thingOfKind_5 : List UInt8 := [187, 0, 47, 89, 27, 28, 29, 183, 0, 49, 176]
abbrev dktX0_thingOfKind_5 : List UInt8 := dkwX0_thingOfKind_5 ++ []
def dkwX0_thingOfKind_4 : List UInt8 := [187, 0, 41, 89, 27, 28, 29, 183, 0, 43, 176, 187, 0, 44, 89, 27, 28, 29, 183, 0, 46, 176]
abbrev dktX0_thingOfKind_4 : List UInt8 := dkwX0_thingOfKind_4 ++ dktX0_thingOfKind_5
def dkwX0_thingOfKind_3 : List UInt8 := [187, 0, 35, 89, 27, 28, 29, 183, 0, 37, 176, 187, 0, 38, 89, 27, 28, 29, 183, 0, 40, 176]
abbrev dktX0_thingOfKind_3 : List UInt8 := dkwX0_thingOfKind_3 ++ dktX0_thingOfKind_4
def dkwX0_thingOfKind_2 : List UInt8 := [187, 0, 27, 89, 27, 28, 29, 183, 0, 29, 176, 187, 0, 32, 89, 27, 28, 29, 183, 0, 34, 176]
abbrev dktX0_thingOfKind_2 : List UInt8 := dkwX0_thingOfKind_2 ++ dktX0_thingOfKind_3
def dkwX0_thingOfKind_1 : List UInt8 := [170, 0, 0, 0, 0, 0, 105, 0, 0, 0, 1, 0, 0, 0, 6, 0, 0, 0, 39, 0, 0, 0, 50, 0, 0, 0, 61, 0, 0, 0, 72, 0, 0, 0, 83, 0, 0, 0, 94]
abbrev dktX0_thingOfKind_1 : List UInt8 := dkwX0_thingOfKind_1 ++ dktX0_thingOfKind_2
def dkwX0_thingOfKind_0 : List UInt8 := [26]
abbrev dktX0_thingOfKind_0 : List UInt8 := dkwX0_thingOfKind_0 ++ dktX0_thingOfKind_1
theorem dksX0_thingOfKind_0 : cX0_thingOfKind.data.toList.drop 0 = dktX0_thingOfKind_0 := by decide +kernel
theorem dksX0_thingOfKind_1 : cX0_thingOfKind.data.toList.drop 1 = dktX0_thingOfKind_1 := dk_seg dksX0_thingOfKind_0 1 rfl rfl
theorem dksX0_thingOfKind_2 : cX0_thingOfKind.data.toList.drop 40 = dktX0_thingOfKind_2 := dk_seg dksX0_thingOfKind_1 39 rfl rfl
theorem dksX0_thingOfKind_3 : cX0_thingOfKind.data.toList.drop 62 = dktX0_thingOfKind_3 := dk_seg dksX0_thingOfKind_2 22 rfl rfl
theorem dksX0_thingOfKind_4 : cX0_thingOfKind.data.toList.drop 84 = dktX0_thingOfKind_4 := dk_seg dksX0_thingOfKind_3 22 rfl rfl
theorem dksX0_thingOfKind_5 : cX0_thingOfKind.data.toList.drop 106 = dktX0_thingOfKind_5 := dk_seg dksX0_thingOfKind_4 22 rfl rfl
theorem dX0_thingOfKind_0 : decode cX0_thingOfKind 0 = .ok (.iload_n 0, 1) := dk_26 (dk_at dksX0_thingOfKind_0 0 rfl rfl)
theorem dX0_thingOfKind_1 : decode cX0_thingOfKind 1 = .ok (.tableswitch 105 1 6 #[39, 50, 61, 72, 83, 94], 39) := by decide +kernel
theorem dX0_thingOfKind_40 : decode cX0_thingOfKind 40 = .ok (.new 27, 3) := dk_187 0 27 (dk_at dksX0_thingOfKind_2 0 rfl rfl)
theorem dX0_thingOfKind_43 : decode cX0_thingOfKind 43 = .ok (.dup, 1) := dk_89 (dk_at dksX0_thingOfKind_2 3 rfl rfl)
theorem dX0_thingOfKind_44 : decode cX0_thingOfKind 44 = .ok (.iload_n 1, 1) := dk_27 (dk_at dksX0_thingOfKind_2 4 rfl rfl)
theorem dX0_thingOfKind_45 : decode cX0_thingOfKind 45 = .ok (.iload_n 2, 1) := dk_28 (dk_at dksX0_thingOfKind_2 5 rfl rfl)
theorem dX0_thingOfKind_46 : decode cX0_thingOfKind 46 = .ok (.iload_n 3, 1) := dk_29 (dk_at dksX0_thingOfKind_2 6 rfl rfl)
theorem dX0_thingOfKind_47 : decode cX0_thingOfKind 47 = .ok (.invokespecial 29, 3) := dk_183 0 29 (dk_at dksX0_thingOfKind_2 7 rfl rfl)
theorem dX0_thingOfKind_50 : decode cX0_thingOfKind 50 = .ok (.areturn, 1) := dk_176 (dk_at dksX0_thingOfKind_2 10 rfl rfl)
theorem dX0_thingOfKind_51 : decode cX0_thingOfKind 51 = .ok (.new 32, 3) := dk_187 0 32 (dk_at dksX0_thingOfKind_2 11 rfl rfl)
theorem dX0_thingOfKind_54 : decode cX0_thingOfKind 54 = .ok (.dup, 1) := dk_89 (dk_at dksX0_thingOfKind_2 14 rfl rfl)
theorem dX0_thingOfKind_55 : decode cX0_thingOfKind 55 = .ok (.iload_n 1, 1) := dk_27 (dk_at dksX0_thingOfKind_2 15 rfl rfl)
theorem dX0_thingOfKind_56 : decode cX0_thingOfKind 56 = .ok (.iload_n 2, 1) := dk_28 (dk_at dksX0_thingOfKind_2 16 rfl rfl)
theorem dX0_thingOfKind_57 : decode cX0_thingOfKind 57 = .ok (.iload_n 3, 1) := dk_29 (dk_at dksX0_thingOfKind_2 17 rfl rfl)
theorem dX0_thingOfKind_58 : decode cX0_thingOfKind 58 = .ok (.invokespecial 34, 3) := dk_183 0 34 (dk_at dksX0_thingOfKind_2 18 rfl rfl)
theorem dX0_thingOfKind_61 : decode cX0_thingOfKind 61 = .ok (.areturn, 1) := dk_176 (dk_at dksX0_thingOfKind_2 21 rfl rfl)
theorem dX0_thingOfKind_62 : decode cX0_thingOfKind 62 = .ok (.new 35, 3) := dk_187 0 35 (dk_at dksX0_thingOfKind_3 0 rfl rfl)
theorem dX0_thingOfKind_65 : decode cX0_thingOfKind 65 = .ok (.dup, 1) := dk_89 (dk_at dksX0_thingOfKind_3 3 rfl rfl)
theorem dX0_thingOfKind_66 : decode cX0_thingOfKind 66 = .ok (.iload_n 1, 1) := dk_27 (dk_at dksX0_thingOfKind_3 4 rfl rfl)
theorem dX0_thingOfKind_67 : decode cX0_thingOfKind 67 = .ok (.iload_n 2, 1) := dk_28 (dk_at dksX0_thingOfKind_3 5 rfl rfl)
theorem dX0_thingOfKind_68 : decode cX0_thingOfKind 68 = .ok (.iload_n 3, 1) := dk_29 (dk_at dksX0_thingOfKind_3 6 rfl rfl)
theorem dX0_thingOfKind_69 : decode cX0_thingOfKind 69 = .ok (.invokespecial 37, 3) := dk_183 0 37 (dk_at dksX0_thingOfKind_3 7 rfl rfl)
theorem dX0_thingOfKind_72 : decode cX0_thingOfKind 72 = .ok (.areturn, 1) := dk_176 (dk_at dksX0_thingOfKind_3 10 rfl rfl)
theorem dX0_thingOfKind_73 : decode cX0_thingOfKind 73 = .ok (.new 38, 3) := dk_187 0 38 (dk_at dksX0_thingOfKind_3 11 rfl rfl)
theorem dX0_thingOfKind_76 : decode cX0_thingOfKind 76 = .ok (.dup, 1) := dk_89 (dk_at dksX0_thingOfKind_3 14 rfl rfl)
theorem dX0_thingOfKind_77 : decode cX0_thingOfKind 77 = .ok (.iload_n 1, 1) := dk_27 (dk_at dksX0_thingOfKind_3 15 rfl rfl)
theorem dX0_thingOfKind_78 : decode cX0_thingOfKind 78 = .ok (.iload_n 2, 1) := dk_28 (dk_at dksX0_thingOfKind_3 16 rfl rfl)
theorem dX0_thingOfKind_79 : decode cX0_thingOfKind 79 = .ok (.iload_n 3, 1) := dk_29 (dk_at dksX0_thingOfKind_3 17 rfl rfl)
theorem dX0_thingOfKind_80 : decode cX0_thingOfKind 80 = .ok (.invokespecial 40, 3) := dk_183 0 40 (dk_at dksX0_thingOfKind_3 18 rfl rfl)
theorem dX0_thingOfKind_83 : decode cX0_thingOfKind 83 = .ok (.areturn, 1) := dk_176 (dk_at dksX0_thingOfKind_3 21 rfl rfl)
theorem dX0_thingOfKind_84 : decode cX0_thingOfKind 84 = .ok (.new 41, 3) := dk_187 0 41 (dk_at dksX0_thingOfKind_4 0 rfl rfl)
theorem dX0_thingOfKind_87 : decode cX0_thingOfKind 87 = .ok (.dup, 1) := dk_89 (dk_at dksX0_thingOfKind_4 3 rfl rfl)
theorem dX0_thingOfKind_88 : decode cX0_thingOfKind 88 = .ok (.iload_n 1, 1) := dk_27 (dk_at dksX0_thingOfKind_4 4 rfl rfl)
theorem dX0_thingOfKind_89 : decode cX0_thingOfKind 89 = .ok (.iload_n 2, 1) := dk_28 (dk_at dksX0_thingOfKind_4 5 rfl rfl)
theorem dX0_thingOfKind_90 : decode cX0_thingOfKind 90 = .ok (.iload_n 3, 1) := dk_29 (dk_at dksX0_thingOfKind_4 6 rfl rfl)
theorem dX0_thingOfKind_91 : decode cX0_thingOfKind 91 = .ok (.invokespecial 43, 3) := dk_183 0 43 (dk_at dksX0_thingOfKind_4 7 rfl rfl)
theorem dX0_thingOfKind_94 : decode cX0_thingOfKind 94 = .ok (.areturn, 1) := dk_176 (dk_at dksX0_thingOfKind_4 10 rfl rfl)
theorem dX0_thingOfKind_95 : decode cX0_thingOfKind 95 = .ok (.new 44, 3) := dk_187 0 44 (dk_at dksX0_thingOfKind_4 11 rfl rfl)
theorem dX0_thingOfKind_98 : decode cX0_thingOfKind 98 = .ok (.dup, 1) := dk_89 (dk_at dksX0_thingOfKind_4 14 rfl rfl)
theorem dX0_thingOfKind_99 : decode cX0_thingOfKind 99 = .ok (.iload_n 1, 1) := dk_27 (dk_at dksX0_thingOfKind_4 15 rfl rfl)
theorem dX0_thingOfKind_100 : decode cX0_thingOfKind 100 = .ok (.iload_n 2, 1) := dk_28 (dk_at dksX0_thingOfKind_4 16 rfl rfl)
theorem dX0_thingOfKind_101 : decode cX0_thingOfKind 101 = .ok (.iload_n 3, 1) := dk_29 (dk_at dksX0_thingOfKind_4 17 rfl rfl)
theorem dX0_thingOfKind_102 : decode cX0_thingOfKind 102 = .ok (.invokespecial 46, 3) := dk_183 0 46 (dk_at dksX0_thingOfKind_4 18 rfl rfl)
theorem dX0_thingOfKind_105 : decode cX0_thingOfKind 105 = .ok (.areturn, 1) := dk_176 (dk_at dksX0_thingOfKind_4 21 rfl rfl)
theorem dX0_thingOfKind_106 : decode cX0_thingOfKind 106 = .ok (.new 47, 3) := dk_187 0 47 (dk_at dksX0_thingOfKind_5 0 rfl rfl)
theorem dX0_thingOfKind_109 : decode cX0_thingOfKind 109 = .ok (.dup, 1) := dk_89 (dk_at dksX0_thingOfKind_5 3 rfl rfl)
theorem dX0_thingOfKind_110 : decode cX0_thingOfKind 110 = .ok (.iload_n 1, 1) := dk_27 (dk_at dksX0_thingOfKind_5 4 rfl rfl)
theorem dX0_thingOfKind_111 : decode cX0_thingOfKind 111 = .ok (.iload_n 2, 1) := dk_28 (dk_at dksX0_thingOfKind_5 5 rfl rfl)
theorem dX0_thingOfKind_112 : decode cX0_thingOfKind 112 = .ok (.iload_n 3, 1) := dk_29 (dk_at dksX0_thingOfKind_5 6 rfl rfl)
theorem dX0_thingOfKind_113 : decode cX0_thingOfKind 113 = .ok (.invokespecial 49, 3) := dk_183 0 49 (dk_at dksX0_thingOfKind_5 7 rfl rfl)
theorem dX0_thingOfKind_116 : decode cX0_thingOfKind 116 = .ok (.areturn, 1) := dk_176 (dk_at dksX0_thingOfKind_5 10 rfl rfl)
abbrev cX0_man : ByteArray := prog_1_method_27_code
def yX0_man : MethodName := ⟨RX0, "man", "(I)I"⟩
def dkwX0_man_0 : List UInt8 := [42, 27, 182, 0, 214, 42, 180, 0, 90, 180, 0, 123, 4, 100, 172, 77, 42, 44, 182, 0, 173, 172]
abbrev dktX0_man_0 : List UInt8 := dkwX0_man_0 ++ []
theorem dksX0_man_0 : cX0_man.data.toList.drop 0 = dktX0_man_0 := by decide +kernel
theorem dX0_man_0 : decode cX0_man 0 = .ok (.aload_n 0, 1) := dk_42 (dk_at dksX0_man_0 0 rfl rfl)
theorem dX0_man_1 : decode cX0_man 1 = .ok (.iload_n 1, 1) := dk_27 (dk_at dksX0_man_0 1 rfl rfl)
theorem dX0_man_2 : decode cX0_man 2 = .ok (.invokevirtual 214, 3) := dk_182 0 214 (dk_at dksX0_man_0 2 rfl rfl)
theorem dX0_man_5 : decode cX0_man 5 = .ok (.aload_n 0, 1) := dk_42 (dk_at dksX0_man_0 5 rfl rfl)
theorem dX0_man_6 : decode cX0_man 6 = .ok (.getfield 90, 3) := dk_180 0 90 (dk_at dksX0_man_0 6 rfl rfl)
theorem dX0_man_9 : decode cX0_man 9 = .ok (.getfield 123, 3) := dk_180 0 123 (dk_at dksX0_man_0 9 rfl rfl)
theorem dX0_man_12 : decode cX0_man 12 = .ok (.iconst 1, 1) := dk_4 (dk_at dksX0_man_0 12 rfl rfl)
theorem dX0_man_13 : decode cX0_man 13 = .ok (.isub, 1) := dk_100 (dk_at dksX0_man_0 13 rfl rfl)
theorem dX0_man_14 : decode cX0_man 14 = .ok (.ireturn, 1) := dk_172 (dk_at dksX0_man_0 14 rfl rfl)
theorem dX0_man_15 : decode cX0_man 15 = .ok (.astore_n 2, 1) := dk_77 (dk_at dksX0_man_0 15 rfl rfl)
theorem dX0_man_16 : decode cX0_man 16 = .ok (.aload_n 0, 1) := dk_42 (dk_at dksX0_man_0 16 rfl rfl)
theorem dX0_man_17 : decode cX0_man 17 = .ok (.aload_n 2, 1) := dk_44 (dk_at dksX0_man_0 17 rfl rfl)
theorem dX0_man_18 : decode cX0_man 18 = .ok (.invokevirtual 173, 3) := dk_182 0 173 (dk_at dksX0_man_0 18 rfl rfl)
theorem dX0_man_21 : decode cX0_man 21 = .ok (.ireturn, 1) := dk_172 (dk_at dksX0_man_0 21 rfl rfl)
abbrev cX0_addMan : ByteArray := prog_1_method_26_code
def yX0_addMan : MethodName := ⟨RX0, "addMan", "(I)V"⟩
def dkwX0_addMan_1 : List UInt8 := [162, 0, 7, 4, 167, 0, 4, 3, 16, 249, 184, 0, 115, 42, 180, 0, 90, 27, 182, 0, 211, 177]
abbrev dktX0_addMan_1 : List UInt8 := dkwX0_addMan_1 ++ []
def dkwX0_addMan_0 : List UInt8 := [27, 133, 10, 20, 0, 203, 184, 0, 107, 16, 250, 184, 0, 115, 42, 180, 0, 90, 180, 0, 123, 16, 8]
abbrev dktX0_addMan_0 : List UInt8 := dkwX0_addMan_0 ++ dktX0_addMan_1
theorem dksX0_addMan_0 : cX0_addMan.data.toList.drop 0 = dktX0_addMan_0 := by decide +kernel
theorem dksX0_addMan_1 : cX0_addMan.data.toList.drop 23 = dktX0_addMan_1 := dk_seg dksX0_addMan_0 23 rfl rfl
theorem dX0_addMan_0 : decode cX0_addMan 0 = .ok (.iload_n 1, 1) := dk_27 (dk_at dksX0_addMan_0 0 rfl rfl)
theorem dX0_addMan_1 : decode cX0_addMan 1 = .ok (.i2l, 1) := dk_133 (dk_at dksX0_addMan_0 1 rfl rfl)
theorem dX0_addMan_2 : decode cX0_addMan 2 = .ok (.lconst 1, 1) := dk_10 (dk_at dksX0_addMan_0 2 rfl rfl)
theorem dX0_addMan_3 : decode cX0_addMan 3 = .ok (.ldc2_w 203, 3) := dk_20 0 203 (dk_at dksX0_addMan_0 3 rfl rfl)
theorem dX0_addMan_6 : decode cX0_addMan 6 = .ok (.invokestatic 107, 3) := dk_184 0 107 (dk_at dksX0_addMan_0 6 rfl rfl)
theorem dX0_addMan_9 : decode cX0_addMan 9 = .ok (.bipush (-6), 2) := dk_16 250 (dk_at dksX0_addMan_0 9 rfl rfl)
theorem dX0_addMan_11 : decode cX0_addMan 11 = .ok (.invokestatic 115, 3) := dk_184 0 115 (dk_at dksX0_addMan_0 11 rfl rfl)
theorem dX0_addMan_14 : decode cX0_addMan 14 = .ok (.aload_n 0, 1) := dk_42 (dk_at dksX0_addMan_0 14 rfl rfl)
theorem dX0_addMan_15 : decode cX0_addMan 15 = .ok (.getfield 90, 3) := dk_180 0 90 (dk_at dksX0_addMan_0 15 rfl rfl)
theorem dX0_addMan_18 : decode cX0_addMan 18 = .ok (.getfield 123, 3) := dk_180 0 123 (dk_at dksX0_addMan_0 18 rfl rfl)
theorem dX0_addMan_21 : decode cX0_addMan 21 = .ok (.bipush 8, 2) := dk_16 8 (dk_at dksX0_addMan_0 21 rfl rfl)
theorem dX0_addMan_23 : decode cX0_addMan 23 = .ok (.if_icmp .ge 7, 3) := dk_162 0 7 (dk_at dksX0_addMan_1 0 rfl rfl)
theorem dX0_addMan_26 : decode cX0_addMan 26 = .ok (.iconst 1, 1) := dk_4 (dk_at dksX0_addMan_1 3 rfl rfl)
theorem dX0_addMan_27 : decode cX0_addMan 27 = .ok (.goto 4, 3) := dk_167 0 4 (dk_at dksX0_addMan_1 4 rfl rfl)
theorem dX0_addMan_30 : decode cX0_addMan 30 = .ok (.iconst 0, 1) := dk_3 (dk_at dksX0_addMan_1 7 rfl rfl)
theorem dX0_addMan_31 : decode cX0_addMan 31 = .ok (.bipush (-7), 2) := dk_16 249 (dk_at dksX0_addMan_1 8 rfl rfl)
theorem dX0_addMan_33 : decode cX0_addMan 33 = .ok (.invokestatic 115, 3) := dk_184 0 115 (dk_at dksX0_addMan_1 10 rfl rfl)
theorem dX0_addMan_36 : decode cX0_addMan 36 = .ok (.aload_n 0, 1) := dk_42 (dk_at dksX0_addMan_1 13 rfl rfl)
theorem dX0_addMan_37 : decode cX0_addMan 37 = .ok (.getfield 90, 3) := dk_180 0 90 (dk_at dksX0_addMan_1 14 rfl rfl)
theorem dX0_addMan_40 : decode cX0_addMan 40 = .ok (.iload_n 1, 1) := dk_27 (dk_at dksX0_addMan_1 17 rfl rfl)
theorem dX0_addMan_41 : decode cX0_addMan 41 = .ok (.invokevirtual 211, 3) := dk_182 0 211 (dk_at dksX0_addMan_1 18 rfl rfl)
theorem dX0_addMan_44 : decode cX0_addMan 44 = .ok (.return_, 1) := dk_177 (dk_at dksX0_addMan_1 21 rfl rfl)
abbrev cX0_men : ByteArray := prog_1_method_28_code
def yX0_men : MethodName := ⟨RX0, "men", "(III)I"⟩
def dkwX0_men_4 : List UInt8 := [58, 6, 21, 5, 172, 21, 5, 172, 58, 4, 42, 25, 4, 182, 0, 173, 172]
abbrev dktX0_men_4 : List UInt8 := dkwX0_men_4 ++ []
def dkwX0_men_3 : List UInt8 := [42, 25, 4, 21, 6, 182, 0, 215, 182, 0, 214, 132, 5, 1, 132, 6, 1, 167, 255, 231, 167, 0, 8]
abbrev dktX0_men_3 : List UInt8 := dkwX0_men_3 ++ dktX0_men_4
def dkwX0_men_2 : List UInt8 := [4, 167, 0, 4, 3, 16, 251, 184, 0, 115, 3, 54, 5, 28, 54, 6, 21, 6, 28, 29, 96, 162, 0, 23]
abbrev dktX0_men_2 : List UInt8 := dkwX0_men_2 ++ dktX0_men_3
def dkwX0_men_1 : List UInt8 := [28, 155, 0, 27, 29, 25, 4, 182, 0, 11, 163, 0, 18, 28, 25, 4, 182, 0, 11, 29, 100, 163, 0, 7]
abbrev dktX0_men_1 : List UInt8 := dkwX0_men_1 ++ dktX0_men_2
def dkwX0_men_0 : List UInt8 := [42, 27, 182, 0, 163, 182, 0, 177, 58, 4, 29, 155, 0, 7, 4, 167, 0, 4, 3, 16, 252, 184, 0, 115]
abbrev dktX0_men_0 : List UInt8 := dkwX0_men_0 ++ dktX0_men_1
theorem dksX0_men_0 : cX0_men.data.toList.drop 0 = dktX0_men_0 := by decide +kernel
theorem dksX0_men_1 : cX0_men.data.toList.drop 24 = dktX0_men_1 := dk_seg dksX0_men_0 24 rfl rfl
theorem dksX0_men_2 : cX0_men.data.toList.drop 48 = dktX0_men_2 := dk_seg dksX0_men_1 24 rfl rfl
theorem dksX0_men_3 : cX0_men.data.toList.drop 72 = dktX0_men_3 := dk_seg dksX0_men_2 24 rfl rfl
theorem dksX0_men_4 : cX0_men.data.toList.drop 95 = dktX0_men_4 := dk_seg dksX0_men_3 23 rfl rfl
theorem dX0_men_0 : decode cX0_men 0 = .ok (.aload_n 0, 1) := dk_42 (dk_at dksX0_men_0 0 rfl rfl)
theorem dX0_men_1 : decode cX0_men 1 = .ok (.iload_n 1, 1) := dk_27 (dk_at dksX0_men_0 1 rfl rfl)
theorem dX0_men_2 : decode cX0_men 2 = .ok (.invokevirtual 163, 3) := dk_182 0 163 (dk_at dksX0_men_0 2 rfl rfl)
theorem dX0_men_5 : decode cX0_men 5 = .ok (.invokevirtual 177, 3) := dk_182 0 177 (dk_at dksX0_men_0 5 rfl rfl)
theorem dX0_men_8 : decode cX0_men 8 = .ok (.astore 4, 2) := dk_58 4 (dk_at dksX0_men_0 8 rfl rfl)
theorem dX0_men_10 : decode cX0_men 10 = .ok (.iload_n 3, 1) := dk_29 (dk_at dksX0_men_0 10 rfl rfl)
theorem dX0_men_11 : decode cX0_men 11 = .ok (.ifCond .lt 7, 3) := dk_155 0 7 (dk_at dksX0_men_0 11 rfl rfl)
theorem dX0_men_14 : decode cX0_men 14 = .ok (.iconst 1, 1) := dk_4 (dk_at dksX0_men_0 14 rfl rfl)
theorem dX0_men_15 : decode cX0_men 15 = .ok (.goto 4, 3) := dk_167 0 4 (dk_at dksX0_men_0 15 rfl rfl)
theorem dX0_men_18 : decode cX0_men 18 = .ok (.iconst 0, 1) := dk_3 (dk_at dksX0_men_0 18 rfl rfl)
theorem dX0_men_19 : decode cX0_men 19 = .ok (.bipush (-4), 2) := dk_16 252 (dk_at dksX0_men_0 19 rfl rfl)
theorem dX0_men_21 : decode cX0_men 21 = .ok (.invokestatic 115, 3) := dk_184 0 115 (dk_at dksX0_men_0 21 rfl rfl)
theorem dX0_men_24 : decode cX0_men 24 = .ok (.iload_n 2, 1) := dk_28 (dk_at dksX0_men_1 0 rfl rfl)
theorem dX0_men_25 : decode cX0_men 25 = .ok (.ifCond .lt 27, 3) := dk_155 0 27 (dk_at dksX0_men_1 1 rfl rfl)
theorem dX0_men_28 : decode cX0_men 28 = .ok (.iload_n 3, 1) := dk_29 (dk_at dksX0_men_1 4 rfl rfl)
theorem dX0_men_29 : decode cX0_men 29 = .ok (.aload 4, 2) := dk_25 4 (dk_at dksX0_men_1 5 rfl rfl)
theorem dX0_men_31 : decode cX0_men 31 = .ok (.invokevirtual 11, 3) := dk_182 0 11 (dk_at dksX0_men_1 7 rfl rfl)
theorem dX0_men_34 : decode cX0_men 34 = .ok (.if_icmp .gt 18, 3) := dk_163 0 18 (dk_at dksX0_men_1 10 rfl rfl)
theorem dX0_men_37 : decode cX0_men 37 = .ok (.iload_n 2, 1) := dk_28 (dk_at dksX0_men_1 13 rfl rfl)
theorem dX0_men_38 : decode cX0_men 38 = .ok (.aload 4, 2) := dk_25 4 (dk_at dksX0_men_1 14 rfl rfl)
theorem dX0_men_40 : decode cX0_men 40 = .ok (.invokevirtual 11, 3) := dk_182 0 11 (dk_at dksX0_men_1 16 rfl rfl)
theorem dX0_men_43 : decode cX0_men 43 = .ok (.iload_n 3, 1) := dk_29 (dk_at dksX0_men_1 19 rfl rfl)
theorem dX0_men_44 : decode cX0_men 44 = .ok (.isub, 1) := dk_100 (dk_at dksX0_men_1 20 rfl rfl)
theorem dX0_men_45 : decode cX0_men 45 = .ok (.if_icmp .gt 7, 3) := dk_163 0 7 (dk_at dksX0_men_1 21 rfl rfl)
theorem dX0_men_48 : decode cX0_men 48 = .ok (.iconst 1, 1) := dk_4 (dk_at dksX0_men_2 0 rfl rfl)
theorem dX0_men_49 : decode cX0_men 49 = .ok (.goto 4, 3) := dk_167 0 4 (dk_at dksX0_men_2 1 rfl rfl)
theorem dX0_men_52 : decode cX0_men 52 = .ok (.iconst 0, 1) := dk_3 (dk_at dksX0_men_2 4 rfl rfl)
theorem dX0_men_53 : decode cX0_men 53 = .ok (.bipush (-5), 2) := dk_16 251 (dk_at dksX0_men_2 5 rfl rfl)
theorem dX0_men_55 : decode cX0_men 55 = .ok (.invokestatic 115, 3) := dk_184 0 115 (dk_at dksX0_men_2 7 rfl rfl)
theorem dX0_men_58 : decode cX0_men 58 = .ok (.iconst 0, 1) := dk_3 (dk_at dksX0_men_2 10 rfl rfl)
theorem dX0_men_59 : decode cX0_men 59 = .ok (.istore 5, 2) := dk_54 5 (dk_at dksX0_men_2 11 rfl rfl)
theorem dX0_men_61 : decode cX0_men 61 = .ok (.iload_n 2, 1) := dk_28 (dk_at dksX0_men_2 13 rfl rfl)
theorem dX0_men_62 : decode cX0_men 62 = .ok (.istore 6, 2) := dk_54 6 (dk_at dksX0_men_2 14 rfl rfl)
theorem dX0_men_64 : decode cX0_men 64 = .ok (.iload 6, 2) := dk_21 6 (dk_at dksX0_men_2 16 rfl rfl)
theorem dX0_men_66 : decode cX0_men 66 = .ok (.iload_n 2, 1) := dk_28 (dk_at dksX0_men_2 18 rfl rfl)
theorem dX0_men_67 : decode cX0_men 67 = .ok (.iload_n 3, 1) := dk_29 (dk_at dksX0_men_2 19 rfl rfl)
theorem dX0_men_68 : decode cX0_men 68 = .ok (.iadd, 1) := dk_96 (dk_at dksX0_men_2 20 rfl rfl)
theorem dX0_men_69 : decode cX0_men 69 = .ok (.if_icmp .ge 23, 3) := dk_162 0 23 (dk_at dksX0_men_2 21 rfl rfl)
theorem dX0_men_72 : decode cX0_men 72 = .ok (.aload_n 0, 1) := dk_42 (dk_at dksX0_men_3 0 rfl rfl)
theorem dX0_men_73 : decode cX0_men 73 = .ok (.aload 4, 2) := dk_25 4 (dk_at dksX0_men_3 1 rfl rfl)
theorem dX0_men_75 : decode cX0_men 75 = .ok (.iload 6, 2) := dk_21 6 (dk_at dksX0_men_3 3 rfl rfl)
theorem dX0_men_77 : decode cX0_men 77 = .ok (.invokevirtual 215, 3) := dk_182 0 215 (dk_at dksX0_men_3 5 rfl rfl)
theorem dX0_men_80 : decode cX0_men 80 = .ok (.invokevirtual 214, 3) := dk_182 0 214 (dk_at dksX0_men_3 8 rfl rfl)
theorem dX0_men_83 : decode cX0_men 83 = .ok (.iinc 5 1, 3) := dk_132 5 1 (dk_at dksX0_men_3 11 rfl rfl)
theorem dX0_men_86 : decode cX0_men 86 = .ok (.iinc 6 1, 3) := dk_132 6 1 (dk_at dksX0_men_3 14 rfl rfl)
theorem dX0_men_89 : decode cX0_men 89 = .ok (.goto (-25), 3) := dk_167 255 231 (dk_at dksX0_men_3 17 rfl rfl)
theorem dX0_men_92 : decode cX0_men 92 = .ok (.goto 8, 3) := dk_167 0 8 (dk_at dksX0_men_3 20 rfl rfl)
theorem dX0_men_95 : decode cX0_men 95 = .ok (.astore 6, 2) := dk_58 6 (dk_at dksX0_men_4 0 rfl rfl)
theorem dX0_men_97 : decode cX0_men 97 = .ok (.iload 5, 2) := dk_21 5 (dk_at dksX0_men_4 2 rfl rfl)
theorem dX0_men_99 : decode cX0_men 99 = .ok (.ireturn, 1) := dk_172 (dk_at dksX0_men_4 4 rfl rfl)
theorem dX0_men_100 : decode cX0_men 100 = .ok (.iload 5, 2) := dk_21 5 (dk_at dksX0_men_4 5 rfl rfl)
theorem dX0_men_102 : decode cX0_men 102 = .ok (.ireturn, 1) := dk_172 (dk_at dksX0_men_4 7 rfl rfl)
theorem dX0_men_103 : decode cX0_men 103 = .ok (.astore 4, 2) := dk_58 4 (dk_at dksX0_men_4 8 rfl rfl)
theorem dX0_men_105 : decode cX0_men 105 = .ok (.aload_n 0, 1) := dk_42 (dk_at dksX0_men_4 10 rfl rfl)
theorem dX0_men_106 : decode cX0_men 106 = .ok (.aload 4, 2) := dk_25 4 (dk_at dksX0_men_4 11 rfl rfl)
theorem dX0_men_108 : decode cX0_men 108 = .ok (.invokevirtual 173, 3) := dk_182 0 173 (dk_at dksX0_men_4 13 rfl rfl)
theorem dX0_men_111 : decode cX0_men 111 = .ok (.ireturn, 1) := dk_172 (dk_at dksX0_men_4 16 rfl rfl)
abbrev cX0_want : ByteArray := prog_1_method_29_code
def yX0_want : MethodName := ⟨RX0, "want", "(III)I"⟩
def dkwX0_want_3 : List UInt8 := [180, 0, 90, 180, 0, 219, 4, 100, 172, 58, 4, 42, 25, 4, 182, 0, 173, 172]
abbrev dktX0_want_3 : List UInt8 := dkwX0_want_3 ++ []
def dkwX0_want_2 : List UInt8 := [162, 0, 7, 4, 167, 0, 4, 3, 16, 249, 184, 0, 115, 42, 180, 0, 90, 27, 28, 29, 182, 0, 222, 42]
abbrev dktX0_want_2 : List UInt8 := dkwX0_want_2 ++ dktX0_want_3
def dkwX0_want_1 : List UInt8 := [184, 0, 107, 153, 0, 7, 4, 167, 0, 4, 3, 16, 250, 184, 0, 115, 42, 180, 0, 90, 180, 0, 219, 7]
abbrev dktX0_want_1 : List UInt8 := dkwX0_want_1 ++ dktX0_want_2
def dkwX0_want_0 : List UInt8 := [42, 27, 182, 0, 193, 87, 42, 180, 0, 90, 28, 182, 0, 129, 153, 0, 19, 29, 133, 9, 20, 0, 203]
abbrev dktX0_want_0 : List UInt8 := dkwX0_want_0 ++ dktX0_want_1
theorem dksX0_want_0 : cX0_want.data.toList.drop 0 = dktX0_want_0 := by decide +kernel
theorem dksX0_want_1 : cX0_want.data.toList.drop 23 = dktX0_want_1 := dk_seg dksX0_want_0 23 rfl rfl
theorem dksX0_want_2 : cX0_want.data.toList.drop 47 = dktX0_want_2 := dk_seg dksX0_want_1 24 rfl rfl
theorem dksX0_want_3 : cX0_want.data.toList.drop 71 = dktX0_want_3 := dk_seg dksX0_want_2 24 rfl rfl
theorem dX0_want_0 : decode cX0_want 0 = .ok (.aload_n 0, 1) := dk_42 (dk_at dksX0_want_0 0 rfl rfl)
theorem dX0_want_1 : decode cX0_want 1 = .ok (.iload_n 1, 1) := dk_27 (dk_at dksX0_want_0 1 rfl rfl)
theorem dX0_want_2 : decode cX0_want 2 = .ok (.invokevirtual 193, 3) := dk_182 0 193 (dk_at dksX0_want_0 2 rfl rfl)
theorem dX0_want_5 : decode cX0_want 5 = .ok (.pop, 1) := dk_87 (dk_at dksX0_want_0 5 rfl rfl)
theorem dX0_want_6 : decode cX0_want 6 = .ok (.aload_n 0, 1) := dk_42 (dk_at dksX0_want_0 6 rfl rfl)
theorem dX0_want_7 : decode cX0_want 7 = .ok (.getfield 90, 3) := dk_180 0 90 (dk_at dksX0_want_0 7 rfl rfl)
theorem dX0_want_10 : decode cX0_want 10 = .ok (.iload_n 2, 1) := dk_28 (dk_at dksX0_want_0 10 rfl rfl)
theorem dX0_want_11 : decode cX0_want 11 = .ok (.invokevirtual 129, 3) := dk_182 0 129 (dk_at dksX0_want_0 11 rfl rfl)
theorem dX0_want_14 : decode cX0_want 14 = .ok (.ifCond .eq 19, 3) := dk_153 0 19 (dk_at dksX0_want_0 14 rfl rfl)
theorem dX0_want_17 : decode cX0_want 17 = .ok (.iload_n 3, 1) := dk_29 (dk_at dksX0_want_0 17 rfl rfl)
theorem dX0_want_18 : decode cX0_want 18 = .ok (.i2l, 1) := dk_133 (dk_at dksX0_want_0 18 rfl rfl)
theorem dX0_want_19 : decode cX0_want 19 = .ok (.lconst 0, 1) := dk_9 (dk_at dksX0_want_0 19 rfl rfl)
theorem dX0_want_20 : decode cX0_want 20 = .ok (.ldc2_w 203, 3) := dk_20 0 203 (dk_at dksX0_want_0 20 rfl rfl)
theorem dX0_want_23 : decode cX0_want 23 = .ok (.invokestatic 107, 3) := dk_184 0 107 (dk_at dksX0_want_1 0 rfl rfl)
theorem dX0_want_26 : decode cX0_want 26 = .ok (.ifCond .eq 7, 3) := dk_153 0 7 (dk_at dksX0_want_1 3 rfl rfl)
theorem dX0_want_29 : decode cX0_want 29 = .ok (.iconst 1, 1) := dk_4 (dk_at dksX0_want_1 6 rfl rfl)
theorem dX0_want_30 : decode cX0_want 30 = .ok (.goto 4, 3) := dk_167 0 4 (dk_at dksX0_want_1 7 rfl rfl)
theorem dX0_want_33 : decode cX0_want 33 = .ok (.iconst 0, 1) := dk_3 (dk_at dksX0_want_1 10 rfl rfl)
theorem dX0_want_34 : decode cX0_want 34 = .ok (.bipush (-6), 2) := dk_16 250 (dk_at dksX0_want_1 11 rfl rfl)
theorem dX0_want_36 : decode cX0_want 36 = .ok (.invokestatic 115, 3) := dk_184 0 115 (dk_at dksX0_want_1 13 rfl rfl)
theorem dX0_want_39 : decode cX0_want 39 = .ok (.aload_n 0, 1) := dk_42 (dk_at dksX0_want_1 16 rfl rfl)
theorem dX0_want_40 : decode cX0_want 40 = .ok (.getfield 90, 3) := dk_180 0 90 (dk_at dksX0_want_1 17 rfl rfl)
theorem dX0_want_43 : decode cX0_want 43 = .ok (.getfield 219, 3) := dk_180 0 219 (dk_at dksX0_want_1 20 rfl rfl)
theorem dX0_want_46 : decode cX0_want 46 = .ok (.iconst 4, 1) := dk_7 (dk_at dksX0_want_1 23 rfl rfl)
theorem dX0_want_47 : decode cX0_want 47 = .ok (.if_icmp .ge 7, 3) := dk_162 0 7 (dk_at dksX0_want_2 0 rfl rfl)
theorem dX0_want_50 : decode cX0_want 50 = .ok (.iconst 1, 1) := dk_4 (dk_at dksX0_want_2 3 rfl rfl)
theorem dX0_want_51 : decode cX0_want 51 = .ok (.goto 4, 3) := dk_167 0 4 (dk_at dksX0_want_2 4 rfl rfl)
theorem dX0_want_54 : decode cX0_want 54 = .ok (.iconst 0, 1) := dk_3 (dk_at dksX0_want_2 7 rfl rfl)
theorem dX0_want_55 : decode cX0_want 55 = .ok (.bipush (-7), 2) := dk_16 249 (dk_at dksX0_want_2 8 rfl rfl)
theorem dX0_want_57 : decode cX0_want 57 = .ok (.invokestatic 115, 3) := dk_184 0 115 (dk_at dksX0_want_2 10 rfl rfl)
theorem dX0_want_60 : decode cX0_want 60 = .ok (.aload_n 0, 1) := dk_42 (dk_at dksX0_want_2 13 rfl rfl)
theorem dX0_want_61 : decode cX0_want 61 = .ok (.getfield 90, 3) := dk_180 0 90 (dk_at dksX0_want_2 14 rfl rfl)
theorem dX0_want_64 : decode cX0_want 64 = .ok (.iload_n 1, 1) := dk_27 (dk_at dksX0_want_2 17 rfl rfl)
theorem dX0_want_65 : decode cX0_want 65 = .ok (.iload_n 2, 1) := dk_28 (dk_at dksX0_want_2 18 rfl rfl)
theorem dX0_want_66 : decode cX0_want 66 = .ok (.iload_n 3, 1) := dk_29 (dk_at dksX0_want_2 19 rfl rfl)
theorem dX0_want_67 : decode cX0_want 67 = .ok (.invokevirtual 222, 3) := dk_182 0 222 (dk_at dksX0_want_2 20 rfl rfl)
theorem dX0_want_70 : decode cX0_want 70 = .ok (.aload_n 0, 1) := dk_42 (dk_at dksX0_want_2 23 rfl rfl)
theorem dX0_want_71 : decode cX0_want 71 = .ok (.getfield 90, 3) := dk_180 0 90 (dk_at dksX0_want_3 0 rfl rfl)
theorem dX0_want_74 : decode cX0_want 74 = .ok (.getfield 219, 3) := dk_180 0 219 (dk_at dksX0_want_3 3 rfl rfl)
theorem dX0_want_77 : decode cX0_want 77 = .ok (.iconst 1, 1) := dk_4 (dk_at dksX0_want_3 6 rfl rfl)
theorem dX0_want_78 : decode cX0_want 78 = .ok (.isub, 1) := dk_100 (dk_at dksX0_want_3 7 rfl rfl)
theorem dX0_want_79 : decode cX0_want 79 = .ok (.ireturn, 1) := dk_172 (dk_at dksX0_want_3 8 rfl rfl)
theorem dX0_want_80 : decode cX0_want 80 = .ok (.astore 4, 2) := dk_58 4 (dk_at dksX0_want_3 9 rfl rfl)
theorem dX0_want_82 : decode cX0_want 82 = .ok (.aload_n 0, 1) := dk_42 (dk_at dksX0_want_3 11 rfl rfl)
theorem dX0_want_83 : decode cX0_want 83 = .ok (.aload 4, 2) := dk_25 4 (dk_at dksX0_want_3 12 rfl rfl)
theorem dX0_want_85 : decode cX0_want 85 = .ok (.invokevirtual 173, 3) := dk_182 0 173 (dk_at dksX0_want_3 14 rfl rfl)
theorem dX0_want_88 : decode cX0_want 88 = .ok (.ireturn, 1) := dk_172 (dk_at dksX0_want_3 17 rfl rfl)
abbrev cX0_ask : ByteArray := prog_1_method_30_code
def yX0_ask : MethodName := ⟨RX0, "ask", "(II)I"⟩
def dkwX0_ask_4 : List UInt8 := [42, 45, 182, 0, 173, 172]
abbrev dktX0_ask_4 : List UInt8 := dkwX0_ask_4 ++ []
def dkwX0_ask_3 : List UInt8 := [16, 250, 184, 0, 115, 42, 180, 0, 90, 180, 0, 237, 62, 42, 180, 0, 90, 28, 181, 0, 237, 29, 172, 78]
abbrev dktX0_ask_3 : List UInt8 := dkwX0_ask_3 ++ dktX0_ask_4
def dkwX0_ask_2 : List UInt8 := [180, 0, 234, 62, 42, 180, 0, 90, 28, 181, 0, 234, 167, 0, 33, 28, 133, 9, 20, 0, 205, 184, 0, 107]
abbrev dktX0_ask_2 : List UInt8 := dkwX0_ask_2 ++ dktX0_ask_3
def dkwX0_ask_1 : List UInt8 := [182, 0, 225, 184, 0, 228, 133, 20, 0, 203, 184, 0, 107, 16, 250, 184, 0, 115, 42, 180, 0, 90]
abbrev dktX0_ask_1 : List UInt8 := dkwX0_ask_1 ++ dktX0_ask_2
def dkwX0_ask_0 : List UInt8 := [27, 133, 9, 10, 184, 0, 107, 16, 250, 184, 0, 115, 27, 154, 0, 47, 28, 133, 4, 42, 180, 0, 90]
abbrev dktX0_ask_0 : List UInt8 := dkwX0_ask_0 ++ dktX0_ask_1
theorem dksX0_ask_0 : cX0_ask.data.toList.drop 0 = dktX0_ask_0 := by decide +kernel
theorem dksX0_ask_1 : cX0_ask.data.toList.drop 23 = dktX0_ask_1 := dk_seg dksX0_ask_0 23 rfl rfl
theorem dksX0_ask_2 : cX0_ask.data.toList.drop 45 = dktX0_ask_2 := dk_seg dksX0_ask_1 22 rfl rfl
theorem dksX0_ask_3 : cX0_ask.data.toList.drop 69 = dktX0_ask_3 := dk_seg dksX0_ask_2 24 rfl rfl
theorem dksX0_ask_4 : cX0_ask.data.toList.drop 93 = dktX0_ask_4 := dk_seg dksX0_ask_3 24 rfl rfl
theorem dX0_ask_0 : decode cX0_ask 0 = .ok (.iload_n 1, 1) := dk_27 (dk_at dksX0_ask_0 0 rfl rfl)
theorem dX0_ask_1 : decode cX0_ask 1 = .ok (.i2l, 1) := dk_133 (dk_at dksX0_ask_0 1 rfl rfl)
theorem dX0_ask_2 : decode cX0_ask 2 = .ok (.lconst 0, 1) := dk_9 (dk_at dksX0_ask_0 2 rfl rfl)
theorem dX0_ask_3 : decode cX0_ask 3 = .ok (.lconst 1, 1) := dk_10 (dk_at dksX0_ask_0 3 rfl rfl)
theorem dX0_ask_4 : decode cX0_ask 4 = .ok (.invokestatic 107, 3) := dk_184 0 107 (dk_at dksX0_ask_0 4 rfl rfl)
theorem dX0_ask_7 : decode cX0_ask 7 = .ok (.bipush (-6), 2) := dk_16 250 (dk_at dksX0_ask_0 7 rfl rfl)
theorem dX0_ask_9 : decode cX0_ask 9 = .ok (.invokestatic 115, 3) := dk_184 0 115 (dk_at dksX0_ask_0 9 rfl rfl)
theorem dX0_ask_12 : decode cX0_ask 12 = .ok (.iload_n 1, 1) := dk_27 (dk_at dksX0_ask_0 12 rfl rfl)
theorem dX0_ask_13 : decode cX0_ask 13 = .ok (.ifCond .ne 47, 3) := dk_154 0 47 (dk_at dksX0_ask_0 13 rfl rfl)
theorem dX0_ask_16 : decode cX0_ask 16 = .ok (.iload_n 2, 1) := dk_28 (dk_at dksX0_ask_0 16 rfl rfl)
theorem dX0_ask_17 : decode cX0_ask 17 = .ok (.i2l, 1) := dk_133 (dk_at dksX0_ask_0 17 rfl rfl)
theorem dX0_ask_18 : decode cX0_ask 18 = .ok (.iconst 1, 1) := dk_4 (dk_at dksX0_ask_0 18 rfl rfl)
theorem dX0_ask_19 : decode cX0_ask 19 = .ok (.aload_n 0, 1) := dk_42 (dk_at dksX0_ask_0 19 rfl rfl)
theorem dX0_ask_20 : decode cX0_ask 20 = .ok (.getfield 90, 3) := dk_180 0 90 (dk_at dksX0_ask_0 20 rfl rfl)
theorem dX0_ask_23 : decode cX0_ask 23 = .ok (.invokevirtual 225, 3) := dk_182 0 225 (dk_at dksX0_ask_1 0 rfl rfl)
theorem dX0_ask_26 : decode cX0_ask 26 = .ok (.invokestatic 228, 3) := dk_184 0 228 (dk_at dksX0_ask_1 3 rfl rfl)
theorem dX0_ask_29 : decode cX0_ask 29 = .ok (.i2l, 1) := dk_133 (dk_at dksX0_ask_1 6 rfl rfl)
theorem dX0_ask_30 : decode cX0_ask 30 = .ok (.ldc2_w 203, 3) := dk_20 0 203 (dk_at dksX0_ask_1 7 rfl rfl)
theorem dX0_ask_33 : decode cX0_ask 33 = .ok (.invokestatic 107, 3) := dk_184 0 107 (dk_at dksX0_ask_1 10 rfl rfl)
theorem dX0_ask_36 : decode cX0_ask 36 = .ok (.bipush (-6), 2) := dk_16 250 (dk_at dksX0_ask_1 13 rfl rfl)
theorem dX0_ask_38 : decode cX0_ask 38 = .ok (.invokestatic 115, 3) := dk_184 0 115 (dk_at dksX0_ask_1 15 rfl rfl)
theorem dX0_ask_41 : decode cX0_ask 41 = .ok (.aload_n 0, 1) := dk_42 (dk_at dksX0_ask_1 18 rfl rfl)
theorem dX0_ask_42 : decode cX0_ask 42 = .ok (.getfield 90, 3) := dk_180 0 90 (dk_at dksX0_ask_1 19 rfl rfl)
theorem dX0_ask_45 : decode cX0_ask 45 = .ok (.getfield 234, 3) := dk_180 0 234 (dk_at dksX0_ask_2 0 rfl rfl)
theorem dX0_ask_48 : decode cX0_ask 48 = .ok (.istore_n 3, 1) := dk_62 (dk_at dksX0_ask_2 3 rfl rfl)
theorem dX0_ask_49 : decode cX0_ask 49 = .ok (.aload_n 0, 1) := dk_42 (dk_at dksX0_ask_2 4 rfl rfl)
theorem dX0_ask_50 : decode cX0_ask 50 = .ok (.getfield 90, 3) := dk_180 0 90 (dk_at dksX0_ask_2 5 rfl rfl)
theorem dX0_ask_53 : decode cX0_ask 53 = .ok (.iload_n 2, 1) := dk_28 (dk_at dksX0_ask_2 8 rfl rfl)
theorem dX0_ask_54 : decode cX0_ask 54 = .ok (.putfield 234, 3) := dk_181 0 234 (dk_at dksX0_ask_2 9 rfl rfl)
theorem dX0_ask_57 : decode cX0_ask 57 = .ok (.goto 33, 3) := dk_167 0 33 (dk_at dksX0_ask_2 12 rfl rfl)
theorem dX0_ask_60 : decode cX0_ask 60 = .ok (.iload_n 2, 1) := dk_28 (dk_at dksX0_ask_2 15 rfl rfl)
theorem dX0_ask_61 : decode cX0_ask 61 = .ok (.i2l, 1) := dk_133 (dk_at dksX0_ask_2 16 rfl rfl)
theorem dX0_ask_62 : decode cX0_ask 62 = .ok (.lconst 0, 1) := dk_9 (dk_at dksX0_ask_2 17 rfl rfl)
theorem dX0_ask_63 : decode cX0_ask 63 = .ok (.ldc2_w 205, 3) := dk_20 0 205 (dk_at dksX0_ask_2 18 rfl rfl)
theorem dX0_ask_66 : decode cX0_ask 66 = .ok (.invokestatic 107, 3) := dk_184 0 107 (dk_at dksX0_ask_2 21 rfl rfl)
theorem dX0_ask_69 : decode cX0_ask 69 = .ok (.bipush (-6), 2) := dk_16 250 (dk_at dksX0_ask_3 0 rfl rfl)
theorem dX0_ask_71 : decode cX0_ask 71 = .ok (.invokestatic 115, 3) := dk_184 0 115 (dk_at dksX0_ask_3 2 rfl rfl)
theorem dX0_ask_74 : decode cX0_ask 74 = .ok (.aload_n 0, 1) := dk_42 (dk_at dksX0_ask_3 5 rfl rfl)
theorem dX0_ask_75 : decode cX0_ask 75 = .ok (.getfield 90, 3) := dk_180 0 90 (dk_at dksX0_ask_3 6 rfl rfl)
theorem dX0_ask_78 : decode cX0_ask 78 = .ok (.getfield 237, 3) := dk_180 0 237 (dk_at dksX0_ask_3 9 rfl rfl)
theorem dX0_ask_81 : decode cX0_ask 81 = .ok (.istore_n 3, 1) := dk_62 (dk_at dksX0_ask_3 12 rfl rfl)
theorem dX0_ask_82 : decode cX0_ask 82 = .ok (.aload_n 0, 1) := dk_42 (dk_at dksX0_ask_3 13 rfl rfl)
theorem dX0_ask_83 : decode cX0_ask 83 = .ok (.getfield 90, 3) := dk_180 0 90 (dk_at dksX0_ask_3 14 rfl rfl)
theorem dX0_ask_86 : decode cX0_ask 86 = .ok (.iload_n 2, 1) := dk_28 (dk_at dksX0_ask_3 17 rfl rfl)
theorem dX0_ask_87 : decode cX0_ask 87 = .ok (.putfield 237, 3) := dk_181 0 237 (dk_at dksX0_ask_3 18 rfl rfl)
theorem dX0_ask_90 : decode cX0_ask 90 = .ok (.iload_n 3, 1) := dk_29 (dk_at dksX0_ask_3 21 rfl rfl)
theorem dX0_ask_91 : decode cX0_ask 91 = .ok (.ireturn, 1) := dk_172 (dk_at dksX0_ask_3 22 rfl rfl)
theorem dX0_ask_92 : decode cX0_ask 92 = .ok (.astore_n 3, 1) := dk_78 (dk_at dksX0_ask_3 23 rfl rfl)
theorem dX0_ask_93 : decode cX0_ask 93 = .ok (.aload_n 0, 1) := dk_42 (dk_at dksX0_ask_4 0 rfl rfl)
theorem dX0_ask_94 : decode cX0_ask 94 = .ok (.aload_n 3, 1) := dk_45 (dk_at dksX0_ask_4 1 rfl rfl)
theorem dX0_ask_95 : decode cX0_ask 95 = .ok (.invokevirtual 173, 3) := dk_182 0 173 (dk_at dksX0_ask_4 2 rfl rfl)
theorem dX0_ask_98 : decode cX0_ask 98 = .ok (.ireturn, 1) := dk_172 (dk_at dksX0_ask_4 5 rfl rfl)
abbrev cX0_river : ByteArray := prog_1_method_31_code
def yX0_river : MethodName := ⟨RX0, "river", "(II)I"⟩
def dkwX0_river_1 : List UInt8 := [180, 0, 90, 28, 181, 0, 247, 4, 172, 78, 42, 45, 182, 0, 173, 172]
abbrev dktX0_river_1 : List UInt8 := dkwX0_river_1 ++ []
def dkwX0_river_0 : List UInt8 := [42, 180, 0, 90, 27, 28, 182, 0, 240, 16, 250, 184, 0, 115, 42, 180, 0, 90, 27, 181, 0, 244, 42]
abbrev dktX0_river_0 : List UInt8 := dkwX0_river_0 ++ dktX0_river_1
theorem dksX0_river_0 : cX0_river.data.toList.drop 0 = dktX0_river_0 := by decide +kernel
theorem dksX0_river_1 : cX0_river.data.toList.drop 23 = dktX0_river_1 := dk_seg dksX0_river_0 23 rfl rfl
theorem dX0_river_0 : decode cX0_river 0 = .ok (.aload_n 0, 1) := dk_42 (dk_at dksX0_river_0 0 rfl rfl)
theorem dX0_river_1 : decode cX0_river 1 = .ok (.getfield 90, 3) := dk_180 0 90 (dk_at dksX0_river_0 1 rfl rfl)
theorem dX0_river_4 : decode cX0_river 4 = .ok (.iload_n 1, 1) := dk_27 (dk_at dksX0_river_0 4 rfl rfl)
theorem dX0_river_5 : decode cX0_river 5 = .ok (.iload_n 2, 1) := dk_28 (dk_at dksX0_river_0 5 rfl rfl)
theorem dX0_river_6 : decode cX0_river 6 = .ok (.invokevirtual 240, 3) := dk_182 0 240 (dk_at dksX0_river_0 6 rfl rfl)
theorem dX0_river_9 : decode cX0_river 9 = .ok (.bipush (-6), 2) := dk_16 250 (dk_at dksX0_river_0 9 rfl rfl)
theorem dX0_river_11 : decode cX0_river 11 = .ok (.invokestatic 115, 3) := dk_184 0 115 (dk_at dksX0_river_0 11 rfl rfl)
theorem dX0_river_14 : decode cX0_river 14 = .ok (.aload_n 0, 1) := dk_42 (dk_at dksX0_river_0 14 rfl rfl)
theorem dX0_river_15 : decode cX0_river 15 = .ok (.getfield 90, 3) := dk_180 0 90 (dk_at dksX0_river_0 15 rfl rfl)
theorem dX0_river_18 : decode cX0_river 18 = .ok (.iload_n 1, 1) := dk_27 (dk_at dksX0_river_0 18 rfl rfl)
theorem dX0_river_19 : decode cX0_river 19 = .ok (.putfield 244, 3) := dk_181 0 244 (dk_at dksX0_river_0 19 rfl rfl)
theorem dX0_river_22 : decode cX0_river 22 = .ok (.aload_n 0, 1) := dk_42 (dk_at dksX0_river_0 22 rfl rfl)
theorem dX0_river_23 : decode cX0_river 23 = .ok (.getfield 90, 3) := dk_180 0 90 (dk_at dksX0_river_1 0 rfl rfl)
theorem dX0_river_26 : decode cX0_river 26 = .ok (.iload_n 2, 1) := dk_28 (dk_at dksX0_river_1 3 rfl rfl)
theorem dX0_river_27 : decode cX0_river 27 = .ok (.putfield 247, 3) := dk_181 0 247 (dk_at dksX0_river_1 4 rfl rfl)
theorem dX0_river_30 : decode cX0_river 30 = .ok (.iconst 1, 1) := dk_4 (dk_at dksX0_river_1 7 rfl rfl)
theorem dX0_river_31 : decode cX0_river 31 = .ok (.ireturn, 1) := dk_172 (dk_at dksX0_river_1 8 rfl rfl)
theorem dX0_river_32 : decode cX0_river 32 = .ok (.astore_n 3, 1) := dk_78 (dk_at dksX0_river_1 9 rfl rfl)
theorem dX0_river_33 : decode cX0_river 33 = .ok (.aload_n 0, 1) := dk_42 (dk_at dksX0_river_1 10 rfl rfl)
theorem dX0_river_34 : decode cX0_river 34 = .ok (.aload_n 3, 1) := dk_45 (dk_at dksX0_river_1 11 rfl rfl)
theorem dX0_river_35 : decode cX0_river 35 = .ok (.invokevirtual 173, 3) := dk_182 0 173 (dk_at dksX0_river_1 12 rfl rfl)
theorem dX0_river_38 : decode cX0_river 38 = .ok (.ireturn, 1) := dk_172 (dk_at dksX0_river_1 15 rfl rfl)
abbrev cX0_thingOf : ByteArray := prog_1_method_32_code
def yX0_thingOf : MethodName := ⟨RX0, "thingOf", "(II)I"⟩
def dkwX0_thingOf_4 : List UInt8 := [167, 0, 4, 3, 172, 42, 182, 0, 250, 172]
abbrev dktX0_thingOf_4 : List UInt8 := dkwX0_thingOf_4 ++ []
def dkwX0_thingOf_3 : List UInt8 := [172, 42, 180, 0, 90, 180, 1, 6, 27, 46, 172, 42, 180, 0, 90, 180, 1, 9, 27, 51, 153, 0, 7, 4]
abbrev dktX0_thingOf_3 : List UInt8 := dkwX0_thingOf_3 ++ dktX0_thingOf_4
def dkwX0_thingOf_2 : List UInt8 := [45, 182, 0, 253, 172, 45, 180, 1, 0, 172, 45, 180, 1, 3, 172, 42, 180, 0, 90, 180, 0, 132, 27, 46]
abbrev dktX0_thingOf_2 : List UInt8 := dkwX0_thingOf_2 ++ dktX0_thingOf_3
def dkwX0_thingOf_1 : List UInt8 := [170, 0, 0, 0, 0, 0, 0, 93, 0, 0, 0, 0, 0, 0, 0, 5, 0, 0, 0, 40, 0, 0, 0, 45, 0, 0, 0, 50, 0, 0, 0, 55, 0, 0, 0, 65, 0, 0, 0, 75]
abbrev dktX0_thingOf_1 : List UInt8 := dkwX0_thingOf_1 ++ dktX0_thingOf_2
def dkwX0_thingOf_0 : List UInt8 := [42, 27, 182, 0, 111, 154, 0, 8, 42, 182, 0, 250, 172, 42, 180, 0, 90, 180, 0, 119, 27, 50, 78, 28]
abbrev dktX0_thingOf_0 : List UInt8 := dkwX0_thingOf_0 ++ dktX0_thingOf_1
theorem dksX0_thingOf_0 : cX0_thingOf.data.toList.drop 0 = dktX0_thingOf_0 := by decide +kernel
theorem dksX0_thingOf_1 : cX0_thingOf.data.toList.drop 24 = dktX0_thingOf_1 := dk_seg dksX0_thingOf_0 24 rfl rfl
theorem dksX0_thingOf_2 : cX0_thingOf.data.toList.drop 64 = dktX0_thingOf_2 := dk_seg dksX0_thingOf_1 40 rfl rfl
theorem dksX0_thingOf_3 : cX0_thingOf.data.toList.drop 88 = dktX0_thingOf_3 := dk_seg dksX0_thingOf_2 24 rfl rfl
theorem dksX0_thingOf_4 : cX0_thingOf.data.toList.drop 112 = dktX0_thingOf_4 := dk_seg dksX0_thingOf_3 24 rfl rfl
theorem dX0_thingOf_0 : decode cX0_thingOf 0 = .ok (.aload_n 0, 1) := dk_42 (dk_at dksX0_thingOf_0 0 rfl rfl)
theorem dX0_thingOf_1 : decode cX0_thingOf 1 = .ok (.iload_n 1, 1) := dk_27 (dk_at dksX0_thingOf_0 1 rfl rfl)
theorem dX0_thingOf_2 : decode cX0_thingOf 2 = .ok (.invokevirtual 111, 3) := dk_182 0 111 (dk_at dksX0_thingOf_0 2 rfl rfl)
theorem dX0_thingOf_5 : decode cX0_thingOf 5 = .ok (.ifCond .ne 8, 3) := dk_154 0 8 (dk_at dksX0_thingOf_0 5 rfl rfl)
theorem dX0_thingOf_8 : decode cX0_thingOf 8 = .ok (.aload_n 0, 1) := dk_42 (dk_at dksX0_thingOf_0 8 rfl rfl)
theorem dX0_thingOf_9 : decode cX0_thingOf 9 = .ok (.invokevirtual 250, 3) := dk_182 0 250 (dk_at dksX0_thingOf_0 9 rfl rfl)
theorem dX0_thingOf_12 : decode cX0_thingOf 12 = .ok (.ireturn, 1) := dk_172 (dk_at dksX0_thingOf_0 12 rfl rfl)
theorem dX0_thingOf_13 : decode cX0_thingOf 13 = .ok (.aload_n 0, 1) := dk_42 (dk_at dksX0_thingOf_0 13 rfl rfl)
theorem dX0_thingOf_14 : decode cX0_thingOf 14 = .ok (.getfield 90, 3) := dk_180 0 90 (dk_at dksX0_thingOf_0 14 rfl rfl)
theorem dX0_thingOf_17 : decode cX0_thingOf 17 = .ok (.getfield 119, 3) := dk_180 0 119 (dk_at dksX0_thingOf_0 17 rfl rfl)
theorem dX0_thingOf_20 : decode cX0_thingOf 20 = .ok (.iload_n 1, 1) := dk_27 (dk_at dksX0_thingOf_0 20 rfl rfl)
theorem dX0_thingOf_21 : decode cX0_thingOf 21 = .ok (.aaload, 1) := dk_50 (dk_at dksX0_thingOf_0 21 rfl rfl)
theorem dX0_thingOf_22 : decode cX0_thingOf 22 = .ok (.astore_n 3, 1) := dk_78 (dk_at dksX0_thingOf_0 22 rfl rfl)
theorem dX0_thingOf_23 : decode cX0_thingOf 23 = .ok (.iload_n 2, 1) := dk_28 (dk_at dksX0_thingOf_0 23 rfl rfl)
theorem dX0_thingOf_24 : decode cX0_thingOf 24 = .ok (.tableswitch 93 0 5 #[40, 45, 50, 55, 65, 75], 40) := by decide +kernel
theorem dX0_thingOf_64 : decode cX0_thingOf 64 = .ok (.aload_n 3, 1) := dk_45 (dk_at dksX0_thingOf_2 0 rfl rfl)
theorem dX0_thingOf_65 : decode cX0_thingOf 65 = .ok (.invokevirtual 253, 3) := dk_182 0 253 (dk_at dksX0_thingOf_2 1 rfl rfl)
theorem dX0_thingOf_68 : decode cX0_thingOf 68 = .ok (.ireturn, 1) := dk_172 (dk_at dksX0_thingOf_2 4 rfl rfl)
theorem dX0_thingOf_69 : decode cX0_thingOf 69 = .ok (.aload_n 3, 1) := dk_45 (dk_at dksX0_thingOf_2 5 rfl rfl)
theorem dX0_thingOf_70 : decode cX0_thingOf 70 = .ok (.getfield 256, 3) := dk_180 1 0 (dk_at dksX0_thingOf_2 6 rfl rfl)
theorem dX0_thingOf_73 : decode cX0_thingOf 73 = .ok (.ireturn, 1) := dk_172 (dk_at dksX0_thingOf_2 9 rfl rfl)
theorem dX0_thingOf_74 : decode cX0_thingOf 74 = .ok (.aload_n 3, 1) := dk_45 (dk_at dksX0_thingOf_2 10 rfl rfl)
theorem dX0_thingOf_75 : decode cX0_thingOf 75 = .ok (.getfield 259, 3) := dk_180 1 3 (dk_at dksX0_thingOf_2 11 rfl rfl)
theorem dX0_thingOf_78 : decode cX0_thingOf 78 = .ok (.ireturn, 1) := dk_172 (dk_at dksX0_thingOf_2 14 rfl rfl)
theorem dX0_thingOf_79 : decode cX0_thingOf 79 = .ok (.aload_n 0, 1) := dk_42 (dk_at dksX0_thingOf_2 15 rfl rfl)
theorem dX0_thingOf_80 : decode cX0_thingOf 80 = .ok (.getfield 90, 3) := dk_180 0 90 (dk_at dksX0_thingOf_2 16 rfl rfl)
theorem dX0_thingOf_83 : decode cX0_thingOf 83 = .ok (.getfield 132, 3) := dk_180 0 132 (dk_at dksX0_thingOf_2 19 rfl rfl)
theorem dX0_thingOf_86 : decode cX0_thingOf 86 = .ok (.iload_n 1, 1) := dk_27 (dk_at dksX0_thingOf_2 22 rfl rfl)
theorem dX0_thingOf_87 : decode cX0_thingOf 87 = .ok (.iaload, 1) := dk_46 (dk_at dksX0_thingOf_2 23 rfl rfl)
theorem dX0_thingOf_88 : decode cX0_thingOf 88 = .ok (.ireturn, 1) := dk_172 (dk_at dksX0_thingOf_3 0 rfl rfl)
theorem dX0_thingOf_89 : decode cX0_thingOf 89 = .ok (.aload_n 0, 1) := dk_42 (dk_at dksX0_thingOf_3 1 rfl rfl)
theorem dX0_thingOf_90 : decode cX0_thingOf 90 = .ok (.getfield 90, 3) := dk_180 0 90 (dk_at dksX0_thingOf_3 2 rfl rfl)
theorem dX0_thingOf_93 : decode cX0_thingOf 93 = .ok (.getfield 262, 3) := dk_180 1 6 (dk_at dksX0_thingOf_3 5 rfl rfl)
theorem dX0_thingOf_96 : decode cX0_thingOf 96 = .ok (.iload_n 1, 1) := dk_27 (dk_at dksX0_thingOf_3 8 rfl rfl)
theorem dX0_thingOf_97 : decode cX0_thingOf 97 = .ok (.iaload, 1) := dk_46 (dk_at dksX0_thingOf_3 9 rfl rfl)
theorem dX0_thingOf_98 : decode cX0_thingOf 98 = .ok (.ireturn, 1) := dk_172 (dk_at dksX0_thingOf_3 10 rfl rfl)
theorem dX0_thingOf_99 : decode cX0_thingOf 99 = .ok (.aload_n 0, 1) := dk_42 (dk_at dksX0_thingOf_3 11 rfl rfl)
theorem dX0_thingOf_100 : decode cX0_thingOf 100 = .ok (.getfield 90, 3) := dk_180 0 90 (dk_at dksX0_thingOf_3 12 rfl rfl)
theorem dX0_thingOf_103 : decode cX0_thingOf 103 = .ok (.getfield 265, 3) := dk_180 1 9 (dk_at dksX0_thingOf_3 15 rfl rfl)
theorem dX0_thingOf_106 : decode cX0_thingOf 106 = .ok (.iload_n 1, 1) := dk_27 (dk_at dksX0_thingOf_3 18 rfl rfl)
theorem dX0_thingOf_107 : decode cX0_thingOf 107 = .ok (.baload, 1) := dk_51 (dk_at dksX0_thingOf_3 19 rfl rfl)
theorem dX0_thingOf_108 : decode cX0_thingOf 108 = .ok (.ifCond .eq 7, 3) := dk_153 0 7 (dk_at dksX0_thingOf_3 20 rfl rfl)
theorem dX0_thingOf_111 : decode cX0_thingOf 111 = .ok (.iconst 1, 1) := dk_4 (dk_at dksX0_thingOf_3 23 rfl rfl)
theorem dX0_thingOf_112 : decode cX0_thingOf 112 = .ok (.goto 4, 3) := dk_167 0 4 (dk_at dksX0_thingOf_4 0 rfl rfl)
theorem dX0_thingOf_115 : decode cX0_thingOf 115 = .ok (.iconst 0, 1) := dk_3 (dk_at dksX0_thingOf_4 3 rfl rfl)
theorem dX0_thingOf_116 : decode cX0_thingOf 116 = .ok (.ireturn, 1) := dk_172 (dk_at dksX0_thingOf_4 4 rfl rfl)
theorem dX0_thingOf_117 : decode cX0_thingOf 117 = .ok (.aload_n 0, 1) := dk_42 (dk_at dksX0_thingOf_4 5 rfl rfl)
theorem dX0_thingOf_118 : decode cX0_thingOf 118 = .ok (.invokevirtual 250, 3) := dk_182 0 250 (dk_at dksX0_thingOf_4 6 rfl rfl)
theorem dX0_thingOf_121 : decode cX0_thingOf 121 = .ok (.ireturn, 1) := dk_172 (dk_at dksX0_thingOf_4 9 rfl rfl)
abbrev cX0_beyond : ByteArray := prog_1_method_7_code
def yX0_beyond : MethodName := ⟨RX0, "beyond", "()I"⟩
def dkwX0_beyond_0 : List UInt8 := [42, 180, 0, 63, 8, 92, 46, 4, 96, 79, 16, 251, 172]
abbrev dktX0_beyond_0 : List UInt8 := dkwX0_beyond_0 ++ []
theorem dksX0_beyond_0 : cX0_beyond.data.toList.drop 0 = dktX0_beyond_0 := by decide +kernel
theorem dX0_beyond_0 : decode cX0_beyond 0 = .ok (.aload_n 0, 1) := dk_42 (dk_at dksX0_beyond_0 0 rfl rfl)
theorem dX0_beyond_1 : decode cX0_beyond 1 = .ok (.getfield 63, 3) := dk_180 0 63 (dk_at dksX0_beyond_0 1 rfl rfl)
theorem dX0_beyond_4 : decode cX0_beyond 4 = .ok (.iconst 5, 1) := dk_8 (dk_at dksX0_beyond_0 4 rfl rfl)
theorem dX0_beyond_5 : decode cX0_beyond 5 = .ok (.dup2, 1) := dk_92 (dk_at dksX0_beyond_0 5 rfl rfl)
theorem dX0_beyond_6 : decode cX0_beyond 6 = .ok (.iaload, 1) := dk_46 (dk_at dksX0_beyond_0 6 rfl rfl)
theorem dX0_beyond_7 : decode cX0_beyond 7 = .ok (.iconst 1, 1) := dk_4 (dk_at dksX0_beyond_0 7 rfl rfl)
theorem dX0_beyond_8 : decode cX0_beyond 8 = .ok (.iadd, 1) := dk_96 (dk_at dksX0_beyond_0 8 rfl rfl)
theorem dX0_beyond_9 : decode cX0_beyond 9 = .ok (.iastore, 1) := dk_79 (dk_at dksX0_beyond_0 9 rfl rfl)
theorem dX0_beyond_10 : decode cX0_beyond 10 = .ok (.bipush (-5), 2) := dk_16 251 (dk_at dksX0_beyond_0 10 rfl rfl)
theorem dX0_beyond_12 : decode cX0_beyond 12 = .ok (.ireturn, 1) := dk_172 (dk_at dksX0_beyond_0 12 rfl rfl)
abbrev cX0_manOf : ByteArray := prog_1_method_33_code
def yX0_manOf : MethodName := ⟨RX0, "manOf", "(II)I"⟩
def dkwX0_manOf_2 : List UInt8 := [172]
abbrev dktX0_manOf_2 : List UInt8 := dkwX0_manOf_2 ++ []
def dkwX0_manOf_1 : List UInt8 := [154, 0, 15, 42, 180, 0, 90, 180, 1, 13, 27, 46, 167, 0, 12, 42, 180, 0, 90, 180, 1, 16, 27, 46]
abbrev dktX0_manOf_1 : List UInt8 := dkwX0_manOf_1 ++ dktX0_manOf_2
def dkwX0_manOf_0 : List UInt8 := [42, 27, 182, 0, 126, 153, 0, 13, 28, 133, 9, 10, 184, 0, 107, 154, 0, 8, 42, 182, 0, 250, 172, 28]
abbrev dktX0_manOf_0 : List UInt8 := dkwX0_manOf_0 ++ dktX0_manOf_1
theorem dksX0_manOf_0 : cX0_manOf.data.toList.drop 0 = dktX0_manOf_0 := by decide +kernel
theorem dksX0_manOf_1 : cX0_manOf.data.toList.drop 24 = dktX0_manOf_1 := dk_seg dksX0_manOf_0 24 rfl rfl
theorem dksX0_manOf_2 : cX0_manOf.data.toList.drop 48 = dktX0_manOf_2 := dk_seg dksX0_manOf_1 24 rfl rfl
theorem dX0_manOf_0 : decode cX0_manOf 0 = .ok (.aload_n 0, 1) := dk_42 (dk_at dksX0_manOf_0 0 rfl rfl)
theorem dX0_manOf_1 : decode cX0_manOf 1 = .ok (.iload_n 1, 1) := dk_27 (dk_at dksX0_manOf_0 1 rfl rfl)
theorem dX0_manOf_2 : decode cX0_manOf 2 = .ok (.invokevirtual 126, 3) := dk_182 0 126 (dk_at dksX0_manOf_0 2 rfl rfl)
theorem dX0_manOf_5 : decode cX0_manOf 5 = .ok (.ifCond .eq 13, 3) := dk_153 0 13 (dk_at dksX0_manOf_0 5 rfl rfl)
theorem dX0_manOf_8 : decode cX0_manOf 8 = .ok (.iload_n 2, 1) := dk_28 (dk_at dksX0_manOf_0 8 rfl rfl)
theorem dX0_manOf_9 : decode cX0_manOf 9 = .ok (.i2l, 1) := dk_133 (dk_at dksX0_manOf_0 9 rfl rfl)
theorem dX0_manOf_10 : decode cX0_manOf 10 = .ok (.lconst 0, 1) := dk_9 (dk_at dksX0_manOf_0 10 rfl rfl)
theorem dX0_manOf_11 : decode cX0_manOf 11 = .ok (.lconst 1, 1) := dk_10 (dk_at dksX0_manOf_0 11 rfl rfl)
theorem dX0_manOf_12 : decode cX0_manOf 12 = .ok (.invokestatic 107, 3) := dk_184 0 107 (dk_at dksX0_manOf_0 12 rfl rfl)
theorem dX0_manOf_15 : decode cX0_manOf 15 = .ok (.ifCond .ne 8, 3) := dk_154 0 8 (dk_at dksX0_manOf_0 15 rfl rfl)
theorem dX0_manOf_18 : decode cX0_manOf 18 = .ok (.aload_n 0, 1) := dk_42 (dk_at dksX0_manOf_0 18 rfl rfl)
theorem dX0_manOf_19 : decode cX0_manOf 19 = .ok (.invokevirtual 250, 3) := dk_182 0 250 (dk_at dksX0_manOf_0 19 rfl rfl)
theorem dX0_manOf_22 : decode cX0_manOf 22 = .ok (.ireturn, 1) := dk_172 (dk_at dksX0_manOf_0 22 rfl rfl)
theorem dX0_manOf_23 : decode cX0_manOf 23 = .ok (.iload_n 2, 1) := dk_28 (dk_at dksX0_manOf_0 23 rfl rfl)
theorem dX0_manOf_24 : decode cX0_manOf 24 = .ok (.ifCond .ne 15, 3) := dk_154 0 15 (dk_at dksX0_manOf_1 0 rfl rfl)
theorem dX0_manOf_27 : decode cX0_manOf 27 = .ok (.aload_n 0, 1) := dk_42 (dk_at dksX0_manOf_1 3 rfl rfl)
theorem dX0_manOf_28 : decode cX0_manOf 28 = .ok (.getfield 90, 3) := dk_180 0 90 (dk_at dksX0_manOf_1 4 rfl rfl)
theorem dX0_manOf_31 : decode cX0_manOf 31 = .ok (.getfield 269, 3) := dk_180 1 13 (dk_at dksX0_manOf_1 7 rfl rfl)
theorem dX0_manOf_34 : decode cX0_manOf 34 = .ok (.iload_n 1, 1) := dk_27 (dk_at dksX0_manOf_1 10 rfl rfl)
theorem dX0_manOf_35 : decode cX0_manOf 35 = .ok (.iaload, 1) := dk_46 (dk_at dksX0_manOf_1 11 rfl rfl)
theorem dX0_manOf_36 : decode cX0_manOf 36 = .ok (.goto 12, 3) := dk_167 0 12 (dk_at dksX0_manOf_1 12 rfl rfl)
theorem dX0_manOf_39 : decode cX0_manOf 39 = .ok (.aload_n 0, 1) := dk_42 (dk_at dksX0_manOf_1 15 rfl rfl)
theorem dX0_manOf_40 : decode cX0_manOf 40 = .ok (.getfield 90, 3) := dk_180 0 90 (dk_at dksX0_manOf_1 16 rfl rfl)
theorem dX0_manOf_43 : decode cX0_manOf 43 = .ok (.getfield 272, 3) := dk_180 1 16 (dk_at dksX0_manOf_1 19 rfl rfl)
theorem dX0_manOf_46 : decode cX0_manOf 46 = .ok (.iload_n 1, 1) := dk_27 (dk_at dksX0_manOf_1 22 rfl rfl)
theorem dX0_manOf_47 : decode cX0_manOf 47 = .ok (.iaload, 1) := dk_46 (dk_at dksX0_manOf_1 23 rfl rfl)
theorem dX0_manOf_48 : decode cX0_manOf 48 = .ok (.ireturn, 1) := dk_172 (dk_at dksX0_manOf_2 0 rfl rfl)
abbrev cX0_isMan : ByteArray := prog_1_method_11_code
def yX0_isMan : MethodName := ⟨RX0, "isMan", "(I)Z"⟩
def dkwX0_isMan_0 : List UInt8 := [27, 133, 9, 42, 180, 0, 90, 180, 0, 123, 4, 100, 133, 184, 0, 107, 172]
abbrev dktX0_isMan_0 : List UInt8 := dkwX0_isMan_0 ++ []
theorem dksX0_isMan_0 : cX0_isMan.data.toList.drop 0 = dktX0_isMan_0 := by decide +kernel
theorem dX0_isMan_0 : decode cX0_isMan 0 = .ok (.iload_n 1, 1) := dk_27 (dk_at dksX0_isMan_0 0 rfl rfl)
theorem dX0_isMan_1 : decode cX0_isMan 1 = .ok (.i2l, 1) := dk_133 (dk_at dksX0_isMan_0 1 rfl rfl)
theorem dX0_isMan_2 : decode cX0_isMan 2 = .ok (.lconst 0, 1) := dk_9 (dk_at dksX0_isMan_0 2 rfl rfl)
theorem dX0_isMan_3 : decode cX0_isMan 3 = .ok (.aload_n 0, 1) := dk_42 (dk_at dksX0_isMan_0 3 rfl rfl)
theorem dX0_isMan_4 : decode cX0_isMan 4 = .ok (.getfield 90, 3) := dk_180 0 90 (dk_at dksX0_isMan_0 4 rfl rfl)
theorem dX0_isMan_7 : decode cX0_isMan 7 = .ok (.getfield 123, 3) := dk_180 0 123 (dk_at dksX0_isMan_0 7 rfl rfl)
theorem dX0_isMan_10 : decode cX0_isMan 10 = .ok (.iconst 1, 1) := dk_4 (dk_at dksX0_isMan_0 10 rfl rfl)
theorem dX0_isMan_11 : decode cX0_isMan 11 = .ok (.isub, 1) := dk_100 (dk_at dksX0_isMan_0 11 rfl rfl)
theorem dX0_isMan_12 : decode cX0_isMan 12 = .ok (.i2l, 1) := dk_133 (dk_at dksX0_isMan_0 12 rfl rfl)
theorem dX0_isMan_13 : decode cX0_isMan 13 = .ok (.invokestatic 107, 3) := dk_184 0 107 (dk_at dksX0_isMan_0 13 rfl rfl)
theorem dX0_isMan_16 : decode cX0_isMan 16 = .ok (.ireturn, 1) := dk_172 (dk_at dksX0_isMan_0 16 rfl rfl)
abbrev cX0_wantOf : ByteArray := prog_1_method_34_code
def yX0_wantOf : MethodName := ⟨RX0, "wantOf", "(II)I"⟩
def dkwX0_wantOf_5 : List UInt8 := [180, 0, 90, 180, 1, 22, 27, 46, 160, 0, 7, 4, 167, 0, 4, 3, 172, 42, 182, 0, 250, 172]
abbrev dktX0_wantOf_5 : List UInt8 := dkwX0_wantOf_5 ++ []
def dkwX0_wantOf_4 : List UInt8 := [180, 1, 25, 27, 46, 172, 42, 180, 0, 90, 180, 0, 132, 42, 180, 0, 90, 180, 1, 19, 27, 46, 46, 42]
abbrev dktX0_wantOf_4 : List UInt8 := dkwX0_wantOf_4 ++ dktX0_wantOf_5
def dkwX0_wantOf_3 : List UInt8 := [42, 180, 0, 90, 180, 1, 19, 27, 46, 172, 42, 180, 0, 90, 180, 1, 22, 27, 46, 172, 42, 180, 0, 90]
abbrev dktX0_wantOf_3 : List UInt8 := dkwX0_wantOf_3 ++ dktX0_wantOf_4
def dkwX0_wantOf_2 : List UInt8 := [170, 0, 0, 0, 0, 0, 96, 0, 0, 0, 0, 0, 0, 0, 3, 0, 0, 0, 31, 0, 0, 0, 41, 0, 0, 0, 51, 0, 0, 0, 61]
abbrev dktX0_wantOf_2 : List UInt8 := dkwX0_wantOf_2 ++ dktX0_wantOf_3
def dkwX0_wantOf_1 : List UInt8 := [28]
abbrev dktX0_wantOf_1 : List UInt8 := dkwX0_wantOf_1 ++ dktX0_wantOf_2
def dkwX0_wantOf_0 : List UInt8 := [27, 133, 9, 42, 180, 0, 90, 180, 0, 219, 4, 100, 133, 184, 0, 107, 154, 0, 8, 42, 182, 0, 250, 172]
abbrev dktX0_wantOf_0 : List UInt8 := dkwX0_wantOf_0 ++ dktX0_wantOf_1
theorem dksX0_wantOf_0 : cX0_wantOf.data.toList.drop 0 = dktX0_wantOf_0 := by decide +kernel
theorem dksX0_wantOf_1 : cX0_wantOf.data.toList.drop 24 = dktX0_wantOf_1 := dk_seg dksX0_wantOf_0 24 rfl rfl
theorem dksX0_wantOf_2 : cX0_wantOf.data.toList.drop 25 = dktX0_wantOf_2 := dk_seg dksX0_wantOf_1 1 rfl rfl
theorem dksX0_wantOf_3 : cX0_wantOf.data.toList.drop 56 = dktX0_wantOf_3 := dk_seg dksX0_wantOf_2 31 rfl rfl
theorem dksX0_wantOf_4 : cX0_wantOf.data.toList.drop 80 = dktX0_wantOf_4 := dk_seg dksX0_wantOf_3 24 rfl rfl
theorem dksX0_wantOf_5 : cX0_wantOf.data.toList.drop 104 = dktX0_wantOf_5 := dk_seg dksX0_wantOf_4 24 rfl rfl
theorem dX0_wantOf_0 : decode cX0_wantOf 0 = .ok (.iload_n 1, 1) := dk_27 (dk_at dksX0_wantOf_0 0 rfl rfl)
theorem dX0_wantOf_1 : decode cX0_wantOf 1 = .ok (.i2l, 1) := dk_133 (dk_at dksX0_wantOf_0 1 rfl rfl)
theorem dX0_wantOf_2 : decode cX0_wantOf 2 = .ok (.lconst 0, 1) := dk_9 (dk_at dksX0_wantOf_0 2 rfl rfl)
theorem dX0_wantOf_3 : decode cX0_wantOf 3 = .ok (.aload_n 0, 1) := dk_42 (dk_at dksX0_wantOf_0 3 rfl rfl)
theorem dX0_wantOf_4 : decode cX0_wantOf 4 = .ok (.getfield 90, 3) := dk_180 0 90 (dk_at dksX0_wantOf_0 4 rfl rfl)
theorem dX0_wantOf_7 : decode cX0_wantOf 7 = .ok (.getfield 219, 3) := dk_180 0 219 (dk_at dksX0_wantOf_0 7 rfl rfl)
theorem dX0_wantOf_10 : decode cX0_wantOf 10 = .ok (.iconst 1, 1) := dk_4 (dk_at dksX0_wantOf_0 10 rfl rfl)
theorem dX0_wantOf_11 : decode cX0_wantOf 11 = .ok (.isub, 1) := dk_100 (dk_at dksX0_wantOf_0 11 rfl rfl)
theorem dX0_wantOf_12 : decode cX0_wantOf 12 = .ok (.i2l, 1) := dk_133 (dk_at dksX0_wantOf_0 12 rfl rfl)
theorem dX0_wantOf_13 : decode cX0_wantOf 13 = .ok (.invokestatic 107, 3) := dk_184 0 107 (dk_at dksX0_wantOf_0 13 rfl rfl)
theorem dX0_wantOf_16 : decode cX0_wantOf 16 = .ok (.ifCond .ne 8, 3) := dk_154 0 8 (dk_at dksX0_wantOf_0 16 rfl rfl)
theorem dX0_wantOf_19 : decode cX0_wantOf 19 = .ok (.aload_n 0, 1) := dk_42 (dk_at dksX0_wantOf_0 19 rfl rfl)
theorem dX0_wantOf_20 : decode cX0_wantOf 20 = .ok (.invokevirtual 250, 3) := dk_182 0 250 (dk_at dksX0_wantOf_0 20 rfl rfl)
theorem dX0_wantOf_23 : decode cX0_wantOf 23 = .ok (.ireturn, 1) := dk_172 (dk_at dksX0_wantOf_0 23 rfl rfl)
theorem dX0_wantOf_24 : decode cX0_wantOf 24 = .ok (.iload_n 2, 1) := dk_28 (dk_at dksX0_wantOf_1 0 rfl rfl)
theorem dX0_wantOf_25 : decode cX0_wantOf 25 = .ok (.tableswitch 96 0 3 #[31, 41, 51, 61], 31) := by decide +kernel
theorem dX0_wantOf_56 : decode cX0_wantOf 56 = .ok (.aload_n 0, 1) := dk_42 (dk_at dksX0_wantOf_3 0 rfl rfl)
theorem dX0_wantOf_57 : decode cX0_wantOf 57 = .ok (.getfield 90, 3) := dk_180 0 90 (dk_at dksX0_wantOf_3 1 rfl rfl)
theorem dX0_wantOf_60 : decode cX0_wantOf 60 = .ok (.getfield 275, 3) := dk_180 1 19 (dk_at dksX0_wantOf_3 4 rfl rfl)
theorem dX0_wantOf_63 : decode cX0_wantOf 63 = .ok (.iload_n 1, 1) := dk_27 (dk_at dksX0_wantOf_3 7 rfl rfl)
theorem dX0_wantOf_64 : decode cX0_wantOf 64 = .ok (.iaload, 1) := dk_46 (dk_at dksX0_wantOf_3 8 rfl rfl)
theorem dX0_wantOf_65 : decode cX0_wantOf 65 = .ok (.ireturn, 1) := dk_172 (dk_at dksX0_wantOf_3 9 rfl rfl)
theorem dX0_wantOf_66 : decode cX0_wantOf 66 = .ok (.aload_n 0, 1) := dk_42 (dk_at dksX0_wantOf_3 10 rfl rfl)
theorem dX0_wantOf_67 : decode cX0_wantOf 67 = .ok (.getfield 90, 3) := dk_180 0 90 (dk_at dksX0_wantOf_3 11 rfl rfl)
theorem dX0_wantOf_70 : decode cX0_wantOf 70 = .ok (.getfield 278, 3) := dk_180 1 22 (dk_at dksX0_wantOf_3 14 rfl rfl)
theorem dX0_wantOf_73 : decode cX0_wantOf 73 = .ok (.iload_n 1, 1) := dk_27 (dk_at dksX0_wantOf_3 17 rfl rfl)
theorem dX0_wantOf_74 : decode cX0_wantOf 74 = .ok (.iaload, 1) := dk_46 (dk_at dksX0_wantOf_3 18 rfl rfl)
theorem dX0_wantOf_75 : decode cX0_wantOf 75 = .ok (.ireturn, 1) := dk_172 (dk_at dksX0_wantOf_3 19 rfl rfl)
theorem dX0_wantOf_76 : decode cX0_wantOf 76 = .ok (.aload_n 0, 1) := dk_42 (dk_at dksX0_wantOf_3 20 rfl rfl)
theorem dX0_wantOf_77 : decode cX0_wantOf 77 = .ok (.getfield 90, 3) := dk_180 0 90 (dk_at dksX0_wantOf_3 21 rfl rfl)
theorem dX0_wantOf_80 : decode cX0_wantOf 80 = .ok (.getfield 281, 3) := dk_180 1 25 (dk_at dksX0_wantOf_4 0 rfl rfl)
theorem dX0_wantOf_83 : decode cX0_wantOf 83 = .ok (.iload_n 1, 1) := dk_27 (dk_at dksX0_wantOf_4 3 rfl rfl)
theorem dX0_wantOf_84 : decode cX0_wantOf 84 = .ok (.iaload, 1) := dk_46 (dk_at dksX0_wantOf_4 4 rfl rfl)
theorem dX0_wantOf_85 : decode cX0_wantOf 85 = .ok (.ireturn, 1) := dk_172 (dk_at dksX0_wantOf_4 5 rfl rfl)
theorem dX0_wantOf_86 : decode cX0_wantOf 86 = .ok (.aload_n 0, 1) := dk_42 (dk_at dksX0_wantOf_4 6 rfl rfl)
theorem dX0_wantOf_87 : decode cX0_wantOf 87 = .ok (.getfield 90, 3) := dk_180 0 90 (dk_at dksX0_wantOf_4 7 rfl rfl)
theorem dX0_wantOf_90 : decode cX0_wantOf 90 = .ok (.getfield 132, 3) := dk_180 0 132 (dk_at dksX0_wantOf_4 10 rfl rfl)
theorem dX0_wantOf_93 : decode cX0_wantOf 93 = .ok (.aload_n 0, 1) := dk_42 (dk_at dksX0_wantOf_4 13 rfl rfl)
theorem dX0_wantOf_94 : decode cX0_wantOf 94 = .ok (.getfield 90, 3) := dk_180 0 90 (dk_at dksX0_wantOf_4 14 rfl rfl)
theorem dX0_wantOf_97 : decode cX0_wantOf 97 = .ok (.getfield 275, 3) := dk_180 1 19 (dk_at dksX0_wantOf_4 17 rfl rfl)
theorem dX0_wantOf_100 : decode cX0_wantOf 100 = .ok (.iload_n 1, 1) := dk_27 (dk_at dksX0_wantOf_4 20 rfl rfl)
theorem dX0_wantOf_101 : decode cX0_wantOf 101 = .ok (.iaload, 1) := dk_46 (dk_at dksX0_wantOf_4 21 rfl rfl)
theorem dX0_wantOf_102 : decode cX0_wantOf 102 = .ok (.iaload, 1) := dk_46 (dk_at dksX0_wantOf_4 22 rfl rfl)
theorem dX0_wantOf_103 : decode cX0_wantOf 103 = .ok (.aload_n 0, 1) := dk_42 (dk_at dksX0_wantOf_4 23 rfl rfl)
theorem dX0_wantOf_104 : decode cX0_wantOf 104 = .ok (.getfield 90, 3) := dk_180 0 90 (dk_at dksX0_wantOf_5 0 rfl rfl)
theorem dX0_wantOf_107 : decode cX0_wantOf 107 = .ok (.getfield 278, 3) := dk_180 1 22 (dk_at dksX0_wantOf_5 3 rfl rfl)
theorem dX0_wantOf_110 : decode cX0_wantOf 110 = .ok (.iload_n 1, 1) := dk_27 (dk_at dksX0_wantOf_5 6 rfl rfl)
theorem dX0_wantOf_111 : decode cX0_wantOf 111 = .ok (.iaload, 1) := dk_46 (dk_at dksX0_wantOf_5 7 rfl rfl)
theorem dX0_wantOf_112 : decode cX0_wantOf 112 = .ok (.if_icmp .ne 7, 3) := dk_160 0 7 (dk_at dksX0_wantOf_5 8 rfl rfl)
theorem dX0_wantOf_115 : decode cX0_wantOf 115 = .ok (.iconst 1, 1) := dk_4 (dk_at dksX0_wantOf_5 11 rfl rfl)
theorem dX0_wantOf_116 : decode cX0_wantOf 116 = .ok (.goto 4, 3) := dk_167 0 4 (dk_at dksX0_wantOf_5 12 rfl rfl)
theorem dX0_wantOf_119 : decode cX0_wantOf 119 = .ok (.iconst 0, 1) := dk_3 (dk_at dksX0_wantOf_5 15 rfl rfl)
theorem dX0_wantOf_120 : decode cX0_wantOf 120 = .ok (.ireturn, 1) := dk_172 (dk_at dksX0_wantOf_5 16 rfl rfl)
theorem dX0_wantOf_121 : decode cX0_wantOf 121 = .ok (.aload_n 0, 1) := dk_42 (dk_at dksX0_wantOf_5 17 rfl rfl)
theorem dX0_wantOf_122 : decode cX0_wantOf 122 = .ok (.invokevirtual 250, 3) := dk_182 0 250 (dk_at dksX0_wantOf_5 18 rfl rfl)
theorem dX0_wantOf_125 : decode cX0_wantOf 125 = .ok (.ireturn, 1) := dk_172 (dk_at dksX0_wantOf_5 21 rfl rfl)
abbrev cX0_valley : ByteArray := prog_1_method_35_code
def yX0_valley : MethodName := ⟨RX0, "valley", "(I)I"⟩
def dkwX0_valley_3 : List UInt8 := [182, 0, 173, 172]
abbrev dktX0_valley_3 : List UInt8 := dkwX0_valley_3 ++ []
def dkwX0_valley_2 : List UInt8 := [42, 25, 4, 180, 1, 41, 181, 0, 94, 187, 0, 21, 89, 16, 250, 183, 0, 23, 191, 77, 42, 44]
abbrev dktX0_valley_2 : List UInt8 := dkwX0_valley_2 ++ dktX0_valley_3
def dkwX0_valley_1 : List UInt8 := [187, 1, 31, 89, 44, 45, 183, 1, 33, 182, 1, 36, 54, 4, 42, 45, 181, 0, 90, 21, 4, 172, 58, 4]
abbrev dktX0_valley_1 : List UInt8 := dkwX0_valley_1 ++ dktX0_valley_2
def dkwX0_valley_0 : List UInt8 := [42, 27, 182, 0, 163, 182, 0, 177, 77, 42, 2, 181, 0, 94, 42, 180, 0, 90, 182, 1, 28, 78]
abbrev dktX0_valley_0 : List UInt8 := dkwX0_valley_0 ++ dktX0_valley_1
theorem dksX0_valley_0 : cX0_valley.data.toList.drop 0 = dktX0_valley_0 := by decide +kernel
theorem dksX0_valley_1 : cX0_valley.data.toList.drop 22 = dktX0_valley_1 := dk_seg dksX0_valley_0 22 rfl rfl
theorem dksX0_valley_2 : cX0_valley.data.toList.drop 46 = dktX0_valley_2 := dk_seg dksX0_valley_1 24 rfl rfl
theorem dksX0_valley_3 : cX0_valley.data.toList.drop 68 = dktX0_valley_3 := dk_seg dksX0_valley_2 22 rfl rfl
theorem dX0_valley_0 : decode cX0_valley 0 = .ok (.aload_n 0, 1) := dk_42 (dk_at dksX0_valley_0 0 rfl rfl)
theorem dX0_valley_1 : decode cX0_valley 1 = .ok (.iload_n 1, 1) := dk_27 (dk_at dksX0_valley_0 1 rfl rfl)
theorem dX0_valley_2 : decode cX0_valley 2 = .ok (.invokevirtual 163, 3) := dk_182 0 163 (dk_at dksX0_valley_0 2 rfl rfl)
theorem dX0_valley_5 : decode cX0_valley 5 = .ok (.invokevirtual 177, 3) := dk_182 0 177 (dk_at dksX0_valley_0 5 rfl rfl)
theorem dX0_valley_8 : decode cX0_valley 8 = .ok (.astore_n 2, 1) := dk_77 (dk_at dksX0_valley_0 8 rfl rfl)
theorem dX0_valley_9 : decode cX0_valley 9 = .ok (.aload_n 0, 1) := dk_42 (dk_at dksX0_valley_0 9 rfl rfl)
theorem dX0_valley_10 : decode cX0_valley 10 = .ok (.iconst (-1), 1) := dk_2 (dk_at dksX0_valley_0 10 rfl rfl)
theorem dX0_valley_11 : decode cX0_valley 11 = .ok (.putfield 94, 3) := dk_181 0 94 (dk_at dksX0_valley_0 11 rfl rfl)
theorem dX0_valley_14 : decode cX0_valley 14 = .ok (.aload_n 0, 1) := dk_42 (dk_at dksX0_valley_0 14 rfl rfl)
theorem dX0_valley_15 : decode cX0_valley 15 = .ok (.getfield 90, 3) := dk_180 0 90 (dk_at dksX0_valley_0 15 rfl rfl)
theorem dX0_valley_18 : decode cX0_valley 18 = .ok (.invokevirtual 284, 3) := dk_182 1 28 (dk_at dksX0_valley_0 18 rfl rfl)
theorem dX0_valley_21 : decode cX0_valley 21 = .ok (.astore_n 3, 1) := dk_78 (dk_at dksX0_valley_0 21 rfl rfl)
theorem dX0_valley_22 : decode cX0_valley 22 = .ok (.new 287, 3) := dk_187 1 31 (dk_at dksX0_valley_1 0 rfl rfl)
theorem dX0_valley_25 : decode cX0_valley 25 = .ok (.dup, 1) := dk_89 (dk_at dksX0_valley_1 3 rfl rfl)
theorem dX0_valley_26 : decode cX0_valley 26 = .ok (.aload_n 2, 1) := dk_44 (dk_at dksX0_valley_1 4 rfl rfl)
theorem dX0_valley_27 : decode cX0_valley 27 = .ok (.aload_n 3, 1) := dk_45 (dk_at dksX0_valley_1 5 rfl rfl)
theorem dX0_valley_28 : decode cX0_valley 28 = .ok (.invokespecial 289, 3) := dk_183 1 33 (dk_at dksX0_valley_1 6 rfl rfl)
theorem dX0_valley_31 : decode cX0_valley 31 = .ok (.invokevirtual 292, 3) := dk_182 1 36 (dk_at dksX0_valley_1 9 rfl rfl)
theorem dX0_valley_34 : decode cX0_valley 34 = .ok (.istore 4, 2) := dk_54 4 (dk_at dksX0_valley_1 12 rfl rfl)
theorem dX0_valley_36 : decode cX0_valley 36 = .ok (.aload_n 0, 1) := dk_42 (dk_at dksX0_valley_1 14 rfl rfl)
theorem dX0_valley_37 : decode cX0_valley 37 = .ok (.aload_n 3, 1) := dk_45 (dk_at dksX0_valley_1 15 rfl rfl)
theorem dX0_valley_38 : decode cX0_valley 38 = .ok (.putfield 90, 3) := dk_181 0 90 (dk_at dksX0_valley_1 16 rfl rfl)
theorem dX0_valley_41 : decode cX0_valley 41 = .ok (.iload 4, 2) := dk_21 4 (dk_at dksX0_valley_1 19 rfl rfl)
theorem dX0_valley_43 : decode cX0_valley 43 = .ok (.ireturn, 1) := dk_172 (dk_at dksX0_valley_1 21 rfl rfl)
theorem dX0_valley_44 : decode cX0_valley 44 = .ok (.astore 4, 2) := dk_58 4 (dk_at dksX0_valley_1 22 rfl rfl)
theorem dX0_valley_46 : decode cX0_valley 46 = .ok (.aload_n 0, 1) := dk_42 (dk_at dksX0_valley_2 0 rfl rfl)
theorem dX0_valley_47 : decode cX0_valley 47 = .ok (.aload 4, 2) := dk_25 4 (dk_at dksX0_valley_2 1 rfl rfl)
theorem dX0_valley_49 : decode cX0_valley 49 = .ok (.getfield 297, 3) := dk_180 1 41 (dk_at dksX0_valley_2 3 rfl rfl)
theorem dX0_valley_52 : decode cX0_valley 52 = .ok (.putfield 94, 3) := dk_181 0 94 (dk_at dksX0_valley_2 6 rfl rfl)
theorem dX0_valley_55 : decode cX0_valley 55 = .ok (.new 21, 3) := dk_187 0 21 (dk_at dksX0_valley_2 9 rfl rfl)
theorem dX0_valley_58 : decode cX0_valley 58 = .ok (.dup, 1) := dk_89 (dk_at dksX0_valley_2 12 rfl rfl)
theorem dX0_valley_59 : decode cX0_valley 59 = .ok (.bipush (-6), 2) := dk_16 250 (dk_at dksX0_valley_2 13 rfl rfl)
theorem dX0_valley_61 : decode cX0_valley 61 = .ok (.invokespecial 23, 3) := dk_183 0 23 (dk_at dksX0_valley_2 15 rfl rfl)
theorem dX0_valley_64 : decode cX0_valley 64 = .ok (.athrow, 1) := dk_191 (dk_at dksX0_valley_2 18 rfl rfl)
theorem dX0_valley_65 : decode cX0_valley 65 = .ok (.astore_n 2, 1) := dk_77 (dk_at dksX0_valley_2 19 rfl rfl)
theorem dX0_valley_66 : decode cX0_valley 66 = .ok (.aload_n 0, 1) := dk_42 (dk_at dksX0_valley_2 20 rfl rfl)
theorem dX0_valley_67 : decode cX0_valley 67 = .ok (.aload_n 2, 1) := dk_44 (dk_at dksX0_valley_2 21 rfl rfl)
theorem dX0_valley_68 : decode cX0_valley 68 = .ok (.invokevirtual 173, 3) := dk_182 0 173 (dk_at dksX0_valley_3 0 rfl rfl)
theorem dX0_valley_71 : decode cX0_valley 71 = .ok (.ireturn, 1) := dk_172 (dk_at dksX0_valley_3 3 rfl rfl)
abbrev cX0_fault : ByteArray := prog_1_method_36_code
def yX0_fault : MethodName := ⟨RX0, "fault", "()I"⟩
theorem dX0_fault_0 : decode cX0_fault 0 = .ok (.aload_n 0, 1) := by decide +kernel
theorem dX0_fault_1 : decode cX0_fault 1 = .ok (.getfield 94, 3) := by decide +kernel
theorem dX0_fault_4 : decode cX0_fault 4 = .ok (.ireturn, 1) := by decide +kernel
abbrev cX0_far : ByteArray := prog_1_method_37_code
def yX0_far : MethodName := ⟨RX0, "far", "(II)I"⟩
def dkwX0_far_0 : List UInt8 := [42, 27, 28, 182, 1, 44, 42, 180, 0, 90, 27, 28, 182, 1, 48, 172, 78, 42, 45, 182, 0, 173, 172]
abbrev dktX0_far_0 : List UInt8 := dkwX0_far_0 ++ []
theorem dksX0_far_0 : cX0_far.data.toList.drop 0 = dktX0_far_0 := by decide +kernel
theorem dX0_far_0 : decode cX0_far 0 = .ok (.aload_n 0, 1) := dk_42 (dk_at dksX0_far_0 0 rfl rfl)
theorem dX0_far_1 : decode cX0_far 1 = .ok (.iload_n 1, 1) := dk_27 (dk_at dksX0_far_0 1 rfl rfl)
theorem dX0_far_2 : decode cX0_far 2 = .ok (.iload_n 2, 1) := dk_28 (dk_at dksX0_far_0 2 rfl rfl)
theorem dX0_far_3 : decode cX0_far 3 = .ok (.invokevirtual 300, 3) := dk_182 1 44 (dk_at dksX0_far_0 3 rfl rfl)
theorem dX0_far_6 : decode cX0_far 6 = .ok (.aload_n 0, 1) := dk_42 (dk_at dksX0_far_0 6 rfl rfl)
theorem dX0_far_7 : decode cX0_far 7 = .ok (.getfield 90, 3) := dk_180 0 90 (dk_at dksX0_far_0 7 rfl rfl)
theorem dX0_far_10 : decode cX0_far 10 = .ok (.iload_n 1, 1) := dk_27 (dk_at dksX0_far_0 10 rfl rfl)
theorem dX0_far_11 : decode cX0_far 11 = .ok (.iload_n 2, 1) := dk_28 (dk_at dksX0_far_0 11 rfl rfl)
theorem dX0_far_12 : decode cX0_far 12 = .ok (.invokevirtual 304, 3) := dk_182 1 48 (dk_at dksX0_far_0 12 rfl rfl)
theorem dX0_far_15 : decode cX0_far 15 = .ok (.ireturn, 1) := dk_172 (dk_at dksX0_far_0 15 rfl rfl)
theorem dX0_far_16 : decode cX0_far 16 = .ok (.astore_n 3, 1) := dk_78 (dk_at dksX0_far_0 16 rfl rfl)
theorem dX0_far_17 : decode cX0_far 17 = .ok (.aload_n 0, 1) := dk_42 (dk_at dksX0_far_0 17 rfl rfl)
theorem dX0_far_18 : decode cX0_far 18 = .ok (.aload_n 3, 1) := dk_45 (dk_at dksX0_far_0 18 rfl rfl)
theorem dX0_far_19 : decode cX0_far 19 = .ok (.invokevirtual 173, 3) := dk_182 0 173 (dk_at dksX0_far_0 19 rfl rfl)
theorem dX0_far_22 : decode cX0_far 22 = .ok (.ireturn, 1) := dk_172 (dk_at dksX0_far_0 22 rfl rfl)
abbrev cX0_must : ByteArray := prog_1_method_12_code
def yX0_must : MethodName := ⟨RX0, "must", "(II)V"⟩
def dkwX0_must_1 : List UInt8 := [184, 0, 115, 177]
abbrev dktX0_must_1 : List UInt8 := dkwX0_must_1 ++ []
def dkwX0_must_0 : List UInt8 := [42, 27, 182, 0, 126, 153, 0, 15, 42, 28, 182, 0, 111, 153, 0, 7, 4, 167, 0, 4, 3, 2]
abbrev dktX0_must_0 : List UInt8 := dkwX0_must_0 ++ dktX0_must_1
theorem dksX0_must_0 : cX0_must.data.toList.drop 0 = dktX0_must_0 := by decide +kernel
theorem dksX0_must_1 : cX0_must.data.toList.drop 22 = dktX0_must_1 := dk_seg dksX0_must_0 22 rfl rfl
theorem dX0_must_0 : decode cX0_must 0 = .ok (.aload_n 0, 1) := dk_42 (dk_at dksX0_must_0 0 rfl rfl)
theorem dX0_must_1 : decode cX0_must 1 = .ok (.iload_n 1, 1) := dk_27 (dk_at dksX0_must_0 1 rfl rfl)
theorem dX0_must_2 : decode cX0_must 2 = .ok (.invokevirtual 126, 3) := dk_182 0 126 (dk_at dksX0_must_0 2 rfl rfl)
theorem dX0_must_5 : decode cX0_must 5 = .ok (.ifCond .eq 15, 3) := dk_153 0 15 (dk_at dksX0_must_0 5 rfl rfl)
theorem dX0_must_8 : decode cX0_must 8 = .ok (.aload_n 0, 1) := dk_42 (dk_at dksX0_must_0 8 rfl rfl)
theorem dX0_must_9 : decode cX0_must 9 = .ok (.iload_n 2, 1) := dk_28 (dk_at dksX0_must_0 9 rfl rfl)
theorem dX0_must_10 : decode cX0_must 10 = .ok (.invokevirtual 111, 3) := dk_182 0 111 (dk_at dksX0_must_0 10 rfl rfl)
theorem dX0_must_13 : decode cX0_must 13 = .ok (.ifCond .eq 7, 3) := dk_153 0 7 (dk_at dksX0_must_0 13 rfl rfl)
theorem dX0_must_16 : decode cX0_must 16 = .ok (.iconst 1, 1) := dk_4 (dk_at dksX0_must_0 16 rfl rfl)
theorem dX0_must_17 : decode cX0_must 17 = .ok (.goto 4, 3) := dk_167 0 4 (dk_at dksX0_must_0 17 rfl rfl)
theorem dX0_must_20 : decode cX0_must 20 = .ok (.iconst 0, 1) := dk_3 (dk_at dksX0_must_0 20 rfl rfl)
theorem dX0_must_21 : decode cX0_must 21 = .ok (.iconst (-1), 1) := dk_2 (dk_at dksX0_must_0 21 rfl rfl)
theorem dX0_must_22 : decode cX0_must 22 = .ok (.invokestatic 115, 3) := dk_184 0 115 (dk_at dksX0_must_1 0 rfl rfl)
theorem dX0_must_25 : decode cX0_must 25 = .ok (.return_, 1) := dk_177 (dk_at dksX0_must_1 3 rfl rfl)
abbrev cX0_wrong : ByteArray := prog_1_method_38_code
def yX0_wrong : MethodName := ⟨RX0, "wrong", "(III)I"⟩
def dkwX0_wrong_1 : List UInt8 := [182, 0, 173, 172]
abbrev dktX0_wrong_1 : List UInt8 := dkwX0_wrong_1 ++ []
def dkwX0_wrong_0 : List UInt8 := [42, 27, 28, 182, 1, 44, 42, 180, 0, 90, 27, 28, 29, 182, 1, 51, 172, 58, 4, 42, 25, 4]
abbrev dktX0_wrong_0 : List UInt8 := dkwX0_wrong_0 ++ dktX0_wrong_1
theorem dksX0_wrong_0 : cX0_wrong.data.toList.drop 0 = dktX0_wrong_0 := by decide +kernel
theorem dksX0_wrong_1 : cX0_wrong.data.toList.drop 22 = dktX0_wrong_1 := dk_seg dksX0_wrong_0 22 rfl rfl
theorem dX0_wrong_0 : decode cX0_wrong 0 = .ok (.aload_n 0, 1) := dk_42 (dk_at dksX0_wrong_0 0 rfl rfl)
theorem dX0_wrong_1 : decode cX0_wrong 1 = .ok (.iload_n 1, 1) := dk_27 (dk_at dksX0_wrong_0 1 rfl rfl)
theorem dX0_wrong_2 : decode cX0_wrong 2 = .ok (.iload_n 2, 1) := dk_28 (dk_at dksX0_wrong_0 2 rfl rfl)
theorem dX0_wrong_3 : decode cX0_wrong 3 = .ok (.invokevirtual 300, 3) := dk_182 1 44 (dk_at dksX0_wrong_0 3 rfl rfl)
theorem dX0_wrong_6 : decode cX0_wrong 6 = .ok (.aload_n 0, 1) := dk_42 (dk_at dksX0_wrong_0 6 rfl rfl)
theorem dX0_wrong_7 : decode cX0_wrong 7 = .ok (.getfield 90, 3) := dk_180 0 90 (dk_at dksX0_wrong_0 7 rfl rfl)
theorem dX0_wrong_10 : decode cX0_wrong 10 = .ok (.iload_n 1, 1) := dk_27 (dk_at dksX0_wrong_0 10 rfl rfl)
theorem dX0_wrong_11 : decode cX0_wrong 11 = .ok (.iload_n 2, 1) := dk_28 (dk_at dksX0_wrong_0 11 rfl rfl)
theorem dX0_wrong_12 : decode cX0_wrong 12 = .ok (.iload_n 3, 1) := dk_29 (dk_at dksX0_wrong_0 12 rfl rfl)
theorem dX0_wrong_13 : decode cX0_wrong 13 = .ok (.invokevirtual 307, 3) := dk_182 1 51 (dk_at dksX0_wrong_0 13 rfl rfl)
theorem dX0_wrong_16 : decode cX0_wrong 16 = .ok (.ireturn, 1) := dk_172 (dk_at dksX0_wrong_0 16 rfl rfl)
theorem dX0_wrong_17 : decode cX0_wrong 17 = .ok (.astore 4, 2) := dk_58 4 (dk_at dksX0_wrong_0 17 rfl rfl)
theorem dX0_wrong_19 : decode cX0_wrong 19 = .ok (.aload_n 0, 1) := dk_42 (dk_at dksX0_wrong_0 19 rfl rfl)
theorem dX0_wrong_20 : decode cX0_wrong 20 = .ok (.aload 4, 2) := dk_25 4 (dk_at dksX0_wrong_0 20 rfl rfl)
theorem dX0_wrong_22 : decode cX0_wrong 22 = .ok (.invokevirtual 173, 3) := dk_182 0 173 (dk_at dksX0_wrong_1 0 rfl rfl)
theorem dX0_wrong_25 : decode cX0_wrong 25 = .ok (.ireturn, 1) := dk_172 (dk_at dksX0_wrong_1 3 rfl rfl)
abbrev cX0_carry : ByteArray := prog_1_method_39_code
def yX0_carry : MethodName := ⟨RX0, "carry", "(III)I"⟩
def dkwX0_carry_2 : List UInt8 := [96, 181, 1, 58, 42, 180, 0, 90, 180, 0, 132, 28, 46, 172, 58, 4, 42, 25, 4, 182, 0, 173, 172]
abbrev dktX0_carry_2 : List UInt8 := dkwX0_carry_2 ++ []
def dkwX0_carry_1 : List UInt8 := [16, 250, 184, 0, 115, 42, 180, 0, 90, 27, 28, 29, 182, 1, 55, 42, 180, 0, 90, 89, 180, 1, 58, 4]
abbrev dktX0_carry_1 : List UInt8 := dkwX0_carry_1 ++ dktX0_carry_2
def dkwX0_carry_0 : List UInt8 := [42, 27, 28, 182, 1, 44, 42, 180, 0, 90, 27, 28, 29, 182, 1, 51, 154, 0, 7, 4, 167, 0, 4, 3]
abbrev dktX0_carry_0 : List UInt8 := dkwX0_carry_0 ++ dktX0_carry_1
theorem dksX0_carry_0 : cX0_carry.data.toList.drop 0 = dktX0_carry_0 := by decide +kernel
theorem dksX0_carry_1 : cX0_carry.data.toList.drop 24 = dktX0_carry_1 := dk_seg dksX0_carry_0 24 rfl rfl
theorem dksX0_carry_2 : cX0_carry.data.toList.drop 48 = dktX0_carry_2 := dk_seg dksX0_carry_1 24 rfl rfl
theorem dX0_carry_0 : decode cX0_carry 0 = .ok (.aload_n 0, 1) := dk_42 (dk_at dksX0_carry_0 0 rfl rfl)
theorem dX0_carry_1 : decode cX0_carry 1 = .ok (.iload_n 1, 1) := dk_27 (dk_at dksX0_carry_0 1 rfl rfl)
theorem dX0_carry_2 : decode cX0_carry 2 = .ok (.iload_n 2, 1) := dk_28 (dk_at dksX0_carry_0 2 rfl rfl)
theorem dX0_carry_3 : decode cX0_carry 3 = .ok (.invokevirtual 300, 3) := dk_182 1 44 (dk_at dksX0_carry_0 3 rfl rfl)
theorem dX0_carry_6 : decode cX0_carry 6 = .ok (.aload_n 0, 1) := dk_42 (dk_at dksX0_carry_0 6 rfl rfl)
theorem dX0_carry_7 : decode cX0_carry 7 = .ok (.getfield 90, 3) := dk_180 0 90 (dk_at dksX0_carry_0 7 rfl rfl)
theorem dX0_carry_10 : decode cX0_carry 10 = .ok (.iload_n 1, 1) := dk_27 (dk_at dksX0_carry_0 10 rfl rfl)
theorem dX0_carry_11 : decode cX0_carry 11 = .ok (.iload_n 2, 1) := dk_28 (dk_at dksX0_carry_0 11 rfl rfl)
theorem dX0_carry_12 : decode cX0_carry 12 = .ok (.iload_n 3, 1) := dk_29 (dk_at dksX0_carry_0 12 rfl rfl)
theorem dX0_carry_13 : decode cX0_carry 13 = .ok (.invokevirtual 307, 3) := dk_182 1 51 (dk_at dksX0_carry_0 13 rfl rfl)
theorem dX0_carry_16 : decode cX0_carry 16 = .ok (.ifCond .ne 7, 3) := dk_154 0 7 (dk_at dksX0_carry_0 16 rfl rfl)
theorem dX0_carry_19 : decode cX0_carry 19 = .ok (.iconst 1, 1) := dk_4 (dk_at dksX0_carry_0 19 rfl rfl)
theorem dX0_carry_20 : decode cX0_carry 20 = .ok (.goto 4, 3) := dk_167 0 4 (dk_at dksX0_carry_0 20 rfl rfl)
theorem dX0_carry_23 : decode cX0_carry 23 = .ok (.iconst 0, 1) := dk_3 (dk_at dksX0_carry_0 23 rfl rfl)
theorem dX0_carry_24 : decode cX0_carry 24 = .ok (.bipush (-6), 2) := dk_16 250 (dk_at dksX0_carry_1 0 rfl rfl)
theorem dX0_carry_26 : decode cX0_carry 26 = .ok (.invokestatic 115, 3) := dk_184 0 115 (dk_at dksX0_carry_1 2 rfl rfl)
theorem dX0_carry_29 : decode cX0_carry 29 = .ok (.aload_n 0, 1) := dk_42 (dk_at dksX0_carry_1 5 rfl rfl)
theorem dX0_carry_30 : decode cX0_carry 30 = .ok (.getfield 90, 3) := dk_180 0 90 (dk_at dksX0_carry_1 6 rfl rfl)
theorem dX0_carry_33 : decode cX0_carry 33 = .ok (.iload_n 1, 1) := dk_27 (dk_at dksX0_carry_1 9 rfl rfl)
theorem dX0_carry_34 : decode cX0_carry 34 = .ok (.iload_n 2, 1) := dk_28 (dk_at dksX0_carry_1 10 rfl rfl)
theorem dX0_carry_35 : decode cX0_carry 35 = .ok (.iload_n 3, 1) := dk_29 (dk_at dksX0_carry_1 11 rfl rfl)
theorem dX0_carry_36 : decode cX0_carry 36 = .ok (.invokevirtual 311, 3) := dk_182 1 55 (dk_at dksX0_carry_1 12 rfl rfl)
theorem dX0_carry_39 : decode cX0_carry 39 = .ok (.aload_n 0, 1) := dk_42 (dk_at dksX0_carry_1 15 rfl rfl)
theorem dX0_carry_40 : decode cX0_carry 40 = .ok (.getfield 90, 3) := dk_180 0 90 (dk_at dksX0_carry_1 16 rfl rfl)
theorem dX0_carry_43 : decode cX0_carry 43 = .ok (.dup, 1) := dk_89 (dk_at dksX0_carry_1 19 rfl rfl)
theorem dX0_carry_44 : decode cX0_carry 44 = .ok (.getfield 314, 3) := dk_180 1 58 (dk_at dksX0_carry_1 20 rfl rfl)
theorem dX0_carry_47 : decode cX0_carry 47 = .ok (.iconst 1, 1) := dk_4 (dk_at dksX0_carry_1 23 rfl rfl)
theorem dX0_carry_48 : decode cX0_carry 48 = .ok (.iadd, 1) := dk_96 (dk_at dksX0_carry_2 0 rfl rfl)
theorem dX0_carry_49 : decode cX0_carry 49 = .ok (.putfield 314, 3) := dk_181 1 58 (dk_at dksX0_carry_2 1 rfl rfl)
theorem dX0_carry_52 : decode cX0_carry 52 = .ok (.aload_n 0, 1) := dk_42 (dk_at dksX0_carry_2 4 rfl rfl)
theorem dX0_carry_53 : decode cX0_carry 53 = .ok (.getfield 90, 3) := dk_180 0 90 (dk_at dksX0_carry_2 5 rfl rfl)
theorem dX0_carry_56 : decode cX0_carry 56 = .ok (.getfield 132, 3) := dk_180 0 132 (dk_at dksX0_carry_2 8 rfl rfl)
theorem dX0_carry_59 : decode cX0_carry 59 = .ok (.iload_n 2, 1) := dk_28 (dk_at dksX0_carry_2 11 rfl rfl)
theorem dX0_carry_60 : decode cX0_carry 60 = .ok (.iaload, 1) := dk_46 (dk_at dksX0_carry_2 12 rfl rfl)
theorem dX0_carry_61 : decode cX0_carry 61 = .ok (.ireturn, 1) := dk_172 (dk_at dksX0_carry_2 13 rfl rfl)
theorem dX0_carry_62 : decode cX0_carry 62 = .ok (.astore 4, 2) := dk_58 4 (dk_at dksX0_carry_2 14 rfl rfl)
theorem dX0_carry_64 : decode cX0_carry 64 = .ok (.aload_n 0, 1) := dk_42 (dk_at dksX0_carry_2 16 rfl rfl)
theorem dX0_carry_65 : decode cX0_carry 65 = .ok (.aload 4, 2) := dk_25 4 (dk_at dksX0_carry_2 17 rfl rfl)
theorem dX0_carry_67 : decode cX0_carry 67 = .ok (.invokevirtual 173, 3) := dk_182 0 173 (dk_at dksX0_carry_2 19 rfl rfl)
theorem dX0_carry_70 : decode cX0_carry 70 = .ok (.ireturn, 1) := dk_172 (dk_at dksX0_carry_2 22 rfl rfl)
abbrev cX0_judge : ByteArray := prog_1_method_40_code
def yX0_judge : MethodName := ⟨RX0, "judge", "(III)I"⟩
def dkwX0_judge_7 : List UInt8 := [172]
abbrev dktX0_judge_7 : List UInt8 := dkwX0_judge_7 ++ []
def dkwX0_judge_6 : List UInt8 := [21, 8, 27, 21, 9, 182, 1, 55, 132, 7, 1, 167, 255, 188, 2, 172, 58, 4, 42, 25, 4, 182, 0, 173]
abbrev dktX0_judge_6 : List UInt8 := dkwX0_judge_6 ++ dktX0_judge_7
def dkwX0_judge_5 : List UInt8 := [182, 0, 126, 153, 0, 16, 25, 6, 21, 8, 27, 21, 9, 182, 1, 51, 153, 0, 6, 21, 7, 172, 25, 6]
abbrev dktX0_judge_5 : List UInt8 := dkwX0_judge_5 ++ dktX0_judge_6
def dkwX0_judge_4 : List UInt8 := [21, 7, 104, 182, 0, 215, 54, 8, 25, 5, 5, 21, 7, 104, 4, 96, 182, 0, 215, 54, 9, 42, 21, 8]
abbrev dktX0_judge_4 : List UInt8 := dkwX0_judge_4 ++ dktX0_judge_5
def dkwX0_judge_3 : List UInt8 := [184, 0, 115, 42, 180, 0, 90, 182, 1, 28, 58, 6, 3, 54, 7, 21, 7, 29, 162, 0, 68, 25, 5, 5]
abbrev dktX0_judge_3 : List UInt8 := dkwX0_judge_3 ++ dktX0_judge_4
def dkwX0_judge_2 : List UInt8 := [167, 0, 4, 3, 16, 251, 184, 0, 115, 29, 16, 40, 163, 0, 7, 4, 167, 0, 4, 3, 16, 250]
abbrev dktX0_judge_2 : List UInt8 := dkwX0_judge_2 ++ dktX0_judge_3
def dkwX0_judge_1 : List UInt8 := [4, 167, 0, 4, 3, 16, 252, 184, 0, 115, 29, 25, 5, 182, 0, 11, 5, 108, 163, 0, 7, 4]
abbrev dktX0_judge_1 : List UInt8 := dkwX0_judge_1 ++ dktX0_judge_2
def dkwX0_judge_0 : List UInt8 := [42, 28, 182, 0, 163, 58, 4, 42, 27, 182, 0, 193, 87, 25, 4, 182, 0, 177, 58, 5, 29, 155, 0, 7]
abbrev dktX0_judge_0 : List UInt8 := dkwX0_judge_0 ++ dktX0_judge_1
theorem dksX0_judge_0 : cX0_judge.data.toList.drop 0 = dktX0_judge_0 := by decide +kernel
theorem dksX0_judge_1 : cX0_judge.data.toList.drop 24 = dktX0_judge_1 := dk_seg dksX0_judge_0 24 rfl rfl
theorem dksX0_judge_2 : cX0_judge.data.toList.drop 46 = dktX0_judge_2 := dk_seg dksX0_judge_1 22 rfl rfl
theorem dksX0_judge_3 : cX0_judge.data.toList.drop 68 = dktX0_judge_3 := dk_seg dksX0_judge_2 22 rfl rfl
theorem dksX0_judge_4 : cX0_judge.data.toList.drop 92 = dktX0_judge_4 := dk_seg dksX0_judge_3 24 rfl rfl
theorem dksX0_judge_5 : cX0_judge.data.toList.drop 116 = dktX0_judge_5 := dk_seg dksX0_judge_4 24 rfl rfl
theorem dksX0_judge_6 : cX0_judge.data.toList.drop 140 = dktX0_judge_6 := dk_seg dksX0_judge_5 24 rfl rfl
theorem dksX0_judge_7 : cX0_judge.data.toList.drop 164 = dktX0_judge_7 := dk_seg dksX0_judge_6 24 rfl rfl
theorem dX0_judge_0 : decode cX0_judge 0 = .ok (.aload_n 0, 1) := dk_42 (dk_at dksX0_judge_0 0 rfl rfl)
theorem dX0_judge_1 : decode cX0_judge 1 = .ok (.iload_n 2, 1) := dk_28 (dk_at dksX0_judge_0 1 rfl rfl)
theorem dX0_judge_2 : decode cX0_judge 2 = .ok (.invokevirtual 163, 3) := dk_182 0 163 (dk_at dksX0_judge_0 2 rfl rfl)
theorem dX0_judge_5 : decode cX0_judge 5 = .ok (.astore 4, 2) := dk_58 4 (dk_at dksX0_judge_0 5 rfl rfl)
theorem dX0_judge_7 : decode cX0_judge 7 = .ok (.aload_n 0, 1) := dk_42 (dk_at dksX0_judge_0 7 rfl rfl)
theorem dX0_judge_8 : decode cX0_judge 8 = .ok (.iload_n 1, 1) := dk_27 (dk_at dksX0_judge_0 8 rfl rfl)
theorem dX0_judge_9 : decode cX0_judge 9 = .ok (.invokevirtual 193, 3) := dk_182 0 193 (dk_at dksX0_judge_0 9 rfl rfl)
theorem dX0_judge_12 : decode cX0_judge 12 = .ok (.pop, 1) := dk_87 (dk_at dksX0_judge_0 12 rfl rfl)
theorem dX0_judge_13 : decode cX0_judge 13 = .ok (.aload 4, 2) := dk_25 4 (dk_at dksX0_judge_0 13 rfl rfl)
theorem dX0_judge_15 : decode cX0_judge 15 = .ok (.invokevirtual 177, 3) := dk_182 0 177 (dk_at dksX0_judge_0 15 rfl rfl)
theorem dX0_judge_18 : decode cX0_judge 18 = .ok (.astore 5, 2) := dk_58 5 (dk_at dksX0_judge_0 18 rfl rfl)
theorem dX0_judge_20 : decode cX0_judge 20 = .ok (.iload_n 3, 1) := dk_29 (dk_at dksX0_judge_0 20 rfl rfl)
theorem dX0_judge_21 : decode cX0_judge 21 = .ok (.ifCond .lt 7, 3) := dk_155 0 7 (dk_at dksX0_judge_0 21 rfl rfl)
theorem dX0_judge_24 : decode cX0_judge 24 = .ok (.iconst 1, 1) := dk_4 (dk_at dksX0_judge_1 0 rfl rfl)
theorem dX0_judge_25 : decode cX0_judge 25 = .ok (.goto 4, 3) := dk_167 0 4 (dk_at dksX0_judge_1 1 rfl rfl)
theorem dX0_judge_28 : decode cX0_judge 28 = .ok (.iconst 0, 1) := dk_3 (dk_at dksX0_judge_1 4 rfl rfl)
theorem dX0_judge_29 : decode cX0_judge 29 = .ok (.bipush (-4), 2) := dk_16 252 (dk_at dksX0_judge_1 5 rfl rfl)
theorem dX0_judge_31 : decode cX0_judge 31 = .ok (.invokestatic 115, 3) := dk_184 0 115 (dk_at dksX0_judge_1 7 rfl rfl)
theorem dX0_judge_34 : decode cX0_judge 34 = .ok (.iload_n 3, 1) := dk_29 (dk_at dksX0_judge_1 10 rfl rfl)
theorem dX0_judge_35 : decode cX0_judge 35 = .ok (.aload 5, 2) := dk_25 5 (dk_at dksX0_judge_1 11 rfl rfl)
theorem dX0_judge_37 : decode cX0_judge 37 = .ok (.invokevirtual 11, 3) := dk_182 0 11 (dk_at dksX0_judge_1 13 rfl rfl)
theorem dX0_judge_40 : decode cX0_judge 40 = .ok (.iconst 2, 1) := dk_5 (dk_at dksX0_judge_1 16 rfl rfl)
theorem dX0_judge_41 : decode cX0_judge 41 = .ok (.idiv, 1) := dk_108 (dk_at dksX0_judge_1 17 rfl rfl)
theorem dX0_judge_42 : decode cX0_judge 42 = .ok (.if_icmp .gt 7, 3) := dk_163 0 7 (dk_at dksX0_judge_1 18 rfl rfl)
theorem dX0_judge_45 : decode cX0_judge 45 = .ok (.iconst 1, 1) := dk_4 (dk_at dksX0_judge_1 21 rfl rfl)
theorem dX0_judge_46 : decode cX0_judge 46 = .ok (.goto 4, 3) := dk_167 0 4 (dk_at dksX0_judge_2 0 rfl rfl)
theorem dX0_judge_49 : decode cX0_judge 49 = .ok (.iconst 0, 1) := dk_3 (dk_at dksX0_judge_2 3 rfl rfl)
theorem dX0_judge_50 : decode cX0_judge 50 = .ok (.bipush (-5), 2) := dk_16 251 (dk_at dksX0_judge_2 4 rfl rfl)
theorem dX0_judge_52 : decode cX0_judge 52 = .ok (.invokestatic 115, 3) := dk_184 0 115 (dk_at dksX0_judge_2 6 rfl rfl)
theorem dX0_judge_55 : decode cX0_judge 55 = .ok (.iload_n 3, 1) := dk_29 (dk_at dksX0_judge_2 9 rfl rfl)
theorem dX0_judge_56 : decode cX0_judge 56 = .ok (.bipush 40, 2) := dk_16 40 (dk_at dksX0_judge_2 10 rfl rfl)
theorem dX0_judge_58 : decode cX0_judge 58 = .ok (.if_icmp .gt 7, 3) := dk_163 0 7 (dk_at dksX0_judge_2 12 rfl rfl)
theorem dX0_judge_61 : decode cX0_judge 61 = .ok (.iconst 1, 1) := dk_4 (dk_at dksX0_judge_2 15 rfl rfl)
theorem dX0_judge_62 : decode cX0_judge 62 = .ok (.goto 4, 3) := dk_167 0 4 (dk_at dksX0_judge_2 16 rfl rfl)
theorem dX0_judge_65 : decode cX0_judge 65 = .ok (.iconst 0, 1) := dk_3 (dk_at dksX0_judge_2 19 rfl rfl)
theorem dX0_judge_66 : decode cX0_judge 66 = .ok (.bipush (-6), 2) := dk_16 250 (dk_at dksX0_judge_2 20 rfl rfl)
theorem dX0_judge_68 : decode cX0_judge 68 = .ok (.invokestatic 115, 3) := dk_184 0 115 (dk_at dksX0_judge_3 0 rfl rfl)
theorem dX0_judge_71 : decode cX0_judge 71 = .ok (.aload_n 0, 1) := dk_42 (dk_at dksX0_judge_3 3 rfl rfl)
theorem dX0_judge_72 : decode cX0_judge 72 = .ok (.getfield 90, 3) := dk_180 0 90 (dk_at dksX0_judge_3 4 rfl rfl)
theorem dX0_judge_75 : decode cX0_judge 75 = .ok (.invokevirtual 284, 3) := dk_182 1 28 (dk_at dksX0_judge_3 7 rfl rfl)
theorem dX0_judge_78 : decode cX0_judge 78 = .ok (.astore 6, 2) := dk_58 6 (dk_at dksX0_judge_3 10 rfl rfl)
theorem dX0_judge_80 : decode cX0_judge 80 = .ok (.iconst 0, 1) := dk_3 (dk_at dksX0_judge_3 12 rfl rfl)
theorem dX0_judge_81 : decode cX0_judge 81 = .ok (.istore 7, 2) := dk_54 7 (dk_at dksX0_judge_3 13 rfl rfl)
theorem dX0_judge_83 : decode cX0_judge 83 = .ok (.iload 7, 2) := dk_21 7 (dk_at dksX0_judge_3 15 rfl rfl)
theorem dX0_judge_85 : decode cX0_judge 85 = .ok (.iload_n 3, 1) := dk_29 (dk_at dksX0_judge_3 17 rfl rfl)
theorem dX0_judge_86 : decode cX0_judge 86 = .ok (.if_icmp .ge 68, 3) := dk_162 0 68 (dk_at dksX0_judge_3 18 rfl rfl)
theorem dX0_judge_89 : decode cX0_judge 89 = .ok (.aload 5, 2) := dk_25 5 (dk_at dksX0_judge_3 21 rfl rfl)
theorem dX0_judge_91 : decode cX0_judge 91 = .ok (.iconst 2, 1) := dk_5 (dk_at dksX0_judge_3 23 rfl rfl)
theorem dX0_judge_92 : decode cX0_judge 92 = .ok (.iload 7, 2) := dk_21 7 (dk_at dksX0_judge_4 0 rfl rfl)
theorem dX0_judge_94 : decode cX0_judge 94 = .ok (.imul, 1) := dk_104 (dk_at dksX0_judge_4 2 rfl rfl)
theorem dX0_judge_95 : decode cX0_judge 95 = .ok (.invokevirtual 215, 3) := dk_182 0 215 (dk_at dksX0_judge_4 3 rfl rfl)
theorem dX0_judge_98 : decode cX0_judge 98 = .ok (.istore 8, 2) := dk_54 8 (dk_at dksX0_judge_4 6 rfl rfl)
theorem dX0_judge_100 : decode cX0_judge 100 = .ok (.aload 5, 2) := dk_25 5 (dk_at dksX0_judge_4 8 rfl rfl)
theorem dX0_judge_102 : decode cX0_judge 102 = .ok (.iconst 2, 1) := dk_5 (dk_at dksX0_judge_4 10 rfl rfl)
theorem dX0_judge_103 : decode cX0_judge 103 = .ok (.iload 7, 2) := dk_21 7 (dk_at dksX0_judge_4 11 rfl rfl)
theorem dX0_judge_105 : decode cX0_judge 105 = .ok (.imul, 1) := dk_104 (dk_at dksX0_judge_4 13 rfl rfl)
theorem dX0_judge_106 : decode cX0_judge 106 = .ok (.iconst 1, 1) := dk_4 (dk_at dksX0_judge_4 14 rfl rfl)
theorem dX0_judge_107 : decode cX0_judge 107 = .ok (.iadd, 1) := dk_96 (dk_at dksX0_judge_4 15 rfl rfl)
theorem dX0_judge_108 : decode cX0_judge 108 = .ok (.invokevirtual 215, 3) := dk_182 0 215 (dk_at dksX0_judge_4 16 rfl rfl)
theorem dX0_judge_111 : decode cX0_judge 111 = .ok (.istore 9, 2) := dk_54 9 (dk_at dksX0_judge_4 19 rfl rfl)
theorem dX0_judge_113 : decode cX0_judge 113 = .ok (.aload_n 0, 1) := dk_42 (dk_at dksX0_judge_4 21 rfl rfl)
theorem dX0_judge_114 : decode cX0_judge 114 = .ok (.iload 8, 2) := dk_21 8 (dk_at dksX0_judge_4 22 rfl rfl)
theorem dX0_judge_116 : decode cX0_judge 116 = .ok (.invokevirtual 126, 3) := dk_182 0 126 (dk_at dksX0_judge_5 0 rfl rfl)
theorem dX0_judge_119 : decode cX0_judge 119 = .ok (.ifCond .eq 16, 3) := dk_153 0 16 (dk_at dksX0_judge_5 3 rfl rfl)
theorem dX0_judge_122 : decode cX0_judge 122 = .ok (.aload 6, 2) := dk_25 6 (dk_at dksX0_judge_5 6 rfl rfl)
theorem dX0_judge_124 : decode cX0_judge 124 = .ok (.iload 8, 2) := dk_21 8 (dk_at dksX0_judge_5 8 rfl rfl)
theorem dX0_judge_126 : decode cX0_judge 126 = .ok (.iload_n 1, 1) := dk_27 (dk_at dksX0_judge_5 10 rfl rfl)
theorem dX0_judge_127 : decode cX0_judge 127 = .ok (.iload 9, 2) := dk_21 9 (dk_at dksX0_judge_5 11 rfl rfl)
theorem dX0_judge_129 : decode cX0_judge 129 = .ok (.invokevirtual 307, 3) := dk_182 1 51 (dk_at dksX0_judge_5 13 rfl rfl)
theorem dX0_judge_132 : decode cX0_judge 132 = .ok (.ifCond .eq 6, 3) := dk_153 0 6 (dk_at dksX0_judge_5 16 rfl rfl)
theorem dX0_judge_135 : decode cX0_judge 135 = .ok (.iload 7, 2) := dk_21 7 (dk_at dksX0_judge_5 19 rfl rfl)
theorem dX0_judge_137 : decode cX0_judge 137 = .ok (.ireturn, 1) := dk_172 (dk_at dksX0_judge_5 21 rfl rfl)
theorem dX0_judge_138 : decode cX0_judge 138 = .ok (.aload 6, 2) := dk_25 6 (dk_at dksX0_judge_5 22 rfl rfl)
theorem dX0_judge_140 : decode cX0_judge 140 = .ok (.iload 8, 2) := dk_21 8 (dk_at dksX0_judge_6 0 rfl rfl)
theorem dX0_judge_142 : decode cX0_judge 142 = .ok (.iload_n 1, 1) := dk_27 (dk_at dksX0_judge_6 2 rfl rfl)
theorem dX0_judge_143 : decode cX0_judge 143 = .ok (.iload 9, 2) := dk_21 9 (dk_at dksX0_judge_6 3 rfl rfl)
theorem dX0_judge_145 : decode cX0_judge 145 = .ok (.invokevirtual 311, 3) := dk_182 1 55 (dk_at dksX0_judge_6 5 rfl rfl)
theorem dX0_judge_148 : decode cX0_judge 148 = .ok (.iinc 7 1, 3) := dk_132 7 1 (dk_at dksX0_judge_6 8 rfl rfl)
theorem dX0_judge_151 : decode cX0_judge 151 = .ok (.goto (-68), 3) := dk_167 255 188 (dk_at dksX0_judge_6 11 rfl rfl)
theorem dX0_judge_154 : decode cX0_judge 154 = .ok (.iconst (-1), 1) := dk_2 (dk_at dksX0_judge_6 14 rfl rfl)
theorem dX0_judge_155 : decode cX0_judge 155 = .ok (.ireturn, 1) := dk_172 (dk_at dksX0_judge_6 15 rfl rfl)
theorem dX0_judge_156 : decode cX0_judge 156 = .ok (.astore 4, 2) := dk_58 4 (dk_at dksX0_judge_6 16 rfl rfl)
theorem dX0_judge_158 : decode cX0_judge 158 = .ok (.aload_n 0, 1) := dk_42 (dk_at dksX0_judge_6 18 rfl rfl)
theorem dX0_judge_159 : decode cX0_judge 159 = .ok (.aload 4, 2) := dk_25 4 (dk_at dksX0_judge_6 19 rfl rfl)
theorem dX0_judge_161 : decode cX0_judge 161 = .ok (.invokevirtual 173, 3) := dk_182 0 173 (dk_at dksX0_judge_6 21 rfl rfl)
theorem dX0_judge_164 : decode cX0_judge 164 = .ok (.ireturn, 1) := dk_172 (dk_at dksX0_judge_7 0 rfl rfl)
abbrev cX0_end : ByteArray := prog_1_method_41_code
def yX0_end : MethodName := ⟨RX0, "end", "(II)I"⟩
def dkwX0_end_1 : List UInt8 := [182, 1, 64, 28, 46, 172, 78, 42, 45, 182, 0, 173, 172]
abbrev dktX0_end_1 : List UInt8 := dkwX0_end_1 ++ []
def dkwX0_end_0 : List UInt8 := [42, 27, 182, 0, 193, 87, 42, 28, 182, 1, 61, 2, 184, 0, 115, 42, 27, 42, 180, 0, 90, 180, 0, 234]
abbrev dktX0_end_0 : List UInt8 := dkwX0_end_0 ++ dktX0_end_1
theorem dksX0_end_0 : cX0_end.data.toList.drop 0 = dktX0_end_0 := by decide +kernel
theorem dksX0_end_1 : cX0_end.data.toList.drop 24 = dktX0_end_1 := dk_seg dksX0_end_0 24 rfl rfl
theorem dX0_end_0 : decode cX0_end 0 = .ok (.aload_n 0, 1) := dk_42 (dk_at dksX0_end_0 0 rfl rfl)
theorem dX0_end_1 : decode cX0_end 1 = .ok (.iload_n 1, 1) := dk_27 (dk_at dksX0_end_0 1 rfl rfl)
theorem dX0_end_2 : decode cX0_end 2 = .ok (.invokevirtual 193, 3) := dk_182 0 193 (dk_at dksX0_end_0 2 rfl rfl)
theorem dX0_end_5 : decode cX0_end 5 = .ok (.pop, 1) := dk_87 (dk_at dksX0_end_0 5 rfl rfl)
theorem dX0_end_6 : decode cX0_end 6 = .ok (.aload_n 0, 1) := dk_42 (dk_at dksX0_end_0 6 rfl rfl)
theorem dX0_end_7 : decode cX0_end 7 = .ok (.iload_n 2, 1) := dk_28 (dk_at dksX0_end_0 7 rfl rfl)
theorem dX0_end_8 : decode cX0_end 8 = .ok (.invokevirtual 317, 3) := dk_182 1 61 (dk_at dksX0_end_0 8 rfl rfl)
theorem dX0_end_11 : decode cX0_end 11 = .ok (.iconst (-1), 1) := dk_2 (dk_at dksX0_end_0 11 rfl rfl)
theorem dX0_end_12 : decode cX0_end 12 = .ok (.invokestatic 115, 3) := dk_184 0 115 (dk_at dksX0_end_0 12 rfl rfl)
theorem dX0_end_15 : decode cX0_end 15 = .ok (.aload_n 0, 1) := dk_42 (dk_at dksX0_end_0 15 rfl rfl)
theorem dX0_end_16 : decode cX0_end 16 = .ok (.iload_n 1, 1) := dk_27 (dk_at dksX0_end_0 16 rfl rfl)
theorem dX0_end_17 : decode cX0_end 17 = .ok (.aload_n 0, 1) := dk_42 (dk_at dksX0_end_0 17 rfl rfl)
theorem dX0_end_18 : decode cX0_end 18 = .ok (.getfield 90, 3) := dk_180 0 90 (dk_at dksX0_end_0 18 rfl rfl)
theorem dX0_end_21 : decode cX0_end 21 = .ok (.getfield 234, 3) := dk_180 0 234 (dk_at dksX0_end_0 21 rfl rfl)
theorem dX0_end_24 : decode cX0_end 24 = .ok (.invokevirtual 320, 3) := dk_182 1 64 (dk_at dksX0_end_1 0 rfl rfl)
theorem dX0_end_27 : decode cX0_end 27 = .ok (.iload_n 2, 1) := dk_28 (dk_at dksX0_end_1 3 rfl rfl)
theorem dX0_end_28 : decode cX0_end 28 = .ok (.iaload, 1) := dk_46 (dk_at dksX0_end_1 4 rfl rfl)
theorem dX0_end_29 : decode cX0_end 29 = .ok (.ireturn, 1) := dk_172 (dk_at dksX0_end_1 5 rfl rfl)
theorem dX0_end_30 : decode cX0_end 30 = .ok (.astore_n 3, 1) := dk_78 (dk_at dksX0_end_1 6 rfl rfl)
theorem dX0_end_31 : decode cX0_end 31 = .ok (.aload_n 0, 1) := dk_42 (dk_at dksX0_end_1 7 rfl rfl)
theorem dX0_end_32 : decode cX0_end 32 = .ok (.aload_n 3, 1) := dk_45 (dk_at dksX0_end_1 8 rfl rfl)
theorem dX0_end_33 : decode cX0_end 33 = .ok (.invokevirtual 173, 3) := dk_182 0 173 (dk_at dksX0_end_1 9 rfl rfl)
theorem dX0_end_36 : decode cX0_end 36 = .ok (.ireturn, 1) := dk_172 (dk_at dksX0_end_1 12 rfl rfl)
abbrev cX0_isSet : ByteArray := prog_1_method_13_code
def yX0_isSet : MethodName := ⟨RX0, "isSet", "(I)Z"⟩
def dkwX0_isSet_0 : List UInt8 := [27, 155, 0, 19, 27, 42, 180, 0, 90, 180, 0, 123, 122, 154, 0, 7, 4, 167, 0, 4, 3, 172]
abbrev dktX0_isSet_0 : List UInt8 := dkwX0_isSet_0 ++ []
theorem dksX0_isSet_0 : cX0_isSet.data.toList.drop 0 = dktX0_isSet_0 := by decide +kernel
theorem dX0_isSet_0 : decode cX0_isSet 0 = .ok (.iload_n 1, 1) := dk_27 (dk_at dksX0_isSet_0 0 rfl rfl)
theorem dX0_isSet_1 : decode cX0_isSet 1 = .ok (.ifCond .lt 19, 3) := dk_155 0 19 (dk_at dksX0_isSet_0 1 rfl rfl)
theorem dX0_isSet_4 : decode cX0_isSet 4 = .ok (.iload_n 1, 1) := dk_27 (dk_at dksX0_isSet_0 4 rfl rfl)
theorem dX0_isSet_5 : decode cX0_isSet 5 = .ok (.aload_n 0, 1) := dk_42 (dk_at dksX0_isSet_0 5 rfl rfl)
theorem dX0_isSet_6 : decode cX0_isSet 6 = .ok (.getfield 90, 3) := dk_180 0 90 (dk_at dksX0_isSet_0 6 rfl rfl)
theorem dX0_isSet_9 : decode cX0_isSet 9 = .ok (.getfield 123, 3) := dk_180 0 123 (dk_at dksX0_isSet_0 9 rfl rfl)
theorem dX0_isSet_12 : decode cX0_isSet 12 = .ok (.ishr, 1) := dk_122 (dk_at dksX0_isSet_0 12 rfl rfl)
theorem dX0_isSet_13 : decode cX0_isSet 13 = .ok (.ifCond .ne 7, 3) := dk_154 0 7 (dk_at dksX0_isSet_0 13 rfl rfl)
theorem dX0_isSet_16 : decode cX0_isSet 16 = .ok (.iconst 1, 1) := dk_4 (dk_at dksX0_isSet_0 16 rfl rfl)
theorem dX0_isSet_17 : decode cX0_isSet 17 = .ok (.goto 4, 3) := dk_167 0 4 (dk_at dksX0_isSet_0 17 rfl rfl)
theorem dX0_isSet_20 : decode cX0_isSet 20 = .ok (.iconst 0, 1) := dk_3 (dk_at dksX0_isSet_0 20 rfl rfl)
theorem dX0_isSet_21 : decode cX0_isSet 21 = .ok (.ireturn, 1) := dk_172 (dk_at dksX0_isSet_0 21 rfl rfl)
abbrev cX0_reachOf : ByteArray := prog_1_method_15_code
def yX0_reachOf : MethodName := ⟨RX0, "reachOf", "(II)[I"⟩
def dkwX0_reachOf_0 : List UInt8 := [42, 180, 0, 77, 42, 180, 0, 90, 27, 42, 180, 0, 90, 180, 0, 132, 27, 46, 28, 7, 182, 0, 135, 176]
abbrev dktX0_reachOf_0 : List UInt8 := dkwX0_reachOf_0 ++ []
theorem dksX0_reachOf_0 : cX0_reachOf.data.toList.drop 0 = dktX0_reachOf_0 := by decide +kernel
theorem dX0_reachOf_0 : decode cX0_reachOf 0 = .ok (.aload_n 0, 1) := dk_42 (dk_at dksX0_reachOf_0 0 rfl rfl)
theorem dX0_reachOf_1 : decode cX0_reachOf 1 = .ok (.getfield 77, 3) := dk_180 0 77 (dk_at dksX0_reachOf_0 1 rfl rfl)
theorem dX0_reachOf_4 : decode cX0_reachOf 4 = .ok (.aload_n 0, 1) := dk_42 (dk_at dksX0_reachOf_0 4 rfl rfl)
theorem dX0_reachOf_5 : decode cX0_reachOf 5 = .ok (.getfield 90, 3) := dk_180 0 90 (dk_at dksX0_reachOf_0 5 rfl rfl)
theorem dX0_reachOf_8 : decode cX0_reachOf 8 = .ok (.iload_n 1, 1) := dk_27 (dk_at dksX0_reachOf_0 8 rfl rfl)
theorem dX0_reachOf_9 : decode cX0_reachOf 9 = .ok (.aload_n 0, 1) := dk_42 (dk_at dksX0_reachOf_0 9 rfl rfl)
theorem dX0_reachOf_10 : decode cX0_reachOf 10 = .ok (.getfield 90, 3) := dk_180 0 90 (dk_at dksX0_reachOf_0 10 rfl rfl)
theorem dX0_reachOf_13 : decode cX0_reachOf 13 = .ok (.getfield 132, 3) := dk_180 0 132 (dk_at dksX0_reachOf_0 13 rfl rfl)
theorem dX0_reachOf_16 : decode cX0_reachOf 16 = .ok (.iload_n 1, 1) := dk_27 (dk_at dksX0_reachOf_0 16 rfl rfl)
theorem dX0_reachOf_17 : decode cX0_reachOf 17 = .ok (.iaload, 1) := dk_46 (dk_at dksX0_reachOf_0 17 rfl rfl)
theorem dX0_reachOf_18 : decode cX0_reachOf 18 = .ok (.iload_n 2, 1) := dk_28 (dk_at dksX0_reachOf_0 18 rfl rfl)
theorem dX0_reachOf_19 : decode cX0_reachOf 19 = .ok (.iconst 4, 1) := dk_7 (dk_at dksX0_reachOf_0 19 rfl rfl)
theorem dX0_reachOf_20 : decode cX0_reachOf 20 = .ok (.invokevirtual 135, 3) := dk_182 0 135 (dk_at dksX0_reachOf_0 20 rfl rfl)
theorem dX0_reachOf_23 : decode cX0_reachOf 23 = .ok (.areturn, 1) := dk_176 (dk_at dksX0_reachOf_0 23 rfl rfl)
abbrev cX0_does : ByteArray := prog_1_method_43_code
def yX0_does : MethodName := ⟨RX0, "does", "(III)I"⟩
def dkwX0_does_1 : List UInt8 := [172]
abbrev dktX0_does_1 : List UInt8 := dkwX0_does_1 ++ []
def dkwX0_does_0 : List UInt8 := [42, 27, 28, 29, 182, 1, 71, 153, 0, 7, 4, 167, 0, 4, 3, 172, 58, 4, 42, 25, 4, 182, 0, 173]
abbrev dktX0_does_0 : List UInt8 := dkwX0_does_0 ++ dktX0_does_1
theorem dksX0_does_0 : cX0_does.data.toList.drop 0 = dktX0_does_0 := by decide +kernel
theorem dksX0_does_1 : cX0_does.data.toList.drop 24 = dktX0_does_1 := dk_seg dksX0_does_0 24 rfl rfl
theorem dX0_does_0 : decode cX0_does 0 = .ok (.aload_n 0, 1) := dk_42 (dk_at dksX0_does_0 0 rfl rfl)
theorem dX0_does_1 : decode cX0_does 1 = .ok (.iload_n 1, 1) := dk_27 (dk_at dksX0_does_0 1 rfl rfl)
theorem dX0_does_2 : decode cX0_does 2 = .ok (.iload_n 2, 1) := dk_28 (dk_at dksX0_does_0 2 rfl rfl)
theorem dX0_does_3 : decode cX0_does 3 = .ok (.iload_n 3, 1) := dk_29 (dk_at dksX0_does_0 3 rfl rfl)
theorem dX0_does_4 : decode cX0_does 4 = .ok (.invokevirtual 327, 3) := dk_182 1 71 (dk_at dksX0_does_0 4 rfl rfl)
theorem dX0_does_7 : decode cX0_does 7 = .ok (.ifCond .eq 7, 3) := dk_153 0 7 (dk_at dksX0_does_0 7 rfl rfl)
theorem dX0_does_10 : decode cX0_does 10 = .ok (.iconst 1, 1) := dk_4 (dk_at dksX0_does_0 10 rfl rfl)
theorem dX0_does_11 : decode cX0_does 11 = .ok (.goto 4, 3) := dk_167 0 4 (dk_at dksX0_does_0 11 rfl rfl)
theorem dX0_does_14 : decode cX0_does 14 = .ok (.iconst 0, 1) := dk_3 (dk_at dksX0_does_0 14 rfl rfl)
theorem dX0_does_15 : decode cX0_does 15 = .ok (.ireturn, 1) := dk_172 (dk_at dksX0_does_0 15 rfl rfl)
theorem dX0_does_16 : decode cX0_does 16 = .ok (.astore 4, 2) := dk_58 4 (dk_at dksX0_does_0 16 rfl rfl)
theorem dX0_does_18 : decode cX0_does 18 = .ok (.aload_n 0, 1) := dk_42 (dk_at dksX0_does_0 18 rfl rfl)
theorem dX0_does_19 : decode cX0_does 19 = .ok (.aload 4, 2) := dk_25 4 (dk_at dksX0_does_0 19 rfl rfl)
theorem dX0_does_21 : decode cX0_does 21 = .ok (.invokevirtual 173, 3) := dk_182 0 173 (dk_at dksX0_does_0 21 rfl rfl)
theorem dX0_does_24 : decode cX0_does 24 = .ok (.ireturn, 1) := dk_172 (dk_at dksX0_does_1 0 rfl rfl)
abbrev cX0_isDone : ByteArray := prog_1_method_42_code
def yX0_isDone : MethodName := ⟨RX0, "isDone", "(III)Z"⟩
def dkwX0_isDone_1 : List UInt8 := [182, 1, 64, 28, 46, 29, 160, 0, 7, 4, 167, 0, 4, 3, 172]
abbrev dktX0_isDone_1 : List UInt8 := dkwX0_isDone_1 ++ []
def dkwX0_isDone_0 : List UInt8 := [42, 27, 182, 0, 193, 87, 42, 28, 182, 1, 61, 2, 184, 0, 115, 42, 27, 29, 182, 1, 68, 42, 27, 29]
abbrev dktX0_isDone_0 : List UInt8 := dkwX0_isDone_0 ++ dktX0_isDone_1
theorem dksX0_isDone_0 : cX0_isDone.data.toList.drop 0 = dktX0_isDone_0 := by decide +kernel
theorem dksX0_isDone_1 : cX0_isDone.data.toList.drop 24 = dktX0_isDone_1 := dk_seg dksX0_isDone_0 24 rfl rfl
theorem dX0_isDone_0 : decode cX0_isDone 0 = .ok (.aload_n 0, 1) := dk_42 (dk_at dksX0_isDone_0 0 rfl rfl)
theorem dX0_isDone_1 : decode cX0_isDone 1 = .ok (.iload_n 1, 1) := dk_27 (dk_at dksX0_isDone_0 1 rfl rfl)
theorem dX0_isDone_2 : decode cX0_isDone 2 = .ok (.invokevirtual 193, 3) := dk_182 0 193 (dk_at dksX0_isDone_0 2 rfl rfl)
theorem dX0_isDone_5 : decode cX0_isDone 5 = .ok (.pop, 1) := dk_87 (dk_at dksX0_isDone_0 5 rfl rfl)
theorem dX0_isDone_6 : decode cX0_isDone 6 = .ok (.aload_n 0, 1) := dk_42 (dk_at dksX0_isDone_0 6 rfl rfl)
theorem dX0_isDone_7 : decode cX0_isDone 7 = .ok (.iload_n 2, 1) := dk_28 (dk_at dksX0_isDone_0 7 rfl rfl)
theorem dX0_isDone_8 : decode cX0_isDone 8 = .ok (.invokevirtual 317, 3) := dk_182 1 61 (dk_at dksX0_isDone_0 8 rfl rfl)
theorem dX0_isDone_11 : decode cX0_isDone 11 = .ok (.iconst (-1), 1) := dk_2 (dk_at dksX0_isDone_0 11 rfl rfl)
theorem dX0_isDone_12 : decode cX0_isDone 12 = .ok (.invokestatic 115, 3) := dk_184 0 115 (dk_at dksX0_isDone_0 12 rfl rfl)
theorem dX0_isDone_15 : decode cX0_isDone 15 = .ok (.aload_n 0, 1) := dk_42 (dk_at dksX0_isDone_0 15 rfl rfl)
theorem dX0_isDone_16 : decode cX0_isDone 16 = .ok (.iload_n 1, 1) := dk_27 (dk_at dksX0_isDone_0 16 rfl rfl)
theorem dX0_isDone_17 : decode cX0_isDone 17 = .ok (.iload_n 3, 1) := dk_29 (dk_at dksX0_isDone_0 17 rfl rfl)
theorem dX0_isDone_18 : decode cX0_isDone 18 = .ok (.invokevirtual 324, 3) := dk_182 1 68 (dk_at dksX0_isDone_0 18 rfl rfl)
theorem dX0_isDone_21 : decode cX0_isDone 21 = .ok (.aload_n 0, 1) := dk_42 (dk_at dksX0_isDone_0 21 rfl rfl)
theorem dX0_isDone_22 : decode cX0_isDone 22 = .ok (.iload_n 1, 1) := dk_27 (dk_at dksX0_isDone_0 22 rfl rfl)
theorem dX0_isDone_23 : decode cX0_isDone 23 = .ok (.iload_n 3, 1) := dk_29 (dk_at dksX0_isDone_0 23 rfl rfl)
theorem dX0_isDone_24 : decode cX0_isDone 24 = .ok (.invokevirtual 320, 3) := dk_182 1 64 (dk_at dksX0_isDone_1 0 rfl rfl)
theorem dX0_isDone_27 : decode cX0_isDone 27 = .ok (.iload_n 2, 1) := dk_28 (dk_at dksX0_isDone_1 3 rfl rfl)
theorem dX0_isDone_28 : decode cX0_isDone 28 = .ok (.iaload, 1) := dk_46 (dk_at dksX0_isDone_1 4 rfl rfl)
theorem dX0_isDone_29 : decode cX0_isDone 29 = .ok (.iload_n 3, 1) := dk_29 (dk_at dksX0_isDone_1 5 rfl rfl)
theorem dX0_isDone_30 : decode cX0_isDone 30 = .ok (.if_icmp .ne 7, 3) := dk_160 0 7 (dk_at dksX0_isDone_1 6 rfl rfl)
theorem dX0_isDone_33 : decode cX0_isDone 33 = .ok (.iconst 1, 1) := dk_4 (dk_at dksX0_isDone_1 9 rfl rfl)
theorem dX0_isDone_34 : decode cX0_isDone 34 = .ok (.goto 4, 3) := dk_167 0 4 (dk_at dksX0_isDone_1 10 rfl rfl)
theorem dX0_isDone_37 : decode cX0_isDone 37 = .ok (.iconst 0, 1) := dk_3 (dk_at dksX0_isDone_1 13 rfl rfl)
theorem dX0_isDone_38 : decode cX0_isDone 38 = .ok (.ireturn, 1) := dk_172 (dk_at dksX0_isDone_1 14 rfl rfl)
abbrev cX0_mustEnd : ByteArray := prog_1_method_14_code
def yX0_mustEnd : MethodName := ⟨RX0, "mustEnd", "(II)V"⟩
def dkwX0_mustEnd_1 : List UInt8 := [4, 167, 0, 4, 3, 16, 250, 184, 0, 115, 177]
abbrev dktX0_mustEnd_1 : List UInt8 := dkwX0_mustEnd_1 ++ []
def dkwX0_mustEnd_0 : List UInt8 := [42, 180, 0, 90, 28, 182, 0, 129, 153, 0, 20, 28, 42, 180, 0, 90, 180, 0, 132, 27, 46, 164, 0, 7]
abbrev dktX0_mustEnd_0 : List UInt8 := dkwX0_mustEnd_0 ++ dktX0_mustEnd_1
theorem dksX0_mustEnd_0 : cX0_mustEnd.data.toList.drop 0 = dktX0_mustEnd_0 := by decide +kernel
theorem dksX0_mustEnd_1 : cX0_mustEnd.data.toList.drop 24 = dktX0_mustEnd_1 := dk_seg dksX0_mustEnd_0 24 rfl rfl
theorem dX0_mustEnd_0 : decode cX0_mustEnd 0 = .ok (.aload_n 0, 1) := dk_42 (dk_at dksX0_mustEnd_0 0 rfl rfl)
theorem dX0_mustEnd_1 : decode cX0_mustEnd 1 = .ok (.getfield 90, 3) := dk_180 0 90 (dk_at dksX0_mustEnd_0 1 rfl rfl)
theorem dX0_mustEnd_4 : decode cX0_mustEnd 4 = .ok (.iload_n 2, 1) := dk_28 (dk_at dksX0_mustEnd_0 4 rfl rfl)
theorem dX0_mustEnd_5 : decode cX0_mustEnd 5 = .ok (.invokevirtual 129, 3) := dk_182 0 129 (dk_at dksX0_mustEnd_0 5 rfl rfl)
theorem dX0_mustEnd_8 : decode cX0_mustEnd 8 = .ok (.ifCond .eq 20, 3) := dk_153 0 20 (dk_at dksX0_mustEnd_0 8 rfl rfl)
theorem dX0_mustEnd_11 : decode cX0_mustEnd 11 = .ok (.iload_n 2, 1) := dk_28 (dk_at dksX0_mustEnd_0 11 rfl rfl)
theorem dX0_mustEnd_12 : decode cX0_mustEnd 12 = .ok (.aload_n 0, 1) := dk_42 (dk_at dksX0_mustEnd_0 12 rfl rfl)
theorem dX0_mustEnd_13 : decode cX0_mustEnd 13 = .ok (.getfield 90, 3) := dk_180 0 90 (dk_at dksX0_mustEnd_0 13 rfl rfl)
theorem dX0_mustEnd_16 : decode cX0_mustEnd 16 = .ok (.getfield 132, 3) := dk_180 0 132 (dk_at dksX0_mustEnd_0 16 rfl rfl)
theorem dX0_mustEnd_19 : decode cX0_mustEnd 19 = .ok (.iload_n 1, 1) := dk_27 (dk_at dksX0_mustEnd_0 19 rfl rfl)
theorem dX0_mustEnd_20 : decode cX0_mustEnd 20 = .ok (.iaload, 1) := dk_46 (dk_at dksX0_mustEnd_0 20 rfl rfl)
theorem dX0_mustEnd_21 : decode cX0_mustEnd 21 = .ok (.if_icmp .le 7, 3) := dk_164 0 7 (dk_at dksX0_mustEnd_0 21 rfl rfl)
theorem dX0_mustEnd_24 : decode cX0_mustEnd 24 = .ok (.iconst 1, 1) := dk_4 (dk_at dksX0_mustEnd_1 0 rfl rfl)
theorem dX0_mustEnd_25 : decode cX0_mustEnd 25 = .ok (.goto 4, 3) := dk_167 0 4 (dk_at dksX0_mustEnd_1 1 rfl rfl)
theorem dX0_mustEnd_28 : decode cX0_mustEnd 28 = .ok (.iconst 0, 1) := dk_3 (dk_at dksX0_mustEnd_1 4 rfl rfl)
theorem dX0_mustEnd_29 : decode cX0_mustEnd 29 = .ok (.bipush (-6), 2) := dk_16 250 (dk_at dksX0_mustEnd_1 5 rfl rfl)
theorem dX0_mustEnd_31 : decode cX0_mustEnd 31 = .ok (.invokestatic 115, 3) := dk_184 0 115 (dk_at dksX0_mustEnd_1 7 rfl rfl)
theorem dX0_mustEnd_34 : decode cX0_mustEnd 34 = .ok (.return_, 1) := dk_177 (dk_at dksX0_mustEnd_1 10 rfl rfl)
abbrev cX0_fewest : ByteArray := prog_1_method_44_code
def yX0_fewest : MethodName := ⟨RX0, "fewest", "(II)I"⟩
def dkwX0_fewest_7 : List UInt8 := [172]
abbrev dktX0_fewest_7 : List UInt8 := dkwX0_fewest_7 ++ []
def dkwX0_fewest_6 : List UInt8 := [167, 0, 4, 3, 16, 251, 184, 0, 115, 21, 4, 16, 250, 184, 0, 115, 29, 172, 78, 42, 45, 182, 0, 173]
abbrev dktX0_fewest_6 : List UInt8 := dkwX0_fewest_6 ++ dktX0_fewest_7
def dkwX0_fewest_5 : List UInt8 := [21, 6, 167, 0, 4, 29, 62, 132, 6, 1, 167, 255, 189, 21, 4, 153, 0, 8, 29, 2, 159, 0, 7, 4]
abbrev dktX0_fewest_5 : List UInt8 := dkwX0_fewest_5 ++ dktX0_fewest_6
def dkwX0_fewest_4 : List UInt8 := [162, 0, 7, 4, 167, 0, 4, 3, 54, 7, 21, 7, 153, 0, 17, 25, 5, 21, 6, 46, 28, 160, 0, 8]
abbrev dktX0_fewest_4 : List UInt8 := dkwX0_fewest_4 ++ dktX0_fewest_5
def dkwX0_fewest_3 : List UInt8 := [120, 162, 0, 59, 21, 4, 153, 0, 54, 29, 2, 159, 0, 15, 21, 6, 184, 1, 75, 29, 184, 1, 75]
abbrev dktX0_fewest_3 : List UInt8 := dkwX0_fewest_3 ++ dktX0_fewest_4
def dkwX0_fewest_2 : List UInt8 := [182, 1, 64, 167, 0, 6, 3, 188, 10, 58, 5, 3, 54, 6, 21, 6, 4, 42, 180, 0, 90, 180, 0, 123]
abbrev dktX0_fewest_2 : List UInt8 := dkwX0_fewest_2 ++ dktX0_fewest_3
def dkwX0_fewest_1 : List UInt8 := [180, 0, 132, 27, 46, 164, 0, 7, 4, 167, 0, 4, 3, 54, 4, 21, 4, 153, 0, 12, 42, 27, 28]
abbrev dktX0_fewest_1 : List UInt8 := dkwX0_fewest_1 ++ dktX0_fewest_2
def dkwX0_fewest_0 : List UInt8 := [42, 27, 182, 0, 193, 87, 2, 62, 42, 180, 0, 90, 28, 182, 0, 129, 153, 0, 20, 28, 42, 180, 0, 90]
abbrev dktX0_fewest_0 : List UInt8 := dkwX0_fewest_0 ++ dktX0_fewest_1
theorem dksX0_fewest_0 : cX0_fewest.data.toList.drop 0 = dktX0_fewest_0 := by decide +kernel
theorem dksX0_fewest_1 : cX0_fewest.data.toList.drop 24 = dktX0_fewest_1 := dk_seg dksX0_fewest_0 24 rfl rfl
theorem dksX0_fewest_2 : cX0_fewest.data.toList.drop 47 = dktX0_fewest_2 := dk_seg dksX0_fewest_1 23 rfl rfl
theorem dksX0_fewest_3 : cX0_fewest.data.toList.drop 71 = dktX0_fewest_3 := dk_seg dksX0_fewest_2 24 rfl rfl
theorem dksX0_fewest_4 : cX0_fewest.data.toList.drop 94 = dktX0_fewest_4 := dk_seg dksX0_fewest_3 23 rfl rfl
theorem dksX0_fewest_5 : cX0_fewest.data.toList.drop 118 = dktX0_fewest_5 := dk_seg dksX0_fewest_4 24 rfl rfl
theorem dksX0_fewest_6 : cX0_fewest.data.toList.drop 142 = dktX0_fewest_6 := dk_seg dksX0_fewest_5 24 rfl rfl
theorem dksX0_fewest_7 : cX0_fewest.data.toList.drop 166 = dktX0_fewest_7 := dk_seg dksX0_fewest_6 24 rfl rfl
theorem dX0_fewest_0 : decode cX0_fewest 0 = .ok (.aload_n 0, 1) := dk_42 (dk_at dksX0_fewest_0 0 rfl rfl)
theorem dX0_fewest_1 : decode cX0_fewest 1 = .ok (.iload_n 1, 1) := dk_27 (dk_at dksX0_fewest_0 1 rfl rfl)
theorem dX0_fewest_2 : decode cX0_fewest 2 = .ok (.invokevirtual 193, 3) := dk_182 0 193 (dk_at dksX0_fewest_0 2 rfl rfl)
theorem dX0_fewest_5 : decode cX0_fewest 5 = .ok (.pop, 1) := dk_87 (dk_at dksX0_fewest_0 5 rfl rfl)
theorem dX0_fewest_6 : decode cX0_fewest 6 = .ok (.iconst (-1), 1) := dk_2 (dk_at dksX0_fewest_0 6 rfl rfl)
theorem dX0_fewest_7 : decode cX0_fewest 7 = .ok (.istore_n 3, 1) := dk_62 (dk_at dksX0_fewest_0 7 rfl rfl)
theorem dX0_fewest_8 : decode cX0_fewest 8 = .ok (.aload_n 0, 1) := dk_42 (dk_at dksX0_fewest_0 8 rfl rfl)
theorem dX0_fewest_9 : decode cX0_fewest 9 = .ok (.getfield 90, 3) := dk_180 0 90 (dk_at dksX0_fewest_0 9 rfl rfl)
theorem dX0_fewest_12 : decode cX0_fewest 12 = .ok (.iload_n 2, 1) := dk_28 (dk_at dksX0_fewest_0 12 rfl rfl)
theorem dX0_fewest_13 : decode cX0_fewest 13 = .ok (.invokevirtual 129, 3) := dk_182 0 129 (dk_at dksX0_fewest_0 13 rfl rfl)
theorem dX0_fewest_16 : decode cX0_fewest 16 = .ok (.ifCond .eq 20, 3) := dk_153 0 20 (dk_at dksX0_fewest_0 16 rfl rfl)
theorem dX0_fewest_19 : decode cX0_fewest 19 = .ok (.iload_n 2, 1) := dk_28 (dk_at dksX0_fewest_0 19 rfl rfl)
theorem dX0_fewest_20 : decode cX0_fewest 20 = .ok (.aload_n 0, 1) := dk_42 (dk_at dksX0_fewest_0 20 rfl rfl)
theorem dX0_fewest_21 : decode cX0_fewest 21 = .ok (.getfield 90, 3) := dk_180 0 90 (dk_at dksX0_fewest_0 21 rfl rfl)
theorem dX0_fewest_24 : decode cX0_fewest 24 = .ok (.getfield 132, 3) := dk_180 0 132 (dk_at dksX0_fewest_1 0 rfl rfl)
theorem dX0_fewest_27 : decode cX0_fewest 27 = .ok (.iload_n 1, 1) := dk_27 (dk_at dksX0_fewest_1 3 rfl rfl)
theorem dX0_fewest_28 : decode cX0_fewest 28 = .ok (.iaload, 1) := dk_46 (dk_at dksX0_fewest_1 4 rfl rfl)
theorem dX0_fewest_29 : decode cX0_fewest 29 = .ok (.if_icmp .le 7, 3) := dk_164 0 7 (dk_at dksX0_fewest_1 5 rfl rfl)
theorem dX0_fewest_32 : decode cX0_fewest 32 = .ok (.iconst 1, 1) := dk_4 (dk_at dksX0_fewest_1 8 rfl rfl)
theorem dX0_fewest_33 : decode cX0_fewest 33 = .ok (.goto 4, 3) := dk_167 0 4 (dk_at dksX0_fewest_1 9 rfl rfl)
theorem dX0_fewest_36 : decode cX0_fewest 36 = .ok (.iconst 0, 1) := dk_3 (dk_at dksX0_fewest_1 12 rfl rfl)
theorem dX0_fewest_37 : decode cX0_fewest 37 = .ok (.istore 4, 2) := dk_54 4 (dk_at dksX0_fewest_1 13 rfl rfl)
theorem dX0_fewest_39 : decode cX0_fewest 39 = .ok (.iload 4, 2) := dk_21 4 (dk_at dksX0_fewest_1 15 rfl rfl)
theorem dX0_fewest_41 : decode cX0_fewest 41 = .ok (.ifCond .eq 12, 3) := dk_153 0 12 (dk_at dksX0_fewest_1 17 rfl rfl)
theorem dX0_fewest_44 : decode cX0_fewest 44 = .ok (.aload_n 0, 1) := dk_42 (dk_at dksX0_fewest_1 20 rfl rfl)
theorem dX0_fewest_45 : decode cX0_fewest 45 = .ok (.iload_n 1, 1) := dk_27 (dk_at dksX0_fewest_1 21 rfl rfl)
theorem dX0_fewest_46 : decode cX0_fewest 46 = .ok (.iload_n 2, 1) := dk_28 (dk_at dksX0_fewest_1 22 rfl rfl)
theorem dX0_fewest_47 : decode cX0_fewest 47 = .ok (.invokevirtual 320, 3) := dk_182 1 64 (dk_at dksX0_fewest_2 0 rfl rfl)
theorem dX0_fewest_50 : decode cX0_fewest 50 = .ok (.goto 6, 3) := dk_167 0 6 (dk_at dksX0_fewest_2 3 rfl rfl)
theorem dX0_fewest_53 : decode cX0_fewest 53 = .ok (.iconst 0, 1) := dk_3 (dk_at dksX0_fewest_2 6 rfl rfl)
theorem dX0_fewest_54 : decode cX0_fewest 54 = .ok (.newarray .int, 2) := dk_188_10 (dk_at dksX0_fewest_2 7 rfl rfl)
theorem dX0_fewest_56 : decode cX0_fewest 56 = .ok (.astore 5, 2) := dk_58 5 (dk_at dksX0_fewest_2 9 rfl rfl)
theorem dX0_fewest_58 : decode cX0_fewest 58 = .ok (.iconst 0, 1) := dk_3 (dk_at dksX0_fewest_2 11 rfl rfl)
theorem dX0_fewest_59 : decode cX0_fewest 59 = .ok (.istore 6, 2) := dk_54 6 (dk_at dksX0_fewest_2 12 rfl rfl)
theorem dX0_fewest_61 : decode cX0_fewest 61 = .ok (.iload 6, 2) := dk_21 6 (dk_at dksX0_fewest_2 14 rfl rfl)
theorem dX0_fewest_63 : decode cX0_fewest 63 = .ok (.iconst 1, 1) := dk_4 (dk_at dksX0_fewest_2 16 rfl rfl)
theorem dX0_fewest_64 : decode cX0_fewest 64 = .ok (.aload_n 0, 1) := dk_42 (dk_at dksX0_fewest_2 17 rfl rfl)
theorem dX0_fewest_65 : decode cX0_fewest 65 = .ok (.getfield 90, 3) := dk_180 0 90 (dk_at dksX0_fewest_2 18 rfl rfl)
theorem dX0_fewest_68 : decode cX0_fewest 68 = .ok (.getfield 123, 3) := dk_180 0 123 (dk_at dksX0_fewest_2 21 rfl rfl)
theorem dX0_fewest_71 : decode cX0_fewest 71 = .ok (.ishl, 1) := dk_120 (dk_at dksX0_fewest_3 0 rfl rfl)
theorem dX0_fewest_72 : decode cX0_fewest 72 = .ok (.if_icmp .ge 59, 3) := dk_162 0 59 (dk_at dksX0_fewest_3 1 rfl rfl)
theorem dX0_fewest_75 : decode cX0_fewest 75 = .ok (.iload 4, 2) := dk_21 4 (dk_at dksX0_fewest_3 4 rfl rfl)
theorem dX0_fewest_77 : decode cX0_fewest 77 = .ok (.ifCond .eq 54, 3) := dk_153 0 54 (dk_at dksX0_fewest_3 6 rfl rfl)
theorem dX0_fewest_80 : decode cX0_fewest 80 = .ok (.iload_n 3, 1) := dk_29 (dk_at dksX0_fewest_3 9 rfl rfl)
theorem dX0_fewest_81 : decode cX0_fewest 81 = .ok (.iconst (-1), 1) := dk_2 (dk_at dksX0_fewest_3 10 rfl rfl)
theorem dX0_fewest_82 : decode cX0_fewest 82 = .ok (.if_icmp .eq 15, 3) := dk_159 0 15 (dk_at dksX0_fewest_3 11 rfl rfl)
theorem dX0_fewest_85 : decode cX0_fewest 85 = .ok (.iload 6, 2) := dk_21 6 (dk_at dksX0_fewest_3 14 rfl rfl)
theorem dX0_fewest_87 : decode cX0_fewest 87 = .ok (.invokestatic 331, 3) := dk_184 1 75 (dk_at dksX0_fewest_3 16 rfl rfl)
theorem dX0_fewest_90 : decode cX0_fewest 90 = .ok (.iload_n 3, 1) := dk_29 (dk_at dksX0_fewest_3 19 rfl rfl)
theorem dX0_fewest_91 : decode cX0_fewest 91 = .ok (.invokestatic 331, 3) := dk_184 1 75 (dk_at dksX0_fewest_3 20 rfl rfl)
theorem dX0_fewest_94 : decode cX0_fewest 94 = .ok (.if_icmp .ge 7, 3) := dk_162 0 7 (dk_at dksX0_fewest_4 0 rfl rfl)
theorem dX0_fewest_97 : decode cX0_fewest 97 = .ok (.iconst 1, 1) := dk_4 (dk_at dksX0_fewest_4 3 rfl rfl)
theorem dX0_fewest_98 : decode cX0_fewest 98 = .ok (.goto 4, 3) := dk_167 0 4 (dk_at dksX0_fewest_4 4 rfl rfl)
theorem dX0_fewest_101 : decode cX0_fewest 101 = .ok (.iconst 0, 1) := dk_3 (dk_at dksX0_fewest_4 7 rfl rfl)
theorem dX0_fewest_102 : decode cX0_fewest 102 = .ok (.istore 7, 2) := dk_54 7 (dk_at dksX0_fewest_4 8 rfl rfl)
theorem dX0_fewest_104 : decode cX0_fewest 104 = .ok (.iload 7, 2) := dk_21 7 (dk_at dksX0_fewest_4 10 rfl rfl)
theorem dX0_fewest_106 : decode cX0_fewest 106 = .ok (.ifCond .eq 17, 3) := dk_153 0 17 (dk_at dksX0_fewest_4 12 rfl rfl)
theorem dX0_fewest_109 : decode cX0_fewest 109 = .ok (.aload 5, 2) := dk_25 5 (dk_at dksX0_fewest_4 15 rfl rfl)
theorem dX0_fewest_111 : decode cX0_fewest 111 = .ok (.iload 6, 2) := dk_21 6 (dk_at dksX0_fewest_4 17 rfl rfl)
theorem dX0_fewest_113 : decode cX0_fewest 113 = .ok (.iaload, 1) := dk_46 (dk_at dksX0_fewest_4 19 rfl rfl)
theorem dX0_fewest_114 : decode cX0_fewest 114 = .ok (.iload_n 2, 1) := dk_28 (dk_at dksX0_fewest_4 20 rfl rfl)
theorem dX0_fewest_115 : decode cX0_fewest 115 = .ok (.if_icmp .ne 8, 3) := dk_160 0 8 (dk_at dksX0_fewest_4 21 rfl rfl)
theorem dX0_fewest_118 : decode cX0_fewest 118 = .ok (.iload 6, 2) := dk_21 6 (dk_at dksX0_fewest_5 0 rfl rfl)
theorem dX0_fewest_120 : decode cX0_fewest 120 = .ok (.goto 4, 3) := dk_167 0 4 (dk_at dksX0_fewest_5 2 rfl rfl)
theorem dX0_fewest_123 : decode cX0_fewest 123 = .ok (.iload_n 3, 1) := dk_29 (dk_at dksX0_fewest_5 5 rfl rfl)
theorem dX0_fewest_124 : decode cX0_fewest 124 = .ok (.istore_n 3, 1) := dk_62 (dk_at dksX0_fewest_5 6 rfl rfl)
theorem dX0_fewest_125 : decode cX0_fewest 125 = .ok (.iinc 6 1, 3) := dk_132 6 1 (dk_at dksX0_fewest_5 7 rfl rfl)
theorem dX0_fewest_128 : decode cX0_fewest 128 = .ok (.goto (-67), 3) := dk_167 255 189 (dk_at dksX0_fewest_5 10 rfl rfl)
theorem dX0_fewest_131 : decode cX0_fewest 131 = .ok (.iload 4, 2) := dk_21 4 (dk_at dksX0_fewest_5 13 rfl rfl)
theorem dX0_fewest_133 : decode cX0_fewest 133 = .ok (.ifCond .eq 8, 3) := dk_153 0 8 (dk_at dksX0_fewest_5 15 rfl rfl)
theorem dX0_fewest_136 : decode cX0_fewest 136 = .ok (.iload_n 3, 1) := dk_29 (dk_at dksX0_fewest_5 18 rfl rfl)
theorem dX0_fewest_137 : decode cX0_fewest 137 = .ok (.iconst (-1), 1) := dk_2 (dk_at dksX0_fewest_5 19 rfl rfl)
theorem dX0_fewest_138 : decode cX0_fewest 138 = .ok (.if_icmp .eq 7, 3) := dk_159 0 7 (dk_at dksX0_fewest_5 20 rfl rfl)
theorem dX0_fewest_141 : decode cX0_fewest 141 = .ok (.iconst 1, 1) := dk_4 (dk_at dksX0_fewest_5 23 rfl rfl)
theorem dX0_fewest_142 : decode cX0_fewest 142 = .ok (.goto 4, 3) := dk_167 0 4 (dk_at dksX0_fewest_6 0 rfl rfl)
theorem dX0_fewest_145 : decode cX0_fewest 145 = .ok (.iconst 0, 1) := dk_3 (dk_at dksX0_fewest_6 3 rfl rfl)
theorem dX0_fewest_146 : decode cX0_fewest 146 = .ok (.bipush (-5), 2) := dk_16 251 (dk_at dksX0_fewest_6 4 rfl rfl)
theorem dX0_fewest_148 : decode cX0_fewest 148 = .ok (.invokestatic 115, 3) := dk_184 0 115 (dk_at dksX0_fewest_6 6 rfl rfl)
theorem dX0_fewest_151 : decode cX0_fewest 151 = .ok (.iload 4, 2) := dk_21 4 (dk_at dksX0_fewest_6 9 rfl rfl)
theorem dX0_fewest_153 : decode cX0_fewest 153 = .ok (.bipush (-6), 2) := dk_16 250 (dk_at dksX0_fewest_6 11 rfl rfl)
theorem dX0_fewest_155 : decode cX0_fewest 155 = .ok (.invokestatic 115, 3) := dk_184 0 115 (dk_at dksX0_fewest_6 13 rfl rfl)
theorem dX0_fewest_158 : decode cX0_fewest 158 = .ok (.iload_n 3, 1) := dk_29 (dk_at dksX0_fewest_6 16 rfl rfl)
theorem dX0_fewest_159 : decode cX0_fewest 159 = .ok (.ireturn, 1) := dk_172 (dk_at dksX0_fewest_6 17 rfl rfl)
theorem dX0_fewest_160 : decode cX0_fewest 160 = .ok (.astore_n 3, 1) := dk_78 (dk_at dksX0_fewest_6 18 rfl rfl)
theorem dX0_fewest_161 : decode cX0_fewest 161 = .ok (.aload_n 0, 1) := dk_42 (dk_at dksX0_fewest_6 19 rfl rfl)
theorem dX0_fewest_162 : decode cX0_fewest 162 = .ok (.aload_n 3, 1) := dk_45 (dk_at dksX0_fewest_6 20 rfl rfl)
theorem dX0_fewest_163 : decode cX0_fewest 163 = .ok (.invokevirtual 173, 3) := dk_182 0 173 (dk_at dksX0_fewest_6 21 rfl rfl)
theorem dX0_fewest_166 : decode cX0_fewest 166 = .ok (.ireturn, 1) := dk_172 (dk_at dksX0_fewest_7 0 rfl rfl)
abbrev cX0_order : ByteArray := prog_1_method_45_code
def yX0_order : MethodName := ⟨RX0, "order", "(IIII)I"⟩
def dkwX0_order_7 : List UInt8 := [29, 182, 1, 84, 54, 7, 132, 9, 1, 167, 255, 201, 21, 8, 172, 58, 5, 42, 25, 5, 182, 0, 173, 172]
abbrev dktX0_order_7 : List UInt8 := dkwX0_order_7 ++ []
def dkwX0_order_6 : List UInt8 := [21, 8, 120, 2, 130, 126, 54, 6, 42, 180, 0, 90, 21, 7, 42, 180, 0, 90, 21, 8, 27, 182, 1, 48]
abbrev dktX0_order_6 : List UInt8 := dkwX0_order_6 ++ dktX0_order_7
def dkwX0_order_5 : List UInt8 := [54, 9, 21, 9, 21, 4, 163, 0, 54, 42, 27, 21, 6, 21, 7, 29, 182, 1, 80, 54, 8, 21, 6, 4]
abbrev dktX0_order_5 : List UInt8 := dkwX0_order_5 ++ dktX0_order_6
def dkwX0_order_4 : List UInt8 := [16, 250, 184, 0, 115, 28, 54, 6, 42, 180, 0, 90, 180, 0, 132, 27, 46, 54, 7, 2, 54, 8, 3]
abbrev dktX0_order_4 : List UInt8 := dkwX0_order_4 ++ dktX0_order_5
def dkwX0_order_3 : List UInt8 := [184, 1, 75, 4, 100, 133, 184, 0, 107, 153, 0, 7, 4, 167, 0, 4, 3, 16, 251, 184, 0, 115, 21, 5]
abbrev dktX0_order_3 : List UInt8 := dkwX0_order_3 ++ dktX0_order_4
def dkwX0_order_2 : List UInt8 := [21, 5, 153, 0, 32, 42, 27, 29, 182, 1, 64, 28, 46, 29, 160, 0, 24, 21, 4, 133, 9, 28]
abbrev dktX0_order_2 : List UInt8 := dkwX0_order_2 ++ dktX0_order_3
def dkwX0_order_1 : List UInt8 := [153, 0, 20, 29, 42, 180, 0, 90, 180, 0, 132, 27, 46, 164, 0, 7, 4, 167, 0, 4, 3, 54, 5]
abbrev dktX0_order_1 : List UInt8 := dkwX0_order_1 ++ dktX0_order_2
def dkwX0_order_0 : List UInt8 := [42, 27, 182, 0, 193, 87, 42, 28, 182, 1, 61, 2, 184, 0, 115, 42, 180, 0, 90, 29, 182, 0, 129]
abbrev dktX0_order_0 : List UInt8 := dkwX0_order_0 ++ dktX0_order_1
theorem dksX0_order_0 : cX0_order.data.toList.drop 0 = dktX0_order_0 := by decide +kernel
theorem dksX0_order_1 : cX0_order.data.toList.drop 23 = dktX0_order_1 := dk_seg dksX0_order_0 23 rfl rfl
theorem dksX0_order_2 : cX0_order.data.toList.drop 46 = dktX0_order_2 := dk_seg dksX0_order_1 23 rfl rfl
theorem dksX0_order_3 : cX0_order.data.toList.drop 68 = dktX0_order_3 := dk_seg dksX0_order_2 22 rfl rfl
theorem dksX0_order_4 : cX0_order.data.toList.drop 92 = dktX0_order_4 := dk_seg dksX0_order_3 24 rfl rfl
theorem dksX0_order_5 : cX0_order.data.toList.drop 115 = dktX0_order_5 := dk_seg dksX0_order_4 23 rfl rfl
theorem dksX0_order_6 : cX0_order.data.toList.drop 139 = dktX0_order_6 := dk_seg dksX0_order_5 24 rfl rfl
theorem dksX0_order_7 : cX0_order.data.toList.drop 163 = dktX0_order_7 := dk_seg dksX0_order_6 24 rfl rfl
theorem dX0_order_0 : decode cX0_order 0 = .ok (.aload_n 0, 1) := dk_42 (dk_at dksX0_order_0 0 rfl rfl)
theorem dX0_order_1 : decode cX0_order 1 = .ok (.iload_n 1, 1) := dk_27 (dk_at dksX0_order_0 1 rfl rfl)
theorem dX0_order_2 : decode cX0_order 2 = .ok (.invokevirtual 193, 3) := dk_182 0 193 (dk_at dksX0_order_0 2 rfl rfl)
theorem dX0_order_5 : decode cX0_order 5 = .ok (.pop, 1) := dk_87 (dk_at dksX0_order_0 5 rfl rfl)
theorem dX0_order_6 : decode cX0_order 6 = .ok (.aload_n 0, 1) := dk_42 (dk_at dksX0_order_0 6 rfl rfl)
theorem dX0_order_7 : decode cX0_order 7 = .ok (.iload_n 2, 1) := dk_28 (dk_at dksX0_order_0 7 rfl rfl)
theorem dX0_order_8 : decode cX0_order 8 = .ok (.invokevirtual 317, 3) := dk_182 1 61 (dk_at dksX0_order_0 8 rfl rfl)
theorem dX0_order_11 : decode cX0_order 11 = .ok (.iconst (-1), 1) := dk_2 (dk_at dksX0_order_0 11 rfl rfl)
theorem dX0_order_12 : decode cX0_order 12 = .ok (.invokestatic 115, 3) := dk_184 0 115 (dk_at dksX0_order_0 12 rfl rfl)
theorem dX0_order_15 : decode cX0_order 15 = .ok (.aload_n 0, 1) := dk_42 (dk_at dksX0_order_0 15 rfl rfl)
theorem dX0_order_16 : decode cX0_order 16 = .ok (.getfield 90, 3) := dk_180 0 90 (dk_at dksX0_order_0 16 rfl rfl)
theorem dX0_order_19 : decode cX0_order 19 = .ok (.iload_n 3, 1) := dk_29 (dk_at dksX0_order_0 19 rfl rfl)
theorem dX0_order_20 : decode cX0_order 20 = .ok (.invokevirtual 129, 3) := dk_182 0 129 (dk_at dksX0_order_0 20 rfl rfl)
theorem dX0_order_23 : decode cX0_order 23 = .ok (.ifCond .eq 20, 3) := dk_153 0 20 (dk_at dksX0_order_1 0 rfl rfl)
theorem dX0_order_26 : decode cX0_order 26 = .ok (.iload_n 3, 1) := dk_29 (dk_at dksX0_order_1 3 rfl rfl)
theorem dX0_order_27 : decode cX0_order 27 = .ok (.aload_n 0, 1) := dk_42 (dk_at dksX0_order_1 4 rfl rfl)
theorem dX0_order_28 : decode cX0_order 28 = .ok (.getfield 90, 3) := dk_180 0 90 (dk_at dksX0_order_1 5 rfl rfl)
theorem dX0_order_31 : decode cX0_order 31 = .ok (.getfield 132, 3) := dk_180 0 132 (dk_at dksX0_order_1 8 rfl rfl)
theorem dX0_order_34 : decode cX0_order 34 = .ok (.iload_n 1, 1) := dk_27 (dk_at dksX0_order_1 11 rfl rfl)
theorem dX0_order_35 : decode cX0_order 35 = .ok (.iaload, 1) := dk_46 (dk_at dksX0_order_1 12 rfl rfl)
theorem dX0_order_36 : decode cX0_order 36 = .ok (.if_icmp .le 7, 3) := dk_164 0 7 (dk_at dksX0_order_1 13 rfl rfl)
theorem dX0_order_39 : decode cX0_order 39 = .ok (.iconst 1, 1) := dk_4 (dk_at dksX0_order_1 16 rfl rfl)
theorem dX0_order_40 : decode cX0_order 40 = .ok (.goto 4, 3) := dk_167 0 4 (dk_at dksX0_order_1 17 rfl rfl)
theorem dX0_order_43 : decode cX0_order 43 = .ok (.iconst 0, 1) := dk_3 (dk_at dksX0_order_1 20 rfl rfl)
theorem dX0_order_44 : decode cX0_order 44 = .ok (.istore 5, 2) := dk_54 5 (dk_at dksX0_order_1 21 rfl rfl)
theorem dX0_order_46 : decode cX0_order 46 = .ok (.iload 5, 2) := dk_21 5 (dk_at dksX0_order_2 0 rfl rfl)
theorem dX0_order_48 : decode cX0_order 48 = .ok (.ifCond .eq 32, 3) := dk_153 0 32 (dk_at dksX0_order_2 2 rfl rfl)
theorem dX0_order_51 : decode cX0_order 51 = .ok (.aload_n 0, 1) := dk_42 (dk_at dksX0_order_2 5 rfl rfl)
theorem dX0_order_52 : decode cX0_order 52 = .ok (.iload_n 1, 1) := dk_27 (dk_at dksX0_order_2 6 rfl rfl)
theorem dX0_order_53 : decode cX0_order 53 = .ok (.iload_n 3, 1) := dk_29 (dk_at dksX0_order_2 7 rfl rfl)
theorem dX0_order_54 : decode cX0_order 54 = .ok (.invokevirtual 320, 3) := dk_182 1 64 (dk_at dksX0_order_2 8 rfl rfl)
theorem dX0_order_57 : decode cX0_order 57 = .ok (.iload_n 2, 1) := dk_28 (dk_at dksX0_order_2 11 rfl rfl)
theorem dX0_order_58 : decode cX0_order 58 = .ok (.iaload, 1) := dk_46 (dk_at dksX0_order_2 12 rfl rfl)
theorem dX0_order_59 : decode cX0_order 59 = .ok (.iload_n 3, 1) := dk_29 (dk_at dksX0_order_2 13 rfl rfl)
theorem dX0_order_60 : decode cX0_order 60 = .ok (.if_icmp .ne 24, 3) := dk_160 0 24 (dk_at dksX0_order_2 14 rfl rfl)
theorem dX0_order_63 : decode cX0_order 63 = .ok (.iload 4, 2) := dk_21 4 (dk_at dksX0_order_2 17 rfl rfl)
theorem dX0_order_65 : decode cX0_order 65 = .ok (.i2l, 1) := dk_133 (dk_at dksX0_order_2 19 rfl rfl)
theorem dX0_order_66 : decode cX0_order 66 = .ok (.lconst 0, 1) := dk_9 (dk_at dksX0_order_2 20 rfl rfl)
theorem dX0_order_67 : decode cX0_order 67 = .ok (.iload_n 2, 1) := dk_28 (dk_at dksX0_order_2 21 rfl rfl)
theorem dX0_order_68 : decode cX0_order 68 = .ok (.invokestatic 331, 3) := dk_184 1 75 (dk_at dksX0_order_3 0 rfl rfl)
theorem dX0_order_71 : decode cX0_order 71 = .ok (.iconst 1, 1) := dk_4 (dk_at dksX0_order_3 3 rfl rfl)
theorem dX0_order_72 : decode cX0_order 72 = .ok (.isub, 1) := dk_100 (dk_at dksX0_order_3 4 rfl rfl)
theorem dX0_order_73 : decode cX0_order 73 = .ok (.i2l, 1) := dk_133 (dk_at dksX0_order_3 5 rfl rfl)
theorem dX0_order_74 : decode cX0_order 74 = .ok (.invokestatic 107, 3) := dk_184 0 107 (dk_at dksX0_order_3 6 rfl rfl)
theorem dX0_order_77 : decode cX0_order 77 = .ok (.ifCond .eq 7, 3) := dk_153 0 7 (dk_at dksX0_order_3 9 rfl rfl)
theorem dX0_order_80 : decode cX0_order 80 = .ok (.iconst 1, 1) := dk_4 (dk_at dksX0_order_3 12 rfl rfl)
theorem dX0_order_81 : decode cX0_order 81 = .ok (.goto 4, 3) := dk_167 0 4 (dk_at dksX0_order_3 13 rfl rfl)
theorem dX0_order_84 : decode cX0_order 84 = .ok (.iconst 0, 1) := dk_3 (dk_at dksX0_order_3 16 rfl rfl)
theorem dX0_order_85 : decode cX0_order 85 = .ok (.bipush (-5), 2) := dk_16 251 (dk_at dksX0_order_3 17 rfl rfl)
theorem dX0_order_87 : decode cX0_order 87 = .ok (.invokestatic 115, 3) := dk_184 0 115 (dk_at dksX0_order_3 19 rfl rfl)
theorem dX0_order_90 : decode cX0_order 90 = .ok (.iload 5, 2) := dk_21 5 (dk_at dksX0_order_3 22 rfl rfl)
theorem dX0_order_92 : decode cX0_order 92 = .ok (.bipush (-6), 2) := dk_16 250 (dk_at dksX0_order_4 0 rfl rfl)
theorem dX0_order_94 : decode cX0_order 94 = .ok (.invokestatic 115, 3) := dk_184 0 115 (dk_at dksX0_order_4 2 rfl rfl)
theorem dX0_order_97 : decode cX0_order 97 = .ok (.iload_n 2, 1) := dk_28 (dk_at dksX0_order_4 5 rfl rfl)
theorem dX0_order_98 : decode cX0_order 98 = .ok (.istore 6, 2) := dk_54 6 (dk_at dksX0_order_4 6 rfl rfl)
theorem dX0_order_100 : decode cX0_order 100 = .ok (.aload_n 0, 1) := dk_42 (dk_at dksX0_order_4 8 rfl rfl)
theorem dX0_order_101 : decode cX0_order 101 = .ok (.getfield 90, 3) := dk_180 0 90 (dk_at dksX0_order_4 9 rfl rfl)
theorem dX0_order_104 : decode cX0_order 104 = .ok (.getfield 132, 3) := dk_180 0 132 (dk_at dksX0_order_4 12 rfl rfl)
theorem dX0_order_107 : decode cX0_order 107 = .ok (.iload_n 1, 1) := dk_27 (dk_at dksX0_order_4 15 rfl rfl)
theorem dX0_order_108 : decode cX0_order 108 = .ok (.iaload, 1) := dk_46 (dk_at dksX0_order_4 16 rfl rfl)
theorem dX0_order_109 : decode cX0_order 109 = .ok (.istore 7, 2) := dk_54 7 (dk_at dksX0_order_4 17 rfl rfl)
theorem dX0_order_111 : decode cX0_order 111 = .ok (.iconst (-1), 1) := dk_2 (dk_at dksX0_order_4 19 rfl rfl)
theorem dX0_order_112 : decode cX0_order 112 = .ok (.istore 8, 2) := dk_54 8 (dk_at dksX0_order_4 20 rfl rfl)
theorem dX0_order_114 : decode cX0_order 114 = .ok (.iconst 0, 1) := dk_3 (dk_at dksX0_order_4 22 rfl rfl)
theorem dX0_order_115 : decode cX0_order 115 = .ok (.istore 9, 2) := dk_54 9 (dk_at dksX0_order_5 0 rfl rfl)
theorem dX0_order_117 : decode cX0_order 117 = .ok (.iload 9, 2) := dk_21 9 (dk_at dksX0_order_5 2 rfl rfl)
theorem dX0_order_119 : decode cX0_order 119 = .ok (.iload 4, 2) := dk_21 4 (dk_at dksX0_order_5 4 rfl rfl)
theorem dX0_order_121 : decode cX0_order 121 = .ok (.if_icmp .gt 54, 3) := dk_163 0 54 (dk_at dksX0_order_5 6 rfl rfl)
theorem dX0_order_124 : decode cX0_order 124 = .ok (.aload_n 0, 1) := dk_42 (dk_at dksX0_order_5 9 rfl rfl)
theorem dX0_order_125 : decode cX0_order 125 = .ok (.iload_n 1, 1) := dk_27 (dk_at dksX0_order_5 10 rfl rfl)
theorem dX0_order_126 : decode cX0_order 126 = .ok (.iload 6, 2) := dk_21 6 (dk_at dksX0_order_5 11 rfl rfl)
theorem dX0_order_128 : decode cX0_order 128 = .ok (.iload 7, 2) := dk_21 7 (dk_at dksX0_order_5 13 rfl rfl)
theorem dX0_order_130 : decode cX0_order 130 = .ok (.iload_n 3, 1) := dk_29 (dk_at dksX0_order_5 15 rfl rfl)
theorem dX0_order_131 : decode cX0_order 131 = .ok (.invokevirtual 336, 3) := dk_182 1 80 (dk_at dksX0_order_5 16 rfl rfl)
theorem dX0_order_134 : decode cX0_order 134 = .ok (.istore 8, 2) := dk_54 8 (dk_at dksX0_order_5 19 rfl rfl)
theorem dX0_order_136 : decode cX0_order 136 = .ok (.iload 6, 2) := dk_21 6 (dk_at dksX0_order_5 21 rfl rfl)
theorem dX0_order_138 : decode cX0_order 138 = .ok (.iconst 1, 1) := dk_4 (dk_at dksX0_order_5 23 rfl rfl)
theorem dX0_order_139 : decode cX0_order 139 = .ok (.iload 8, 2) := dk_21 8 (dk_at dksX0_order_6 0 rfl rfl)
theorem dX0_order_141 : decode cX0_order 141 = .ok (.ishl, 1) := dk_120 (dk_at dksX0_order_6 2 rfl rfl)
theorem dX0_order_142 : decode cX0_order 142 = .ok (.iconst (-1), 1) := dk_2 (dk_at dksX0_order_6 3 rfl rfl)
theorem dX0_order_143 : decode cX0_order 143 = .ok (.ixor, 1) := dk_130 (dk_at dksX0_order_6 4 rfl rfl)
theorem dX0_order_144 : decode cX0_order 144 = .ok (.iand, 1) := dk_126 (dk_at dksX0_order_6 5 rfl rfl)
theorem dX0_order_145 : decode cX0_order 145 = .ok (.istore 6, 2) := dk_54 6 (dk_at dksX0_order_6 6 rfl rfl)
theorem dX0_order_147 : decode cX0_order 147 = .ok (.aload_n 0, 1) := dk_42 (dk_at dksX0_order_6 8 rfl rfl)
theorem dX0_order_148 : decode cX0_order 148 = .ok (.getfield 90, 3) := dk_180 0 90 (dk_at dksX0_order_6 9 rfl rfl)
theorem dX0_order_151 : decode cX0_order 151 = .ok (.iload 7, 2) := dk_21 7 (dk_at dksX0_order_6 12 rfl rfl)
theorem dX0_order_153 : decode cX0_order 153 = .ok (.aload_n 0, 1) := dk_42 (dk_at dksX0_order_6 14 rfl rfl)
theorem dX0_order_154 : decode cX0_order 154 = .ok (.getfield 90, 3) := dk_180 0 90 (dk_at dksX0_order_6 15 rfl rfl)
theorem dX0_order_157 : decode cX0_order 157 = .ok (.iload 8, 2) := dk_21 8 (dk_at dksX0_order_6 18 rfl rfl)
theorem dX0_order_159 : decode cX0_order 159 = .ok (.iload_n 1, 1) := dk_27 (dk_at dksX0_order_6 20 rfl rfl)
theorem dX0_order_160 : decode cX0_order 160 = .ok (.invokevirtual 304, 3) := dk_182 1 48 (dk_at dksX0_order_6 21 rfl rfl)
theorem dX0_order_163 : decode cX0_order 163 = .ok (.iload_n 3, 1) := dk_29 (dk_at dksX0_order_7 0 rfl rfl)
theorem dX0_order_164 : decode cX0_order 164 = .ok (.invokevirtual 340, 3) := dk_182 1 84 (dk_at dksX0_order_7 1 rfl rfl)
theorem dX0_order_167 : decode cX0_order 167 = .ok (.istore 7, 2) := dk_54 7 (dk_at dksX0_order_7 4 rfl rfl)
theorem dX0_order_169 : decode cX0_order 169 = .ok (.iinc 9 1, 3) := dk_132 9 1 (dk_at dksX0_order_7 6 rfl rfl)
theorem dX0_order_172 : decode cX0_order 172 = .ok (.goto (-55), 3) := dk_167 255 201 (dk_at dksX0_order_7 9 rfl rfl)
theorem dX0_order_175 : decode cX0_order 175 = .ok (.iload 8, 2) := dk_21 8 (dk_at dksX0_order_7 12 rfl rfl)
theorem dX0_order_177 : decode cX0_order 177 = .ok (.ireturn, 1) := dk_172 (dk_at dksX0_order_7 14 rfl rfl)
theorem dX0_order_178 : decode cX0_order 178 = .ok (.astore 5, 2) := dk_58 5 (dk_at dksX0_order_7 15 rfl rfl)
theorem dX0_order_180 : decode cX0_order 180 = .ok (.aload_n 0, 1) := dk_42 (dk_at dksX0_order_7 17 rfl rfl)
theorem dX0_order_181 : decode cX0_order 181 = .ok (.aload 5, 2) := dk_25 5 (dk_at dksX0_order_7 18 rfl rfl)
theorem dX0_order_183 : decode cX0_order 183 = .ok (.invokevirtual 173, 3) := dk_182 0 173 (dk_at dksX0_order_7 20 rfl rfl)
theorem dX0_order_186 : decode cX0_order 186 = .ok (.ireturn, 1) := dk_172 (dk_at dksX0_order_7 23 rfl rfl)
abbrev cX0_nextOf : ByteArray := prog_1_method_46_code
def yX0_nextOf : MethodName := ⟨RX0, "nextOf", "(IIII)I"⟩
def dkwX0_nextOf_3 : List UInt8 := [46, 21, 4, 160, 0, 6, 21, 5, 172, 132, 5, 1, 167, 255, 176, 2, 172]
abbrev dktX0_nextOf_3 : List UInt8 := dkwX0_nextOf_3 ++ []
def dkwX0_nextOf_2 : List UInt8 := [180, 0, 77, 42, 180, 0, 90, 27, 21, 6, 21, 4, 7, 182, 0, 135, 28, 4, 21, 5, 120, 2, 130, 126]
abbrev dktX0_nextOf_2 : List UInt8 := dkwX0_nextOf_2 ++ dktX0_nextOf_3
def dkwX0_nextOf_1 : List UInt8 := [42, 180, 0, 90, 29, 42, 180, 0, 90, 21, 5, 27, 182, 1, 48, 21, 4, 182, 1, 84, 54, 6, 42]
abbrev dktX0_nextOf_1 : List UInt8 := dkwX0_nextOf_1 ++ dktX0_nextOf_2
def dkwX0_nextOf_0 : List UInt8 := [3, 54, 5, 21, 5, 42, 180, 0, 90, 180, 0, 123, 162, 0, 74, 28, 21, 5, 122, 4, 126, 153, 0, 59]
abbrev dktX0_nextOf_0 : List UInt8 := dkwX0_nextOf_0 ++ dktX0_nextOf_1
theorem dksX0_nextOf_0 : cX0_nextOf.data.toList.drop 0 = dktX0_nextOf_0 := by decide +kernel
theorem dksX0_nextOf_1 : cX0_nextOf.data.toList.drop 24 = dktX0_nextOf_1 := dk_seg dksX0_nextOf_0 24 rfl rfl
theorem dksX0_nextOf_2 : cX0_nextOf.data.toList.drop 47 = dktX0_nextOf_2 := dk_seg dksX0_nextOf_1 23 rfl rfl
theorem dksX0_nextOf_3 : cX0_nextOf.data.toList.drop 71 = dktX0_nextOf_3 := dk_seg dksX0_nextOf_2 24 rfl rfl
theorem dX0_nextOf_0 : decode cX0_nextOf 0 = .ok (.iconst 0, 1) := dk_3 (dk_at dksX0_nextOf_0 0 rfl rfl)
theorem dX0_nextOf_1 : decode cX0_nextOf 1 = .ok (.istore 5, 2) := dk_54 5 (dk_at dksX0_nextOf_0 1 rfl rfl)
theorem dX0_nextOf_3 : decode cX0_nextOf 3 = .ok (.iload 5, 2) := dk_21 5 (dk_at dksX0_nextOf_0 3 rfl rfl)
theorem dX0_nextOf_5 : decode cX0_nextOf 5 = .ok (.aload_n 0, 1) := dk_42 (dk_at dksX0_nextOf_0 5 rfl rfl)
theorem dX0_nextOf_6 : decode cX0_nextOf 6 = .ok (.getfield 90, 3) := dk_180 0 90 (dk_at dksX0_nextOf_0 6 rfl rfl)
theorem dX0_nextOf_9 : decode cX0_nextOf 9 = .ok (.getfield 123, 3) := dk_180 0 123 (dk_at dksX0_nextOf_0 9 rfl rfl)
theorem dX0_nextOf_12 : decode cX0_nextOf 12 = .ok (.if_icmp .ge 74, 3) := dk_162 0 74 (dk_at dksX0_nextOf_0 12 rfl rfl)
theorem dX0_nextOf_15 : decode cX0_nextOf 15 = .ok (.iload_n 2, 1) := dk_28 (dk_at dksX0_nextOf_0 15 rfl rfl)
theorem dX0_nextOf_16 : decode cX0_nextOf 16 = .ok (.iload 5, 2) := dk_21 5 (dk_at dksX0_nextOf_0 16 rfl rfl)
theorem dX0_nextOf_18 : decode cX0_nextOf 18 = .ok (.ishr, 1) := dk_122 (dk_at dksX0_nextOf_0 18 rfl rfl)
theorem dX0_nextOf_19 : decode cX0_nextOf 19 = .ok (.iconst 1, 1) := dk_4 (dk_at dksX0_nextOf_0 19 rfl rfl)
theorem dX0_nextOf_20 : decode cX0_nextOf 20 = .ok (.iand, 1) := dk_126 (dk_at dksX0_nextOf_0 20 rfl rfl)
theorem dX0_nextOf_21 : decode cX0_nextOf 21 = .ok (.ifCond .eq 59, 3) := dk_153 0 59 (dk_at dksX0_nextOf_0 21 rfl rfl)
theorem dX0_nextOf_24 : decode cX0_nextOf 24 = .ok (.aload_n 0, 1) := dk_42 (dk_at dksX0_nextOf_1 0 rfl rfl)
theorem dX0_nextOf_25 : decode cX0_nextOf 25 = .ok (.getfield 90, 3) := dk_180 0 90 (dk_at dksX0_nextOf_1 1 rfl rfl)
theorem dX0_nextOf_28 : decode cX0_nextOf 28 = .ok (.iload_n 3, 1) := dk_29 (dk_at dksX0_nextOf_1 4 rfl rfl)
theorem dX0_nextOf_29 : decode cX0_nextOf 29 = .ok (.aload_n 0, 1) := dk_42 (dk_at dksX0_nextOf_1 5 rfl rfl)
theorem dX0_nextOf_30 : decode cX0_nextOf 30 = .ok (.getfield 90, 3) := dk_180 0 90 (dk_at dksX0_nextOf_1 6 rfl rfl)
theorem dX0_nextOf_33 : decode cX0_nextOf 33 = .ok (.iload 5, 2) := dk_21 5 (dk_at dksX0_nextOf_1 9 rfl rfl)
theorem dX0_nextOf_35 : decode cX0_nextOf 35 = .ok (.iload_n 1, 1) := dk_27 (dk_at dksX0_nextOf_1 11 rfl rfl)
theorem dX0_nextOf_36 : decode cX0_nextOf 36 = .ok (.invokevirtual 304, 3) := dk_182 1 48 (dk_at dksX0_nextOf_1 12 rfl rfl)
theorem dX0_nextOf_39 : decode cX0_nextOf 39 = .ok (.iload 4, 2) := dk_21 4 (dk_at dksX0_nextOf_1 15 rfl rfl)
theorem dX0_nextOf_41 : decode cX0_nextOf 41 = .ok (.invokevirtual 340, 3) := dk_182 1 84 (dk_at dksX0_nextOf_1 17 rfl rfl)
theorem dX0_nextOf_44 : decode cX0_nextOf 44 = .ok (.istore 6, 2) := dk_54 6 (dk_at dksX0_nextOf_1 20 rfl rfl)
theorem dX0_nextOf_46 : decode cX0_nextOf 46 = .ok (.aload_n 0, 1) := dk_42 (dk_at dksX0_nextOf_1 22 rfl rfl)
theorem dX0_nextOf_47 : decode cX0_nextOf 47 = .ok (.getfield 77, 3) := dk_180 0 77 (dk_at dksX0_nextOf_2 0 rfl rfl)
theorem dX0_nextOf_50 : decode cX0_nextOf 50 = .ok (.aload_n 0, 1) := dk_42 (dk_at dksX0_nextOf_2 3 rfl rfl)
theorem dX0_nextOf_51 : decode cX0_nextOf 51 = .ok (.getfield 90, 3) := dk_180 0 90 (dk_at dksX0_nextOf_2 4 rfl rfl)
theorem dX0_nextOf_54 : decode cX0_nextOf 54 = .ok (.iload_n 1, 1) := dk_27 (dk_at dksX0_nextOf_2 7 rfl rfl)
theorem dX0_nextOf_55 : decode cX0_nextOf 55 = .ok (.iload 6, 2) := dk_21 6 (dk_at dksX0_nextOf_2 8 rfl rfl)
theorem dX0_nextOf_57 : decode cX0_nextOf 57 = .ok (.iload 4, 2) := dk_21 4 (dk_at dksX0_nextOf_2 10 rfl rfl)
theorem dX0_nextOf_59 : decode cX0_nextOf 59 = .ok (.iconst 4, 1) := dk_7 (dk_at dksX0_nextOf_2 12 rfl rfl)
theorem dX0_nextOf_60 : decode cX0_nextOf 60 = .ok (.invokevirtual 135, 3) := dk_182 0 135 (dk_at dksX0_nextOf_2 13 rfl rfl)
theorem dX0_nextOf_63 : decode cX0_nextOf 63 = .ok (.iload_n 2, 1) := dk_28 (dk_at dksX0_nextOf_2 16 rfl rfl)
theorem dX0_nextOf_64 : decode cX0_nextOf 64 = .ok (.iconst 1, 1) := dk_4 (dk_at dksX0_nextOf_2 17 rfl rfl)
theorem dX0_nextOf_65 : decode cX0_nextOf 65 = .ok (.iload 5, 2) := dk_21 5 (dk_at dksX0_nextOf_2 18 rfl rfl)
theorem dX0_nextOf_67 : decode cX0_nextOf 67 = .ok (.ishl, 1) := dk_120 (dk_at dksX0_nextOf_2 20 rfl rfl)
theorem dX0_nextOf_68 : decode cX0_nextOf 68 = .ok (.iconst (-1), 1) := dk_2 (dk_at dksX0_nextOf_2 21 rfl rfl)
theorem dX0_nextOf_69 : decode cX0_nextOf 69 = .ok (.ixor, 1) := dk_130 (dk_at dksX0_nextOf_2 22 rfl rfl)
theorem dX0_nextOf_70 : decode cX0_nextOf 70 = .ok (.iand, 1) := dk_126 (dk_at dksX0_nextOf_2 23 rfl rfl)
theorem dX0_nextOf_71 : decode cX0_nextOf 71 = .ok (.iaload, 1) := dk_46 (dk_at dksX0_nextOf_3 0 rfl rfl)
theorem dX0_nextOf_72 : decode cX0_nextOf 72 = .ok (.iload 4, 2) := dk_21 4 (dk_at dksX0_nextOf_3 1 rfl rfl)
theorem dX0_nextOf_74 : decode cX0_nextOf 74 = .ok (.if_icmp .ne 6, 3) := dk_160 0 6 (dk_at dksX0_nextOf_3 3 rfl rfl)
theorem dX0_nextOf_77 : decode cX0_nextOf 77 = .ok (.iload 5, 2) := dk_21 5 (dk_at dksX0_nextOf_3 6 rfl rfl)
theorem dX0_nextOf_79 : decode cX0_nextOf 79 = .ok (.ireturn, 1) := dk_172 (dk_at dksX0_nextOf_3 8 rfl rfl)
theorem dX0_nextOf_80 : decode cX0_nextOf 80 = .ok (.iinc 5 1, 3) := dk_132 5 1 (dk_at dksX0_nextOf_3 9 rfl rfl)
theorem dX0_nextOf_83 : decode cX0_nextOf 83 = .ok (.goto (-80), 3) := dk_167 255 176 (dk_at dksX0_nextOf_3 12 rfl rfl)
theorem dX0_nextOf_86 : decode cX0_nextOf 86 = .ok (.iconst (-1), 1) := dk_2 (dk_at dksX0_nextOf_3 15 rfl rfl)
theorem dX0_nextOf_87 : decode cX0_nextOf 87 = .ok (.ireturn, 1) := dk_172 (dk_at dksX0_nextOf_3 16 rfl rfl)
abbrev cX0_handovers : ByteArray := prog_1_method_47_code
def yX0_handovers : MethodName := ⟨RX0, "handovers", "(II)I"⟩
def dkwX0_handovers_7 : List UInt8 := [45, 182, 0, 173, 16, 10, 100, 172]
abbrev dktX0_handovers_7 : List UInt8 := dkwX0_handovers_7 ++ []
def dkwX0_handovers_6 : List UInt8 := [180, 0, 81, 3, 42, 180, 0, 90, 180, 0, 123, 184, 0, 15, 132, 5, 1, 167, 255, 193, 2, 172, 78, 42]
abbrev dktX0_handovers_6 : List UInt8 := dkwX0_handovers_6 ++ dktX0_handovers_7
def dkwX0_handovers_5 : List UInt8 := [167, 0, 4, 3, 182, 1, 87, 54, 6, 21, 6, 29, 161, 0, 6, 21, 5, 172, 42, 180, 0, 84, 3, 42]
abbrev dktX0_handovers_5 : List UInt8 := dkwX0_handovers_5 ++ dktX0_handovers_6
def dkwX0_handovers_4 : List UInt8 := [54, 5, 21, 5, 17, 0, 250, 163, 0, 61, 42, 27, 21, 5, 4, 160, 0, 12, 21, 4, 153, 0, 7, 4]
abbrev dktX0_handovers_4 : List UInt8 := dkwX0_handovers_4 ++ dktX0_handovers_5
def dkwX0_handovers_3 : List UInt8 := [42, 180, 0, 90, 180, 1, 6, 27, 46, 182, 0, 126, 154, 0, 7, 4, 167, 0, 4, 3, 54, 4, 4]
abbrev dktX0_handovers_3 : List UInt8 := dkwX0_handovers_3 ++ dktX0_handovers_4
def dkwX0_handovers_2 : List UInt8 := [180, 0, 90, 180, 1, 6, 27, 46, 160, 0, 7, 3, 167, 0, 4, 2, 79, 132, 4, 1, 167, 255, 215, 42]
abbrev dktX0_handovers_2 : List UInt8 := dkwX0_handovers_2 ++ dktX0_handovers_3
def dkwX0_handovers_1 : List UInt8 := [3, 54, 4, 21, 4, 42, 180, 0, 90, 180, 0, 123, 162, 0, 35, 42, 180, 0, 81, 21, 4, 21, 4, 42]
abbrev dktX0_handovers_1 : List UInt8 := dkwX0_handovers_1 ++ dktX0_handovers_2
def dkwX0_handovers_0 : List UInt8 := [42, 27, 182, 0, 193, 87, 42, 27, 28, 182, 1, 68, 28, 42, 180, 0, 90, 180, 0, 132, 27, 46, 100, 62]
abbrev dktX0_handovers_0 : List UInt8 := dkwX0_handovers_0 ++ dktX0_handovers_1
theorem dksX0_handovers_0 : cX0_handovers.data.toList.drop 0 = dktX0_handovers_0 := by decide +kernel
theorem dksX0_handovers_1 : cX0_handovers.data.toList.drop 24 = dktX0_handovers_1 := dk_seg dksX0_handovers_0 24 rfl rfl
theorem dksX0_handovers_2 : cX0_handovers.data.toList.drop 48 = dktX0_handovers_2 := dk_seg dksX0_handovers_1 24 rfl rfl
theorem dksX0_handovers_3 : cX0_handovers.data.toList.drop 72 = dktX0_handovers_3 := dk_seg dksX0_handovers_2 24 rfl rfl
theorem dksX0_handovers_4 : cX0_handovers.data.toList.drop 95 = dktX0_handovers_4 := dk_seg dksX0_handovers_3 23 rfl rfl
theorem dksX0_handovers_5 : cX0_handovers.data.toList.drop 119 = dktX0_handovers_5 := dk_seg dksX0_handovers_4 24 rfl rfl
theorem dksX0_handovers_6 : cX0_handovers.data.toList.drop 143 = dktX0_handovers_6 := dk_seg dksX0_handovers_5 24 rfl rfl
theorem dksX0_handovers_7 : cX0_handovers.data.toList.drop 167 = dktX0_handovers_7 := dk_seg dksX0_handovers_6 24 rfl rfl
theorem dX0_handovers_0 : decode cX0_handovers 0 = .ok (.aload_n 0, 1) := dk_42 (dk_at dksX0_handovers_0 0 rfl rfl)
theorem dX0_handovers_1 : decode cX0_handovers 1 = .ok (.iload_n 1, 1) := dk_27 (dk_at dksX0_handovers_0 1 rfl rfl)
theorem dX0_handovers_2 : decode cX0_handovers 2 = .ok (.invokevirtual 193, 3) := dk_182 0 193 (dk_at dksX0_handovers_0 2 rfl rfl)
theorem dX0_handovers_5 : decode cX0_handovers 5 = .ok (.pop, 1) := dk_87 (dk_at dksX0_handovers_0 5 rfl rfl)
theorem dX0_handovers_6 : decode cX0_handovers 6 = .ok (.aload_n 0, 1) := dk_42 (dk_at dksX0_handovers_0 6 rfl rfl)
theorem dX0_handovers_7 : decode cX0_handovers 7 = .ok (.iload_n 1, 1) := dk_27 (dk_at dksX0_handovers_0 7 rfl rfl)
theorem dX0_handovers_8 : decode cX0_handovers 8 = .ok (.iload_n 2, 1) := dk_28 (dk_at dksX0_handovers_0 8 rfl rfl)
theorem dX0_handovers_9 : decode cX0_handovers 9 = .ok (.invokevirtual 324, 3) := dk_182 1 68 (dk_at dksX0_handovers_0 9 rfl rfl)
theorem dX0_handovers_12 : decode cX0_handovers 12 = .ok (.iload_n 2, 1) := dk_28 (dk_at dksX0_handovers_0 12 rfl rfl)
theorem dX0_handovers_13 : decode cX0_handovers 13 = .ok (.aload_n 0, 1) := dk_42 (dk_at dksX0_handovers_0 13 rfl rfl)
theorem dX0_handovers_14 : decode cX0_handovers 14 = .ok (.getfield 90, 3) := dk_180 0 90 (dk_at dksX0_handovers_0 14 rfl rfl)
theorem dX0_handovers_17 : decode cX0_handovers 17 = .ok (.getfield 132, 3) := dk_180 0 132 (dk_at dksX0_handovers_0 17 rfl rfl)
theorem dX0_handovers_20 : decode cX0_handovers 20 = .ok (.iload_n 1, 1) := dk_27 (dk_at dksX0_handovers_0 20 rfl rfl)
theorem dX0_handovers_21 : decode cX0_handovers 21 = .ok (.iaload, 1) := dk_46 (dk_at dksX0_handovers_0 21 rfl rfl)
theorem dX0_handovers_22 : decode cX0_handovers 22 = .ok (.isub, 1) := dk_100 (dk_at dksX0_handovers_0 22 rfl rfl)
theorem dX0_handovers_23 : decode cX0_handovers 23 = .ok (.istore_n 3, 1) := dk_62 (dk_at dksX0_handovers_0 23 rfl rfl)
theorem dX0_handovers_24 : decode cX0_handovers 24 = .ok (.iconst 0, 1) := dk_3 (dk_at dksX0_handovers_1 0 rfl rfl)
theorem dX0_handovers_25 : decode cX0_handovers 25 = .ok (.istore 4, 2) := dk_54 4 (dk_at dksX0_handovers_1 1 rfl rfl)
theorem dX0_handovers_27 : decode cX0_handovers 27 = .ok (.iload 4, 2) := dk_21 4 (dk_at dksX0_handovers_1 3 rfl rfl)
theorem dX0_handovers_29 : decode cX0_handovers 29 = .ok (.aload_n 0, 1) := dk_42 (dk_at dksX0_handovers_1 5 rfl rfl)
theorem dX0_handovers_30 : decode cX0_handovers 30 = .ok (.getfield 90, 3) := dk_180 0 90 (dk_at dksX0_handovers_1 6 rfl rfl)
theorem dX0_handovers_33 : decode cX0_handovers 33 = .ok (.getfield 123, 3) := dk_180 0 123 (dk_at dksX0_handovers_1 9 rfl rfl)
theorem dX0_handovers_36 : decode cX0_handovers 36 = .ok (.if_icmp .ge 35, 3) := dk_162 0 35 (dk_at dksX0_handovers_1 12 rfl rfl)
theorem dX0_handovers_39 : decode cX0_handovers 39 = .ok (.aload_n 0, 1) := dk_42 (dk_at dksX0_handovers_1 15 rfl rfl)
theorem dX0_handovers_40 : decode cX0_handovers 40 = .ok (.getfield 81, 3) := dk_180 0 81 (dk_at dksX0_handovers_1 16 rfl rfl)
theorem dX0_handovers_43 : decode cX0_handovers 43 = .ok (.iload 4, 2) := dk_21 4 (dk_at dksX0_handovers_1 19 rfl rfl)
theorem dX0_handovers_45 : decode cX0_handovers 45 = .ok (.iload 4, 2) := dk_21 4 (dk_at dksX0_handovers_1 21 rfl rfl)
theorem dX0_handovers_47 : decode cX0_handovers 47 = .ok (.aload_n 0, 1) := dk_42 (dk_at dksX0_handovers_1 23 rfl rfl)
theorem dX0_handovers_48 : decode cX0_handovers 48 = .ok (.getfield 90, 3) := dk_180 0 90 (dk_at dksX0_handovers_2 0 rfl rfl)
theorem dX0_handovers_51 : decode cX0_handovers 51 = .ok (.getfield 262, 3) := dk_180 1 6 (dk_at dksX0_handovers_2 3 rfl rfl)
theorem dX0_handovers_54 : decode cX0_handovers 54 = .ok (.iload_n 1, 1) := dk_27 (dk_at dksX0_handovers_2 6 rfl rfl)
theorem dX0_handovers_55 : decode cX0_handovers 55 = .ok (.iaload, 1) := dk_46 (dk_at dksX0_handovers_2 7 rfl rfl)
theorem dX0_handovers_56 : decode cX0_handovers 56 = .ok (.if_icmp .ne 7, 3) := dk_160 0 7 (dk_at dksX0_handovers_2 8 rfl rfl)
theorem dX0_handovers_59 : decode cX0_handovers 59 = .ok (.iconst 0, 1) := dk_3 (dk_at dksX0_handovers_2 11 rfl rfl)
theorem dX0_handovers_60 : decode cX0_handovers 60 = .ok (.goto 4, 3) := dk_167 0 4 (dk_at dksX0_handovers_2 12 rfl rfl)
theorem dX0_handovers_63 : decode cX0_handovers 63 = .ok (.iconst (-1), 1) := dk_2 (dk_at dksX0_handovers_2 15 rfl rfl)
theorem dX0_handovers_64 : decode cX0_handovers 64 = .ok (.iastore, 1) := dk_79 (dk_at dksX0_handovers_2 16 rfl rfl)
theorem dX0_handovers_65 : decode cX0_handovers 65 = .ok (.iinc 4 1, 3) := dk_132 4 1 (dk_at dksX0_handovers_2 17 rfl rfl)
theorem dX0_handovers_68 : decode cX0_handovers 68 = .ok (.goto (-41), 3) := dk_167 255 215 (dk_at dksX0_handovers_2 20 rfl rfl)
theorem dX0_handovers_71 : decode cX0_handovers 71 = .ok (.aload_n 0, 1) := dk_42 (dk_at dksX0_handovers_2 23 rfl rfl)
theorem dX0_handovers_72 : decode cX0_handovers 72 = .ok (.aload_n 0, 1) := dk_42 (dk_at dksX0_handovers_3 0 rfl rfl)
theorem dX0_handovers_73 : decode cX0_handovers 73 = .ok (.getfield 90, 3) := dk_180 0 90 (dk_at dksX0_handovers_3 1 rfl rfl)
theorem dX0_handovers_76 : decode cX0_handovers 76 = .ok (.getfield 262, 3) := dk_180 1 6 (dk_at dksX0_handovers_3 4 rfl rfl)
theorem dX0_handovers_79 : decode cX0_handovers 79 = .ok (.iload_n 1, 1) := dk_27 (dk_at dksX0_handovers_3 7 rfl rfl)
theorem dX0_handovers_80 : decode cX0_handovers 80 = .ok (.iaload, 1) := dk_46 (dk_at dksX0_handovers_3 8 rfl rfl)
theorem dX0_handovers_81 : decode cX0_handovers 81 = .ok (.invokevirtual 126, 3) := dk_182 0 126 (dk_at dksX0_handovers_3 9 rfl rfl)
theorem dX0_handovers_84 : decode cX0_handovers 84 = .ok (.ifCond .ne 7, 3) := dk_154 0 7 (dk_at dksX0_handovers_3 12 rfl rfl)
theorem dX0_handovers_87 : decode cX0_handovers 87 = .ok (.iconst 1, 1) := dk_4 (dk_at dksX0_handovers_3 15 rfl rfl)
theorem dX0_handovers_88 : decode cX0_handovers 88 = .ok (.goto 4, 3) := dk_167 0 4 (dk_at dksX0_handovers_3 16 rfl rfl)
theorem dX0_handovers_91 : decode cX0_handovers 91 = .ok (.iconst 0, 1) := dk_3 (dk_at dksX0_handovers_3 19 rfl rfl)
theorem dX0_handovers_92 : decode cX0_handovers 92 = .ok (.istore 4, 2) := dk_54 4 (dk_at dksX0_handovers_3 20 rfl rfl)
theorem dX0_handovers_94 : decode cX0_handovers 94 = .ok (.iconst 1, 1) := dk_4 (dk_at dksX0_handovers_3 22 rfl rfl)
theorem dX0_handovers_95 : decode cX0_handovers 95 = .ok (.istore 5, 2) := dk_54 5 (dk_at dksX0_handovers_4 0 rfl rfl)
theorem dX0_handovers_97 : decode cX0_handovers 97 = .ok (.iload 5, 2) := dk_21 5 (dk_at dksX0_handovers_4 2 rfl rfl)
theorem dX0_handovers_99 : decode cX0_handovers 99 = .ok (.sipush 250, 3) := dk_17 0 250 (dk_at dksX0_handovers_4 4 rfl rfl)
theorem dX0_handovers_102 : decode cX0_handovers 102 = .ok (.if_icmp .gt 61, 3) := dk_163 0 61 (dk_at dksX0_handovers_4 7 rfl rfl)
theorem dX0_handovers_105 : decode cX0_handovers 105 = .ok (.aload_n 0, 1) := dk_42 (dk_at dksX0_handovers_4 10 rfl rfl)
theorem dX0_handovers_106 : decode cX0_handovers 106 = .ok (.iload_n 1, 1) := dk_27 (dk_at dksX0_handovers_4 11 rfl rfl)
theorem dX0_handovers_107 : decode cX0_handovers 107 = .ok (.iload 5, 2) := dk_21 5 (dk_at dksX0_handovers_4 12 rfl rfl)
theorem dX0_handovers_109 : decode cX0_handovers 109 = .ok (.iconst 1, 1) := dk_4 (dk_at dksX0_handovers_4 14 rfl rfl)
theorem dX0_handovers_110 : decode cX0_handovers 110 = .ok (.if_icmp .ne 12, 3) := dk_160 0 12 (dk_at dksX0_handovers_4 15 rfl rfl)
theorem dX0_handovers_113 : decode cX0_handovers 113 = .ok (.iload 4, 2) := dk_21 4 (dk_at dksX0_handovers_4 18 rfl rfl)
theorem dX0_handovers_115 : decode cX0_handovers 115 = .ok (.ifCond .eq 7, 3) := dk_153 0 7 (dk_at dksX0_handovers_4 20 rfl rfl)
theorem dX0_handovers_118 : decode cX0_handovers 118 = .ok (.iconst 1, 1) := dk_4 (dk_at dksX0_handovers_4 23 rfl rfl)
theorem dX0_handovers_119 : decode cX0_handovers 119 = .ok (.goto 4, 3) := dk_167 0 4 (dk_at dksX0_handovers_5 0 rfl rfl)
theorem dX0_handovers_122 : decode cX0_handovers 122 = .ok (.iconst 0, 1) := dk_3 (dk_at dksX0_handovers_5 3 rfl rfl)
theorem dX0_handovers_123 : decode cX0_handovers 123 = .ok (.invokevirtual 343, 3) := dk_182 1 87 (dk_at dksX0_handovers_5 4 rfl rfl)
theorem dX0_handovers_126 : decode cX0_handovers 126 = .ok (.istore 6, 2) := dk_54 6 (dk_at dksX0_handovers_5 7 rfl rfl)
theorem dX0_handovers_128 : decode cX0_handovers 128 = .ok (.iload 6, 2) := dk_21 6 (dk_at dksX0_handovers_5 9 rfl rfl)
theorem dX0_handovers_130 : decode cX0_handovers 130 = .ok (.iload_n 3, 1) := dk_29 (dk_at dksX0_handovers_5 11 rfl rfl)
theorem dX0_handovers_131 : decode cX0_handovers 131 = .ok (.if_icmp .lt 6, 3) := dk_161 0 6 (dk_at dksX0_handovers_5 12 rfl rfl)
theorem dX0_handovers_134 : decode cX0_handovers 134 = .ok (.iload 5, 2) := dk_21 5 (dk_at dksX0_handovers_5 15 rfl rfl)
theorem dX0_handovers_136 : decode cX0_handovers 136 = .ok (.ireturn, 1) := dk_172 (dk_at dksX0_handovers_5 17 rfl rfl)
theorem dX0_handovers_137 : decode cX0_handovers 137 = .ok (.aload_n 0, 1) := dk_42 (dk_at dksX0_handovers_5 18 rfl rfl)
theorem dX0_handovers_138 : decode cX0_handovers 138 = .ok (.getfield 84, 3) := dk_180 0 84 (dk_at dksX0_handovers_5 19 rfl rfl)
theorem dX0_handovers_141 : decode cX0_handovers 141 = .ok (.iconst 0, 1) := dk_3 (dk_at dksX0_handovers_5 22 rfl rfl)
theorem dX0_handovers_142 : decode cX0_handovers 142 = .ok (.aload_n 0, 1) := dk_42 (dk_at dksX0_handovers_5 23 rfl rfl)
theorem dX0_handovers_143 : decode cX0_handovers 143 = .ok (.getfield 81, 3) := dk_180 0 81 (dk_at dksX0_handovers_6 0 rfl rfl)
theorem dX0_handovers_146 : decode cX0_handovers 146 = .ok (.iconst 0, 1) := dk_3 (dk_at dksX0_handovers_6 3 rfl rfl)
theorem dX0_handovers_147 : decode cX0_handovers 147 = .ok (.aload_n 0, 1) := dk_42 (dk_at dksX0_handovers_6 4 rfl rfl)
theorem dX0_handovers_148 : decode cX0_handovers 148 = .ok (.getfield 90, 3) := dk_180 0 90 (dk_at dksX0_handovers_6 5 rfl rfl)
theorem dX0_handovers_151 : decode cX0_handovers 151 = .ok (.getfield 123, 3) := dk_180 0 123 (dk_at dksX0_handovers_6 8 rfl rfl)
theorem dX0_handovers_154 : decode cX0_handovers 154 = .ok (.invokestatic 15, 3) := dk_184 0 15 (dk_at dksX0_handovers_6 11 rfl rfl)
theorem dX0_handovers_157 : decode cX0_handovers 157 = .ok (.iinc 5 1, 3) := dk_132 5 1 (dk_at dksX0_handovers_6 14 rfl rfl)
theorem dX0_handovers_160 : decode cX0_handovers 160 = .ok (.goto (-63), 3) := dk_167 255 193 (dk_at dksX0_handovers_6 17 rfl rfl)
theorem dX0_handovers_163 : decode cX0_handovers 163 = .ok (.iconst (-1), 1) := dk_2 (dk_at dksX0_handovers_6 20 rfl rfl)
theorem dX0_handovers_164 : decode cX0_handovers 164 = .ok (.ireturn, 1) := dk_172 (dk_at dksX0_handovers_6 21 rfl rfl)
theorem dX0_handovers_165 : decode cX0_handovers 165 = .ok (.astore_n 3, 1) := dk_78 (dk_at dksX0_handovers_6 22 rfl rfl)
theorem dX0_handovers_166 : decode cX0_handovers 166 = .ok (.aload_n 0, 1) := dk_42 (dk_at dksX0_handovers_6 23 rfl rfl)
theorem dX0_handovers_167 : decode cX0_handovers 167 = .ok (.aload_n 3, 1) := dk_45 (dk_at dksX0_handovers_7 0 rfl rfl)
theorem dX0_handovers_168 : decode cX0_handovers 168 = .ok (.invokevirtual 173, 3) := dk_182 0 173 (dk_at dksX0_handovers_7 1 rfl rfl)
theorem dX0_handovers_171 : decode cX0_handovers 171 = .ok (.bipush 10, 2) := dk_16 10 (dk_at dksX0_handovers_7 4 rfl rfl)
theorem dX0_handovers_173 : decode cX0_handovers 173 = .ok (.isub, 1) := dk_100 (dk_at dksX0_handovers_7 6 rfl rfl)
theorem dX0_handovers_174 : decode cX0_handovers 174 = .ok (.ireturn, 1) := dk_172 (dk_at dksX0_handovers_7 7 rfl rfl)
abbrev cX0_goesOn : ByteArray := prog_1_method_48_code
def yX0_goesOn : MethodName := ⟨RX0, "goesOn", "(IZ)I"⟩
def dkwX0_goesOn_5 : List UInt8 := [180, 0, 84, 21, 4, 46, 184, 0, 228, 62, 132, 4, 1, 167, 255, 132, 29, 172]
abbrev dktX0_goesOn_5 : List UInt8 := dkwX0_goesOn_5 ++ []
def dkwX0_goesOn_4 : List UInt8 := [21, 5, 2, 159, 0, 8, 21, 6, 154, 0, 7, 2, 167, 0, 8, 21, 5, 21, 6, 96, 79, 29, 42]
abbrev dktX0_goesOn_4 : List UInt8 := dkwX0_goesOn_4 ++ dktX0_goesOn_5
def dkwX0_goesOn_3 : List UInt8 := [132, 6, 1, 167, 255, 215, 42, 180, 0, 90, 21, 4, 27, 182, 1, 48, 54, 6, 42, 180, 0, 84, 21, 4]
abbrev dktX0_goesOn_3 : List UInt8 := dkwX0_goesOn_3 ++ dktX0_goesOn_4
def dkwX0_goesOn_2 : List UInt8 := [21, 4, 159, 0, 18, 21, 5, 42, 180, 0, 81, 21, 6, 46, 184, 0, 228, 167, 0, 5, 21, 5, 54, 5]
abbrev dktX0_goesOn_2 : List UInt8 := dkwX0_goesOn_2 ++ dktX0_goesOn_3
def dkwX0_goesOn_1 : List UInt8 := [167, 0, 4, 2, 54, 5, 3, 54, 6, 21, 6, 42, 180, 0, 90, 180, 0, 123, 162, 0, 35, 21, 6]
abbrev dktX0_goesOn_1 : List UInt8 := dkwX0_goesOn_1 ++ dktX0_goesOn_2
def dkwX0_goesOn_0 : List UInt8 := [2, 62, 3, 54, 4, 21, 4, 42, 180, 0, 90, 180, 0, 123, 162, 0, 118, 28, 153, 0, 7, 3]
abbrev dktX0_goesOn_0 : List UInt8 := dkwX0_goesOn_0 ++ dktX0_goesOn_1
theorem dksX0_goesOn_0 : cX0_goesOn.data.toList.drop 0 = dktX0_goesOn_0 := by decide +kernel
theorem dksX0_goesOn_1 : cX0_goesOn.data.toList.drop 22 = dktX0_goesOn_1 := dk_seg dksX0_goesOn_0 22 rfl rfl
theorem dksX0_goesOn_2 : cX0_goesOn.data.toList.drop 45 = dktX0_goesOn_2 := dk_seg dksX0_goesOn_1 23 rfl rfl
theorem dksX0_goesOn_3 : cX0_goesOn.data.toList.drop 69 = dktX0_goesOn_3 := dk_seg dksX0_goesOn_2 24 rfl rfl
theorem dksX0_goesOn_4 : cX0_goesOn.data.toList.drop 93 = dktX0_goesOn_4 := dk_seg dksX0_goesOn_3 24 rfl rfl
theorem dksX0_goesOn_5 : cX0_goesOn.data.toList.drop 116 = dktX0_goesOn_5 := dk_seg dksX0_goesOn_4 23 rfl rfl
theorem dX0_goesOn_0 : decode cX0_goesOn 0 = .ok (.iconst (-1), 1) := dk_2 (dk_at dksX0_goesOn_0 0 rfl rfl)
theorem dX0_goesOn_1 : decode cX0_goesOn 1 = .ok (.istore_n 3, 1) := dk_62 (dk_at dksX0_goesOn_0 1 rfl rfl)
theorem dX0_goesOn_2 : decode cX0_goesOn 2 = .ok (.iconst 0, 1) := dk_3 (dk_at dksX0_goesOn_0 2 rfl rfl)
theorem dX0_goesOn_3 : decode cX0_goesOn 3 = .ok (.istore 4, 2) := dk_54 4 (dk_at dksX0_goesOn_0 3 rfl rfl)
theorem dX0_goesOn_5 : decode cX0_goesOn 5 = .ok (.iload 4, 2) := dk_21 4 (dk_at dksX0_goesOn_0 5 rfl rfl)
theorem dX0_goesOn_7 : decode cX0_goesOn 7 = .ok (.aload_n 0, 1) := dk_42 (dk_at dksX0_goesOn_0 7 rfl rfl)
theorem dX0_goesOn_8 : decode cX0_goesOn 8 = .ok (.getfield 90, 3) := dk_180 0 90 (dk_at dksX0_goesOn_0 8 rfl rfl)
theorem dX0_goesOn_11 : decode cX0_goesOn 11 = .ok (.getfield 123, 3) := dk_180 0 123 (dk_at dksX0_goesOn_0 11 rfl rfl)
theorem dX0_goesOn_14 : decode cX0_goesOn 14 = .ok (.if_icmp .ge 118, 3) := dk_162 0 118 (dk_at dksX0_goesOn_0 14 rfl rfl)
theorem dX0_goesOn_17 : decode cX0_goesOn 17 = .ok (.iload_n 2, 1) := dk_28 (dk_at dksX0_goesOn_0 17 rfl rfl)
theorem dX0_goesOn_18 : decode cX0_goesOn 18 = .ok (.ifCond .eq 7, 3) := dk_153 0 7 (dk_at dksX0_goesOn_0 18 rfl rfl)
theorem dX0_goesOn_21 : decode cX0_goesOn 21 = .ok (.iconst 0, 1) := dk_3 (dk_at dksX0_goesOn_0 21 rfl rfl)
theorem dX0_goesOn_22 : decode cX0_goesOn 22 = .ok (.goto 4, 3) := dk_167 0 4 (dk_at dksX0_goesOn_1 0 rfl rfl)
theorem dX0_goesOn_25 : decode cX0_goesOn 25 = .ok (.iconst (-1), 1) := dk_2 (dk_at dksX0_goesOn_1 3 rfl rfl)
theorem dX0_goesOn_26 : decode cX0_goesOn 26 = .ok (.istore 5, 2) := dk_54 5 (dk_at dksX0_goesOn_1 4 rfl rfl)
theorem dX0_goesOn_28 : decode cX0_goesOn 28 = .ok (.iconst 0, 1) := dk_3 (dk_at dksX0_goesOn_1 6 rfl rfl)
theorem dX0_goesOn_29 : decode cX0_goesOn 29 = .ok (.istore 6, 2) := dk_54 6 (dk_at dksX0_goesOn_1 7 rfl rfl)
theorem dX0_goesOn_31 : decode cX0_goesOn 31 = .ok (.iload 6, 2) := dk_21 6 (dk_at dksX0_goesOn_1 9 rfl rfl)
theorem dX0_goesOn_33 : decode cX0_goesOn 33 = .ok (.aload_n 0, 1) := dk_42 (dk_at dksX0_goesOn_1 11 rfl rfl)
theorem dX0_goesOn_34 : decode cX0_goesOn 34 = .ok (.getfield 90, 3) := dk_180 0 90 (dk_at dksX0_goesOn_1 12 rfl rfl)
theorem dX0_goesOn_37 : decode cX0_goesOn 37 = .ok (.getfield 123, 3) := dk_180 0 123 (dk_at dksX0_goesOn_1 15 rfl rfl)
theorem dX0_goesOn_40 : decode cX0_goesOn 40 = .ok (.if_icmp .ge 35, 3) := dk_162 0 35 (dk_at dksX0_goesOn_1 18 rfl rfl)
theorem dX0_goesOn_43 : decode cX0_goesOn 43 = .ok (.iload 6, 2) := dk_21 6 (dk_at dksX0_goesOn_1 21 rfl rfl)
theorem dX0_goesOn_45 : decode cX0_goesOn 45 = .ok (.iload 4, 2) := dk_21 4 (dk_at dksX0_goesOn_2 0 rfl rfl)
theorem dX0_goesOn_47 : decode cX0_goesOn 47 = .ok (.if_icmp .eq 18, 3) := dk_159 0 18 (dk_at dksX0_goesOn_2 2 rfl rfl)
theorem dX0_goesOn_50 : decode cX0_goesOn 50 = .ok (.iload 5, 2) := dk_21 5 (dk_at dksX0_goesOn_2 5 rfl rfl)
theorem dX0_goesOn_52 : decode cX0_goesOn 52 = .ok (.aload_n 0, 1) := dk_42 (dk_at dksX0_goesOn_2 7 rfl rfl)
theorem dX0_goesOn_53 : decode cX0_goesOn 53 = .ok (.getfield 81, 3) := dk_180 0 81 (dk_at dksX0_goesOn_2 8 rfl rfl)
theorem dX0_goesOn_56 : decode cX0_goesOn 56 = .ok (.iload 6, 2) := dk_21 6 (dk_at dksX0_goesOn_2 11 rfl rfl)
theorem dX0_goesOn_58 : decode cX0_goesOn 58 = .ok (.iaload, 1) := dk_46 (dk_at dksX0_goesOn_2 13 rfl rfl)
theorem dX0_goesOn_59 : decode cX0_goesOn 59 = .ok (.invokestatic 228, 3) := dk_184 0 228 (dk_at dksX0_goesOn_2 14 rfl rfl)
theorem dX0_goesOn_62 : decode cX0_goesOn 62 = .ok (.goto 5, 3) := dk_167 0 5 (dk_at dksX0_goesOn_2 17 rfl rfl)
theorem dX0_goesOn_65 : decode cX0_goesOn 65 = .ok (.iload 5, 2) := dk_21 5 (dk_at dksX0_goesOn_2 20 rfl rfl)
theorem dX0_goesOn_67 : decode cX0_goesOn 67 = .ok (.istore 5, 2) := dk_54 5 (dk_at dksX0_goesOn_2 22 rfl rfl)
theorem dX0_goesOn_69 : decode cX0_goesOn 69 = .ok (.iinc 6 1, 3) := dk_132 6 1 (dk_at dksX0_goesOn_3 0 rfl rfl)
theorem dX0_goesOn_72 : decode cX0_goesOn 72 = .ok (.goto (-41), 3) := dk_167 255 215 (dk_at dksX0_goesOn_3 3 rfl rfl)
theorem dX0_goesOn_75 : decode cX0_goesOn 75 = .ok (.aload_n 0, 1) := dk_42 (dk_at dksX0_goesOn_3 6 rfl rfl)
theorem dX0_goesOn_76 : decode cX0_goesOn 76 = .ok (.getfield 90, 3) := dk_180 0 90 (dk_at dksX0_goesOn_3 7 rfl rfl)
theorem dX0_goesOn_79 : decode cX0_goesOn 79 = .ok (.iload 4, 2) := dk_21 4 (dk_at dksX0_goesOn_3 10 rfl rfl)
theorem dX0_goesOn_81 : decode cX0_goesOn 81 = .ok (.iload_n 1, 1) := dk_27 (dk_at dksX0_goesOn_3 12 rfl rfl)
theorem dX0_goesOn_82 : decode cX0_goesOn 82 = .ok (.invokevirtual 304, 3) := dk_182 1 48 (dk_at dksX0_goesOn_3 13 rfl rfl)
theorem dX0_goesOn_85 : decode cX0_goesOn 85 = .ok (.istore 6, 2) := dk_54 6 (dk_at dksX0_goesOn_3 16 rfl rfl)
theorem dX0_goesOn_87 : decode cX0_goesOn 87 = .ok (.aload_n 0, 1) := dk_42 (dk_at dksX0_goesOn_3 18 rfl rfl)
theorem dX0_goesOn_88 : decode cX0_goesOn 88 = .ok (.getfield 84, 3) := dk_180 0 84 (dk_at dksX0_goesOn_3 19 rfl rfl)
theorem dX0_goesOn_91 : decode cX0_goesOn 91 = .ok (.iload 4, 2) := dk_21 4 (dk_at dksX0_goesOn_3 22 rfl rfl)
theorem dX0_goesOn_93 : decode cX0_goesOn 93 = .ok (.iload 5, 2) := dk_21 5 (dk_at dksX0_goesOn_4 0 rfl rfl)
theorem dX0_goesOn_95 : decode cX0_goesOn 95 = .ok (.iconst (-1), 1) := dk_2 (dk_at dksX0_goesOn_4 2 rfl rfl)
theorem dX0_goesOn_96 : decode cX0_goesOn 96 = .ok (.if_icmp .eq 8, 3) := dk_159 0 8 (dk_at dksX0_goesOn_4 3 rfl rfl)
theorem dX0_goesOn_99 : decode cX0_goesOn 99 = .ok (.iload 6, 2) := dk_21 6 (dk_at dksX0_goesOn_4 6 rfl rfl)
theorem dX0_goesOn_101 : decode cX0_goesOn 101 = .ok (.ifCond .ne 7, 3) := dk_154 0 7 (dk_at dksX0_goesOn_4 8 rfl rfl)
theorem dX0_goesOn_104 : decode cX0_goesOn 104 = .ok (.iconst (-1), 1) := dk_2 (dk_at dksX0_goesOn_4 11 rfl rfl)
theorem dX0_goesOn_105 : decode cX0_goesOn 105 = .ok (.goto 8, 3) := dk_167 0 8 (dk_at dksX0_goesOn_4 12 rfl rfl)
theorem dX0_goesOn_108 : decode cX0_goesOn 108 = .ok (.iload 5, 2) := dk_21 5 (dk_at dksX0_goesOn_4 15 rfl rfl)
theorem dX0_goesOn_110 : decode cX0_goesOn 110 = .ok (.iload 6, 2) := dk_21 6 (dk_at dksX0_goesOn_4 17 rfl rfl)
theorem dX0_goesOn_112 : decode cX0_goesOn 112 = .ok (.iadd, 1) := dk_96 (dk_at dksX0_goesOn_4 19 rfl rfl)
theorem dX0_goesOn_113 : decode cX0_goesOn 113 = .ok (.iastore, 1) := dk_79 (dk_at dksX0_goesOn_4 20 rfl rfl)
theorem dX0_goesOn_114 : decode cX0_goesOn 114 = .ok (.iload_n 3, 1) := dk_29 (dk_at dksX0_goesOn_4 21 rfl rfl)
theorem dX0_goesOn_115 : decode cX0_goesOn 115 = .ok (.aload_n 0, 1) := dk_42 (dk_at dksX0_goesOn_4 22 rfl rfl)
theorem dX0_goesOn_116 : decode cX0_goesOn 116 = .ok (.getfield 84, 3) := dk_180 0 84 (dk_at dksX0_goesOn_5 0 rfl rfl)
theorem dX0_goesOn_119 : decode cX0_goesOn 119 = .ok (.iload 4, 2) := dk_21 4 (dk_at dksX0_goesOn_5 3 rfl rfl)
theorem dX0_goesOn_121 : decode cX0_goesOn 121 = .ok (.iaload, 1) := dk_46 (dk_at dksX0_goesOn_5 5 rfl rfl)
theorem dX0_goesOn_122 : decode cX0_goesOn 122 = .ok (.invokestatic 228, 3) := dk_184 0 228 (dk_at dksX0_goesOn_5 6 rfl rfl)
theorem dX0_goesOn_125 : decode cX0_goesOn 125 = .ok (.istore_n 3, 1) := dk_62 (dk_at dksX0_goesOn_5 9 rfl rfl)
theorem dX0_goesOn_126 : decode cX0_goesOn 126 = .ok (.iinc 4 1, 3) := dk_132 4 1 (dk_at dksX0_goesOn_5 10 rfl rfl)
theorem dX0_goesOn_129 : decode cX0_goesOn 129 = .ok (.goto (-124), 3) := dk_167 255 132 (dk_at dksX0_goesOn_5 13 rfl rfl)
theorem dX0_goesOn_132 : decode cX0_goesOn 132 = .ok (.iload_n 3, 1) := dk_29 (dk_at dksX0_goesOn_5 16 rfl rfl)
theorem dX0_goesOn_133 : decode cX0_goesOn 133 = .ok (.ireturn, 1) := dk_172 (dk_at dksX0_goesOn_5 17 rfl rfl)
abbrev cX0_shared : ByteArray := prog_1_method_49_code
def yX0_shared : MethodName := ⟨RX0, "shared", "()I"⟩
def dkwX0_shared_0 : List UInt8 := [42, 180, 0, 77, 42, 180, 0, 90, 182, 1, 91, 42, 180, 0, 77, 180, 1, 95, 172]
abbrev dktX0_shared_0 : List UInt8 := dkwX0_shared_0 ++ []
theorem dksX0_shared_0 : cX0_shared.data.toList.drop 0 = dktX0_shared_0 := by decide +kernel
theorem dX0_shared_0 : decode cX0_shared 0 = .ok (.aload_n 0, 1) := dk_42 (dk_at dksX0_shared_0 0 rfl rfl)
theorem dX0_shared_1 : decode cX0_shared 1 = .ok (.getfield 77, 3) := dk_180 0 77 (dk_at dksX0_shared_0 1 rfl rfl)
theorem dX0_shared_4 : decode cX0_shared 4 = .ok (.aload_n 0, 1) := dk_42 (dk_at dksX0_shared_0 4 rfl rfl)
theorem dX0_shared_5 : decode cX0_shared 5 = .ok (.getfield 90, 3) := dk_180 0 90 (dk_at dksX0_shared_0 5 rfl rfl)
theorem dX0_shared_8 : decode cX0_shared 8 = .ok (.invokevirtual 347, 3) := dk_182 1 91 (dk_at dksX0_shared_0 8 rfl rfl)
theorem dX0_shared_11 : decode cX0_shared 11 = .ok (.aload_n 0, 1) := dk_42 (dk_at dksX0_shared_0 11 rfl rfl)
theorem dX0_shared_12 : decode cX0_shared 12 = .ok (.getfield 77, 3) := dk_180 0 77 (dk_at dksX0_shared_0 12 rfl rfl)
theorem dX0_shared_15 : decode cX0_shared 15 = .ok (.getfield 351, 3) := dk_180 1 95 (dk_at dksX0_shared_0 15 rfl rfl)
theorem dX0_shared_18 : decode cX0_shared 18 = .ok (.ireturn, 1) := dk_172 (dk_at dksX0_shared_0 18 rfl rfl)
abbrev cX0_given : ByteArray := prog_1_method_50_code
def yX0_given : MethodName := ⟨RX0, "given", "(I)I"⟩
def dkwX0_given_1 : List UInt8 := [180, 1, 98, 27, 46, 172, 77, 42, 44, 182, 0, 173, 16, 10, 100, 172]
abbrev dktX0_given_1 : List UInt8 := dkwX0_given_1 ++ []
def dkwX0_given_0 : List UInt8 := [42, 27, 182, 0, 126, 2, 184, 0, 115, 42, 180, 0, 77, 42, 180, 0, 90, 182, 1, 91, 42, 180, 0, 77]
abbrev dktX0_given_0 : List UInt8 := dkwX0_given_0 ++ dktX0_given_1
theorem dksX0_given_0 : cX0_given.data.toList.drop 0 = dktX0_given_0 := by decide +kernel
theorem dksX0_given_1 : cX0_given.data.toList.drop 24 = dktX0_given_1 := dk_seg dksX0_given_0 24 rfl rfl
theorem dX0_given_0 : decode cX0_given 0 = .ok (.aload_n 0, 1) := dk_42 (dk_at dksX0_given_0 0 rfl rfl)
theorem dX0_given_1 : decode cX0_given 1 = .ok (.iload_n 1, 1) := dk_27 (dk_at dksX0_given_0 1 rfl rfl)
theorem dX0_given_2 : decode cX0_given 2 = .ok (.invokevirtual 126, 3) := dk_182 0 126 (dk_at dksX0_given_0 2 rfl rfl)
theorem dX0_given_5 : decode cX0_given 5 = .ok (.iconst (-1), 1) := dk_2 (dk_at dksX0_given_0 5 rfl rfl)
theorem dX0_given_6 : decode cX0_given 6 = .ok (.invokestatic 115, 3) := dk_184 0 115 (dk_at dksX0_given_0 6 rfl rfl)
theorem dX0_given_9 : decode cX0_given 9 = .ok (.aload_n 0, 1) := dk_42 (dk_at dksX0_given_0 9 rfl rfl)
theorem dX0_given_10 : decode cX0_given 10 = .ok (.getfield 77, 3) := dk_180 0 77 (dk_at dksX0_given_0 10 rfl rfl)
theorem dX0_given_13 : decode cX0_given 13 = .ok (.aload_n 0, 1) := dk_42 (dk_at dksX0_given_0 13 rfl rfl)
theorem dX0_given_14 : decode cX0_given 14 = .ok (.getfield 90, 3) := dk_180 0 90 (dk_at dksX0_given_0 14 rfl rfl)
theorem dX0_given_17 : decode cX0_given 17 = .ok (.invokevirtual 347, 3) := dk_182 1 91 (dk_at dksX0_given_0 17 rfl rfl)
theorem dX0_given_20 : decode cX0_given 20 = .ok (.aload_n 0, 1) := dk_42 (dk_at dksX0_given_0 20 rfl rfl)
theorem dX0_given_21 : decode cX0_given 21 = .ok (.getfield 77, 3) := dk_180 0 77 (dk_at dksX0_given_0 21 rfl rfl)
theorem dX0_given_24 : decode cX0_given 24 = .ok (.getfield 354, 3) := dk_180 1 98 (dk_at dksX0_given_1 0 rfl rfl)
theorem dX0_given_27 : decode cX0_given 27 = .ok (.iload_n 1, 1) := dk_27 (dk_at dksX0_given_1 3 rfl rfl)
theorem dX0_given_28 : decode cX0_given 28 = .ok (.iaload, 1) := dk_46 (dk_at dksX0_given_1 4 rfl rfl)
theorem dX0_given_29 : decode cX0_given 29 = .ok (.ireturn, 1) := dk_172 (dk_at dksX0_given_1 5 rfl rfl)
theorem dX0_given_30 : decode cX0_given 30 = .ok (.astore_n 2, 1) := dk_77 (dk_at dksX0_given_1 6 rfl rfl)
theorem dX0_given_31 : decode cX0_given 31 = .ok (.aload_n 0, 1) := dk_42 (dk_at dksX0_given_1 7 rfl rfl)
theorem dX0_given_32 : decode cX0_given 32 = .ok (.aload_n 2, 1) := dk_44 (dk_at dksX0_given_1 8 rfl rfl)
theorem dX0_given_33 : decode cX0_given 33 = .ok (.invokevirtual 173, 3) := dk_182 0 173 (dk_at dksX0_given_1 9 rfl rfl)
theorem dX0_given_36 : decode cX0_given 36 = .ok (.bipush 10, 2) := dk_16 10 (dk_at dksX0_given_1 12 rfl rfl)
theorem dX0_given_38 : decode cX0_given 38 = .ok (.isub, 1) := dk_100 (dk_at dksX0_given_1 14 rfl rfl)
theorem dX0_given_39 : decode cX0_given 39 = .ok (.ireturn, 1) := dk_172 (dk_at dksX0_given_1 15 rfl rfl)
abbrev cX0_mill : ByteArray := prog_1_method_51_code
def yX0_mill : MethodName := ⟨RX0, "mill", "(III)I"⟩
def dkwX0_mill_4 : List UInt8 := [167, 255, 220, 21, 7, 172, 58, 4, 42, 25, 4, 182, 0, 173, 16, 10, 100, 172]
abbrev dktX0_mill_4 : List UInt8 := dkwX0_mill_4 ++ []
def dkwX0_mill_3 : List UInt8 := [28, 182, 1, 84, 54, 8, 21, 8, 21, 6, 160, 0, 5, 2, 172, 21, 8, 54, 6, 132, 7, 1]
abbrev dktX0_mill_3 : List UInt8 := dkwX0_mill_3 ++ dktX0_mill_4
def dkwX0_mill_2 : List UInt8 := [180, 0, 132, 27, 46, 54, 6, 3, 54, 7, 21, 6, 28, 162, 0, 36, 42, 180, 0, 90, 21, 6, 21, 5]
abbrev dktX0_mill_2 : List UInt8 := dkwX0_mill_2 ++ dktX0_mill_3
def dkwX0_mill_1 : List UInt8 := [184, 0, 115, 25, 4, 29, 42, 180, 0, 90, 180, 0, 237, 182, 1, 101, 54, 5, 42, 180, 0, 90]
abbrev dktX0_mill_1 : List UInt8 := dkwX0_mill_1 ++ dktX0_mill_2
def dkwX0_mill_0 : List UInt8 := [42, 27, 182, 0, 193, 58, 4, 42, 27, 28, 182, 1, 68, 29, 133, 10, 20, 0, 203, 184, 0, 107, 16, 250]
abbrev dktX0_mill_0 : List UInt8 := dkwX0_mill_0 ++ dktX0_mill_1
theorem dksX0_mill_0 : cX0_mill.data.toList.drop 0 = dktX0_mill_0 := by decide +kernel
theorem dksX0_mill_1 : cX0_mill.data.toList.drop 24 = dktX0_mill_1 := dk_seg dksX0_mill_0 24 rfl rfl
theorem dksX0_mill_2 : cX0_mill.data.toList.drop 46 = dktX0_mill_2 := dk_seg dksX0_mill_1 22 rfl rfl
theorem dksX0_mill_3 : cX0_mill.data.toList.drop 70 = dktX0_mill_3 := dk_seg dksX0_mill_2 24 rfl rfl
theorem dksX0_mill_4 : cX0_mill.data.toList.drop 92 = dktX0_mill_4 := dk_seg dksX0_mill_3 22 rfl rfl
theorem dX0_mill_0 : decode cX0_mill 0 = .ok (.aload_n 0, 1) := dk_42 (dk_at dksX0_mill_0 0 rfl rfl)
theorem dX0_mill_1 : decode cX0_mill 1 = .ok (.iload_n 1, 1) := dk_27 (dk_at dksX0_mill_0 1 rfl rfl)
theorem dX0_mill_2 : decode cX0_mill 2 = .ok (.invokevirtual 193, 3) := dk_182 0 193 (dk_at dksX0_mill_0 2 rfl rfl)
theorem dX0_mill_5 : decode cX0_mill 5 = .ok (.astore 4, 2) := dk_58 4 (dk_at dksX0_mill_0 5 rfl rfl)
theorem dX0_mill_7 : decode cX0_mill 7 = .ok (.aload_n 0, 1) := dk_42 (dk_at dksX0_mill_0 7 rfl rfl)
theorem dX0_mill_8 : decode cX0_mill 8 = .ok (.iload_n 1, 1) := dk_27 (dk_at dksX0_mill_0 8 rfl rfl)
theorem dX0_mill_9 : decode cX0_mill 9 = .ok (.iload_n 2, 1) := dk_28 (dk_at dksX0_mill_0 9 rfl rfl)
theorem dX0_mill_10 : decode cX0_mill 10 = .ok (.invokevirtual 324, 3) := dk_182 1 68 (dk_at dksX0_mill_0 10 rfl rfl)
theorem dX0_mill_13 : decode cX0_mill 13 = .ok (.iload_n 3, 1) := dk_29 (dk_at dksX0_mill_0 13 rfl rfl)
theorem dX0_mill_14 : decode cX0_mill 14 = .ok (.i2l, 1) := dk_133 (dk_at dksX0_mill_0 14 rfl rfl)
theorem dX0_mill_15 : decode cX0_mill 15 = .ok (.lconst 1, 1) := dk_10 (dk_at dksX0_mill_0 15 rfl rfl)
theorem dX0_mill_16 : decode cX0_mill 16 = .ok (.ldc2_w 203, 3) := dk_20 0 203 (dk_at dksX0_mill_0 16 rfl rfl)
theorem dX0_mill_19 : decode cX0_mill 19 = .ok (.invokestatic 107, 3) := dk_184 0 107 (dk_at dksX0_mill_0 19 rfl rfl)
theorem dX0_mill_22 : decode cX0_mill 22 = .ok (.bipush (-6), 2) := dk_16 250 (dk_at dksX0_mill_0 22 rfl rfl)
theorem dX0_mill_24 : decode cX0_mill 24 = .ok (.invokestatic 115, 3) := dk_184 0 115 (dk_at dksX0_mill_1 0 rfl rfl)
theorem dX0_mill_27 : decode cX0_mill 27 = .ok (.aload 4, 2) := dk_25 4 (dk_at dksX0_mill_1 3 rfl rfl)
theorem dX0_mill_29 : decode cX0_mill 29 = .ok (.iload_n 3, 1) := dk_29 (dk_at dksX0_mill_1 5 rfl rfl)
theorem dX0_mill_30 : decode cX0_mill 30 = .ok (.aload_n 0, 1) := dk_42 (dk_at dksX0_mill_1 6 rfl rfl)
theorem dX0_mill_31 : decode cX0_mill 31 = .ok (.getfield 90, 3) := dk_180 0 90 (dk_at dksX0_mill_1 7 rfl rfl)
theorem dX0_mill_34 : decode cX0_mill 34 = .ok (.getfield 237, 3) := dk_180 0 237 (dk_at dksX0_mill_1 10 rfl rfl)
theorem dX0_mill_37 : decode cX0_mill 37 = .ok (.invokevirtual 357, 3) := dk_182 1 101 (dk_at dksX0_mill_1 13 rfl rfl)
theorem dX0_mill_40 : decode cX0_mill 40 = .ok (.istore 5, 2) := dk_54 5 (dk_at dksX0_mill_1 16 rfl rfl)
theorem dX0_mill_42 : decode cX0_mill 42 = .ok (.aload_n 0, 1) := dk_42 (dk_at dksX0_mill_1 18 rfl rfl)
theorem dX0_mill_43 : decode cX0_mill 43 = .ok (.getfield 90, 3) := dk_180 0 90 (dk_at dksX0_mill_1 19 rfl rfl)
theorem dX0_mill_46 : decode cX0_mill 46 = .ok (.getfield 132, 3) := dk_180 0 132 (dk_at dksX0_mill_2 0 rfl rfl)
theorem dX0_mill_49 : decode cX0_mill 49 = .ok (.iload_n 1, 1) := dk_27 (dk_at dksX0_mill_2 3 rfl rfl)
theorem dX0_mill_50 : decode cX0_mill 50 = .ok (.iaload, 1) := dk_46 (dk_at dksX0_mill_2 4 rfl rfl)
theorem dX0_mill_51 : decode cX0_mill 51 = .ok (.istore 6, 2) := dk_54 6 (dk_at dksX0_mill_2 5 rfl rfl)
theorem dX0_mill_53 : decode cX0_mill 53 = .ok (.iconst 0, 1) := dk_3 (dk_at dksX0_mill_2 7 rfl rfl)
theorem dX0_mill_54 : decode cX0_mill 54 = .ok (.istore 7, 2) := dk_54 7 (dk_at dksX0_mill_2 8 rfl rfl)
theorem dX0_mill_56 : decode cX0_mill 56 = .ok (.iload 6, 2) := dk_21 6 (dk_at dksX0_mill_2 10 rfl rfl)
theorem dX0_mill_58 : decode cX0_mill 58 = .ok (.iload_n 2, 1) := dk_28 (dk_at dksX0_mill_2 12 rfl rfl)
theorem dX0_mill_59 : decode cX0_mill 59 = .ok (.if_icmp .ge 36, 3) := dk_162 0 36 (dk_at dksX0_mill_2 13 rfl rfl)
theorem dX0_mill_62 : decode cX0_mill 62 = .ok (.aload_n 0, 1) := dk_42 (dk_at dksX0_mill_2 16 rfl rfl)
theorem dX0_mill_63 : decode cX0_mill 63 = .ok (.getfield 90, 3) := dk_180 0 90 (dk_at dksX0_mill_2 17 rfl rfl)
theorem dX0_mill_66 : decode cX0_mill 66 = .ok (.iload 6, 2) := dk_21 6 (dk_at dksX0_mill_2 20 rfl rfl)
theorem dX0_mill_68 : decode cX0_mill 68 = .ok (.iload 5, 2) := dk_21 5 (dk_at dksX0_mill_2 22 rfl rfl)
theorem dX0_mill_70 : decode cX0_mill 70 = .ok (.iload_n 2, 1) := dk_28 (dk_at dksX0_mill_3 0 rfl rfl)
theorem dX0_mill_71 : decode cX0_mill 71 = .ok (.invokevirtual 340, 3) := dk_182 1 84 (dk_at dksX0_mill_3 1 rfl rfl)
theorem dX0_mill_74 : decode cX0_mill 74 = .ok (.istore 8, 2) := dk_54 8 (dk_at dksX0_mill_3 4 rfl rfl)
theorem dX0_mill_76 : decode cX0_mill 76 = .ok (.iload 8, 2) := dk_21 8 (dk_at dksX0_mill_3 6 rfl rfl)
theorem dX0_mill_78 : decode cX0_mill 78 = .ok (.iload 6, 2) := dk_21 6 (dk_at dksX0_mill_3 8 rfl rfl)
theorem dX0_mill_80 : decode cX0_mill 80 = .ok (.if_icmp .ne 5, 3) := dk_160 0 5 (dk_at dksX0_mill_3 10 rfl rfl)
theorem dX0_mill_83 : decode cX0_mill 83 = .ok (.iconst (-1), 1) := dk_2 (dk_at dksX0_mill_3 13 rfl rfl)
theorem dX0_mill_84 : decode cX0_mill 84 = .ok (.ireturn, 1) := dk_172 (dk_at dksX0_mill_3 14 rfl rfl)
theorem dX0_mill_85 : decode cX0_mill 85 = .ok (.iload 8, 2) := dk_21 8 (dk_at dksX0_mill_3 15 rfl rfl)
theorem dX0_mill_87 : decode cX0_mill 87 = .ok (.istore 6, 2) := dk_54 6 (dk_at dksX0_mill_3 17 rfl rfl)
theorem dX0_mill_89 : decode cX0_mill 89 = .ok (.iinc 7 1, 3) := dk_132 7 1 (dk_at dksX0_mill_3 19 rfl rfl)
theorem dX0_mill_92 : decode cX0_mill 92 = .ok (.goto (-36), 3) := dk_167 255 220 (dk_at dksX0_mill_4 0 rfl rfl)
theorem dX0_mill_95 : decode cX0_mill 95 = .ok (.iload 7, 2) := dk_21 7 (dk_at dksX0_mill_4 3 rfl rfl)
theorem dX0_mill_97 : decode cX0_mill 97 = .ok (.ireturn, 1) := dk_172 (dk_at dksX0_mill_4 5 rfl rfl)
theorem dX0_mill_98 : decode cX0_mill 98 = .ok (.astore 4, 2) := dk_58 4 (dk_at dksX0_mill_4 6 rfl rfl)
theorem dX0_mill_100 : decode cX0_mill 100 = .ok (.aload_n 0, 1) := dk_42 (dk_at dksX0_mill_4 8 rfl rfl)
theorem dX0_mill_101 : decode cX0_mill 101 = .ok (.aload 4, 2) := dk_25 4 (dk_at dksX0_mill_4 9 rfl rfl)
theorem dX0_mill_103 : decode cX0_mill 103 = .ok (.invokevirtual 173, 3) := dk_182 0 173 (dk_at dksX0_mill_4 11 rfl rfl)
theorem dX0_mill_106 : decode cX0_mill 106 = .ok (.bipush 10, 2) := dk_16 10 (dk_at dksX0_mill_4 14 rfl rfl)
theorem dX0_mill_108 : decode cX0_mill 108 = .ok (.isub, 1) := dk_100 (dk_at dksX0_mill_4 16 rfl rfl)
theorem dX0_mill_109 : decode cX0_mill 109 = .ok (.ireturn, 1) := dk_172 (dk_at dksX0_mill_4 17 rfl rfl)
abbrev cX0_weakest : ByteArray := prog_1_method_52_code
def yX0_weakest : MethodName := ⟨RX0, "weakest", "(II)I"⟩
def dkwX0_weakest_5 : List UInt8 := [54, 4, 132, 5, 1, 167, 255, 182, 21, 4, 172, 78, 42, 45, 182, 0, 173, 172]
abbrev dktX0_weakest_5 : List UInt8 := dkwX0_weakest_5 ++ []
def dkwX0_weakest_4 : List UInt8 := [130, 126, 46, 45, 28, 4, 21, 4, 120, 2, 130, 126, 46, 164, 0, 8, 21, 5, 167, 0, 5, 21, 4]
abbrev dktX0_weakest_4 : List UInt8 := dkwX0_weakest_4 ++ dktX0_weakest_5
def dkwX0_weakest_3 : List UInt8 := [167, 0, 4, 3, 54, 6, 21, 6, 153, 0, 37, 21, 4, 2, 159, 0, 26, 45, 28, 4, 21, 5, 120, 2]
abbrev dktX0_weakest_3 : List UInt8 := dkwX0_weakest_3 ++ dktX0_weakest_4
def dkwX0_weakest_2 : List UInt8 := [21, 5, 42, 180, 0, 90, 180, 0, 123, 162, 0, 68, 28, 21, 5, 122, 4, 126, 153, 0, 7, 4]
abbrev dktX0_weakest_2 : List UInt8 := dkwX0_weakest_2 ++ dktX0_weakest_3
def dkwX0_weakest_1 : List UInt8 := [16, 251, 184, 0, 115, 42, 27, 42, 180, 0, 90, 180, 0, 234, 182, 1, 64, 78, 2, 54, 4, 3, 54, 5]
abbrev dktX0_weakest_1 : List UInt8 := dkwX0_weakest_1 ++ dktX0_weakest_2
def dkwX0_weakest_0 : List UInt8 := [42, 27, 182, 0, 193, 87, 42, 28, 182, 1, 61, 2, 184, 0, 115, 28, 153, 0, 7, 4, 167, 0, 4, 3]
abbrev dktX0_weakest_0 : List UInt8 := dkwX0_weakest_0 ++ dktX0_weakest_1
theorem dksX0_weakest_0 : cX0_weakest.data.toList.drop 0 = dktX0_weakest_0 := by decide +kernel
theorem dksX0_weakest_1 : cX0_weakest.data.toList.drop 24 = dktX0_weakest_1 := dk_seg dksX0_weakest_0 24 rfl rfl
theorem dksX0_weakest_2 : cX0_weakest.data.toList.drop 48 = dktX0_weakest_2 := dk_seg dksX0_weakest_1 24 rfl rfl
theorem dksX0_weakest_3 : cX0_weakest.data.toList.drop 70 = dktX0_weakest_3 := dk_seg dksX0_weakest_2 22 rfl rfl
theorem dksX0_weakest_4 : cX0_weakest.data.toList.drop 94 = dktX0_weakest_4 := dk_seg dksX0_weakest_3 24 rfl rfl
theorem dksX0_weakest_5 : cX0_weakest.data.toList.drop 117 = dktX0_weakest_5 := dk_seg dksX0_weakest_4 23 rfl rfl
theorem dX0_weakest_0 : decode cX0_weakest 0 = .ok (.aload_n 0, 1) := dk_42 (dk_at dksX0_weakest_0 0 rfl rfl)
theorem dX0_weakest_1 : decode cX0_weakest 1 = .ok (.iload_n 1, 1) := dk_27 (dk_at dksX0_weakest_0 1 rfl rfl)
theorem dX0_weakest_2 : decode cX0_weakest 2 = .ok (.invokevirtual 193, 3) := dk_182 0 193 (dk_at dksX0_weakest_0 2 rfl rfl)
theorem dX0_weakest_5 : decode cX0_weakest 5 = .ok (.pop, 1) := dk_87 (dk_at dksX0_weakest_0 5 rfl rfl)
theorem dX0_weakest_6 : decode cX0_weakest 6 = .ok (.aload_n 0, 1) := dk_42 (dk_at dksX0_weakest_0 6 rfl rfl)
theorem dX0_weakest_7 : decode cX0_weakest 7 = .ok (.iload_n 2, 1) := dk_28 (dk_at dksX0_weakest_0 7 rfl rfl)
theorem dX0_weakest_8 : decode cX0_weakest 8 = .ok (.invokevirtual 317, 3) := dk_182 1 61 (dk_at dksX0_weakest_0 8 rfl rfl)
theorem dX0_weakest_11 : decode cX0_weakest 11 = .ok (.iconst (-1), 1) := dk_2 (dk_at dksX0_weakest_0 11 rfl rfl)
theorem dX0_weakest_12 : decode cX0_weakest 12 = .ok (.invokestatic 115, 3) := dk_184 0 115 (dk_at dksX0_weakest_0 12 rfl rfl)
theorem dX0_weakest_15 : decode cX0_weakest 15 = .ok (.iload_n 2, 1) := dk_28 (dk_at dksX0_weakest_0 15 rfl rfl)
theorem dX0_weakest_16 : decode cX0_weakest 16 = .ok (.ifCond .eq 7, 3) := dk_153 0 7 (dk_at dksX0_weakest_0 16 rfl rfl)
theorem dX0_weakest_19 : decode cX0_weakest 19 = .ok (.iconst 1, 1) := dk_4 (dk_at dksX0_weakest_0 19 rfl rfl)
theorem dX0_weakest_20 : decode cX0_weakest 20 = .ok (.goto 4, 3) := dk_167 0 4 (dk_at dksX0_weakest_0 20 rfl rfl)
theorem dX0_weakest_23 : decode cX0_weakest 23 = .ok (.iconst 0, 1) := dk_3 (dk_at dksX0_weakest_0 23 rfl rfl)
theorem dX0_weakest_24 : decode cX0_weakest 24 = .ok (.bipush (-5), 2) := dk_16 251 (dk_at dksX0_weakest_1 0 rfl rfl)
theorem dX0_weakest_26 : decode cX0_weakest 26 = .ok (.invokestatic 115, 3) := dk_184 0 115 (dk_at dksX0_weakest_1 2 rfl rfl)
theorem dX0_weakest_29 : decode cX0_weakest 29 = .ok (.aload_n 0, 1) := dk_42 (dk_at dksX0_weakest_1 5 rfl rfl)
theorem dX0_weakest_30 : decode cX0_weakest 30 = .ok (.iload_n 1, 1) := dk_27 (dk_at dksX0_weakest_1 6 rfl rfl)
theorem dX0_weakest_31 : decode cX0_weakest 31 = .ok (.aload_n 0, 1) := dk_42 (dk_at dksX0_weakest_1 7 rfl rfl)
theorem dX0_weakest_32 : decode cX0_weakest 32 = .ok (.getfield 90, 3) := dk_180 0 90 (dk_at dksX0_weakest_1 8 rfl rfl)
theorem dX0_weakest_35 : decode cX0_weakest 35 = .ok (.getfield 234, 3) := dk_180 0 234 (dk_at dksX0_weakest_1 11 rfl rfl)
theorem dX0_weakest_38 : decode cX0_weakest 38 = .ok (.invokevirtual 320, 3) := dk_182 1 64 (dk_at dksX0_weakest_1 14 rfl rfl)
theorem dX0_weakest_41 : decode cX0_weakest 41 = .ok (.astore_n 3, 1) := dk_78 (dk_at dksX0_weakest_1 17 rfl rfl)
theorem dX0_weakest_42 : decode cX0_weakest 42 = .ok (.iconst (-1), 1) := dk_2 (dk_at dksX0_weakest_1 18 rfl rfl)
theorem dX0_weakest_43 : decode cX0_weakest 43 = .ok (.istore 4, 2) := dk_54 4 (dk_at dksX0_weakest_1 19 rfl rfl)
theorem dX0_weakest_45 : decode cX0_weakest 45 = .ok (.iconst 0, 1) := dk_3 (dk_at dksX0_weakest_1 21 rfl rfl)
theorem dX0_weakest_46 : decode cX0_weakest 46 = .ok (.istore 5, 2) := dk_54 5 (dk_at dksX0_weakest_1 22 rfl rfl)
theorem dX0_weakest_48 : decode cX0_weakest 48 = .ok (.iload 5, 2) := dk_21 5 (dk_at dksX0_weakest_2 0 rfl rfl)
theorem dX0_weakest_50 : decode cX0_weakest 50 = .ok (.aload_n 0, 1) := dk_42 (dk_at dksX0_weakest_2 2 rfl rfl)
theorem dX0_weakest_51 : decode cX0_weakest 51 = .ok (.getfield 90, 3) := dk_180 0 90 (dk_at dksX0_weakest_2 3 rfl rfl)
theorem dX0_weakest_54 : decode cX0_weakest 54 = .ok (.getfield 123, 3) := dk_180 0 123 (dk_at dksX0_weakest_2 6 rfl rfl)
theorem dX0_weakest_57 : decode cX0_weakest 57 = .ok (.if_icmp .ge 68, 3) := dk_162 0 68 (dk_at dksX0_weakest_2 9 rfl rfl)
theorem dX0_weakest_60 : decode cX0_weakest 60 = .ok (.iload_n 2, 1) := dk_28 (dk_at dksX0_weakest_2 12 rfl rfl)
theorem dX0_weakest_61 : decode cX0_weakest 61 = .ok (.iload 5, 2) := dk_21 5 (dk_at dksX0_weakest_2 13 rfl rfl)
theorem dX0_weakest_63 : decode cX0_weakest 63 = .ok (.ishr, 1) := dk_122 (dk_at dksX0_weakest_2 15 rfl rfl)
theorem dX0_weakest_64 : decode cX0_weakest 64 = .ok (.iconst 1, 1) := dk_4 (dk_at dksX0_weakest_2 16 rfl rfl)
theorem dX0_weakest_65 : decode cX0_weakest 65 = .ok (.iand, 1) := dk_126 (dk_at dksX0_weakest_2 17 rfl rfl)
theorem dX0_weakest_66 : decode cX0_weakest 66 = .ok (.ifCond .eq 7, 3) := dk_153 0 7 (dk_at dksX0_weakest_2 18 rfl rfl)
theorem dX0_weakest_69 : decode cX0_weakest 69 = .ok (.iconst 1, 1) := dk_4 (dk_at dksX0_weakest_2 21 rfl rfl)
theorem dX0_weakest_70 : decode cX0_weakest 70 = .ok (.goto 4, 3) := dk_167 0 4 (dk_at dksX0_weakest_3 0 rfl rfl)
theorem dX0_weakest_73 : decode cX0_weakest 73 = .ok (.iconst 0, 1) := dk_3 (dk_at dksX0_weakest_3 3 rfl rfl)
theorem dX0_weakest_74 : decode cX0_weakest 74 = .ok (.istore 6, 2) := dk_54 6 (dk_at dksX0_weakest_3 4 rfl rfl)
theorem dX0_weakest_76 : decode cX0_weakest 76 = .ok (.iload 6, 2) := dk_21 6 (dk_at dksX0_weakest_3 6 rfl rfl)
theorem dX0_weakest_78 : decode cX0_weakest 78 = .ok (.ifCond .eq 37, 3) := dk_153 0 37 (dk_at dksX0_weakest_3 8 rfl rfl)
theorem dX0_weakest_81 : decode cX0_weakest 81 = .ok (.iload 4, 2) := dk_21 4 (dk_at dksX0_weakest_3 11 rfl rfl)
theorem dX0_weakest_83 : decode cX0_weakest 83 = .ok (.iconst (-1), 1) := dk_2 (dk_at dksX0_weakest_3 13 rfl rfl)
theorem dX0_weakest_84 : decode cX0_weakest 84 = .ok (.if_icmp .eq 26, 3) := dk_159 0 26 (dk_at dksX0_weakest_3 14 rfl rfl)
theorem dX0_weakest_87 : decode cX0_weakest 87 = .ok (.aload_n 3, 1) := dk_45 (dk_at dksX0_weakest_3 17 rfl rfl)
theorem dX0_weakest_88 : decode cX0_weakest 88 = .ok (.iload_n 2, 1) := dk_28 (dk_at dksX0_weakest_3 18 rfl rfl)
theorem dX0_weakest_89 : decode cX0_weakest 89 = .ok (.iconst 1, 1) := dk_4 (dk_at dksX0_weakest_3 19 rfl rfl)
theorem dX0_weakest_90 : decode cX0_weakest 90 = .ok (.iload 5, 2) := dk_21 5 (dk_at dksX0_weakest_3 20 rfl rfl)
theorem dX0_weakest_92 : decode cX0_weakest 92 = .ok (.ishl, 1) := dk_120 (dk_at dksX0_weakest_3 22 rfl rfl)
theorem dX0_weakest_93 : decode cX0_weakest 93 = .ok (.iconst (-1), 1) := dk_2 (dk_at dksX0_weakest_3 23 rfl rfl)
theorem dX0_weakest_94 : decode cX0_weakest 94 = .ok (.ixor, 1) := dk_130 (dk_at dksX0_weakest_4 0 rfl rfl)
theorem dX0_weakest_95 : decode cX0_weakest 95 = .ok (.iand, 1) := dk_126 (dk_at dksX0_weakest_4 1 rfl rfl)
theorem dX0_weakest_96 : decode cX0_weakest 96 = .ok (.iaload, 1) := dk_46 (dk_at dksX0_weakest_4 2 rfl rfl)
theorem dX0_weakest_97 : decode cX0_weakest 97 = .ok (.aload_n 3, 1) := dk_45 (dk_at dksX0_weakest_4 3 rfl rfl)
theorem dX0_weakest_98 : decode cX0_weakest 98 = .ok (.iload_n 2, 1) := dk_28 (dk_at dksX0_weakest_4 4 rfl rfl)
theorem dX0_weakest_99 : decode cX0_weakest 99 = .ok (.iconst 1, 1) := dk_4 (dk_at dksX0_weakest_4 5 rfl rfl)
theorem dX0_weakest_100 : decode cX0_weakest 100 = .ok (.iload 4, 2) := dk_21 4 (dk_at dksX0_weakest_4 6 rfl rfl)
theorem dX0_weakest_102 : decode cX0_weakest 102 = .ok (.ishl, 1) := dk_120 (dk_at dksX0_weakest_4 8 rfl rfl)
theorem dX0_weakest_103 : decode cX0_weakest 103 = .ok (.iconst (-1), 1) := dk_2 (dk_at dksX0_weakest_4 9 rfl rfl)
theorem dX0_weakest_104 : decode cX0_weakest 104 = .ok (.ixor, 1) := dk_130 (dk_at dksX0_weakest_4 10 rfl rfl)
theorem dX0_weakest_105 : decode cX0_weakest 105 = .ok (.iand, 1) := dk_126 (dk_at dksX0_weakest_4 11 rfl rfl)
theorem dX0_weakest_106 : decode cX0_weakest 106 = .ok (.iaload, 1) := dk_46 (dk_at dksX0_weakest_4 12 rfl rfl)
theorem dX0_weakest_107 : decode cX0_weakest 107 = .ok (.if_icmp .le 8, 3) := dk_164 0 8 (dk_at dksX0_weakest_4 13 rfl rfl)
theorem dX0_weakest_110 : decode cX0_weakest 110 = .ok (.iload 5, 2) := dk_21 5 (dk_at dksX0_weakest_4 16 rfl rfl)
theorem dX0_weakest_112 : decode cX0_weakest 112 = .ok (.goto 5, 3) := dk_167 0 5 (dk_at dksX0_weakest_4 18 rfl rfl)
theorem dX0_weakest_115 : decode cX0_weakest 115 = .ok (.iload 4, 2) := dk_21 4 (dk_at dksX0_weakest_4 21 rfl rfl)
theorem dX0_weakest_117 : decode cX0_weakest 117 = .ok (.istore 4, 2) := dk_54 4 (dk_at dksX0_weakest_5 0 rfl rfl)
theorem dX0_weakest_119 : decode cX0_weakest 119 = .ok (.iinc 5 1, 3) := dk_132 5 1 (dk_at dksX0_weakest_5 2 rfl rfl)
theorem dX0_weakest_122 : decode cX0_weakest 122 = .ok (.goto (-74), 3) := dk_167 255 182 (dk_at dksX0_weakest_5 5 rfl rfl)
theorem dX0_weakest_125 : decode cX0_weakest 125 = .ok (.iload 4, 2) := dk_21 4 (dk_at dksX0_weakest_5 8 rfl rfl)
theorem dX0_weakest_127 : decode cX0_weakest 127 = .ok (.ireturn, 1) := dk_172 (dk_at dksX0_weakest_5 10 rfl rfl)
theorem dX0_weakest_128 : decode cX0_weakest 128 = .ok (.astore_n 3, 1) := dk_78 (dk_at dksX0_weakest_5 11 rfl rfl)
theorem dX0_weakest_129 : decode cX0_weakest 129 = .ok (.aload_n 0, 1) := dk_42 (dk_at dksX0_weakest_5 12 rfl rfl)
theorem dX0_weakest_130 : decode cX0_weakest 130 = .ok (.aload_n 3, 1) := dk_45 (dk_at dksX0_weakest_5 13 rfl rfl)
theorem dX0_weakest_131 : decode cX0_weakest 131 = .ok (.invokevirtual 173, 3) := dk_182 0 173 (dk_at dksX0_weakest_5 14 rfl rfl)
theorem dX0_weakest_134 : decode cX0_weakest 134 = .ok (.ireturn, 1) := dk_172 (dk_at dksX0_weakest_5 17 rfl rfl)
abbrev cX0_helps : ByteArray := prog_1_method_53_code
def yX0_helps : MethodName := ⟨RX0, "helps", "(IIII)I"⟩
def dkwX0_helps_10 : List UInt8 := [21, 5, 79, 25, 8, 191]
abbrev dktX0_helps_10 : List UInt8 := dkwX0_helps_10 ++ []
def dkwX0_helps_9 : List UInt8 := [21, 7, 172, 58, 8, 42, 21, 4, 182, 0, 126, 153, 0, 15, 42, 180, 0, 90, 180, 1, 13, 21, 4]
abbrev dktX0_helps_9 : List UInt8 := dkwX0_helps_9 ++ dktX0_helps_10
def dkwX0_helps_8 : List UInt8 := [100, 54, 7, 42, 21, 4, 182, 0, 126, 153, 0, 15, 42, 180, 0, 90, 180, 1, 13, 21, 4, 21, 5, 79]
abbrev dktX0_helps_8 : List UInt8 := dkwX0_helps_8 ++ dktX0_helps_9
def dkwX0_helps_7 : List UInt8 := [180, 0, 90, 180, 1, 13, 21, 4, 21, 5, 79, 21, 6, 172, 58, 6, 42, 25, 6, 182, 0, 173, 16, 10]
abbrev dktX0_helps_7 : List UInt8 := dkwX0_helps_7 ++ dktX0_helps_8
def dkwX0_helps_6 : List UInt8 := [21, 7, 172, 132, 6, 1, 167, 255, 193, 2, 54, 6, 42, 21, 4, 182, 0, 126, 153, 0, 15, 42]
abbrev dktX0_helps_6 : List UInt8 := dkwX0_helps_6 ++ dktX0_helps_7
def dkwX0_helps_5 : List UInt8 := [54, 7, 42, 21, 4, 182, 0, 126, 153, 0, 15, 42, 180, 0, 90, 180, 1, 13, 21, 4, 21, 5, 79]
abbrev dktX0_helps_5 : List UInt8 := dkwX0_helps_5 ++ dktX0_helps_6
def dkwX0_helps_4 : List UInt8 := [180, 1, 13, 21, 4, 21, 5, 21, 6, 96, 79, 42, 27, 28, 29, 182, 1, 71, 153, 0, 31, 21, 6]
abbrev dktX0_helps_4 : List UInt8 := dkwX0_helps_4 ++ dktX0_helps_5
def dkwX0_helps_3 : List UInt8 := [167, 0, 4, 3, 16, 250, 184, 0, 115, 4, 54, 6, 21, 6, 16, 99, 163, 0, 62, 42, 180, 0, 90]
abbrev dktX0_helps_3 : List UInt8 := dkwX0_helps_3 ++ dktX0_helps_4
def dkwX0_helps_2 : List UInt8 := [153, 0, 7, 4, 167, 0, 4, 3, 2, 184, 0, 115, 42, 27, 28, 29, 182, 1, 71, 154, 0, 7, 4]
abbrev dktX0_helps_2 : List UInt8 := dkwX0_helps_2 ++ dktX0_helps_3
def dkwX0_helps_1 : List UInt8 := [54, 5, 42, 21, 4, 27, 182, 1, 44, 42, 28, 182, 1, 61, 153, 0, 16, 28, 21, 4, 122, 4, 126]
abbrev dktX0_helps_1 : List UInt8 := dkwX0_helps_1 ++ dktX0_helps_2
def dkwX0_helps_0 : List UInt8 := [42, 21, 4, 182, 0, 126, 153, 0, 16, 42, 180, 0, 90, 180, 1, 13, 21, 4, 46, 167, 0, 4, 3]
abbrev dktX0_helps_0 : List UInt8 := dkwX0_helps_0 ++ dktX0_helps_1
theorem dksX0_helps_0 : cX0_helps.data.toList.drop 0 = dktX0_helps_0 := by decide +kernel
theorem dksX0_helps_1 : cX0_helps.data.toList.drop 23 = dktX0_helps_1 := dk_seg dksX0_helps_0 23 rfl rfl
theorem dksX0_helps_2 : cX0_helps.data.toList.drop 46 = dktX0_helps_2 := dk_seg dksX0_helps_1 23 rfl rfl
theorem dksX0_helps_3 : cX0_helps.data.toList.drop 69 = dktX0_helps_3 := dk_seg dksX0_helps_2 23 rfl rfl
theorem dksX0_helps_4 : cX0_helps.data.toList.drop 92 = dktX0_helps_4 := dk_seg dksX0_helps_3 23 rfl rfl
theorem dksX0_helps_5 : cX0_helps.data.toList.drop 115 = dktX0_helps_5 := dk_seg dksX0_helps_4 23 rfl rfl
theorem dksX0_helps_6 : cX0_helps.data.toList.drop 138 = dktX0_helps_6 := dk_seg dksX0_helps_5 23 rfl rfl
theorem dksX0_helps_7 : cX0_helps.data.toList.drop 160 = dktX0_helps_7 := dk_seg dksX0_helps_6 22 rfl rfl
theorem dksX0_helps_8 : cX0_helps.data.toList.drop 184 = dktX0_helps_8 := dk_seg dksX0_helps_7 24 rfl rfl
theorem dksX0_helps_9 : cX0_helps.data.toList.drop 208 = dktX0_helps_9 := dk_seg dksX0_helps_8 24 rfl rfl
theorem dksX0_helps_10 : cX0_helps.data.toList.drop 231 = dktX0_helps_10 := dk_seg dksX0_helps_9 23 rfl rfl
theorem dX0_helps_0 : decode cX0_helps 0 = .ok (.aload_n 0, 1) := dk_42 (dk_at dksX0_helps_0 0 rfl rfl)
theorem dX0_helps_1 : decode cX0_helps 1 = .ok (.iload 4, 2) := dk_21 4 (dk_at dksX0_helps_0 1 rfl rfl)
theorem dX0_helps_3 : decode cX0_helps 3 = .ok (.invokevirtual 126, 3) := dk_182 0 126 (dk_at dksX0_helps_0 3 rfl rfl)
theorem dX0_helps_6 : decode cX0_helps 6 = .ok (.ifCond .eq 16, 3) := dk_153 0 16 (dk_at dksX0_helps_0 6 rfl rfl)
theorem dX0_helps_9 : decode cX0_helps 9 = .ok (.aload_n 0, 1) := dk_42 (dk_at dksX0_helps_0 9 rfl rfl)
theorem dX0_helps_10 : decode cX0_helps 10 = .ok (.getfield 90, 3) := dk_180 0 90 (dk_at dksX0_helps_0 10 rfl rfl)
theorem dX0_helps_13 : decode cX0_helps 13 = .ok (.getfield 269, 3) := dk_180 1 13 (dk_at dksX0_helps_0 13 rfl rfl)
theorem dX0_helps_16 : decode cX0_helps 16 = .ok (.iload 4, 2) := dk_21 4 (dk_at dksX0_helps_0 16 rfl rfl)
theorem dX0_helps_18 : decode cX0_helps 18 = .ok (.iaload, 1) := dk_46 (dk_at dksX0_helps_0 18 rfl rfl)
theorem dX0_helps_19 : decode cX0_helps 19 = .ok (.goto 4, 3) := dk_167 0 4 (dk_at dksX0_helps_0 19 rfl rfl)
theorem dX0_helps_22 : decode cX0_helps 22 = .ok (.iconst 0, 1) := dk_3 (dk_at dksX0_helps_0 22 rfl rfl)
theorem dX0_helps_23 : decode cX0_helps 23 = .ok (.istore 5, 2) := dk_54 5 (dk_at dksX0_helps_1 0 rfl rfl)
theorem dX0_helps_25 : decode cX0_helps 25 = .ok (.aload_n 0, 1) := dk_42 (dk_at dksX0_helps_1 2 rfl rfl)
theorem dX0_helps_26 : decode cX0_helps 26 = .ok (.iload 4, 2) := dk_21 4 (dk_at dksX0_helps_1 3 rfl rfl)
theorem dX0_helps_28 : decode cX0_helps 28 = .ok (.iload_n 1, 1) := dk_27 (dk_at dksX0_helps_1 5 rfl rfl)
theorem dX0_helps_29 : decode cX0_helps 29 = .ok (.invokevirtual 300, 3) := dk_182 1 44 (dk_at dksX0_helps_1 6 rfl rfl)
theorem dX0_helps_32 : decode cX0_helps 32 = .ok (.aload_n 0, 1) := dk_42 (dk_at dksX0_helps_1 9 rfl rfl)
theorem dX0_helps_33 : decode cX0_helps 33 = .ok (.iload_n 2, 1) := dk_28 (dk_at dksX0_helps_1 10 rfl rfl)
theorem dX0_helps_34 : decode cX0_helps 34 = .ok (.invokevirtual 317, 3) := dk_182 1 61 (dk_at dksX0_helps_1 11 rfl rfl)
theorem dX0_helps_37 : decode cX0_helps 37 = .ok (.ifCond .eq 16, 3) := dk_153 0 16 (dk_at dksX0_helps_1 14 rfl rfl)
theorem dX0_helps_40 : decode cX0_helps 40 = .ok (.iload_n 2, 1) := dk_28 (dk_at dksX0_helps_1 17 rfl rfl)
theorem dX0_helps_41 : decode cX0_helps 41 = .ok (.iload 4, 2) := dk_21 4 (dk_at dksX0_helps_1 18 rfl rfl)
theorem dX0_helps_43 : decode cX0_helps 43 = .ok (.ishr, 1) := dk_122 (dk_at dksX0_helps_1 20 rfl rfl)
theorem dX0_helps_44 : decode cX0_helps 44 = .ok (.iconst 1, 1) := dk_4 (dk_at dksX0_helps_1 21 rfl rfl)
theorem dX0_helps_45 : decode cX0_helps 45 = .ok (.iand, 1) := dk_126 (dk_at dksX0_helps_1 22 rfl rfl)
theorem dX0_helps_46 : decode cX0_helps 46 = .ok (.ifCond .eq 7, 3) := dk_153 0 7 (dk_at dksX0_helps_2 0 rfl rfl)
theorem dX0_helps_49 : decode cX0_helps 49 = .ok (.iconst 1, 1) := dk_4 (dk_at dksX0_helps_2 3 rfl rfl)
theorem dX0_helps_50 : decode cX0_helps 50 = .ok (.goto 4, 3) := dk_167 0 4 (dk_at dksX0_helps_2 4 rfl rfl)
theorem dX0_helps_53 : decode cX0_helps 53 = .ok (.iconst 0, 1) := dk_3 (dk_at dksX0_helps_2 7 rfl rfl)
theorem dX0_helps_54 : decode cX0_helps 54 = .ok (.iconst (-1), 1) := dk_2 (dk_at dksX0_helps_2 8 rfl rfl)
theorem dX0_helps_55 : decode cX0_helps 55 = .ok (.invokestatic 115, 3) := dk_184 0 115 (dk_at dksX0_helps_2 9 rfl rfl)
theorem dX0_helps_58 : decode cX0_helps 58 = .ok (.aload_n 0, 1) := dk_42 (dk_at dksX0_helps_2 12 rfl rfl)
theorem dX0_helps_59 : decode cX0_helps 59 = .ok (.iload_n 1, 1) := dk_27 (dk_at dksX0_helps_2 13 rfl rfl)
theorem dX0_helps_60 : decode cX0_helps 60 = .ok (.iload_n 2, 1) := dk_28 (dk_at dksX0_helps_2 14 rfl rfl)
theorem dX0_helps_61 : decode cX0_helps 61 = .ok (.iload_n 3, 1) := dk_29 (dk_at dksX0_helps_2 15 rfl rfl)
theorem dX0_helps_62 : decode cX0_helps 62 = .ok (.invokevirtual 327, 3) := dk_182 1 71 (dk_at dksX0_helps_2 16 rfl rfl)
theorem dX0_helps_65 : decode cX0_helps 65 = .ok (.ifCond .ne 7, 3) := dk_154 0 7 (dk_at dksX0_helps_2 19 rfl rfl)
theorem dX0_helps_68 : decode cX0_helps 68 = .ok (.iconst 1, 1) := dk_4 (dk_at dksX0_helps_2 22 rfl rfl)
theorem dX0_helps_69 : decode cX0_helps 69 = .ok (.goto 4, 3) := dk_167 0 4 (dk_at dksX0_helps_3 0 rfl rfl)
theorem dX0_helps_72 : decode cX0_helps 72 = .ok (.iconst 0, 1) := dk_3 (dk_at dksX0_helps_3 3 rfl rfl)
theorem dX0_helps_73 : decode cX0_helps 73 = .ok (.bipush (-6), 2) := dk_16 250 (dk_at dksX0_helps_3 4 rfl rfl)
theorem dX0_helps_75 : decode cX0_helps 75 = .ok (.invokestatic 115, 3) := dk_184 0 115 (dk_at dksX0_helps_3 6 rfl rfl)
theorem dX0_helps_78 : decode cX0_helps 78 = .ok (.iconst 1, 1) := dk_4 (dk_at dksX0_helps_3 9 rfl rfl)
theorem dX0_helps_79 : decode cX0_helps 79 = .ok (.istore 6, 2) := dk_54 6 (dk_at dksX0_helps_3 10 rfl rfl)
theorem dX0_helps_81 : decode cX0_helps 81 = .ok (.iload 6, 2) := dk_21 6 (dk_at dksX0_helps_3 12 rfl rfl)
theorem dX0_helps_83 : decode cX0_helps 83 = .ok (.bipush 99, 2) := dk_16 99 (dk_at dksX0_helps_3 14 rfl rfl)
theorem dX0_helps_85 : decode cX0_helps 85 = .ok (.if_icmp .gt 62, 3) := dk_163 0 62 (dk_at dksX0_helps_3 16 rfl rfl)
theorem dX0_helps_88 : decode cX0_helps 88 = .ok (.aload_n 0, 1) := dk_42 (dk_at dksX0_helps_3 19 rfl rfl)
theorem dX0_helps_89 : decode cX0_helps 89 = .ok (.getfield 90, 3) := dk_180 0 90 (dk_at dksX0_helps_3 20 rfl rfl)
theorem dX0_helps_92 : decode cX0_helps 92 = .ok (.getfield 269, 3) := dk_180 1 13 (dk_at dksX0_helps_4 0 rfl rfl)
theorem dX0_helps_95 : decode cX0_helps 95 = .ok (.iload 4, 2) := dk_21 4 (dk_at dksX0_helps_4 3 rfl rfl)
theorem dX0_helps_97 : decode cX0_helps 97 = .ok (.iload 5, 2) := dk_21 5 (dk_at dksX0_helps_4 5 rfl rfl)
theorem dX0_helps_99 : decode cX0_helps 99 = .ok (.iload 6, 2) := dk_21 6 (dk_at dksX0_helps_4 7 rfl rfl)
theorem dX0_helps_101 : decode cX0_helps 101 = .ok (.iadd, 1) := dk_96 (dk_at dksX0_helps_4 9 rfl rfl)
theorem dX0_helps_102 : decode cX0_helps 102 = .ok (.iastore, 1) := dk_79 (dk_at dksX0_helps_4 10 rfl rfl)
theorem dX0_helps_103 : decode cX0_helps 103 = .ok (.aload_n 0, 1) := dk_42 (dk_at dksX0_helps_4 11 rfl rfl)
theorem dX0_helps_104 : decode cX0_helps 104 = .ok (.iload_n 1, 1) := dk_27 (dk_at dksX0_helps_4 12 rfl rfl)
theorem dX0_helps_105 : decode cX0_helps 105 = .ok (.iload_n 2, 1) := dk_28 (dk_at dksX0_helps_4 13 rfl rfl)
theorem dX0_helps_106 : decode cX0_helps 106 = .ok (.iload_n 3, 1) := dk_29 (dk_at dksX0_helps_4 14 rfl rfl)
theorem dX0_helps_107 : decode cX0_helps 107 = .ok (.invokevirtual 327, 3) := dk_182 1 71 (dk_at dksX0_helps_4 15 rfl rfl)
theorem dX0_helps_110 : decode cX0_helps 110 = .ok (.ifCond .eq 31, 3) := dk_153 0 31 (dk_at dksX0_helps_4 18 rfl rfl)
theorem dX0_helps_113 : decode cX0_helps 113 = .ok (.iload 6, 2) := dk_21 6 (dk_at dksX0_helps_4 21 rfl rfl)
theorem dX0_helps_115 : decode cX0_helps 115 = .ok (.istore 7, 2) := dk_54 7 (dk_at dksX0_helps_5 0 rfl rfl)
theorem dX0_helps_117 : decode cX0_helps 117 = .ok (.aload_n 0, 1) := dk_42 (dk_at dksX0_helps_5 2 rfl rfl)
theorem dX0_helps_118 : decode cX0_helps 118 = .ok (.iload 4, 2) := dk_21 4 (dk_at dksX0_helps_5 3 rfl rfl)
theorem dX0_helps_120 : decode cX0_helps 120 = .ok (.invokevirtual 126, 3) := dk_182 0 126 (dk_at dksX0_helps_5 5 rfl rfl)
theorem dX0_helps_123 : decode cX0_helps 123 = .ok (.ifCond .eq 15, 3) := dk_153 0 15 (dk_at dksX0_helps_5 8 rfl rfl)
theorem dX0_helps_126 : decode cX0_helps 126 = .ok (.aload_n 0, 1) := dk_42 (dk_at dksX0_helps_5 11 rfl rfl)
theorem dX0_helps_127 : decode cX0_helps 127 = .ok (.getfield 90, 3) := dk_180 0 90 (dk_at dksX0_helps_5 12 rfl rfl)
theorem dX0_helps_130 : decode cX0_helps 130 = .ok (.getfield 269, 3) := dk_180 1 13 (dk_at dksX0_helps_5 15 rfl rfl)
theorem dX0_helps_133 : decode cX0_helps 133 = .ok (.iload 4, 2) := dk_21 4 (dk_at dksX0_helps_5 18 rfl rfl)
theorem dX0_helps_135 : decode cX0_helps 135 = .ok (.iload 5, 2) := dk_21 5 (dk_at dksX0_helps_5 20 rfl rfl)
theorem dX0_helps_137 : decode cX0_helps 137 = .ok (.iastore, 1) := dk_79 (dk_at dksX0_helps_5 22 rfl rfl)
theorem dX0_helps_138 : decode cX0_helps 138 = .ok (.iload 7, 2) := dk_21 7 (dk_at dksX0_helps_6 0 rfl rfl)
theorem dX0_helps_140 : decode cX0_helps 140 = .ok (.ireturn, 1) := dk_172 (dk_at dksX0_helps_6 2 rfl rfl)
theorem dX0_helps_141 : decode cX0_helps 141 = .ok (.iinc 6 1, 3) := dk_132 6 1 (dk_at dksX0_helps_6 3 rfl rfl)
theorem dX0_helps_144 : decode cX0_helps 144 = .ok (.goto (-63), 3) := dk_167 255 193 (dk_at dksX0_helps_6 6 rfl rfl)
theorem dX0_helps_147 : decode cX0_helps 147 = .ok (.iconst (-1), 1) := dk_2 (dk_at dksX0_helps_6 9 rfl rfl)
theorem dX0_helps_148 : decode cX0_helps 148 = .ok (.istore 6, 2) := dk_54 6 (dk_at dksX0_helps_6 10 rfl rfl)
theorem dX0_helps_150 : decode cX0_helps 150 = .ok (.aload_n 0, 1) := dk_42 (dk_at dksX0_helps_6 12 rfl rfl)
theorem dX0_helps_151 : decode cX0_helps 151 = .ok (.iload 4, 2) := dk_21 4 (dk_at dksX0_helps_6 13 rfl rfl)
theorem dX0_helps_153 : decode cX0_helps 153 = .ok (.invokevirtual 126, 3) := dk_182 0 126 (dk_at dksX0_helps_6 15 rfl rfl)
theorem dX0_helps_156 : decode cX0_helps 156 = .ok (.ifCond .eq 15, 3) := dk_153 0 15 (dk_at dksX0_helps_6 18 rfl rfl)
theorem dX0_helps_159 : decode cX0_helps 159 = .ok (.aload_n 0, 1) := dk_42 (dk_at dksX0_helps_6 21 rfl rfl)
theorem dX0_helps_160 : decode cX0_helps 160 = .ok (.getfield 90, 3) := dk_180 0 90 (dk_at dksX0_helps_7 0 rfl rfl)
theorem dX0_helps_163 : decode cX0_helps 163 = .ok (.getfield 269, 3) := dk_180 1 13 (dk_at dksX0_helps_7 3 rfl rfl)
theorem dX0_helps_166 : decode cX0_helps 166 = .ok (.iload 4, 2) := dk_21 4 (dk_at dksX0_helps_7 6 rfl rfl)
theorem dX0_helps_168 : decode cX0_helps 168 = .ok (.iload 5, 2) := dk_21 5 (dk_at dksX0_helps_7 8 rfl rfl)
theorem dX0_helps_170 : decode cX0_helps 170 = .ok (.iastore, 1) := dk_79 (dk_at dksX0_helps_7 10 rfl rfl)
theorem dX0_helps_171 : decode cX0_helps 171 = .ok (.iload 6, 2) := dk_21 6 (dk_at dksX0_helps_7 11 rfl rfl)
theorem dX0_helps_173 : decode cX0_helps 173 = .ok (.ireturn, 1) := dk_172 (dk_at dksX0_helps_7 13 rfl rfl)
theorem dX0_helps_174 : decode cX0_helps 174 = .ok (.astore 6, 2) := dk_58 6 (dk_at dksX0_helps_7 14 rfl rfl)
theorem dX0_helps_176 : decode cX0_helps 176 = .ok (.aload_n 0, 1) := dk_42 (dk_at dksX0_helps_7 16 rfl rfl)
theorem dX0_helps_177 : decode cX0_helps 177 = .ok (.aload 6, 2) := dk_25 6 (dk_at dksX0_helps_7 17 rfl rfl)
theorem dX0_helps_179 : decode cX0_helps 179 = .ok (.invokevirtual 173, 3) := dk_182 0 173 (dk_at dksX0_helps_7 19 rfl rfl)
theorem dX0_helps_182 : decode cX0_helps 182 = .ok (.bipush 10, 2) := dk_16 10 (dk_at dksX0_helps_7 22 rfl rfl)
theorem dX0_helps_184 : decode cX0_helps 184 = .ok (.isub, 1) := dk_100 (dk_at dksX0_helps_8 0 rfl rfl)
theorem dX0_helps_185 : decode cX0_helps 185 = .ok (.istore 7, 2) := dk_54 7 (dk_at dksX0_helps_8 1 rfl rfl)
theorem dX0_helps_187 : decode cX0_helps 187 = .ok (.aload_n 0, 1) := dk_42 (dk_at dksX0_helps_8 3 rfl rfl)
theorem dX0_helps_188 : decode cX0_helps 188 = .ok (.iload 4, 2) := dk_21 4 (dk_at dksX0_helps_8 4 rfl rfl)
theorem dX0_helps_190 : decode cX0_helps 190 = .ok (.invokevirtual 126, 3) := dk_182 0 126 (dk_at dksX0_helps_8 6 rfl rfl)
theorem dX0_helps_193 : decode cX0_helps 193 = .ok (.ifCond .eq 15, 3) := dk_153 0 15 (dk_at dksX0_helps_8 9 rfl rfl)
theorem dX0_helps_196 : decode cX0_helps 196 = .ok (.aload_n 0, 1) := dk_42 (dk_at dksX0_helps_8 12 rfl rfl)
theorem dX0_helps_197 : decode cX0_helps 197 = .ok (.getfield 90, 3) := dk_180 0 90 (dk_at dksX0_helps_8 13 rfl rfl)
theorem dX0_helps_200 : decode cX0_helps 200 = .ok (.getfield 269, 3) := dk_180 1 13 (dk_at dksX0_helps_8 16 rfl rfl)
theorem dX0_helps_203 : decode cX0_helps 203 = .ok (.iload 4, 2) := dk_21 4 (dk_at dksX0_helps_8 19 rfl rfl)
theorem dX0_helps_205 : decode cX0_helps 205 = .ok (.iload 5, 2) := dk_21 5 (dk_at dksX0_helps_8 21 rfl rfl)
theorem dX0_helps_207 : decode cX0_helps 207 = .ok (.iastore, 1) := dk_79 (dk_at dksX0_helps_8 23 rfl rfl)
theorem dX0_helps_208 : decode cX0_helps 208 = .ok (.iload 7, 2) := dk_21 7 (dk_at dksX0_helps_9 0 rfl rfl)
theorem dX0_helps_210 : decode cX0_helps 210 = .ok (.ireturn, 1) := dk_172 (dk_at dksX0_helps_9 2 rfl rfl)
theorem dX0_helps_211 : decode cX0_helps 211 = .ok (.astore 8, 2) := dk_58 8 (dk_at dksX0_helps_9 3 rfl rfl)
theorem dX0_helps_213 : decode cX0_helps 213 = .ok (.aload_n 0, 1) := dk_42 (dk_at dksX0_helps_9 5 rfl rfl)
theorem dX0_helps_214 : decode cX0_helps 214 = .ok (.iload 4, 2) := dk_21 4 (dk_at dksX0_helps_9 6 rfl rfl)
theorem dX0_helps_216 : decode cX0_helps 216 = .ok (.invokevirtual 126, 3) := dk_182 0 126 (dk_at dksX0_helps_9 8 rfl rfl)
theorem dX0_helps_219 : decode cX0_helps 219 = .ok (.ifCond .eq 15, 3) := dk_153 0 15 (dk_at dksX0_helps_9 11 rfl rfl)
theorem dX0_helps_222 : decode cX0_helps 222 = .ok (.aload_n 0, 1) := dk_42 (dk_at dksX0_helps_9 14 rfl rfl)
theorem dX0_helps_223 : decode cX0_helps 223 = .ok (.getfield 90, 3) := dk_180 0 90 (dk_at dksX0_helps_9 15 rfl rfl)
theorem dX0_helps_226 : decode cX0_helps 226 = .ok (.getfield 269, 3) := dk_180 1 13 (dk_at dksX0_helps_9 18 rfl rfl)
theorem dX0_helps_229 : decode cX0_helps 229 = .ok (.iload 4, 2) := dk_21 4 (dk_at dksX0_helps_9 21 rfl rfl)
theorem dX0_helps_231 : decode cX0_helps 231 = .ok (.iload 5, 2) := dk_21 5 (dk_at dksX0_helps_10 0 rfl rfl)
theorem dX0_helps_233 : decode cX0_helps 233 = .ok (.iastore, 1) := dk_79 (dk_at dksX0_helps_10 2 rfl rfl)
theorem dX0_helps_234 : decode cX0_helps 234 = .ok (.aload 8, 2) := dk_25 8 (dk_at dksX0_helps_10 3 rfl rfl)
theorem dX0_helps_236 : decode cX0_helps 236 = .ok (.athrow, 1) := dk_191 (dk_at dksX0_helps_10 5 rfl rfl)
abbrev cX0_caught : ByteArray := prog_1_method_55_code
def yX0_caught : MethodName := ⟨RX0, "caught", "(III)I"⟩
def dkwX0_caught_2 : List UInt8 := [25, 4, 182, 0, 173, 172]
abbrev dktX0_caught_2 : List UInt8 := dkwX0_caught_2 ++ []
def dkwX0_caught_1 : List UInt8 := [180, 0, 90, 27, 28, 182, 1, 48, 104, 163, 0, 10, 29, 184, 1, 104, 167, 0, 4, 3, 172, 58, 4, 42]
abbrev dktX0_caught_1 : List UInt8 := dkwX0_caught_1 ++ dktX0_caught_2
def dkwX0_caught_0 : List UInt8 := [42, 27, 28, 182, 1, 44, 29, 133, 10, 20, 1, 102, 184, 0, 107, 16, 250, 184, 0, 115, 29, 5, 42]
abbrev dktX0_caught_0 : List UInt8 := dkwX0_caught_0 ++ dktX0_caught_1
theorem dksX0_caught_0 : cX0_caught.data.toList.drop 0 = dktX0_caught_0 := by decide +kernel
theorem dksX0_caught_1 : cX0_caught.data.toList.drop 23 = dktX0_caught_1 := dk_seg dksX0_caught_0 23 rfl rfl
theorem dksX0_caught_2 : cX0_caught.data.toList.drop 47 = dktX0_caught_2 := dk_seg dksX0_caught_1 24 rfl rfl
theorem dX0_caught_0 : decode cX0_caught 0 = .ok (.aload_n 0, 1) := dk_42 (dk_at dksX0_caught_0 0 rfl rfl)
theorem dX0_caught_1 : decode cX0_caught 1 = .ok (.iload_n 1, 1) := dk_27 (dk_at dksX0_caught_0 1 rfl rfl)
theorem dX0_caught_2 : decode cX0_caught 2 = .ok (.iload_n 2, 1) := dk_28 (dk_at dksX0_caught_0 2 rfl rfl)
theorem dX0_caught_3 : decode cX0_caught 3 = .ok (.invokevirtual 300, 3) := dk_182 1 44 (dk_at dksX0_caught_0 3 rfl rfl)
theorem dX0_caught_6 : decode cX0_caught 6 = .ok (.iload_n 3, 1) := dk_29 (dk_at dksX0_caught_0 6 rfl rfl)
theorem dX0_caught_7 : decode cX0_caught 7 = .ok (.i2l, 1) := dk_133 (dk_at dksX0_caught_0 7 rfl rfl)
theorem dX0_caught_8 : decode cX0_caught 8 = .ok (.lconst 1, 1) := dk_10 (dk_at dksX0_caught_0 8 rfl rfl)
theorem dX0_caught_9 : decode cX0_caught 9 = .ok (.ldc2_w 358, 3) := dk_20 1 102 (dk_at dksX0_caught_0 9 rfl rfl)
theorem dX0_caught_12 : decode cX0_caught 12 = .ok (.invokestatic 107, 3) := dk_184 0 107 (dk_at dksX0_caught_0 12 rfl rfl)
theorem dX0_caught_15 : decode cX0_caught 15 = .ok (.bipush (-6), 2) := dk_16 250 (dk_at dksX0_caught_0 15 rfl rfl)
theorem dX0_caught_17 : decode cX0_caught 17 = .ok (.invokestatic 115, 3) := dk_184 0 115 (dk_at dksX0_caught_0 17 rfl rfl)
theorem dX0_caught_20 : decode cX0_caught 20 = .ok (.iload_n 3, 1) := dk_29 (dk_at dksX0_caught_0 20 rfl rfl)
theorem dX0_caught_21 : decode cX0_caught 21 = .ok (.iconst 2, 1) := dk_5 (dk_at dksX0_caught_0 21 rfl rfl)
theorem dX0_caught_22 : decode cX0_caught 22 = .ok (.aload_n 0, 1) := dk_42 (dk_at dksX0_caught_0 22 rfl rfl)
theorem dX0_caught_23 : decode cX0_caught 23 = .ok (.getfield 90, 3) := dk_180 0 90 (dk_at dksX0_caught_1 0 rfl rfl)
theorem dX0_caught_26 : decode cX0_caught 26 = .ok (.iload_n 1, 1) := dk_27 (dk_at dksX0_caught_1 3 rfl rfl)
theorem dX0_caught_27 : decode cX0_caught 27 = .ok (.iload_n 2, 1) := dk_28 (dk_at dksX0_caught_1 4 rfl rfl)
theorem dX0_caught_28 : decode cX0_caught 28 = .ok (.invokevirtual 304, 3) := dk_182 1 48 (dk_at dksX0_caught_1 5 rfl rfl)
theorem dX0_caught_31 : decode cX0_caught 31 = .ok (.imul, 1) := dk_104 (dk_at dksX0_caught_1 8 rfl rfl)
theorem dX0_caught_32 : decode cX0_caught 32 = .ok (.if_icmp .gt 10, 3) := dk_163 0 10 (dk_at dksX0_caught_1 9 rfl rfl)
theorem dX0_caught_35 : decode cX0_caught 35 = .ok (.iload_n 3, 1) := dk_29 (dk_at dksX0_caught_1 12 rfl rfl)
theorem dX0_caught_36 : decode cX0_caught 36 = .ok (.invokestatic 360, 3) := dk_184 1 104 (dk_at dksX0_caught_1 13 rfl rfl)
theorem dX0_caught_39 : decode cX0_caught 39 = .ok (.goto 4, 3) := dk_167 0 4 (dk_at dksX0_caught_1 16 rfl rfl)
theorem dX0_caught_42 : decode cX0_caught 42 = .ok (.iconst 0, 1) := dk_3 (dk_at dksX0_caught_1 19 rfl rfl)
theorem dX0_caught_43 : decode cX0_caught 43 = .ok (.ireturn, 1) := dk_172 (dk_at dksX0_caught_1 20 rfl rfl)
theorem dX0_caught_44 : decode cX0_caught 44 = .ok (.astore 4, 2) := dk_58 4 (dk_at dksX0_caught_1 21 rfl rfl)
theorem dX0_caught_46 : decode cX0_caught 46 = .ok (.aload_n 0, 1) := dk_42 (dk_at dksX0_caught_1 23 rfl rfl)
theorem dX0_caught_47 : decode cX0_caught 47 = .ok (.aload 4, 2) := dk_25 4 (dk_at dksX0_caught_2 0 rfl rfl)
theorem dX0_caught_49 : decode cX0_caught 49 = .ok (.invokevirtual 173, 3) := dk_182 0 173 (dk_at dksX0_caught_2 2 rfl rfl)
theorem dX0_caught_52 : decode cX0_caught 52 = .ok (.ireturn, 1) := dk_172 (dk_at dksX0_caught_2 5 rfl rfl)
abbrev cX0_caughtBy : ByteArray := prog_1_method_54_code
def yX0_caughtBy : MethodName := ⟨RX0, "caughtBy", "(I)I"⟩
def dkwX0_caughtBy_0 : List UInt8 := [3, 16, 10, 26, 7, 108, 100, 184, 0, 228, 172]
abbrev dktX0_caughtBy_0 : List UInt8 := dkwX0_caughtBy_0 ++ []
theorem dksX0_caughtBy_0 : cX0_caughtBy.data.toList.drop 0 = dktX0_caughtBy_0 := by decide +kernel
theorem dX0_caughtBy_0 : decode cX0_caughtBy 0 = .ok (.iconst 0, 1) := dk_3 (dk_at dksX0_caughtBy_0 0 rfl rfl)
theorem dX0_caughtBy_1 : decode cX0_caughtBy 1 = .ok (.bipush 10, 2) := dk_16 10 (dk_at dksX0_caughtBy_0 1 rfl rfl)
theorem dX0_caughtBy_3 : decode cX0_caughtBy 3 = .ok (.iload_n 0, 1) := dk_26 (dk_at dksX0_caughtBy_0 3 rfl rfl)
theorem dX0_caughtBy_4 : decode cX0_caughtBy 4 = .ok (.iconst 4, 1) := dk_7 (dk_at dksX0_caughtBy_0 4 rfl rfl)
theorem dX0_caughtBy_5 : decode cX0_caughtBy 5 = .ok (.idiv, 1) := dk_108 (dk_at dksX0_caughtBy_0 5 rfl rfl)
theorem dX0_caughtBy_6 : decode cX0_caughtBy 6 = .ok (.isub, 1) := dk_100 (dk_at dksX0_caughtBy_0 6 rfl rfl)
theorem dX0_caughtBy_7 : decode cX0_caughtBy 7 = .ok (.invokestatic 228, 3) := dk_184 0 228 (dk_at dksX0_caughtBy_0 7 rfl rfl)
theorem dX0_caughtBy_10 : decode cX0_caughtBy 10 = .ok (.ireturn, 1) := dk_172 (dk_at dksX0_caughtBy_0 10 rfl rfl)
abbrev cX0_mean : ByteArray := prog_1_method_57_code
def yX0_mean : MethodName := ⟨RX0, "mean", "(III)I"⟩
def dkwX0_mean_1 : List UInt8 := [182, 1, 110, 172, 58, 4, 42, 25, 4, 182, 0, 173, 172]
abbrev dktX0_mean_1 : List UInt8 := dkwX0_mean_1 ++ []
def dkwX0_mean_0 : List UInt8 := [42, 27, 28, 182, 1, 44, 29, 133, 10, 20, 1, 102, 184, 0, 107, 16, 250, 184, 0, 115, 42, 27, 28, 29]
abbrev dktX0_mean_0 : List UInt8 := dkwX0_mean_0 ++ dktX0_mean_1
theorem dksX0_mean_0 : cX0_mean.data.toList.drop 0 = dktX0_mean_0 := by decide +kernel
theorem dksX0_mean_1 : cX0_mean.data.toList.drop 24 = dktX0_mean_1 := dk_seg dksX0_mean_0 24 rfl rfl
theorem dX0_mean_0 : decode cX0_mean 0 = .ok (.aload_n 0, 1) := dk_42 (dk_at dksX0_mean_0 0 rfl rfl)
theorem dX0_mean_1 : decode cX0_mean 1 = .ok (.iload_n 1, 1) := dk_27 (dk_at dksX0_mean_0 1 rfl rfl)
theorem dX0_mean_2 : decode cX0_mean 2 = .ok (.iload_n 2, 1) := dk_28 (dk_at dksX0_mean_0 2 rfl rfl)
theorem dX0_mean_3 : decode cX0_mean 3 = .ok (.invokevirtual 300, 3) := dk_182 1 44 (dk_at dksX0_mean_0 3 rfl rfl)
theorem dX0_mean_6 : decode cX0_mean 6 = .ok (.iload_n 3, 1) := dk_29 (dk_at dksX0_mean_0 6 rfl rfl)
theorem dX0_mean_7 : decode cX0_mean 7 = .ok (.i2l, 1) := dk_133 (dk_at dksX0_mean_0 7 rfl rfl)
theorem dX0_mean_8 : decode cX0_mean 8 = .ok (.lconst 1, 1) := dk_10 (dk_at dksX0_mean_0 8 rfl rfl)
theorem dX0_mean_9 : decode cX0_mean 9 = .ok (.ldc2_w 358, 3) := dk_20 1 102 (dk_at dksX0_mean_0 9 rfl rfl)
theorem dX0_mean_12 : decode cX0_mean 12 = .ok (.invokestatic 107, 3) := dk_184 0 107 (dk_at dksX0_mean_0 12 rfl rfl)
theorem dX0_mean_15 : decode cX0_mean 15 = .ok (.bipush (-6), 2) := dk_16 250 (dk_at dksX0_mean_0 15 rfl rfl)
theorem dX0_mean_17 : decode cX0_mean 17 = .ok (.invokestatic 115, 3) := dk_184 0 115 (dk_at dksX0_mean_0 17 rfl rfl)
theorem dX0_mean_20 : decode cX0_mean 20 = .ok (.aload_n 0, 1) := dk_42 (dk_at dksX0_mean_0 20 rfl rfl)
theorem dX0_mean_21 : decode cX0_mean 21 = .ok (.iload_n 1, 1) := dk_27 (dk_at dksX0_mean_0 21 rfl rfl)
theorem dX0_mean_22 : decode cX0_mean 22 = .ok (.iload_n 2, 1) := dk_28 (dk_at dksX0_mean_0 22 rfl rfl)
theorem dX0_mean_23 : decode cX0_mean 23 = .ok (.iload_n 3, 1) := dk_29 (dk_at dksX0_mean_0 23 rfl rfl)
theorem dX0_mean_24 : decode cX0_mean 24 = .ok (.invokevirtual 366, 3) := dk_182 1 110 (dk_at dksX0_mean_1 0 rfl rfl)
theorem dX0_mean_27 : decode cX0_mean 27 = .ok (.ireturn, 1) := dk_172 (dk_at dksX0_mean_1 3 rfl rfl)
theorem dX0_mean_28 : decode cX0_mean 28 = .ok (.astore 4, 2) := dk_58 4 (dk_at dksX0_mean_1 4 rfl rfl)
theorem dX0_mean_30 : decode cX0_mean 30 = .ok (.aload_n 0, 1) := dk_42 (dk_at dksX0_mean_1 6 rfl rfl)
theorem dX0_mean_31 : decode cX0_mean 31 = .ok (.aload 4, 2) := dk_25 4 (dk_at dksX0_mean_1 7 rfl rfl)
theorem dX0_mean_33 : decode cX0_mean 33 = .ok (.invokevirtual 173, 3) := dk_182 0 173 (dk_at dksX0_mean_1 9 rfl rfl)
theorem dX0_mean_36 : decode cX0_mean 36 = .ok (.ireturn, 1) := dk_172 (dk_at dksX0_mean_1 12 rfl rfl)
abbrev cX0_meanOf : ByteArray := prog_1_method_56_code
def yX0_meanOf : MethodName := ⟨RX0, "meanOf", "(III)I"⟩
def dkwX0_meanOf_4 : List UInt8 := [167, 255, 184, 29, 184, 1, 104, 21, 4, 104, 16, 10, 108, 172]
abbrev dktX0_meanOf_4 : List UInt8 := dkwX0_meanOf_4 ++ []
def dkwX0_meanOf_3 : List UInt8 := [160, 0, 16, 42, 180, 0, 90, 180, 1, 25, 21, 5, 46, 167, 0, 4, 3, 96, 54, 4, 132, 5, 1]
abbrev dktX0_meanOf_3 : List UInt8 := dkwX0_meanOf_3 ++ dktX0_meanOf_4
def dkwX0_meanOf_2 : List UInt8 := [160, 0, 40, 42, 180, 0, 90, 180, 1, 22, 21, 5, 46, 42, 180, 0, 90, 180, 0, 132, 28, 46, 29, 96]
abbrev dktX0_meanOf_2 : List UInt8 := dkwX0_meanOf_2 ++ dktX0_meanOf_3
def dkwX0_meanOf_1 : List UInt8 := [180, 0, 90, 180, 0, 219, 162, 0, 66, 21, 4, 42, 180, 0, 90, 180, 1, 19, 21, 5, 46, 28]
abbrev dktX0_meanOf_1 : List UInt8 := dkwX0_meanOf_1 ++ dktX0_meanOf_2
def dkwX0_meanOf_0 : List UInt8 := [42, 180, 0, 90, 27, 28, 29, 182, 1, 107, 154, 0, 5, 3, 172, 3, 54, 4, 3, 54, 5, 21, 5, 42]
abbrev dktX0_meanOf_0 : List UInt8 := dkwX0_meanOf_0 ++ dktX0_meanOf_1
theorem dksX0_meanOf_0 : cX0_meanOf.data.toList.drop 0 = dktX0_meanOf_0 := by decide +kernel
theorem dksX0_meanOf_1 : cX0_meanOf.data.toList.drop 24 = dktX0_meanOf_1 := dk_seg dksX0_meanOf_0 24 rfl rfl
theorem dksX0_meanOf_2 : cX0_meanOf.data.toList.drop 46 = dktX0_meanOf_2 := dk_seg dksX0_meanOf_1 22 rfl rfl
theorem dksX0_meanOf_3 : cX0_meanOf.data.toList.drop 70 = dktX0_meanOf_3 := dk_seg dksX0_meanOf_2 24 rfl rfl
theorem dksX0_meanOf_4 : cX0_meanOf.data.toList.drop 93 = dktX0_meanOf_4 := dk_seg dksX0_meanOf_3 23 rfl rfl
theorem dX0_meanOf_0 : decode cX0_meanOf 0 = .ok (.aload_n 0, 1) := dk_42 (dk_at dksX0_meanOf_0 0 rfl rfl)
theorem dX0_meanOf_1 : decode cX0_meanOf 1 = .ok (.getfield 90, 3) := dk_180 0 90 (dk_at dksX0_meanOf_0 1 rfl rfl)
theorem dX0_meanOf_4 : decode cX0_meanOf 4 = .ok (.iload_n 1, 1) := dk_27 (dk_at dksX0_meanOf_0 4 rfl rfl)
theorem dX0_meanOf_5 : decode cX0_meanOf 5 = .ok (.iload_n 2, 1) := dk_28 (dk_at dksX0_meanOf_0 5 rfl rfl)
theorem dX0_meanOf_6 : decode cX0_meanOf 6 = .ok (.iload_n 3, 1) := dk_29 (dk_at dksX0_meanOf_0 6 rfl rfl)
theorem dX0_meanOf_7 : decode cX0_meanOf 7 = .ok (.invokevirtual 363, 3) := dk_182 1 107 (dk_at dksX0_meanOf_0 7 rfl rfl)
theorem dX0_meanOf_10 : decode cX0_meanOf 10 = .ok (.ifCond .ne 5, 3) := dk_154 0 5 (dk_at dksX0_meanOf_0 10 rfl rfl)
theorem dX0_meanOf_13 : decode cX0_meanOf 13 = .ok (.iconst 0, 1) := dk_3 (dk_at dksX0_meanOf_0 13 rfl rfl)
theorem dX0_meanOf_14 : decode cX0_meanOf 14 = .ok (.ireturn, 1) := dk_172 (dk_at dksX0_meanOf_0 14 rfl rfl)
theorem dX0_meanOf_15 : decode cX0_meanOf 15 = .ok (.iconst 0, 1) := dk_3 (dk_at dksX0_meanOf_0 15 rfl rfl)
theorem dX0_meanOf_16 : decode cX0_meanOf 16 = .ok (.istore 4, 2) := dk_54 4 (dk_at dksX0_meanOf_0 16 rfl rfl)
theorem dX0_meanOf_18 : decode cX0_meanOf 18 = .ok (.iconst 0, 1) := dk_3 (dk_at dksX0_meanOf_0 18 rfl rfl)
theorem dX0_meanOf_19 : decode cX0_meanOf 19 = .ok (.istore 5, 2) := dk_54 5 (dk_at dksX0_meanOf_0 19 rfl rfl)
theorem dX0_meanOf_21 : decode cX0_meanOf 21 = .ok (.iload 5, 2) := dk_21 5 (dk_at dksX0_meanOf_0 21 rfl rfl)
theorem dX0_meanOf_23 : decode cX0_meanOf 23 = .ok (.aload_n 0, 1) := dk_42 (dk_at dksX0_meanOf_0 23 rfl rfl)
theorem dX0_meanOf_24 : decode cX0_meanOf 24 = .ok (.getfield 90, 3) := dk_180 0 90 (dk_at dksX0_meanOf_1 0 rfl rfl)
theorem dX0_meanOf_27 : decode cX0_meanOf 27 = .ok (.getfield 219, 3) := dk_180 0 219 (dk_at dksX0_meanOf_1 3 rfl rfl)
theorem dX0_meanOf_30 : decode cX0_meanOf 30 = .ok (.if_icmp .ge 66, 3) := dk_162 0 66 (dk_at dksX0_meanOf_1 6 rfl rfl)
theorem dX0_meanOf_33 : decode cX0_meanOf 33 = .ok (.iload 4, 2) := dk_21 4 (dk_at dksX0_meanOf_1 9 rfl rfl)
theorem dX0_meanOf_35 : decode cX0_meanOf 35 = .ok (.aload_n 0, 1) := dk_42 (dk_at dksX0_meanOf_1 11 rfl rfl)
theorem dX0_meanOf_36 : decode cX0_meanOf 36 = .ok (.getfield 90, 3) := dk_180 0 90 (dk_at dksX0_meanOf_1 12 rfl rfl)
theorem dX0_meanOf_39 : decode cX0_meanOf 39 = .ok (.getfield 275, 3) := dk_180 1 19 (dk_at dksX0_meanOf_1 15 rfl rfl)
theorem dX0_meanOf_42 : decode cX0_meanOf 42 = .ok (.iload 5, 2) := dk_21 5 (dk_at dksX0_meanOf_1 18 rfl rfl)
theorem dX0_meanOf_44 : decode cX0_meanOf 44 = .ok (.iaload, 1) := dk_46 (dk_at dksX0_meanOf_1 20 rfl rfl)
theorem dX0_meanOf_45 : decode cX0_meanOf 45 = .ok (.iload_n 2, 1) := dk_28 (dk_at dksX0_meanOf_1 21 rfl rfl)
theorem dX0_meanOf_46 : decode cX0_meanOf 46 = .ok (.if_icmp .ne 40, 3) := dk_160 0 40 (dk_at dksX0_meanOf_2 0 rfl rfl)
theorem dX0_meanOf_49 : decode cX0_meanOf 49 = .ok (.aload_n 0, 1) := dk_42 (dk_at dksX0_meanOf_2 3 rfl rfl)
theorem dX0_meanOf_50 : decode cX0_meanOf 50 = .ok (.getfield 90, 3) := dk_180 0 90 (dk_at dksX0_meanOf_2 4 rfl rfl)
theorem dX0_meanOf_53 : decode cX0_meanOf 53 = .ok (.getfield 278, 3) := dk_180 1 22 (dk_at dksX0_meanOf_2 7 rfl rfl)
theorem dX0_meanOf_56 : decode cX0_meanOf 56 = .ok (.iload 5, 2) := dk_21 5 (dk_at dksX0_meanOf_2 10 rfl rfl)
theorem dX0_meanOf_58 : decode cX0_meanOf 58 = .ok (.iaload, 1) := dk_46 (dk_at dksX0_meanOf_2 12 rfl rfl)
theorem dX0_meanOf_59 : decode cX0_meanOf 59 = .ok (.aload_n 0, 1) := dk_42 (dk_at dksX0_meanOf_2 13 rfl rfl)
theorem dX0_meanOf_60 : decode cX0_meanOf 60 = .ok (.getfield 90, 3) := dk_180 0 90 (dk_at dksX0_meanOf_2 14 rfl rfl)
theorem dX0_meanOf_63 : decode cX0_meanOf 63 = .ok (.getfield 132, 3) := dk_180 0 132 (dk_at dksX0_meanOf_2 17 rfl rfl)
theorem dX0_meanOf_66 : decode cX0_meanOf 66 = .ok (.iload_n 2, 1) := dk_28 (dk_at dksX0_meanOf_2 20 rfl rfl)
theorem dX0_meanOf_67 : decode cX0_meanOf 67 = .ok (.iaload, 1) := dk_46 (dk_at dksX0_meanOf_2 21 rfl rfl)
theorem dX0_meanOf_68 : decode cX0_meanOf 68 = .ok (.iload_n 3, 1) := dk_29 (dk_at dksX0_meanOf_2 22 rfl rfl)
theorem dX0_meanOf_69 : decode cX0_meanOf 69 = .ok (.iadd, 1) := dk_96 (dk_at dksX0_meanOf_2 23 rfl rfl)
theorem dX0_meanOf_70 : decode cX0_meanOf 70 = .ok (.if_icmp .ne 16, 3) := dk_160 0 16 (dk_at dksX0_meanOf_3 0 rfl rfl)
theorem dX0_meanOf_73 : decode cX0_meanOf 73 = .ok (.aload_n 0, 1) := dk_42 (dk_at dksX0_meanOf_3 3 rfl rfl)
theorem dX0_meanOf_74 : decode cX0_meanOf 74 = .ok (.getfield 90, 3) := dk_180 0 90 (dk_at dksX0_meanOf_3 4 rfl rfl)
theorem dX0_meanOf_77 : decode cX0_meanOf 77 = .ok (.getfield 281, 3) := dk_180 1 25 (dk_at dksX0_meanOf_3 7 rfl rfl)
theorem dX0_meanOf_80 : decode cX0_meanOf 80 = .ok (.iload 5, 2) := dk_21 5 (dk_at dksX0_meanOf_3 10 rfl rfl)
theorem dX0_meanOf_82 : decode cX0_meanOf 82 = .ok (.iaload, 1) := dk_46 (dk_at dksX0_meanOf_3 12 rfl rfl)
theorem dX0_meanOf_83 : decode cX0_meanOf 83 = .ok (.goto 4, 3) := dk_167 0 4 (dk_at dksX0_meanOf_3 13 rfl rfl)
theorem dX0_meanOf_86 : decode cX0_meanOf 86 = .ok (.iconst 0, 1) := dk_3 (dk_at dksX0_meanOf_3 16 rfl rfl)
theorem dX0_meanOf_87 : decode cX0_meanOf 87 = .ok (.iadd, 1) := dk_96 (dk_at dksX0_meanOf_3 17 rfl rfl)
theorem dX0_meanOf_88 : decode cX0_meanOf 88 = .ok (.istore 4, 2) := dk_54 4 (dk_at dksX0_meanOf_3 18 rfl rfl)
theorem dX0_meanOf_90 : decode cX0_meanOf 90 = .ok (.iinc 5 1, 3) := dk_132 5 1 (dk_at dksX0_meanOf_3 20 rfl rfl)
theorem dX0_meanOf_93 : decode cX0_meanOf 93 = .ok (.goto (-72), 3) := dk_167 255 184 (dk_at dksX0_meanOf_4 0 rfl rfl)
theorem dX0_meanOf_96 : decode cX0_meanOf 96 = .ok (.iload_n 3, 1) := dk_29 (dk_at dksX0_meanOf_4 3 rfl rfl)
theorem dX0_meanOf_97 : decode cX0_meanOf 97 = .ok (.invokestatic 360, 3) := dk_184 1 104 (dk_at dksX0_meanOf_4 4 rfl rfl)
theorem dX0_meanOf_100 : decode cX0_meanOf 100 = .ok (.iload 4, 2) := dk_21 4 (dk_at dksX0_meanOf_4 7 rfl rfl)
theorem dX0_meanOf_102 : decode cX0_meanOf 102 = .ok (.imul, 1) := dk_104 (dk_at dksX0_meanOf_4 9 rfl rfl)
theorem dX0_meanOf_103 : decode cX0_meanOf 103 = .ok (.bipush 10, 2) := dk_16 10 (dk_at dksX0_meanOf_4 10 rfl rfl)
theorem dX0_meanOf_105 : decode cX0_meanOf 105 = .ok (.idiv, 1) := dk_108 (dk_at dksX0_meanOf_4 12 rfl rfl)
theorem dX0_meanOf_106 : decode cX0_meanOf 106 = .ok (.ireturn, 1) := dk_172 (dk_at dksX0_meanOf_4 13 rfl rfl)
abbrev cX0_cast : ByteArray := prog_1_method_58_code
def yX0_cast : MethodName := ⟨RX0, "cast", "(II)I"⟩
def dkwX0_cast_2 : List UInt8 := [167, 255, 222, 29, 172, 78, 42, 45, 182, 0, 173, 16, 10, 100, 172]
abbrev dktX0_cast_2 : List UInt8 := dkwX0_cast_2 ++ []
def dkwX0_cast_1 : List UInt8 := [21, 5, 182, 1, 110, 54, 6, 21, 6, 21, 4, 164, 0, 10, 21, 5, 62, 21, 6, 54, 4, 132, 5, 1]
abbrev dktX0_cast_1 : List UInt8 := dkwX0_cast_1 ++ dktX0_cast_2
def dkwX0_cast_0 : List UInt8 := [42, 27, 28, 182, 1, 44, 2, 62, 3, 54, 4, 4, 54, 5, 21, 5, 16, 40, 163, 0, 33, 42, 27, 28]
abbrev dktX0_cast_0 : List UInt8 := dkwX0_cast_0 ++ dktX0_cast_1
theorem dksX0_cast_0 : cX0_cast.data.toList.drop 0 = dktX0_cast_0 := by decide +kernel
theorem dksX0_cast_1 : cX0_cast.data.toList.drop 24 = dktX0_cast_1 := dk_seg dksX0_cast_0 24 rfl rfl
theorem dksX0_cast_2 : cX0_cast.data.toList.drop 48 = dktX0_cast_2 := dk_seg dksX0_cast_1 24 rfl rfl
theorem dX0_cast_0 : decode cX0_cast 0 = .ok (.aload_n 0, 1) := dk_42 (dk_at dksX0_cast_0 0 rfl rfl)
theorem dX0_cast_1 : decode cX0_cast 1 = .ok (.iload_n 1, 1) := dk_27 (dk_at dksX0_cast_0 1 rfl rfl)
theorem dX0_cast_2 : decode cX0_cast 2 = .ok (.iload_n 2, 1) := dk_28 (dk_at dksX0_cast_0 2 rfl rfl)
theorem dX0_cast_3 : decode cX0_cast 3 = .ok (.invokevirtual 300, 3) := dk_182 1 44 (dk_at dksX0_cast_0 3 rfl rfl)
theorem dX0_cast_6 : decode cX0_cast 6 = .ok (.iconst (-1), 1) := dk_2 (dk_at dksX0_cast_0 6 rfl rfl)
theorem dX0_cast_7 : decode cX0_cast 7 = .ok (.istore_n 3, 1) := dk_62 (dk_at dksX0_cast_0 7 rfl rfl)
theorem dX0_cast_8 : decode cX0_cast 8 = .ok (.iconst 0, 1) := dk_3 (dk_at dksX0_cast_0 8 rfl rfl)
theorem dX0_cast_9 : decode cX0_cast 9 = .ok (.istore 4, 2) := dk_54 4 (dk_at dksX0_cast_0 9 rfl rfl)
theorem dX0_cast_11 : decode cX0_cast 11 = .ok (.iconst 1, 1) := dk_4 (dk_at dksX0_cast_0 11 rfl rfl)
theorem dX0_cast_12 : decode cX0_cast 12 = .ok (.istore 5, 2) := dk_54 5 (dk_at dksX0_cast_0 12 rfl rfl)
theorem dX0_cast_14 : decode cX0_cast 14 = .ok (.iload 5, 2) := dk_21 5 (dk_at dksX0_cast_0 14 rfl rfl)
theorem dX0_cast_16 : decode cX0_cast 16 = .ok (.bipush 40, 2) := dk_16 40 (dk_at dksX0_cast_0 16 rfl rfl)
theorem dX0_cast_18 : decode cX0_cast 18 = .ok (.if_icmp .gt 33, 3) := dk_163 0 33 (dk_at dksX0_cast_0 18 rfl rfl)
theorem dX0_cast_21 : decode cX0_cast 21 = .ok (.aload_n 0, 1) := dk_42 (dk_at dksX0_cast_0 21 rfl rfl)
theorem dX0_cast_22 : decode cX0_cast 22 = .ok (.iload_n 1, 1) := dk_27 (dk_at dksX0_cast_0 22 rfl rfl)
theorem dX0_cast_23 : decode cX0_cast 23 = .ok (.iload_n 2, 1) := dk_28 (dk_at dksX0_cast_0 23 rfl rfl)
theorem dX0_cast_24 : decode cX0_cast 24 = .ok (.iload 5, 2) := dk_21 5 (dk_at dksX0_cast_1 0 rfl rfl)
theorem dX0_cast_26 : decode cX0_cast 26 = .ok (.invokevirtual 366, 3) := dk_182 1 110 (dk_at dksX0_cast_1 2 rfl rfl)
theorem dX0_cast_29 : decode cX0_cast 29 = .ok (.istore 6, 2) := dk_54 6 (dk_at dksX0_cast_1 5 rfl rfl)
theorem dX0_cast_31 : decode cX0_cast 31 = .ok (.iload 6, 2) := dk_21 6 (dk_at dksX0_cast_1 7 rfl rfl)
theorem dX0_cast_33 : decode cX0_cast 33 = .ok (.iload 4, 2) := dk_21 4 (dk_at dksX0_cast_1 9 rfl rfl)
theorem dX0_cast_35 : decode cX0_cast 35 = .ok (.if_icmp .le 10, 3) := dk_164 0 10 (dk_at dksX0_cast_1 11 rfl rfl)
theorem dX0_cast_38 : decode cX0_cast 38 = .ok (.iload 5, 2) := dk_21 5 (dk_at dksX0_cast_1 14 rfl rfl)
theorem dX0_cast_40 : decode cX0_cast 40 = .ok (.istore_n 3, 1) := dk_62 (dk_at dksX0_cast_1 16 rfl rfl)
theorem dX0_cast_41 : decode cX0_cast 41 = .ok (.iload 6, 2) := dk_21 6 (dk_at dksX0_cast_1 17 rfl rfl)
theorem dX0_cast_43 : decode cX0_cast 43 = .ok (.istore 4, 2) := dk_54 4 (dk_at dksX0_cast_1 19 rfl rfl)
theorem dX0_cast_45 : decode cX0_cast 45 = .ok (.iinc 5 1, 3) := dk_132 5 1 (dk_at dksX0_cast_1 21 rfl rfl)
theorem dX0_cast_48 : decode cX0_cast 48 = .ok (.goto (-34), 3) := dk_167 255 222 (dk_at dksX0_cast_2 0 rfl rfl)
theorem dX0_cast_51 : decode cX0_cast 51 = .ok (.iload_n 3, 1) := dk_29 (dk_at dksX0_cast_2 3 rfl rfl)
theorem dX0_cast_52 : decode cX0_cast 52 = .ok (.ireturn, 1) := dk_172 (dk_at dksX0_cast_2 4 rfl rfl)
theorem dX0_cast_53 : decode cX0_cast 53 = .ok (.astore_n 3, 1) := dk_78 (dk_at dksX0_cast_2 5 rfl rfl)
theorem dX0_cast_54 : decode cX0_cast 54 = .ok (.aload_n 0, 1) := dk_42 (dk_at dksX0_cast_2 6 rfl rfl)
theorem dX0_cast_55 : decode cX0_cast 55 = .ok (.aload_n 3, 1) := dk_45 (dk_at dksX0_cast_2 7 rfl rfl)
theorem dX0_cast_56 : decode cX0_cast 56 = .ok (.invokevirtual 173, 3) := dk_182 0 173 (dk_at dksX0_cast_2 8 rfl rfl)
theorem dX0_cast_59 : decode cX0_cast 59 = .ok (.bipush 10, 2) := dk_16 10 (dk_at dksX0_cast_2 11 rfl rfl)
theorem dX0_cast_61 : decode cX0_cast 61 = .ok (.isub, 1) := dk_100 (dk_at dksX0_cast_2 13 rfl rfl)
theorem dX0_cast_62 : decode cX0_cast 62 = .ok (.ireturn, 1) := dk_172 (dk_at dksX0_cast_2 14 rfl rfl)
abbrev cX0_toss : ByteArray := prog_1_method_59_code
def yX0_toss : MethodName := ⟨RX0, "toss", "(III)I"⟩
def dkwX0_toss_7 : List UInt8 := [167, 0, 4, 3, 172, 58, 4, 42, 25, 4, 182, 0, 173, 172]
abbrev dktX0_toss_7 : List UInt8 := dkwX0_toss_7 ++ []
def dkwX0_toss_6 : List UInt8 := [182, 1, 119, 42, 180, 0, 90, 89, 180, 1, 58, 4, 96, 181, 1, 58, 21, 4, 153, 0, 7, 4]
abbrev dktX0_toss_6 : List UInt8 := dkwX0_toss_6 ++ dktX0_toss_7
def dkwX0_toss_5 : List UInt8 := [180, 0, 119, 28, 50, 182, 1, 116, 153, 0, 7, 4, 167, 0, 4, 3, 84, 42, 180, 0, 90, 27, 28]
abbrev dktX0_toss_5 : List UInt8 := dkwX0_toss_5 ++ dktX0_toss_6
def dkwX0_toss_4 : List UInt8 := [180, 1, 6, 28, 2, 79, 42, 180, 0, 90, 180, 1, 9, 28, 21, 4, 154, 0, 22, 42, 180, 0, 90]
abbrev dktX0_toss_4 : List UInt8 := dkwX0_toss_4 ++ dktX0_toss_5
def dkwX0_toss_3 : List UInt8 := [167, 0, 4, 3, 54, 4, 42, 180, 0, 90, 180, 0, 132, 28, 92, 46, 29, 96, 79, 42, 180, 0, 90]
abbrev dktX0_toss_3 : List UInt8 := dkwX0_toss_3 ++ dktX0_toss_4
def dkwX0_toss_2 : List UInt8 := [16, 250, 184, 0, 115, 42, 180, 0, 90, 16, 10, 182, 1, 113, 29, 184, 1, 104, 162, 0, 7, 4]
abbrev dktX0_toss_2 : List UInt8 := dkwX0_toss_2 ++ dktX0_toss_3
def dkwX0_toss_1 : List UInt8 := [29, 182, 1, 107, 153, 0, 19, 42, 180, 0, 90, 180, 1, 9, 28, 51, 154, 0, 7, 4, 167, 0, 4, 3]
abbrev dktX0_toss_1 : List UInt8 := dkwX0_toss_1 ++ dktX0_toss_2
def dkwX0_toss_0 : List UInt8 := [42, 27, 28, 182, 1, 44, 29, 133, 10, 20, 1, 102, 184, 0, 107, 153, 0, 32, 42, 180, 0, 90, 27, 28]
abbrev dktX0_toss_0 : List UInt8 := dkwX0_toss_0 ++ dktX0_toss_1
theorem dksX0_toss_0 : cX0_toss.data.toList.drop 0 = dktX0_toss_0 := by decide +kernel
theorem dksX0_toss_1 : cX0_toss.data.toList.drop 24 = dktX0_toss_1 := dk_seg dksX0_toss_0 24 rfl rfl
theorem dksX0_toss_2 : cX0_toss.data.toList.drop 48 = dktX0_toss_2 := dk_seg dksX0_toss_1 24 rfl rfl
theorem dksX0_toss_3 : cX0_toss.data.toList.drop 70 = dktX0_toss_3 := dk_seg dksX0_toss_2 22 rfl rfl
theorem dksX0_toss_4 : cX0_toss.data.toList.drop 93 = dktX0_toss_4 := dk_seg dksX0_toss_3 23 rfl rfl
theorem dksX0_toss_5 : cX0_toss.data.toList.drop 116 = dktX0_toss_5 := dk_seg dksX0_toss_4 23 rfl rfl
theorem dksX0_toss_6 : cX0_toss.data.toList.drop 139 = dktX0_toss_6 := dk_seg dksX0_toss_5 23 rfl rfl
theorem dksX0_toss_7 : cX0_toss.data.toList.drop 161 = dktX0_toss_7 := dk_seg dksX0_toss_6 22 rfl rfl
theorem dX0_toss_0 : decode cX0_toss 0 = .ok (.aload_n 0, 1) := dk_42 (dk_at dksX0_toss_0 0 rfl rfl)
theorem dX0_toss_1 : decode cX0_toss 1 = .ok (.iload_n 1, 1) := dk_27 (dk_at dksX0_toss_0 1 rfl rfl)
theorem dX0_toss_2 : decode cX0_toss 2 = .ok (.iload_n 2, 1) := dk_28 (dk_at dksX0_toss_0 2 rfl rfl)
theorem dX0_toss_3 : decode cX0_toss 3 = .ok (.invokevirtual 300, 3) := dk_182 1 44 (dk_at dksX0_toss_0 3 rfl rfl)
theorem dX0_toss_6 : decode cX0_toss 6 = .ok (.iload_n 3, 1) := dk_29 (dk_at dksX0_toss_0 6 rfl rfl)
theorem dX0_toss_7 : decode cX0_toss 7 = .ok (.i2l, 1) := dk_133 (dk_at dksX0_toss_0 7 rfl rfl)
theorem dX0_toss_8 : decode cX0_toss 8 = .ok (.lconst 1, 1) := dk_10 (dk_at dksX0_toss_0 8 rfl rfl)
theorem dX0_toss_9 : decode cX0_toss 9 = .ok (.ldc2_w 358, 3) := dk_20 1 102 (dk_at dksX0_toss_0 9 rfl rfl)
theorem dX0_toss_12 : decode cX0_toss 12 = .ok (.invokestatic 107, 3) := dk_184 0 107 (dk_at dksX0_toss_0 12 rfl rfl)
theorem dX0_toss_15 : decode cX0_toss 15 = .ok (.ifCond .eq 32, 3) := dk_153 0 32 (dk_at dksX0_toss_0 15 rfl rfl)
theorem dX0_toss_18 : decode cX0_toss 18 = .ok (.aload_n 0, 1) := dk_42 (dk_at dksX0_toss_0 18 rfl rfl)
theorem dX0_toss_19 : decode cX0_toss 19 = .ok (.getfield 90, 3) := dk_180 0 90 (dk_at dksX0_toss_0 19 rfl rfl)
theorem dX0_toss_22 : decode cX0_toss 22 = .ok (.iload_n 1, 1) := dk_27 (dk_at dksX0_toss_0 22 rfl rfl)
theorem dX0_toss_23 : decode cX0_toss 23 = .ok (.iload_n 2, 1) := dk_28 (dk_at dksX0_toss_0 23 rfl rfl)
theorem dX0_toss_24 : decode cX0_toss 24 = .ok (.iload_n 3, 1) := dk_29 (dk_at dksX0_toss_1 0 rfl rfl)
theorem dX0_toss_25 : decode cX0_toss 25 = .ok (.invokevirtual 363, 3) := dk_182 1 107 (dk_at dksX0_toss_1 1 rfl rfl)
theorem dX0_toss_28 : decode cX0_toss 28 = .ok (.ifCond .eq 19, 3) := dk_153 0 19 (dk_at dksX0_toss_1 4 rfl rfl)
theorem dX0_toss_31 : decode cX0_toss 31 = .ok (.aload_n 0, 1) := dk_42 (dk_at dksX0_toss_1 7 rfl rfl)
theorem dX0_toss_32 : decode cX0_toss 32 = .ok (.getfield 90, 3) := dk_180 0 90 (dk_at dksX0_toss_1 8 rfl rfl)
theorem dX0_toss_35 : decode cX0_toss 35 = .ok (.getfield 265, 3) := dk_180 1 9 (dk_at dksX0_toss_1 11 rfl rfl)
theorem dX0_toss_38 : decode cX0_toss 38 = .ok (.iload_n 2, 1) := dk_28 (dk_at dksX0_toss_1 14 rfl rfl)
theorem dX0_toss_39 : decode cX0_toss 39 = .ok (.baload, 1) := dk_51 (dk_at dksX0_toss_1 15 rfl rfl)
theorem dX0_toss_40 : decode cX0_toss 40 = .ok (.ifCond .ne 7, 3) := dk_154 0 7 (dk_at dksX0_toss_1 16 rfl rfl)
theorem dX0_toss_43 : decode cX0_toss 43 = .ok (.iconst 1, 1) := dk_4 (dk_at dksX0_toss_1 19 rfl rfl)
theorem dX0_toss_44 : decode cX0_toss 44 = .ok (.goto 4, 3) := dk_167 0 4 (dk_at dksX0_toss_1 20 rfl rfl)
theorem dX0_toss_47 : decode cX0_toss 47 = .ok (.iconst 0, 1) := dk_3 (dk_at dksX0_toss_1 23 rfl rfl)
theorem dX0_toss_48 : decode cX0_toss 48 = .ok (.bipush (-6), 2) := dk_16 250 (dk_at dksX0_toss_2 0 rfl rfl)
theorem dX0_toss_50 : decode cX0_toss 50 = .ok (.invokestatic 115, 3) := dk_184 0 115 (dk_at dksX0_toss_2 2 rfl rfl)
theorem dX0_toss_53 : decode cX0_toss 53 = .ok (.aload_n 0, 1) := dk_42 (dk_at dksX0_toss_2 5 rfl rfl)
theorem dX0_toss_54 : decode cX0_toss 54 = .ok (.getfield 90, 3) := dk_180 0 90 (dk_at dksX0_toss_2 6 rfl rfl)
theorem dX0_toss_57 : decode cX0_toss 57 = .ok (.bipush 10, 2) := dk_16 10 (dk_at dksX0_toss_2 9 rfl rfl)
theorem dX0_toss_59 : decode cX0_toss 59 = .ok (.invokevirtual 369, 3) := dk_182 1 113 (dk_at dksX0_toss_2 11 rfl rfl)
theorem dX0_toss_62 : decode cX0_toss 62 = .ok (.iload_n 3, 1) := dk_29 (dk_at dksX0_toss_2 14 rfl rfl)
theorem dX0_toss_63 : decode cX0_toss 63 = .ok (.invokestatic 360, 3) := dk_184 1 104 (dk_at dksX0_toss_2 15 rfl rfl)
theorem dX0_toss_66 : decode cX0_toss 66 = .ok (.if_icmp .ge 7, 3) := dk_162 0 7 (dk_at dksX0_toss_2 18 rfl rfl)
theorem dX0_toss_69 : decode cX0_toss 69 = .ok (.iconst 1, 1) := dk_4 (dk_at dksX0_toss_2 21 rfl rfl)
theorem dX0_toss_70 : decode cX0_toss 70 = .ok (.goto 4, 3) := dk_167 0 4 (dk_at dksX0_toss_3 0 rfl rfl)
theorem dX0_toss_73 : decode cX0_toss 73 = .ok (.iconst 0, 1) := dk_3 (dk_at dksX0_toss_3 3 rfl rfl)
theorem dX0_toss_74 : decode cX0_toss 74 = .ok (.istore 4, 2) := dk_54 4 (dk_at dksX0_toss_3 4 rfl rfl)
theorem dX0_toss_76 : decode cX0_toss 76 = .ok (.aload_n 0, 1) := dk_42 (dk_at dksX0_toss_3 6 rfl rfl)
theorem dX0_toss_77 : decode cX0_toss 77 = .ok (.getfield 90, 3) := dk_180 0 90 (dk_at dksX0_toss_3 7 rfl rfl)
theorem dX0_toss_80 : decode cX0_toss 80 = .ok (.getfield 132, 3) := dk_180 0 132 (dk_at dksX0_toss_3 10 rfl rfl)
theorem dX0_toss_83 : decode cX0_toss 83 = .ok (.iload_n 2, 1) := dk_28 (dk_at dksX0_toss_3 13 rfl rfl)
theorem dX0_toss_84 : decode cX0_toss 84 = .ok (.dup2, 1) := dk_92 (dk_at dksX0_toss_3 14 rfl rfl)
theorem dX0_toss_85 : decode cX0_toss 85 = .ok (.iaload, 1) := dk_46 (dk_at dksX0_toss_3 15 rfl rfl)
theorem dX0_toss_86 : decode cX0_toss 86 = .ok (.iload_n 3, 1) := dk_29 (dk_at dksX0_toss_3 16 rfl rfl)
theorem dX0_toss_87 : decode cX0_toss 87 = .ok (.iadd, 1) := dk_96 (dk_at dksX0_toss_3 17 rfl rfl)
theorem dX0_toss_88 : decode cX0_toss 88 = .ok (.iastore, 1) := dk_79 (dk_at dksX0_toss_3 18 rfl rfl)
theorem dX0_toss_89 : decode cX0_toss 89 = .ok (.aload_n 0, 1) := dk_42 (dk_at dksX0_toss_3 19 rfl rfl)
theorem dX0_toss_90 : decode cX0_toss 90 = .ok (.getfield 90, 3) := dk_180 0 90 (dk_at dksX0_toss_3 20 rfl rfl)
theorem dX0_toss_93 : decode cX0_toss 93 = .ok (.getfield 262, 3) := dk_180 1 6 (dk_at dksX0_toss_4 0 rfl rfl)
theorem dX0_toss_96 : decode cX0_toss 96 = .ok (.iload_n 2, 1) := dk_28 (dk_at dksX0_toss_4 3 rfl rfl)
theorem dX0_toss_97 : decode cX0_toss 97 = .ok (.iconst (-1), 1) := dk_2 (dk_at dksX0_toss_4 4 rfl rfl)
theorem dX0_toss_98 : decode cX0_toss 98 = .ok (.iastore, 1) := dk_79 (dk_at dksX0_toss_4 5 rfl rfl)
theorem dX0_toss_99 : decode cX0_toss 99 = .ok (.aload_n 0, 1) := dk_42 (dk_at dksX0_toss_4 6 rfl rfl)
theorem dX0_toss_100 : decode cX0_toss 100 = .ok (.getfield 90, 3) := dk_180 0 90 (dk_at dksX0_toss_4 7 rfl rfl)
theorem dX0_toss_103 : decode cX0_toss 103 = .ok (.getfield 265, 3) := dk_180 1 9 (dk_at dksX0_toss_4 10 rfl rfl)
theorem dX0_toss_106 : decode cX0_toss 106 = .ok (.iload_n 2, 1) := dk_28 (dk_at dksX0_toss_4 13 rfl rfl)
theorem dX0_toss_107 : decode cX0_toss 107 = .ok (.iload 4, 2) := dk_21 4 (dk_at dksX0_toss_4 14 rfl rfl)
theorem dX0_toss_109 : decode cX0_toss 109 = .ok (.ifCond .ne 22, 3) := dk_154 0 22 (dk_at dksX0_toss_4 16 rfl rfl)
theorem dX0_toss_112 : decode cX0_toss 112 = .ok (.aload_n 0, 1) := dk_42 (dk_at dksX0_toss_4 19 rfl rfl)
theorem dX0_toss_113 : decode cX0_toss 113 = .ok (.getfield 90, 3) := dk_180 0 90 (dk_at dksX0_toss_4 20 rfl rfl)
theorem dX0_toss_116 : decode cX0_toss 116 = .ok (.getfield 119, 3) := dk_180 0 119 (dk_at dksX0_toss_5 0 rfl rfl)
theorem dX0_toss_119 : decode cX0_toss 119 = .ok (.iload_n 2, 1) := dk_28 (dk_at dksX0_toss_5 3 rfl rfl)
theorem dX0_toss_120 : decode cX0_toss 120 = .ok (.aaload, 1) := dk_50 (dk_at dksX0_toss_5 4 rfl rfl)
theorem dX0_toss_121 : decode cX0_toss 121 = .ok (.invokevirtual 372, 3) := dk_182 1 116 (dk_at dksX0_toss_5 5 rfl rfl)
theorem dX0_toss_124 : decode cX0_toss 124 = .ok (.ifCond .eq 7, 3) := dk_153 0 7 (dk_at dksX0_toss_5 8 rfl rfl)
theorem dX0_toss_127 : decode cX0_toss 127 = .ok (.iconst 1, 1) := dk_4 (dk_at dksX0_toss_5 11 rfl rfl)
theorem dX0_toss_128 : decode cX0_toss 128 = .ok (.goto 4, 3) := dk_167 0 4 (dk_at dksX0_toss_5 12 rfl rfl)
theorem dX0_toss_131 : decode cX0_toss 131 = .ok (.iconst 0, 1) := dk_3 (dk_at dksX0_toss_5 15 rfl rfl)
theorem dX0_toss_132 : decode cX0_toss 132 = .ok (.bastore, 1) := dk_84 (dk_at dksX0_toss_5 16 rfl rfl)
theorem dX0_toss_133 : decode cX0_toss 133 = .ok (.aload_n 0, 1) := dk_42 (dk_at dksX0_toss_5 17 rfl rfl)
theorem dX0_toss_134 : decode cX0_toss 134 = .ok (.getfield 90, 3) := dk_180 0 90 (dk_at dksX0_toss_5 18 rfl rfl)
theorem dX0_toss_137 : decode cX0_toss 137 = .ok (.iload_n 1, 1) := dk_27 (dk_at dksX0_toss_5 21 rfl rfl)
theorem dX0_toss_138 : decode cX0_toss 138 = .ok (.iload_n 2, 1) := dk_28 (dk_at dksX0_toss_5 22 rfl rfl)
theorem dX0_toss_139 : decode cX0_toss 139 = .ok (.invokevirtual 375, 3) := dk_182 1 119 (dk_at dksX0_toss_6 0 rfl rfl)
theorem dX0_toss_142 : decode cX0_toss 142 = .ok (.aload_n 0, 1) := dk_42 (dk_at dksX0_toss_6 3 rfl rfl)
theorem dX0_toss_143 : decode cX0_toss 143 = .ok (.getfield 90, 3) := dk_180 0 90 (dk_at dksX0_toss_6 4 rfl rfl)
theorem dX0_toss_146 : decode cX0_toss 146 = .ok (.dup, 1) := dk_89 (dk_at dksX0_toss_6 7 rfl rfl)
theorem dX0_toss_147 : decode cX0_toss 147 = .ok (.getfield 314, 3) := dk_180 1 58 (dk_at dksX0_toss_6 8 rfl rfl)
theorem dX0_toss_150 : decode cX0_toss 150 = .ok (.iconst 1, 1) := dk_4 (dk_at dksX0_toss_6 11 rfl rfl)
theorem dX0_toss_151 : decode cX0_toss 151 = .ok (.iadd, 1) := dk_96 (dk_at dksX0_toss_6 12 rfl rfl)
theorem dX0_toss_152 : decode cX0_toss 152 = .ok (.putfield 314, 3) := dk_181 1 58 (dk_at dksX0_toss_6 13 rfl rfl)
theorem dX0_toss_155 : decode cX0_toss 155 = .ok (.iload 4, 2) := dk_21 4 (dk_at dksX0_toss_6 16 rfl rfl)
theorem dX0_toss_157 : decode cX0_toss 157 = .ok (.ifCond .eq 7, 3) := dk_153 0 7 (dk_at dksX0_toss_6 18 rfl rfl)
theorem dX0_toss_160 : decode cX0_toss 160 = .ok (.iconst 1, 1) := dk_4 (dk_at dksX0_toss_6 21 rfl rfl)
theorem dX0_toss_161 : decode cX0_toss 161 = .ok (.goto 4, 3) := dk_167 0 4 (dk_at dksX0_toss_7 0 rfl rfl)
theorem dX0_toss_164 : decode cX0_toss 164 = .ok (.iconst 0, 1) := dk_3 (dk_at dksX0_toss_7 3 rfl rfl)
theorem dX0_toss_165 : decode cX0_toss 165 = .ok (.ireturn, 1) := dk_172 (dk_at dksX0_toss_7 4 rfl rfl)
theorem dX0_toss_166 : decode cX0_toss 166 = .ok (.astore 4, 2) := dk_58 4 (dk_at dksX0_toss_7 5 rfl rfl)
theorem dX0_toss_168 : decode cX0_toss 168 = .ok (.aload_n 0, 1) := dk_42 (dk_at dksX0_toss_7 7 rfl rfl)
theorem dX0_toss_169 : decode cX0_toss 169 = .ok (.aload 4, 2) := dk_25 4 (dk_at dksX0_toss_7 8 rfl rfl)
theorem dX0_toss_171 : decode cX0_toss 171 = .ok (.invokevirtual 173, 3) := dk_182 0 173 (dk_at dksX0_toss_7 10 rfl rfl)
theorem dX0_toss_174 : decode cX0_toss 174 = .ok (.ireturn, 1) := dk_172 (dk_at dksX0_toss_7 13 rfl rfl)
abbrev cX0_part : ByteArray := prog_1_method_60_code
def yX0_part : MethodName := ⟨RX0, "part", "(I)I"⟩
def dkwX0_part_5 : List UInt8 := [167, 255, 230, 42, 182, 1, 129, 42, 180, 0, 90, 180, 0, 104, 172, 77, 42, 44, 182, 0, 173, 172]
abbrev dktX0_part_5 : List UInt8 := dkwX0_part_5 ++ []
def dkwX0_part_4 : List UInt8 := [180, 1, 3, 162, 0, 23, 42, 180, 0, 90, 3, 29, 4, 21, 4, 21, 5, 182, 0, 207, 132, 6, 1]
abbrev dktX0_part_4 : List UInt8 := dkwX0_part_4 ++ dktX0_part_5
def dkwX0_part_3 : List UInt8 := [54, 5, 42, 180, 0, 90, 27, 3, 29, 4, 21, 4, 21, 5, 182, 1, 125, 4, 54, 6, 21, 6, 44]
abbrev dktX0_part_3 : List UInt8 := dkwX0_part_3 ++ dktX0_part_4
def dkwX0_part_2 : List UInt8 := [182, 1, 122, 62, 42, 180, 0, 90, 180, 0, 132, 27, 46, 54, 4, 42, 180, 0, 90, 180, 1, 6, 27, 46]
abbrev dktX0_part_2 : List UInt8 := dkwX0_part_2 ++ dktX0_part_3
def dkwX0_part_1 : List UInt8 := [180, 1, 3, 96, 4, 100, 16, 8, 163, 0, 7, 4, 167, 0, 4, 3, 16, 249, 184, 0, 115, 44]
abbrev dktX0_part_1 : List UInt8 := dkwX0_part_1 ++ dktX0_part_2
def dkwX0_part_0 : List UInt8 := [42, 27, 182, 0, 193, 77, 44, 193, 0, 41, 16, 254, 184, 0, 115, 42, 180, 0, 90, 180, 0, 104, 44]
abbrev dktX0_part_0 : List UInt8 := dkwX0_part_0 ++ dktX0_part_1
theorem dksX0_part_0 : cX0_part.data.toList.drop 0 = dktX0_part_0 := by decide +kernel
theorem dksX0_part_1 : cX0_part.data.toList.drop 23 = dktX0_part_1 := dk_seg dksX0_part_0 23 rfl rfl
theorem dksX0_part_2 : cX0_part.data.toList.drop 45 = dktX0_part_2 := dk_seg dksX0_part_1 22 rfl rfl
theorem dksX0_part_3 : cX0_part.data.toList.drop 69 = dktX0_part_3 := dk_seg dksX0_part_2 24 rfl rfl
theorem dksX0_part_4 : cX0_part.data.toList.drop 92 = dktX0_part_4 := dk_seg dksX0_part_3 23 rfl rfl
theorem dksX0_part_5 : cX0_part.data.toList.drop 115 = dktX0_part_5 := dk_seg dksX0_part_4 23 rfl rfl
theorem dX0_part_0 : decode cX0_part 0 = .ok (.aload_n 0, 1) := dk_42 (dk_at dksX0_part_0 0 rfl rfl)
theorem dX0_part_1 : decode cX0_part 1 = .ok (.iload_n 1, 1) := dk_27 (dk_at dksX0_part_0 1 rfl rfl)
theorem dX0_part_2 : decode cX0_part 2 = .ok (.invokevirtual 193, 3) := dk_182 0 193 (dk_at dksX0_part_0 2 rfl rfl)
theorem dX0_part_5 : decode cX0_part 5 = .ok (.astore_n 2, 1) := dk_77 (dk_at dksX0_part_0 5 rfl rfl)
theorem dX0_part_6 : decode cX0_part 6 = .ok (.aload_n 2, 1) := dk_44 (dk_at dksX0_part_0 6 rfl rfl)
theorem dX0_part_7 : decode cX0_part 7 = .ok (.instanceof 41, 3) := dk_193 0 41 (dk_at dksX0_part_0 7 rfl rfl)
theorem dX0_part_10 : decode cX0_part 10 = .ok (.bipush (-2), 2) := dk_16 254 (dk_at dksX0_part_0 10 rfl rfl)
theorem dX0_part_12 : decode cX0_part 12 = .ok (.invokestatic 115, 3) := dk_184 0 115 (dk_at dksX0_part_0 12 rfl rfl)
theorem dX0_part_15 : decode cX0_part 15 = .ok (.aload_n 0, 1) := dk_42 (dk_at dksX0_part_0 15 rfl rfl)
theorem dX0_part_16 : decode cX0_part 16 = .ok (.getfield 90, 3) := dk_180 0 90 (dk_at dksX0_part_0 16 rfl rfl)
theorem dX0_part_19 : decode cX0_part 19 = .ok (.getfield 104, 3) := dk_180 0 104 (dk_at dksX0_part_0 19 rfl rfl)
theorem dX0_part_22 : decode cX0_part 22 = .ok (.aload_n 2, 1) := dk_44 (dk_at dksX0_part_0 22 rfl rfl)
theorem dX0_part_23 : decode cX0_part 23 = .ok (.getfield 259, 3) := dk_180 1 3 (dk_at dksX0_part_1 0 rfl rfl)
theorem dX0_part_26 : decode cX0_part 26 = .ok (.iadd, 1) := dk_96 (dk_at dksX0_part_1 3 rfl rfl)
theorem dX0_part_27 : decode cX0_part 27 = .ok (.iconst 1, 1) := dk_4 (dk_at dksX0_part_1 4 rfl rfl)
theorem dX0_part_28 : decode cX0_part 28 = .ok (.isub, 1) := dk_100 (dk_at dksX0_part_1 5 rfl rfl)
theorem dX0_part_29 : decode cX0_part 29 = .ok (.bipush 8, 2) := dk_16 8 (dk_at dksX0_part_1 6 rfl rfl)
theorem dX0_part_31 : decode cX0_part 31 = .ok (.if_icmp .gt 7, 3) := dk_163 0 7 (dk_at dksX0_part_1 8 rfl rfl)
theorem dX0_part_34 : decode cX0_part 34 = .ok (.iconst 1, 1) := dk_4 (dk_at dksX0_part_1 11 rfl rfl)
theorem dX0_part_35 : decode cX0_part 35 = .ok (.goto 4, 3) := dk_167 0 4 (dk_at dksX0_part_1 12 rfl rfl)
theorem dX0_part_38 : decode cX0_part 38 = .ok (.iconst 0, 1) := dk_3 (dk_at dksX0_part_1 15 rfl rfl)
theorem dX0_part_39 : decode cX0_part 39 = .ok (.bipush (-7), 2) := dk_16 249 (dk_at dksX0_part_1 16 rfl rfl)
theorem dX0_part_41 : decode cX0_part 41 = .ok (.invokestatic 115, 3) := dk_184 0 115 (dk_at dksX0_part_1 18 rfl rfl)
theorem dX0_part_44 : decode cX0_part 44 = .ok (.aload_n 2, 1) := dk_44 (dk_at dksX0_part_1 21 rfl rfl)
theorem dX0_part_45 : decode cX0_part 45 = .ok (.invokevirtual 378, 3) := dk_182 1 122 (dk_at dksX0_part_2 0 rfl rfl)
theorem dX0_part_48 : decode cX0_part 48 = .ok (.istore_n 3, 1) := dk_62 (dk_at dksX0_part_2 3 rfl rfl)
theorem dX0_part_49 : decode cX0_part 49 = .ok (.aload_n 0, 1) := dk_42 (dk_at dksX0_part_2 4 rfl rfl)
theorem dX0_part_50 : decode cX0_part 50 = .ok (.getfield 90, 3) := dk_180 0 90 (dk_at dksX0_part_2 5 rfl rfl)
theorem dX0_part_53 : decode cX0_part 53 = .ok (.getfield 132, 3) := dk_180 0 132 (dk_at dksX0_part_2 8 rfl rfl)
theorem dX0_part_56 : decode cX0_part 56 = .ok (.iload_n 1, 1) := dk_27 (dk_at dksX0_part_2 11 rfl rfl)
theorem dX0_part_57 : decode cX0_part 57 = .ok (.iaload, 1) := dk_46 (dk_at dksX0_part_2 12 rfl rfl)
theorem dX0_part_58 : decode cX0_part 58 = .ok (.istore 4, 2) := dk_54 4 (dk_at dksX0_part_2 13 rfl rfl)
theorem dX0_part_60 : decode cX0_part 60 = .ok (.aload_n 0, 1) := dk_42 (dk_at dksX0_part_2 15 rfl rfl)
theorem dX0_part_61 : decode cX0_part 61 = .ok (.getfield 90, 3) := dk_180 0 90 (dk_at dksX0_part_2 16 rfl rfl)
theorem dX0_part_64 : decode cX0_part 64 = .ok (.getfield 262, 3) := dk_180 1 6 (dk_at dksX0_part_2 19 rfl rfl)
theorem dX0_part_67 : decode cX0_part 67 = .ok (.iload_n 1, 1) := dk_27 (dk_at dksX0_part_2 22 rfl rfl)
theorem dX0_part_68 : decode cX0_part 68 = .ok (.iaload, 1) := dk_46 (dk_at dksX0_part_2 23 rfl rfl)
theorem dX0_part_69 : decode cX0_part 69 = .ok (.istore 5, 2) := dk_54 5 (dk_at dksX0_part_3 0 rfl rfl)
theorem dX0_part_71 : decode cX0_part 71 = .ok (.aload_n 0, 1) := dk_42 (dk_at dksX0_part_3 2 rfl rfl)
theorem dX0_part_72 : decode cX0_part 72 = .ok (.getfield 90, 3) := dk_180 0 90 (dk_at dksX0_part_3 3 rfl rfl)
theorem dX0_part_75 : decode cX0_part 75 = .ok (.iload_n 1, 1) := dk_27 (dk_at dksX0_part_3 6 rfl rfl)
theorem dX0_part_76 : decode cX0_part 76 = .ok (.iconst 0, 1) := dk_3 (dk_at dksX0_part_3 7 rfl rfl)
theorem dX0_part_77 : decode cX0_part 77 = .ok (.iload_n 3, 1) := dk_29 (dk_at dksX0_part_3 8 rfl rfl)
theorem dX0_part_78 : decode cX0_part 78 = .ok (.iconst 1, 1) := dk_4 (dk_at dksX0_part_3 9 rfl rfl)
theorem dX0_part_79 : decode cX0_part 79 = .ok (.iload 4, 2) := dk_21 4 (dk_at dksX0_part_3 10 rfl rfl)
theorem dX0_part_81 : decode cX0_part 81 = .ok (.iload 5, 2) := dk_21 5 (dk_at dksX0_part_3 12 rfl rfl)
theorem dX0_part_83 : decode cX0_part 83 = .ok (.invokevirtual 381, 3) := dk_182 1 125 (dk_at dksX0_part_3 14 rfl rfl)
theorem dX0_part_86 : decode cX0_part 86 = .ok (.iconst 1, 1) := dk_4 (dk_at dksX0_part_3 17 rfl rfl)
theorem dX0_part_87 : decode cX0_part 87 = .ok (.istore 6, 2) := dk_54 6 (dk_at dksX0_part_3 18 rfl rfl)
theorem dX0_part_89 : decode cX0_part 89 = .ok (.iload 6, 2) := dk_21 6 (dk_at dksX0_part_3 20 rfl rfl)
theorem dX0_part_91 : decode cX0_part 91 = .ok (.aload_n 2, 1) := dk_44 (dk_at dksX0_part_3 22 rfl rfl)
theorem dX0_part_92 : decode cX0_part 92 = .ok (.getfield 259, 3) := dk_180 1 3 (dk_at dksX0_part_4 0 rfl rfl)
theorem dX0_part_95 : decode cX0_part 95 = .ok (.if_icmp .ge 23, 3) := dk_162 0 23 (dk_at dksX0_part_4 3 rfl rfl)
theorem dX0_part_98 : decode cX0_part 98 = .ok (.aload_n 0, 1) := dk_42 (dk_at dksX0_part_4 6 rfl rfl)
theorem dX0_part_99 : decode cX0_part 99 = .ok (.getfield 90, 3) := dk_180 0 90 (dk_at dksX0_part_4 7 rfl rfl)
theorem dX0_part_102 : decode cX0_part 102 = .ok (.iconst 0, 1) := dk_3 (dk_at dksX0_part_4 10 rfl rfl)
theorem dX0_part_103 : decode cX0_part 103 = .ok (.iload_n 3, 1) := dk_29 (dk_at dksX0_part_4 11 rfl rfl)
theorem dX0_part_104 : decode cX0_part 104 = .ok (.iconst 1, 1) := dk_4 (dk_at dksX0_part_4 12 rfl rfl)
theorem dX0_part_105 : decode cX0_part 105 = .ok (.iload 4, 2) := dk_21 4 (dk_at dksX0_part_4 13 rfl rfl)
theorem dX0_part_107 : decode cX0_part 107 = .ok (.iload 5, 2) := dk_21 5 (dk_at dksX0_part_4 15 rfl rfl)
theorem dX0_part_109 : decode cX0_part 109 = .ok (.invokevirtual 207, 3) := dk_182 0 207 (dk_at dksX0_part_4 17 rfl rfl)
theorem dX0_part_112 : decode cX0_part 112 = .ok (.iinc 6 1, 3) := dk_132 6 1 (dk_at dksX0_part_4 20 rfl rfl)
theorem dX0_part_115 : decode cX0_part 115 = .ok (.goto (-26), 3) := dk_167 255 230 (dk_at dksX0_part_5 0 rfl rfl)
theorem dX0_part_118 : decode cX0_part 118 = .ok (.aload_n 0, 1) := dk_42 (dk_at dksX0_part_5 3 rfl rfl)
theorem dX0_part_119 : decode cX0_part 119 = .ok (.invokevirtual 385, 3) := dk_182 1 129 (dk_at dksX0_part_5 4 rfl rfl)
theorem dX0_part_122 : decode cX0_part 122 = .ok (.aload_n 0, 1) := dk_42 (dk_at dksX0_part_5 7 rfl rfl)
theorem dX0_part_123 : decode cX0_part 123 = .ok (.getfield 90, 3) := dk_180 0 90 (dk_at dksX0_part_5 8 rfl rfl)
theorem dX0_part_126 : decode cX0_part 126 = .ok (.getfield 104, 3) := dk_180 0 104 (dk_at dksX0_part_5 11 rfl rfl)
theorem dX0_part_129 : decode cX0_part 129 = .ok (.ireturn, 1) := dk_172 (dk_at dksX0_part_5 14 rfl rfl)
theorem dX0_part_130 : decode cX0_part 130 = .ok (.astore_n 2, 1) := dk_77 (dk_at dksX0_part_5 15 rfl rfl)
theorem dX0_part_131 : decode cX0_part 131 = .ok (.aload_n 0, 1) := dk_42 (dk_at dksX0_part_5 16 rfl rfl)
theorem dX0_part_132 : decode cX0_part 132 = .ok (.aload_n 2, 1) := dk_44 (dk_at dksX0_part_5 17 rfl rfl)
theorem dX0_part_133 : decode cX0_part 133 = .ok (.invokevirtual 173, 3) := dk_182 0 173 (dk_at dksX0_part_5 18 rfl rfl)
theorem dX0_part_136 : decode cX0_part 136 = .ok (.ireturn, 1) := dk_172 (dk_at dksX0_part_5 21 rfl rfl)
abbrev cX0_shelvesFollow : ByteArray := prog_1_method_16_code
def yX0_shelvesFollow : MethodName := ⟨RX0, "shelvesFollow", "()V"⟩
def dkwX0_shelvesFollow_3 : List UInt8 := [132, 3, 1, 167, 255, 194, 177]
abbrev dktX0_shelvesFollow_3 : List UInt8 := dkwX0_shelvesFollow_3 ++ []
def dkwX0_shelvesFollow_2 : List UInt8 := [182, 0, 111, 153, 0, 16, 42, 180, 0, 90, 180, 0, 119, 21, 5, 50, 167, 0, 4, 1, 181, 0, 143]
abbrev dktX0_shelvesFollow_2 : List UInt8 := dkwX0_shelvesFollow_2 ++ dktX0_shelvesFollow_3
def dkwX0_shelvesFollow_1 : List UInt8 := [182, 0, 139, 153, 0, 44, 25, 4, 180, 0, 143, 192, 0, 47, 180, 0, 146, 54, 5, 25, 4, 42, 21, 5]
abbrev dktX0_shelvesFollow_1 : List UInt8 := dkwX0_shelvesFollow_1 ++ dktX0_shelvesFollow_2
def dkwX0_shelvesFollow_0 : List UInt8 := [42, 180, 0, 59, 76, 43, 190, 61, 3, 62, 29, 28, 162, 0, 63, 43, 29, 50, 58, 4, 25, 4]
abbrev dktX0_shelvesFollow_0 : List UInt8 := dkwX0_shelvesFollow_0 ++ dktX0_shelvesFollow_1
theorem dksX0_shelvesFollow_0 : cX0_shelvesFollow.data.toList.drop 0 = dktX0_shelvesFollow_0 := by decide +kernel
theorem dksX0_shelvesFollow_1 : cX0_shelvesFollow.data.toList.drop 22 = dktX0_shelvesFollow_1 := dk_seg dksX0_shelvesFollow_0 22 rfl rfl
theorem dksX0_shelvesFollow_2 : cX0_shelvesFollow.data.toList.drop 46 = dktX0_shelvesFollow_2 := dk_seg dksX0_shelvesFollow_1 24 rfl rfl
theorem dksX0_shelvesFollow_3 : cX0_shelvesFollow.data.toList.drop 69 = dktX0_shelvesFollow_3 := dk_seg dksX0_shelvesFollow_2 23 rfl rfl
theorem dX0_shelvesFollow_0 : decode cX0_shelvesFollow 0 = .ok (.aload_n 0, 1) := dk_42 (dk_at dksX0_shelvesFollow_0 0 rfl rfl)
theorem dX0_shelvesFollow_1 : decode cX0_shelvesFollow 1 = .ok (.getfield 59, 3) := dk_180 0 59 (dk_at dksX0_shelvesFollow_0 1 rfl rfl)
theorem dX0_shelvesFollow_4 : decode cX0_shelvesFollow 4 = .ok (.astore_n 1, 1) := dk_76 (dk_at dksX0_shelvesFollow_0 4 rfl rfl)
theorem dX0_shelvesFollow_5 : decode cX0_shelvesFollow 5 = .ok (.aload_n 1, 1) := dk_43 (dk_at dksX0_shelvesFollow_0 5 rfl rfl)
theorem dX0_shelvesFollow_6 : decode cX0_shelvesFollow 6 = .ok (.arraylength, 1) := dk_190 (dk_at dksX0_shelvesFollow_0 6 rfl rfl)
theorem dX0_shelvesFollow_7 : decode cX0_shelvesFollow 7 = .ok (.istore_n 2, 1) := dk_61 (dk_at dksX0_shelvesFollow_0 7 rfl rfl)
theorem dX0_shelvesFollow_8 : decode cX0_shelvesFollow 8 = .ok (.iconst 0, 1) := dk_3 (dk_at dksX0_shelvesFollow_0 8 rfl rfl)
theorem dX0_shelvesFollow_9 : decode cX0_shelvesFollow 9 = .ok (.istore_n 3, 1) := dk_62 (dk_at dksX0_shelvesFollow_0 9 rfl rfl)
theorem dX0_shelvesFollow_10 : decode cX0_shelvesFollow 10 = .ok (.iload_n 3, 1) := dk_29 (dk_at dksX0_shelvesFollow_0 10 rfl rfl)
theorem dX0_shelvesFollow_11 : decode cX0_shelvesFollow 11 = .ok (.iload_n 2, 1) := dk_28 (dk_at dksX0_shelvesFollow_0 11 rfl rfl)
theorem dX0_shelvesFollow_12 : decode cX0_shelvesFollow 12 = .ok (.if_icmp .ge 63, 3) := dk_162 0 63 (dk_at dksX0_shelvesFollow_0 12 rfl rfl)
theorem dX0_shelvesFollow_15 : decode cX0_shelvesFollow 15 = .ok (.aload_n 1, 1) := dk_43 (dk_at dksX0_shelvesFollow_0 15 rfl rfl)
theorem dX0_shelvesFollow_16 : decode cX0_shelvesFollow 16 = .ok (.iload_n 3, 1) := dk_29 (dk_at dksX0_shelvesFollow_0 16 rfl rfl)
theorem dX0_shelvesFollow_17 : decode cX0_shelvesFollow 17 = .ok (.aaload, 1) := dk_50 (dk_at dksX0_shelvesFollow_0 17 rfl rfl)
theorem dX0_shelvesFollow_18 : decode cX0_shelvesFollow 18 = .ok (.astore 4, 2) := dk_58 4 (dk_at dksX0_shelvesFollow_0 18 rfl rfl)
theorem dX0_shelvesFollow_20 : decode cX0_shelvesFollow 20 = .ok (.aload 4, 2) := dk_25 4 (dk_at dksX0_shelvesFollow_0 20 rfl rfl)
theorem dX0_shelvesFollow_22 : decode cX0_shelvesFollow 22 = .ok (.invokevirtual 139, 3) := dk_182 0 139 (dk_at dksX0_shelvesFollow_1 0 rfl rfl)
theorem dX0_shelvesFollow_25 : decode cX0_shelvesFollow 25 = .ok (.ifCond .eq 44, 3) := dk_153 0 44 (dk_at dksX0_shelvesFollow_1 3 rfl rfl)
theorem dX0_shelvesFollow_28 : decode cX0_shelvesFollow 28 = .ok (.aload 4, 2) := dk_25 4 (dk_at dksX0_shelvesFollow_1 6 rfl rfl)
theorem dX0_shelvesFollow_30 : decode cX0_shelvesFollow 30 = .ok (.getfield 143, 3) := dk_180 0 143 (dk_at dksX0_shelvesFollow_1 8 rfl rfl)
theorem dX0_shelvesFollow_33 : decode cX0_shelvesFollow 33 = .ok (.checkcast 47, 3) := dk_192 0 47 (dk_at dksX0_shelvesFollow_1 11 rfl rfl)
theorem dX0_shelvesFollow_36 : decode cX0_shelvesFollow 36 = .ok (.getfield 146, 3) := dk_180 0 146 (dk_at dksX0_shelvesFollow_1 14 rfl rfl)
theorem dX0_shelvesFollow_39 : decode cX0_shelvesFollow 39 = .ok (.istore 5, 2) := dk_54 5 (dk_at dksX0_shelvesFollow_1 17 rfl rfl)
theorem dX0_shelvesFollow_41 : decode cX0_shelvesFollow 41 = .ok (.aload 4, 2) := dk_25 4 (dk_at dksX0_shelvesFollow_1 19 rfl rfl)
theorem dX0_shelvesFollow_43 : decode cX0_shelvesFollow 43 = .ok (.aload_n 0, 1) := dk_42 (dk_at dksX0_shelvesFollow_1 21 rfl rfl)
theorem dX0_shelvesFollow_44 : decode cX0_shelvesFollow 44 = .ok (.iload 5, 2) := dk_21 5 (dk_at dksX0_shelvesFollow_1 22 rfl rfl)
theorem dX0_shelvesFollow_46 : decode cX0_shelvesFollow 46 = .ok (.invokevirtual 111, 3) := dk_182 0 111 (dk_at dksX0_shelvesFollow_2 0 rfl rfl)
theorem dX0_shelvesFollow_49 : decode cX0_shelvesFollow 49 = .ok (.ifCond .eq 16, 3) := dk_153 0 16 (dk_at dksX0_shelvesFollow_2 3 rfl rfl)
theorem dX0_shelvesFollow_52 : decode cX0_shelvesFollow 52 = .ok (.aload_n 0, 1) := dk_42 (dk_at dksX0_shelvesFollow_2 6 rfl rfl)
theorem dX0_shelvesFollow_53 : decode cX0_shelvesFollow 53 = .ok (.getfield 90, 3) := dk_180 0 90 (dk_at dksX0_shelvesFollow_2 7 rfl rfl)
theorem dX0_shelvesFollow_56 : decode cX0_shelvesFollow 56 = .ok (.getfield 119, 3) := dk_180 0 119 (dk_at dksX0_shelvesFollow_2 10 rfl rfl)
theorem dX0_shelvesFollow_59 : decode cX0_shelvesFollow 59 = .ok (.iload 5, 2) := dk_21 5 (dk_at dksX0_shelvesFollow_2 13 rfl rfl)
theorem dX0_shelvesFollow_61 : decode cX0_shelvesFollow 61 = .ok (.aaload, 1) := dk_50 (dk_at dksX0_shelvesFollow_2 15 rfl rfl)
theorem dX0_shelvesFollow_62 : decode cX0_shelvesFollow 62 = .ok (.goto 4, 3) := dk_167 0 4 (dk_at dksX0_shelvesFollow_2 16 rfl rfl)
theorem dX0_shelvesFollow_65 : decode cX0_shelvesFollow 65 = .ok (.aconst_null, 1) := dk_1 (dk_at dksX0_shelvesFollow_2 19 rfl rfl)
theorem dX0_shelvesFollow_66 : decode cX0_shelvesFollow 66 = .ok (.putfield 143, 3) := dk_181 0 143 (dk_at dksX0_shelvesFollow_2 20 rfl rfl)
theorem dX0_shelvesFollow_69 : decode cX0_shelvesFollow 69 = .ok (.iinc 3 1, 3) := dk_132 3 1 (dk_at dksX0_shelvesFollow_3 0 rfl rfl)
theorem dX0_shelvesFollow_72 : decode cX0_shelvesFollow 72 = .ok (.goto (-62), 3) := dk_167 255 194 (dk_at dksX0_shelvesFollow_3 3 rfl rfl)
theorem dX0_shelvesFollow_75 : decode cX0_shelvesFollow 75 = .ok (.return_, 1) := dk_177 (dk_at dksX0_shelvesFollow_3 6 rfl rfl)
abbrev cX0_night : ByteArray := prog_1_method_61_code
def yX0_night : MethodName := ⟨RX0, "night", "()I"⟩
def dkwX0_night_3 : List UInt8 := [167, 255, 232, 27, 172]
abbrev dktX0_night_3 : List UInt8 := dkwX0_night_3 ++ []
def dkwX0_night_2 : List UInt8 := [28, 42, 180, 0, 90, 180, 0, 104, 162, 0, 19, 42, 180, 0, 90, 180, 1, 6, 28, 2, 79, 132, 2, 1]
abbrev dktX0_night_2 : List UInt8 := dkwX0_night_2 ++ dktX0_night_3
def dkwX0_night_1 : List UInt8 := [46, 5, 108, 79, 27, 42, 180, 0, 90, 180, 1, 16, 28, 46, 96, 60, 132, 2, 1, 167, 255, 217, 3, 61]
abbrev dktX0_night_1 : List UInt8 := dkwX0_night_1 ++ dktX0_night_2
def dkwX0_night_0 : List UInt8 := [3, 60, 3, 61, 28, 42, 180, 0, 90, 180, 0, 123, 162, 0, 34, 42, 180, 0, 90, 180, 1, 16, 28, 92]
abbrev dktX0_night_0 : List UInt8 := dkwX0_night_0 ++ dktX0_night_1
theorem dksX0_night_0 : cX0_night.data.toList.drop 0 = dktX0_night_0 := by decide +kernel
theorem dksX0_night_1 : cX0_night.data.toList.drop 24 = dktX0_night_1 := dk_seg dksX0_night_0 24 rfl rfl
theorem dksX0_night_2 : cX0_night.data.toList.drop 48 = dktX0_night_2 := dk_seg dksX0_night_1 24 rfl rfl
theorem dksX0_night_3 : cX0_night.data.toList.drop 72 = dktX0_night_3 := dk_seg dksX0_night_2 24 rfl rfl
theorem dX0_night_0 : decode cX0_night 0 = .ok (.iconst 0, 1) := dk_3 (dk_at dksX0_night_0 0 rfl rfl)
theorem dX0_night_1 : decode cX0_night 1 = .ok (.istore_n 1, 1) := dk_60 (dk_at dksX0_night_0 1 rfl rfl)
theorem dX0_night_2 : decode cX0_night 2 = .ok (.iconst 0, 1) := dk_3 (dk_at dksX0_night_0 2 rfl rfl)
theorem dX0_night_3 : decode cX0_night 3 = .ok (.istore_n 2, 1) := dk_61 (dk_at dksX0_night_0 3 rfl rfl)
theorem dX0_night_4 : decode cX0_night 4 = .ok (.iload_n 2, 1) := dk_28 (dk_at dksX0_night_0 4 rfl rfl)
theorem dX0_night_5 : decode cX0_night 5 = .ok (.aload_n 0, 1) := dk_42 (dk_at dksX0_night_0 5 rfl rfl)
theorem dX0_night_6 : decode cX0_night 6 = .ok (.getfield 90, 3) := dk_180 0 90 (dk_at dksX0_night_0 6 rfl rfl)
theorem dX0_night_9 : decode cX0_night 9 = .ok (.getfield 123, 3) := dk_180 0 123 (dk_at dksX0_night_0 9 rfl rfl)
theorem dX0_night_12 : decode cX0_night 12 = .ok (.if_icmp .ge 34, 3) := dk_162 0 34 (dk_at dksX0_night_0 12 rfl rfl)
theorem dX0_night_15 : decode cX0_night 15 = .ok (.aload_n 0, 1) := dk_42 (dk_at dksX0_night_0 15 rfl rfl)
theorem dX0_night_16 : decode cX0_night 16 = .ok (.getfield 90, 3) := dk_180 0 90 (dk_at dksX0_night_0 16 rfl rfl)
theorem dX0_night_19 : decode cX0_night 19 = .ok (.getfield 272, 3) := dk_180 1 16 (dk_at dksX0_night_0 19 rfl rfl)
theorem dX0_night_22 : decode cX0_night 22 = .ok (.iload_n 2, 1) := dk_28 (dk_at dksX0_night_0 22 rfl rfl)
theorem dX0_night_23 : decode cX0_night 23 = .ok (.dup2, 1) := dk_92 (dk_at dksX0_night_0 23 rfl rfl)
theorem dX0_night_24 : decode cX0_night 24 = .ok (.iaload, 1) := dk_46 (dk_at dksX0_night_1 0 rfl rfl)
theorem dX0_night_25 : decode cX0_night 25 = .ok (.iconst 2, 1) := dk_5 (dk_at dksX0_night_1 1 rfl rfl)
theorem dX0_night_26 : decode cX0_night 26 = .ok (.idiv, 1) := dk_108 (dk_at dksX0_night_1 2 rfl rfl)
theorem dX0_night_27 : decode cX0_night 27 = .ok (.iastore, 1) := dk_79 (dk_at dksX0_night_1 3 rfl rfl)
theorem dX0_night_28 : decode cX0_night 28 = .ok (.iload_n 1, 1) := dk_27 (dk_at dksX0_night_1 4 rfl rfl)
theorem dX0_night_29 : decode cX0_night 29 = .ok (.aload_n 0, 1) := dk_42 (dk_at dksX0_night_1 5 rfl rfl)
theorem dX0_night_30 : decode cX0_night 30 = .ok (.getfield 90, 3) := dk_180 0 90 (dk_at dksX0_night_1 6 rfl rfl)
theorem dX0_night_33 : decode cX0_night 33 = .ok (.getfield 272, 3) := dk_180 1 16 (dk_at dksX0_night_1 9 rfl rfl)
theorem dX0_night_36 : decode cX0_night 36 = .ok (.iload_n 2, 1) := dk_28 (dk_at dksX0_night_1 12 rfl rfl)
theorem dX0_night_37 : decode cX0_night 37 = .ok (.iaload, 1) := dk_46 (dk_at dksX0_night_1 13 rfl rfl)
theorem dX0_night_38 : decode cX0_night 38 = .ok (.iadd, 1) := dk_96 (dk_at dksX0_night_1 14 rfl rfl)
theorem dX0_night_39 : decode cX0_night 39 = .ok (.istore_n 1, 1) := dk_60 (dk_at dksX0_night_1 15 rfl rfl)
theorem dX0_night_40 : decode cX0_night 40 = .ok (.iinc 2 1, 3) := dk_132 2 1 (dk_at dksX0_night_1 16 rfl rfl)
theorem dX0_night_43 : decode cX0_night 43 = .ok (.goto (-39), 3) := dk_167 255 217 (dk_at dksX0_night_1 19 rfl rfl)
theorem dX0_night_46 : decode cX0_night 46 = .ok (.iconst 0, 1) := dk_3 (dk_at dksX0_night_1 22 rfl rfl)
theorem dX0_night_47 : decode cX0_night 47 = .ok (.istore_n 2, 1) := dk_61 (dk_at dksX0_night_1 23 rfl rfl)
theorem dX0_night_48 : decode cX0_night 48 = .ok (.iload_n 2, 1) := dk_28 (dk_at dksX0_night_2 0 rfl rfl)
theorem dX0_night_49 : decode cX0_night 49 = .ok (.aload_n 0, 1) := dk_42 (dk_at dksX0_night_2 1 rfl rfl)
theorem dX0_night_50 : decode cX0_night 50 = .ok (.getfield 90, 3) := dk_180 0 90 (dk_at dksX0_night_2 2 rfl rfl)
theorem dX0_night_53 : decode cX0_night 53 = .ok (.getfield 104, 3) := dk_180 0 104 (dk_at dksX0_night_2 5 rfl rfl)
theorem dX0_night_56 : decode cX0_night 56 = .ok (.if_icmp .ge 19, 3) := dk_162 0 19 (dk_at dksX0_night_2 8 rfl rfl)
theorem dX0_night_59 : decode cX0_night 59 = .ok (.aload_n 0, 1) := dk_42 (dk_at dksX0_night_2 11 rfl rfl)
theorem dX0_night_60 : decode cX0_night 60 = .ok (.getfield 90, 3) := dk_180 0 90 (dk_at dksX0_night_2 12 rfl rfl)
theorem dX0_night_63 : decode cX0_night 63 = .ok (.getfield 262, 3) := dk_180 1 6 (dk_at dksX0_night_2 15 rfl rfl)
theorem dX0_night_66 : decode cX0_night 66 = .ok (.iload_n 2, 1) := dk_28 (dk_at dksX0_night_2 18 rfl rfl)
theorem dX0_night_67 : decode cX0_night 67 = .ok (.iconst (-1), 1) := dk_2 (dk_at dksX0_night_2 19 rfl rfl)
theorem dX0_night_68 : decode cX0_night 68 = .ok (.iastore, 1) := dk_79 (dk_at dksX0_night_2 20 rfl rfl)
theorem dX0_night_69 : decode cX0_night 69 = .ok (.iinc 2 1, 3) := dk_132 2 1 (dk_at dksX0_night_2 21 rfl rfl)
theorem dX0_night_72 : decode cX0_night 72 = .ok (.goto (-24), 3) := dk_167 255 232 (dk_at dksX0_night_3 0 rfl rfl)
theorem dX0_night_75 : decode cX0_night 75 = .ok (.iload_n 1, 1) := dk_27 (dk_at dksX0_night_3 3 rfl rfl)
theorem dX0_night_76 : decode cX0_night 76 = .ok (.ireturn, 1) := dk_172 (dk_at dksX0_night_3 4 rfl rfl)
abbrev cX0_seed : ByteArray := prog_1_method_62_code
def yX0_seed : MethodName := ⟨RX0, "seed", "(I)I"⟩
def dkwX0_seed_0 : List UInt8 := [42, 180, 0, 90, 180, 1, 132, 61, 42, 180, 0, 90, 27, 181, 1, 132, 28, 172]
abbrev dktX0_seed_0 : List UInt8 := dkwX0_seed_0 ++ []
theorem dksX0_seed_0 : cX0_seed.data.toList.drop 0 = dktX0_seed_0 := by decide +kernel
theorem dX0_seed_0 : decode cX0_seed 0 = .ok (.aload_n 0, 1) := dk_42 (dk_at dksX0_seed_0 0 rfl rfl)
theorem dX0_seed_1 : decode cX0_seed 1 = .ok (.getfield 90, 3) := dk_180 0 90 (dk_at dksX0_seed_0 1 rfl rfl)
theorem dX0_seed_4 : decode cX0_seed 4 = .ok (.getfield 388, 3) := dk_180 1 132 (dk_at dksX0_seed_0 4 rfl rfl)
theorem dX0_seed_7 : decode cX0_seed 7 = .ok (.istore_n 2, 1) := dk_61 (dk_at dksX0_seed_0 7 rfl rfl)
theorem dX0_seed_8 : decode cX0_seed 8 = .ok (.aload_n 0, 1) := dk_42 (dk_at dksX0_seed_0 8 rfl rfl)
theorem dX0_seed_9 : decode cX0_seed 9 = .ok (.getfield 90, 3) := dk_180 0 90 (dk_at dksX0_seed_0 9 rfl rfl)
theorem dX0_seed_12 : decode cX0_seed 12 = .ok (.iload_n 1, 1) := dk_27 (dk_at dksX0_seed_0 12 rfl rfl)
theorem dX0_seed_13 : decode cX0_seed 13 = .ok (.putfield 388, 3) := dk_181 1 132 (dk_at dksX0_seed_0 13 rfl rfl)
theorem dX0_seed_16 : decode cX0_seed 16 = .ok (.iload_n 2, 1) := dk_28 (dk_at dksX0_seed_0 16 rfl rfl)
theorem dX0_seed_17 : decode cX0_seed 17 = .ok (.ireturn, 1) := dk_172 (dk_at dksX0_seed_0 17 rfl rfl)
abbrev cX0_act : ByteArray := prog_1_method_63_code
def yX0_act : MethodName := ⟨RX0, "act", "(III)I"⟩
def dkwX0_act_4 : List UInt8 := [29, 42, 180, 0, 70, 182, 1, 145, 172, 3, 172]
abbrev dktX0_act_4 : List UInt8 := dkwX0_act_4 ++ []
def dkwX0_act_3 : List UInt8 := [25, 4, 29, 42, 180, 0, 70, 182, 1, 138, 172, 25, 4, 29, 42, 180, 0, 70, 182, 1, 142, 172, 25, 4]
abbrev dktX0_act_3 : List UInt8 := dkwX0_act_3 ++ dktX0_act_4
def dkwX0_act_2 : List UInt8 := [170, 0, 0, 0, 0, 59, 0, 0, 0, 0, 0, 0, 0, 2, 0, 0, 0, 26, 0, 0, 0, 37, 0, 0, 0, 48]
abbrev dktX0_act_2 : List UInt8 := dkwX0_act_2 ++ dktX0_act_3
def dkwX0_act_1 : List UInt8 := [180, 0, 119, 27, 50, 58, 4, 28]
abbrev dktX0_act_1 : List UInt8 := dkwX0_act_1 ++ dktX0_act_2
def dkwX0_act_0 : List UInt8 := [42, 180, 0, 70, 3, 181, 1, 135, 42, 27, 182, 0, 111, 154, 0, 5, 3, 172, 42, 180, 0, 90]
abbrev dktX0_act_0 : List UInt8 := dkwX0_act_0 ++ dktX0_act_1
theorem dksX0_act_0 : cX0_act.data.toList.drop 0 = dktX0_act_0 := by decide +kernel
theorem dksX0_act_1 : cX0_act.data.toList.drop 22 = dktX0_act_1 := dk_seg dksX0_act_0 22 rfl rfl
theorem dksX0_act_2 : cX0_act.data.toList.drop 30 = dktX0_act_2 := dk_seg dksX0_act_1 8 rfl rfl
theorem dksX0_act_3 : cX0_act.data.toList.drop 56 = dktX0_act_3 := dk_seg dksX0_act_2 26 rfl rfl
theorem dksX0_act_4 : cX0_act.data.toList.drop 80 = dktX0_act_4 := dk_seg dksX0_act_3 24 rfl rfl
theorem dX0_act_0 : decode cX0_act 0 = .ok (.aload_n 0, 1) := dk_42 (dk_at dksX0_act_0 0 rfl rfl)
theorem dX0_act_1 : decode cX0_act 1 = .ok (.getfield 70, 3) := dk_180 0 70 (dk_at dksX0_act_0 1 rfl rfl)
theorem dX0_act_4 : decode cX0_act 4 = .ok (.iconst 0, 1) := dk_3 (dk_at dksX0_act_0 4 rfl rfl)
theorem dX0_act_5 : decode cX0_act 5 = .ok (.putfield 391, 3) := dk_181 1 135 (dk_at dksX0_act_0 5 rfl rfl)
theorem dX0_act_8 : decode cX0_act 8 = .ok (.aload_n 0, 1) := dk_42 (dk_at dksX0_act_0 8 rfl rfl)
theorem dX0_act_9 : decode cX0_act 9 = .ok (.iload_n 1, 1) := dk_27 (dk_at dksX0_act_0 9 rfl rfl)
theorem dX0_act_10 : decode cX0_act 10 = .ok (.invokevirtual 111, 3) := dk_182 0 111 (dk_at dksX0_act_0 10 rfl rfl)
theorem dX0_act_13 : decode cX0_act 13 = .ok (.ifCond .ne 5, 3) := dk_154 0 5 (dk_at dksX0_act_0 13 rfl rfl)
theorem dX0_act_16 : decode cX0_act 16 = .ok (.iconst 0, 1) := dk_3 (dk_at dksX0_act_0 16 rfl rfl)
theorem dX0_act_17 : decode cX0_act 17 = .ok (.ireturn, 1) := dk_172 (dk_at dksX0_act_0 17 rfl rfl)
theorem dX0_act_18 : decode cX0_act 18 = .ok (.aload_n 0, 1) := dk_42 (dk_at dksX0_act_0 18 rfl rfl)
theorem dX0_act_19 : decode cX0_act 19 = .ok (.getfield 90, 3) := dk_180 0 90 (dk_at dksX0_act_0 19 rfl rfl)
theorem dX0_act_22 : decode cX0_act 22 = .ok (.getfield 119, 3) := dk_180 0 119 (dk_at dksX0_act_1 0 rfl rfl)
theorem dX0_act_25 : decode cX0_act 25 = .ok (.iload_n 1, 1) := dk_27 (dk_at dksX0_act_1 3 rfl rfl)
theorem dX0_act_26 : decode cX0_act 26 = .ok (.aaload, 1) := dk_50 (dk_at dksX0_act_1 4 rfl rfl)
theorem dX0_act_27 : decode cX0_act 27 = .ok (.astore 4, 2) := dk_58 4 (dk_at dksX0_act_1 5 rfl rfl)
theorem dX0_act_29 : decode cX0_act 29 = .ok (.iload_n 2, 1) := dk_28 (dk_at dksX0_act_1 7 rfl rfl)
theorem dX0_act_30 : decode cX0_act 30 = .ok (.tableswitch 59 0 2 #[26, 37, 48], 26) := by decide +kernel
theorem dX0_act_56 : decode cX0_act 56 = .ok (.aload 4, 2) := dk_25 4 (dk_at dksX0_act_3 0 rfl rfl)
theorem dX0_act_58 : decode cX0_act 58 = .ok (.iload_n 3, 1) := dk_29 (dk_at dksX0_act_3 2 rfl rfl)
theorem dX0_act_59 : decode cX0_act 59 = .ok (.aload_n 0, 1) := dk_42 (dk_at dksX0_act_3 3 rfl rfl)
theorem dX0_act_60 : decode cX0_act 60 = .ok (.getfield 70, 3) := dk_180 0 70 (dk_at dksX0_act_3 4 rfl rfl)
theorem dX0_act_63 : decode cX0_act 63 = .ok (.invokevirtual 394, 3) := dk_182 1 138 (dk_at dksX0_act_3 7 rfl rfl)
theorem dX0_act_66 : decode cX0_act 66 = .ok (.ireturn, 1) := dk_172 (dk_at dksX0_act_3 10 rfl rfl)
theorem dX0_act_67 : decode cX0_act 67 = .ok (.aload 4, 2) := dk_25 4 (dk_at dksX0_act_3 11 rfl rfl)
theorem dX0_act_69 : decode cX0_act 69 = .ok (.iload_n 3, 1) := dk_29 (dk_at dksX0_act_3 13 rfl rfl)
theorem dX0_act_70 : decode cX0_act 70 = .ok (.aload_n 0, 1) := dk_42 (dk_at dksX0_act_3 14 rfl rfl)
theorem dX0_act_71 : decode cX0_act 71 = .ok (.getfield 70, 3) := dk_180 0 70 (dk_at dksX0_act_3 15 rfl rfl)
theorem dX0_act_74 : decode cX0_act 74 = .ok (.invokevirtual 398, 3) := dk_182 1 142 (dk_at dksX0_act_3 18 rfl rfl)
theorem dX0_act_77 : decode cX0_act 77 = .ok (.ireturn, 1) := dk_172 (dk_at dksX0_act_3 21 rfl rfl)
theorem dX0_act_78 : decode cX0_act 78 = .ok (.aload 4, 2) := dk_25 4 (dk_at dksX0_act_3 22 rfl rfl)
theorem dX0_act_80 : decode cX0_act 80 = .ok (.iload_n 3, 1) := dk_29 (dk_at dksX0_act_4 0 rfl rfl)
theorem dX0_act_81 : decode cX0_act 81 = .ok (.aload_n 0, 1) := dk_42 (dk_at dksX0_act_4 1 rfl rfl)
theorem dX0_act_82 : decode cX0_act 82 = .ok (.getfield 70, 3) := dk_180 0 70 (dk_at dksX0_act_4 2 rfl rfl)
theorem dX0_act_85 : decode cX0_act 85 = .ok (.invokevirtual 401, 3) := dk_182 1 145 (dk_at dksX0_act_4 5 rfl rfl)
theorem dX0_act_88 : decode cX0_act 88 = .ok (.ireturn, 1) := dk_172 (dk_at dksX0_act_4 8 rfl rfl)
theorem dX0_act_89 : decode cX0_act 89 = .ok (.iconst 0, 1) := dk_3 (dk_at dksX0_act_4 9 rfl rfl)
theorem dX0_act_90 : decode cX0_act 90 = .ok (.ireturn, 1) := dk_172 (dk_at dksX0_act_4 10 rfl rfl)
abbrev cX0_trace : ByteArray := prog_1_method_64_code
def yX0_trace : MethodName := ⟨RX0, "trace", "(I)I"⟩
def dkwX0_trace_1 : List UInt8 := [42, 180, 0, 70, 180, 1, 151, 27, 46, 167, 0, 4, 2, 172]
abbrev dktX0_trace_1 : List UInt8 := dkwX0_trace_1 ++ []
def dkwX0_trace_0 : List UInt8 := [27, 133, 9, 42, 180, 0, 70, 180, 1, 135, 16, 20, 184, 1, 148, 4, 100, 133, 184, 0, 107, 153, 0, 15]
abbrev dktX0_trace_0 : List UInt8 := dkwX0_trace_0 ++ dktX0_trace_1
theorem dksX0_trace_0 : cX0_trace.data.toList.drop 0 = dktX0_trace_0 := by decide +kernel
theorem dksX0_trace_1 : cX0_trace.data.toList.drop 24 = dktX0_trace_1 := dk_seg dksX0_trace_0 24 rfl rfl
theorem dX0_trace_0 : decode cX0_trace 0 = .ok (.iload_n 1, 1) := dk_27 (dk_at dksX0_trace_0 0 rfl rfl)
theorem dX0_trace_1 : decode cX0_trace 1 = .ok (.i2l, 1) := dk_133 (dk_at dksX0_trace_0 1 rfl rfl)
theorem dX0_trace_2 : decode cX0_trace 2 = .ok (.lconst 0, 1) := dk_9 (dk_at dksX0_trace_0 2 rfl rfl)
theorem dX0_trace_3 : decode cX0_trace 3 = .ok (.aload_n 0, 1) := dk_42 (dk_at dksX0_trace_0 3 rfl rfl)
theorem dX0_trace_4 : decode cX0_trace 4 = .ok (.getfield 70, 3) := dk_180 0 70 (dk_at dksX0_trace_0 4 rfl rfl)
theorem dX0_trace_7 : decode cX0_trace 7 = .ok (.getfield 391, 3) := dk_180 1 135 (dk_at dksX0_trace_0 7 rfl rfl)
theorem dX0_trace_10 : decode cX0_trace 10 = .ok (.bipush 20, 2) := dk_16 20 (dk_at dksX0_trace_0 10 rfl rfl)
theorem dX0_trace_12 : decode cX0_trace 12 = .ok (.invokestatic 404, 3) := dk_184 1 148 (dk_at dksX0_trace_0 12 rfl rfl)
theorem dX0_trace_15 : decode cX0_trace 15 = .ok (.iconst 1, 1) := dk_4 (dk_at dksX0_trace_0 15 rfl rfl)
theorem dX0_trace_16 : decode cX0_trace 16 = .ok (.isub, 1) := dk_100 (dk_at dksX0_trace_0 16 rfl rfl)
theorem dX0_trace_17 : decode cX0_trace 17 = .ok (.i2l, 1) := dk_133 (dk_at dksX0_trace_0 17 rfl rfl)
theorem dX0_trace_18 : decode cX0_trace 18 = .ok (.invokestatic 107, 3) := dk_184 0 107 (dk_at dksX0_trace_0 18 rfl rfl)
theorem dX0_trace_21 : decode cX0_trace 21 = .ok (.ifCond .eq 15, 3) := dk_153 0 15 (dk_at dksX0_trace_0 21 rfl rfl)
theorem dX0_trace_24 : decode cX0_trace 24 = .ok (.aload_n 0, 1) := dk_42 (dk_at dksX0_trace_1 0 rfl rfl)
theorem dX0_trace_25 : decode cX0_trace 25 = .ok (.getfield 70, 3) := dk_180 0 70 (dk_at dksX0_trace_1 1 rfl rfl)
theorem dX0_trace_28 : decode cX0_trace 28 = .ok (.getfield 407, 3) := dk_180 1 151 (dk_at dksX0_trace_1 4 rfl rfl)
theorem dX0_trace_31 : decode cX0_trace 31 = .ok (.iload_n 1, 1) := dk_27 (dk_at dksX0_trace_1 7 rfl rfl)
theorem dX0_trace_32 : decode cX0_trace 32 = .ok (.iaload, 1) := dk_46 (dk_at dksX0_trace_1 8 rfl rfl)
theorem dX0_trace_33 : decode cX0_trace 33 = .ok (.goto 4, 3) := dk_167 0 4 (dk_at dksX0_trace_1 9 rfl rfl)
theorem dX0_trace_36 : decode cX0_trace 36 = .ok (.iconst (-1), 1) := dk_2 (dk_at dksX0_trace_1 12 rfl rfl)
theorem dX0_trace_37 : decode cX0_trace 37 = .ok (.ireturn, 1) := dk_172 (dk_at dksX0_trace_1 13 rfl rfl)
abbrev cX0_image : ByteArray := prog_1_method_65_code
def yX0_image : MethodName := ⟨RX0, "image", "()I"⟩
def dkwX0_image_0 : List UInt8 := [42, 42, 180, 0, 90, 182, 1, 28, 181, 1, 154, 42, 180, 0, 90, 180, 0, 104, 172]
abbrev dktX0_image_0 : List UInt8 := dkwX0_image_0 ++ []
theorem dksX0_image_0 : cX0_image.data.toList.drop 0 = dktX0_image_0 := by decide +kernel
theorem dX0_image_0 : decode cX0_image 0 = .ok (.aload_n 0, 1) := dk_42 (dk_at dksX0_image_0 0 rfl rfl)
theorem dX0_image_1 : decode cX0_image 1 = .ok (.aload_n 0, 1) := dk_42 (dk_at dksX0_image_0 1 rfl rfl)
theorem dX0_image_2 : decode cX0_image 2 = .ok (.getfield 90, 3) := dk_180 0 90 (dk_at dksX0_image_0 2 rfl rfl)
theorem dX0_image_5 : decode cX0_image 5 = .ok (.invokevirtual 284, 3) := dk_182 1 28 (dk_at dksX0_image_0 5 rfl rfl)
theorem dX0_image_8 : decode cX0_image 8 = .ok (.putfield 410, 3) := dk_181 1 154 (dk_at dksX0_image_0 8 rfl rfl)
theorem dX0_image_11 : decode cX0_image 11 = .ok (.aload_n 0, 1) := dk_42 (dk_at dksX0_image_0 11 rfl rfl)
theorem dX0_image_12 : decode cX0_image 12 = .ok (.getfield 90, 3) := dk_180 0 90 (dk_at dksX0_image_0 12 rfl rfl)
theorem dX0_image_15 : decode cX0_image 15 = .ok (.getfield 104, 3) := dk_180 0 104 (dk_at dksX0_image_0 15 rfl rfl)
theorem dX0_image_18 : decode cX0_image 18 = .ok (.ireturn, 1) := dk_172 (dk_at dksX0_image_0 18 rfl rfl)
abbrev cX0_restore : ByteArray := prog_1_method_66_code
def yX0_restore : MethodName := ⟨RX0, "restore", "()I"⟩
def dkwX0_restore_2 : List UInt8 := [172]
abbrev dktX0_restore_2 : List UInt8 := dkwX0_restore_2 ++ []
def dkwX0_restore_1 : List UInt8 := [182, 1, 28, 181, 0, 90, 42, 182, 1, 129, 42, 180, 0, 90, 180, 0, 104, 172, 76, 42, 43, 182, 0, 173]
abbrev dktX0_restore_1 : List UInt8 := dkwX0_restore_1 ++ dktX0_restore_2
def dkwX0_restore_0 : List UInt8 := [42, 180, 1, 154, 198, 0, 7, 4, 167, 0, 4, 3, 16, 250, 184, 0, 115, 42, 42, 180, 1, 154]
abbrev dktX0_restore_0 : List UInt8 := dkwX0_restore_0 ++ dktX0_restore_1
theorem dksX0_restore_0 : cX0_restore.data.toList.drop 0 = dktX0_restore_0 := by decide +kernel
theorem dksX0_restore_1 : cX0_restore.data.toList.drop 22 = dktX0_restore_1 := dk_seg dksX0_restore_0 22 rfl rfl
theorem dksX0_restore_2 : cX0_restore.data.toList.drop 46 = dktX0_restore_2 := dk_seg dksX0_restore_1 24 rfl rfl
theorem dX0_restore_0 : decode cX0_restore 0 = .ok (.aload_n 0, 1) := dk_42 (dk_at dksX0_restore_0 0 rfl rfl)
theorem dX0_restore_1 : decode cX0_restore 1 = .ok (.getfield 410, 3) := dk_180 1 154 (dk_at dksX0_restore_0 1 rfl rfl)
theorem dX0_restore_4 : decode cX0_restore 4 = .ok (.ifnull 7, 3) := dk_198 0 7 (dk_at dksX0_restore_0 4 rfl rfl)
theorem dX0_restore_7 : decode cX0_restore 7 = .ok (.iconst 1, 1) := dk_4 (dk_at dksX0_restore_0 7 rfl rfl)
theorem dX0_restore_8 : decode cX0_restore 8 = .ok (.goto 4, 3) := dk_167 0 4 (dk_at dksX0_restore_0 8 rfl rfl)
theorem dX0_restore_11 : decode cX0_restore 11 = .ok (.iconst 0, 1) := dk_3 (dk_at dksX0_restore_0 11 rfl rfl)
theorem dX0_restore_12 : decode cX0_restore 12 = .ok (.bipush (-6), 2) := dk_16 250 (dk_at dksX0_restore_0 12 rfl rfl)
theorem dX0_restore_14 : decode cX0_restore 14 = .ok (.invokestatic 115, 3) := dk_184 0 115 (dk_at dksX0_restore_0 14 rfl rfl)
theorem dX0_restore_17 : decode cX0_restore 17 = .ok (.aload_n 0, 1) := dk_42 (dk_at dksX0_restore_0 17 rfl rfl)
theorem dX0_restore_18 : decode cX0_restore 18 = .ok (.aload_n 0, 1) := dk_42 (dk_at dksX0_restore_0 18 rfl rfl)
theorem dX0_restore_19 : decode cX0_restore 19 = .ok (.getfield 410, 3) := dk_180 1 154 (dk_at dksX0_restore_0 19 rfl rfl)
theorem dX0_restore_22 : decode cX0_restore 22 = .ok (.invokevirtual 284, 3) := dk_182 1 28 (dk_at dksX0_restore_1 0 rfl rfl)
theorem dX0_restore_25 : decode cX0_restore 25 = .ok (.putfield 90, 3) := dk_181 0 90 (dk_at dksX0_restore_1 3 rfl rfl)
theorem dX0_restore_28 : decode cX0_restore 28 = .ok (.aload_n 0, 1) := dk_42 (dk_at dksX0_restore_1 6 rfl rfl)
theorem dX0_restore_29 : decode cX0_restore 29 = .ok (.invokevirtual 385, 3) := dk_182 1 129 (dk_at dksX0_restore_1 7 rfl rfl)
theorem dX0_restore_32 : decode cX0_restore 32 = .ok (.aload_n 0, 1) := dk_42 (dk_at dksX0_restore_1 10 rfl rfl)
theorem dX0_restore_33 : decode cX0_restore 33 = .ok (.getfield 90, 3) := dk_180 0 90 (dk_at dksX0_restore_1 11 rfl rfl)
theorem dX0_restore_36 : decode cX0_restore 36 = .ok (.getfield 104, 3) := dk_180 0 104 (dk_at dksX0_restore_1 14 rfl rfl)
theorem dX0_restore_39 : decode cX0_restore 39 = .ok (.ireturn, 1) := dk_172 (dk_at dksX0_restore_1 17 rfl rfl)
theorem dX0_restore_40 : decode cX0_restore 40 = .ok (.astore_n 1, 1) := dk_76 (dk_at dksX0_restore_1 18 rfl rfl)
theorem dX0_restore_41 : decode cX0_restore 41 = .ok (.aload_n 0, 1) := dk_42 (dk_at dksX0_restore_1 19 rfl rfl)
theorem dX0_restore_42 : decode cX0_restore 42 = .ok (.aload_n 1, 1) := dk_43 (dk_at dksX0_restore_1 20 rfl rfl)
theorem dX0_restore_43 : decode cX0_restore 43 = .ok (.invokevirtual 173, 3) := dk_182 0 173 (dk_at dksX0_restore_1 21 rfl rfl)
theorem dX0_restore_46 : decode cX0_restore 46 = .ok (.ireturn, 1) := dk_172 (dk_at dksX0_restore_2 0 rfl rfl)
abbrev cX0_status : ByteArray := prog_1_method_67_code
def yX0_status : MethodName := ⟨RX0, "status", "(I)I"⟩
def dkwX0_status_6 : List UInt8 := [180, 0, 63, 27, 16, 10, 100, 46, 167, 0, 4, 2, 172]
abbrev dktX0_status_6 : List UInt8 := dkwX0_status_6 ++ []
def dkwX0_status_5 : List UInt8 := [42, 180, 0, 90, 180, 1, 58, 172, 27, 133, 20, 1, 157, 20, 1, 159, 184, 0, 107, 153, 0, 15, 42]
abbrev dktX0_status_5 : List UInt8 := dkwX0_status_5 ++ dktX0_status_6
def dkwX0_status_4 : List UInt8 := [42, 180, 0, 90, 180, 0, 237, 172, 42, 180, 0, 90, 180, 1, 132, 172, 42, 180, 0, 70, 180, 1, 135, 172]
abbrev dktX0_status_4 : List UInt8 := dkwX0_status_4 ++ dktX0_status_5
def dkwX0_status_3 : List UInt8 := [42, 180, 0, 90, 180, 0, 234, 172, 42, 180, 0, 90, 180, 0, 244, 172, 42, 180, 0, 90, 180, 0, 247, 172]
abbrev dktX0_status_3 : List UInt8 := dkwX0_status_3 ++ dktX0_status_4
def dkwX0_status_2 : List UInt8 := [42, 180, 0, 90, 180, 0, 104, 172, 42, 180, 0, 90, 180, 0, 123, 172, 42, 180, 0, 90, 180, 0, 219, 172]
abbrev dktX0_status_2 : List UInt8 := dkwX0_status_2 ++ dktX0_status_3
def dkwX0_status_1 : List UInt8 := [170, 0, 0, 0, 0, 0, 135, 0, 0, 0, 0, 0, 0, 0, 9, 0, 0, 0, 55, 0, 0, 0, 63, 0, 0, 0, 71, 0, 0, 0, 79, 0, 0, 0, 87, 0, 0, 0, 95, 0, 0, 0, 103, 0, 0, 0, 111, 0, 0, 0, 119, 0, 0, 0, 127]
abbrev dktX0_status_1 : List UInt8 := dkwX0_status_1 ++ dktX0_status_2
def dkwX0_status_0 : List UInt8 := [27]
abbrev dktX0_status_0 : List UInt8 := dkwX0_status_0 ++ dktX0_status_1
theorem dksX0_status_0 : cX0_status.data.toList.drop 0 = dktX0_status_0 := by decide +kernel
theorem dksX0_status_1 : cX0_status.data.toList.drop 1 = dktX0_status_1 := dk_seg dksX0_status_0 1 rfl rfl
theorem dksX0_status_2 : cX0_status.data.toList.drop 56 = dktX0_status_2 := dk_seg dksX0_status_1 55 rfl rfl
theorem dksX0_status_3 : cX0_status.data.toList.drop 80 = dktX0_status_3 := dk_seg dksX0_status_2 24 rfl rfl
theorem dksX0_status_4 : cX0_status.data.toList.drop 104 = dktX0_status_4 := dk_seg dksX0_status_3 24 rfl rfl
theorem dksX0_status_5 : cX0_status.data.toList.drop 128 = dktX0_status_5 := dk_seg dksX0_status_4 24 rfl rfl
theorem dksX0_status_6 : cX0_status.data.toList.drop 151 = dktX0_status_6 := dk_seg dksX0_status_5 23 rfl rfl
theorem dX0_status_0 : decode cX0_status 0 = .ok (.iload_n 1, 1) := dk_27 (dk_at dksX0_status_0 0 rfl rfl)
theorem dX0_status_1 : decode cX0_status 1 = .ok (.tableswitch 135 0 9 #[55, 63, 71, 79, 87, 95, 103, 111, 119, 127], 55) := by decide +kernel
theorem dX0_status_56 : decode cX0_status 56 = .ok (.aload_n 0, 1) := dk_42 (dk_at dksX0_status_2 0 rfl rfl)
theorem dX0_status_57 : decode cX0_status 57 = .ok (.getfield 90, 3) := dk_180 0 90 (dk_at dksX0_status_2 1 rfl rfl)
theorem dX0_status_60 : decode cX0_status 60 = .ok (.getfield 104, 3) := dk_180 0 104 (dk_at dksX0_status_2 4 rfl rfl)
theorem dX0_status_63 : decode cX0_status 63 = .ok (.ireturn, 1) := dk_172 (dk_at dksX0_status_2 7 rfl rfl)
theorem dX0_status_64 : decode cX0_status 64 = .ok (.aload_n 0, 1) := dk_42 (dk_at dksX0_status_2 8 rfl rfl)
theorem dX0_status_65 : decode cX0_status 65 = .ok (.getfield 90, 3) := dk_180 0 90 (dk_at dksX0_status_2 9 rfl rfl)
theorem dX0_status_68 : decode cX0_status 68 = .ok (.getfield 123, 3) := dk_180 0 123 (dk_at dksX0_status_2 12 rfl rfl)
theorem dX0_status_71 : decode cX0_status 71 = .ok (.ireturn, 1) := dk_172 (dk_at dksX0_status_2 15 rfl rfl)
theorem dX0_status_72 : decode cX0_status 72 = .ok (.aload_n 0, 1) := dk_42 (dk_at dksX0_status_2 16 rfl rfl)
theorem dX0_status_73 : decode cX0_status 73 = .ok (.getfield 90, 3) := dk_180 0 90 (dk_at dksX0_status_2 17 rfl rfl)
theorem dX0_status_76 : decode cX0_status 76 = .ok (.getfield 219, 3) := dk_180 0 219 (dk_at dksX0_status_2 20 rfl rfl)
theorem dX0_status_79 : decode cX0_status 79 = .ok (.ireturn, 1) := dk_172 (dk_at dksX0_status_2 23 rfl rfl)
theorem dX0_status_80 : decode cX0_status 80 = .ok (.aload_n 0, 1) := dk_42 (dk_at dksX0_status_3 0 rfl rfl)
theorem dX0_status_81 : decode cX0_status 81 = .ok (.getfield 90, 3) := dk_180 0 90 (dk_at dksX0_status_3 1 rfl rfl)
theorem dX0_status_84 : decode cX0_status 84 = .ok (.getfield 234, 3) := dk_180 0 234 (dk_at dksX0_status_3 4 rfl rfl)
theorem dX0_status_87 : decode cX0_status 87 = .ok (.ireturn, 1) := dk_172 (dk_at dksX0_status_3 7 rfl rfl)
theorem dX0_status_88 : decode cX0_status 88 = .ok (.aload_n 0, 1) := dk_42 (dk_at dksX0_status_3 8 rfl rfl)
theorem dX0_status_89 : decode cX0_status 89 = .ok (.getfield 90, 3) := dk_180 0 90 (dk_at dksX0_status_3 9 rfl rfl)
theorem dX0_status_92 : decode cX0_status 92 = .ok (.getfield 244, 3) := dk_180 0 244 (dk_at dksX0_status_3 12 rfl rfl)
theorem dX0_status_95 : decode cX0_status 95 = .ok (.ireturn, 1) := dk_172 (dk_at dksX0_status_3 15 rfl rfl)
theorem dX0_status_96 : decode cX0_status 96 = .ok (.aload_n 0, 1) := dk_42 (dk_at dksX0_status_3 16 rfl rfl)
theorem dX0_status_97 : decode cX0_status 97 = .ok (.getfield 90, 3) := dk_180 0 90 (dk_at dksX0_status_3 17 rfl rfl)
theorem dX0_status_100 : decode cX0_status 100 = .ok (.getfield 247, 3) := dk_180 0 247 (dk_at dksX0_status_3 20 rfl rfl)
theorem dX0_status_103 : decode cX0_status 103 = .ok (.ireturn, 1) := dk_172 (dk_at dksX0_status_3 23 rfl rfl)
theorem dX0_status_104 : decode cX0_status 104 = .ok (.aload_n 0, 1) := dk_42 (dk_at dksX0_status_4 0 rfl rfl)
theorem dX0_status_105 : decode cX0_status 105 = .ok (.getfield 90, 3) := dk_180 0 90 (dk_at dksX0_status_4 1 rfl rfl)
theorem dX0_status_108 : decode cX0_status 108 = .ok (.getfield 237, 3) := dk_180 0 237 (dk_at dksX0_status_4 4 rfl rfl)
theorem dX0_status_111 : decode cX0_status 111 = .ok (.ireturn, 1) := dk_172 (dk_at dksX0_status_4 7 rfl rfl)
theorem dX0_status_112 : decode cX0_status 112 = .ok (.aload_n 0, 1) := dk_42 (dk_at dksX0_status_4 8 rfl rfl)
theorem dX0_status_113 : decode cX0_status 113 = .ok (.getfield 90, 3) := dk_180 0 90 (dk_at dksX0_status_4 9 rfl rfl)
theorem dX0_status_116 : decode cX0_status 116 = .ok (.getfield 388, 3) := dk_180 1 132 (dk_at dksX0_status_4 12 rfl rfl)
theorem dX0_status_119 : decode cX0_status 119 = .ok (.ireturn, 1) := dk_172 (dk_at dksX0_status_4 15 rfl rfl)
theorem dX0_status_120 : decode cX0_status 120 = .ok (.aload_n 0, 1) := dk_42 (dk_at dksX0_status_4 16 rfl rfl)
theorem dX0_status_121 : decode cX0_status 121 = .ok (.getfield 70, 3) := dk_180 0 70 (dk_at dksX0_status_4 17 rfl rfl)
theorem dX0_status_124 : decode cX0_status 124 = .ok (.getfield 391, 3) := dk_180 1 135 (dk_at dksX0_status_4 20 rfl rfl)
theorem dX0_status_127 : decode cX0_status 127 = .ok (.ireturn, 1) := dk_172 (dk_at dksX0_status_4 23 rfl rfl)
theorem dX0_status_128 : decode cX0_status 128 = .ok (.aload_n 0, 1) := dk_42 (dk_at dksX0_status_5 0 rfl rfl)
theorem dX0_status_129 : decode cX0_status 129 = .ok (.getfield 90, 3) := dk_180 0 90 (dk_at dksX0_status_5 1 rfl rfl)
theorem dX0_status_132 : decode cX0_status 132 = .ok (.getfield 314, 3) := dk_180 1 58 (dk_at dksX0_status_5 4 rfl rfl)
theorem dX0_status_135 : decode cX0_status 135 = .ok (.ireturn, 1) := dk_172 (dk_at dksX0_status_5 7 rfl rfl)
theorem dX0_status_136 : decode cX0_status 136 = .ok (.iload_n 1, 1) := dk_27 (dk_at dksX0_status_5 8 rfl rfl)
theorem dX0_status_137 : decode cX0_status 137 = .ok (.i2l, 1) := dk_133 (dk_at dksX0_status_5 9 rfl rfl)
theorem dX0_status_138 : decode cX0_status 138 = .ok (.ldc2_w 413, 3) := dk_20 1 157 (dk_at dksX0_status_5 10 rfl rfl)
theorem dX0_status_141 : decode cX0_status 141 = .ok (.ldc2_w 415, 3) := dk_20 1 159 (dk_at dksX0_status_5 13 rfl rfl)
theorem dX0_status_144 : decode cX0_status 144 = .ok (.invokestatic 107, 3) := dk_184 0 107 (dk_at dksX0_status_5 16 rfl rfl)
theorem dX0_status_147 : decode cX0_status 147 = .ok (.ifCond .eq 15, 3) := dk_153 0 15 (dk_at dksX0_status_5 19 rfl rfl)
theorem dX0_status_150 : decode cX0_status 150 = .ok (.aload_n 0, 1) := dk_42 (dk_at dksX0_status_5 22 rfl rfl)
theorem dX0_status_151 : decode cX0_status 151 = .ok (.getfield 63, 3) := dk_180 0 63 (dk_at dksX0_status_6 0 rfl rfl)
theorem dX0_status_154 : decode cX0_status 154 = .ok (.iload_n 1, 1) := dk_27 (dk_at dksX0_status_6 3 rfl rfl)
theorem dX0_status_155 : decode cX0_status 155 = .ok (.bipush 10, 2) := dk_16 10 (dk_at dksX0_status_6 4 rfl rfl)
theorem dX0_status_157 : decode cX0_status 157 = .ok (.isub, 1) := dk_100 (dk_at dksX0_status_6 6 rfl rfl)
theorem dX0_status_158 : decode cX0_status 158 = .ok (.iaload, 1) := dk_46 (dk_at dksX0_status_6 7 rfl rfl)
theorem dX0_status_159 : decode cX0_status 159 = .ok (.goto 4, 3) := dk_167 0 4 (dk_at dksX0_status_6 8 rfl rfl)
theorem dX0_status_162 : decode cX0_status 162 = .ok (.iconst (-1), 1) := dk_2 (dk_at dksX0_status_6 11 rfl rfl)
theorem dX0_status_163 : decode cX0_status 163 = .ok (.ireturn, 1) := dk_172 (dk_at dksX0_status_6 12 rfl rfl)
theorem q79 : (Jvm.Cond.initialized "NoFartherThanAThrow") ∈ lw_all := lw_g (lw_at lw_m1 1 rfl) rfl
theorem q115 : (Jvm.Cond.instantiable "NoFartherThanAThrow" (9 : Nat)) ∈ lw_all := lw_g (lw_at lw_m1 37 rfl) rfl
theorem q117 : (Jvm.Cond.instanceMethod ({ cls := "NoFartherThanAThrow", name := "<init>", desc := "()V" } : Jvm.MethodName)) ∈ lw_all := lw_g (lw_at lw_m1 39 rfl) rfl
theorem q118 : (Jvm.Cond.code ({ cls := "NoFartherThanAThrow", name := "<init>", desc := "()V" } : Jvm.MethodName) prog_1_method_5_code (2 : Nat) (Option.none : Option Jvm.ClassFile.FieldType)) ∈ lw_all := lw_g (lw_at lw_m1 40 rfl) rfl
theorem q119 : (Jvm.Cond.methodLink "NoFartherThanAThrow" (50 : Nat) ({ cls := "java/lang/Object", name := "<init>", desc := "()V" } : Jvm.MethodName)) ∈ lw_all := lw_g (lw_at lw_m1 41 rfl) rfl
theorem q122 : (Jvm.Cond.classLink "NoFartherThanAThrow" (57 : Nat) "NoFartherThanAThrow$Shelf") ∈ lw_all := lw_g (lw_at lw_m1 44 rfl) rfl
theorem q124 : (Jvm.Cond.classLink "NoFartherThanAThrow" (67 : Nat) "NoFartherThanAThrow$Trace") ∈ lw_all := lw_g (lw_at lw_m1 46 rfl) rfl
theorem q126 : (Jvm.Cond.methodLink "NoFartherThanAThrow" (69 : Nat) ({ cls := "NoFartherThanAThrow$Trace", name := "<init>", desc := "()V" } : Jvm.MethodName)) ∈ lw_all := lw_g (lw_at lw_m1 48 rfl) rfl
theorem q131 : (Jvm.Cond.fieldLink "NoFartherThanAThrow" (407 : Nat) "NoFartherThanAThrow$Trace" "bodies" "[I") ∈ lw_all := lw_g (lw_at lw_m1 53 rfl) rfl
theorem q133 : (Jvm.Cond.fieldLink "NoFartherThanAThrow" (391 : Nat) "NoFartherThanAThrow$Trace" "many" "I") ∈ lw_all := lw_g (lw_at lw_m1 55 rfl) rfl
theorem q140 : (Jvm.Cond.classLink "NoFartherThanAThrow" (74 : Nat) "NoFartherThanAThrow$Seeker") ∈ lw_all := lw_g (lw_at lw_m1 62 rfl) rfl
theorem q142 : (Jvm.Cond.methodLinkNest "NoFartherThanAThrow" (76 : Nat) ({ cls := "NoFartherThanAThrow$Seeker", name := "<init>", desc := "()V" } : Jvm.MethodName) "NoFartherThanAThrow") ∈ lw_tbl := lw_at lw_m1 64 rfl
theorem q151 : (Jvm.Cond.fieldLink "NoFartherThanAThrow" (354 : Nat) "NoFartherThanAThrow$Seeker" "given" "[I") ∈ lw_all := lw_g (lw_at lw_m1 73 rfl) rfl
theorem q154 : (Jvm.Cond.fieldLink "NoFartherThanAThrow" (351 : Nat) "NoFartherThanAThrow$Seeker" "most" "I") ∈ lw_all := lw_g (lw_at lw_m1 76 rfl) rfl
theorem q166 : (Jvm.Cond.classLink "NoFartherThanAThrow" (87 : Nat) "NoFartherThanAThrow$World") ∈ lw_all := lw_g (lw_at lw_m1 88 rfl) rfl
theorem q168 : (Jvm.Cond.methodLink "NoFartherThanAThrow" (89 : Nat) ({ cls := "NoFartherThanAThrow$World", name := "<init>", desc := "()V" } : Jvm.MethodName)) ∈ lw_all := lw_g (lw_at lw_m1 90 rfl) rfl
theorem q176 : (Jvm.Cond.fieldLink "NoFartherThanAThrow" (234 : Nat) "NoFartherThanAThrow$World" "longWay" "I") ∈ lw_all := lw_g (lw_at lw_m1 98 rfl) rfl
theorem q179 : (Jvm.Cond.fieldLink "NoFartherThanAThrow" (244 : Nat) "NoFartherThanAThrow$World" "from" "I") ∈ lw_all := lw_g (lw_at lw_m1 101 rfl) rfl
theorem q182 : (Jvm.Cond.fieldLink "NoFartherThanAThrow" (247 : Nat) "NoFartherThanAThrow$World" "to" "I") ∈ lw_all := lw_g (lw_at lw_m1 104 rfl) rfl
theorem q186 : (Jvm.Cond.fieldLink "NoFartherThanAThrow" (237 : Nat) "NoFartherThanAThrow$World" "wind" "I") ∈ lw_all := lw_g (lw_at lw_m1 108 rfl) rfl
theorem q188 : (Jvm.Cond.fieldLink "NoFartherThanAThrow" (104 : Nat) "NoFartherThanAThrow$World" "thingsThere" "I") ∈ lw_all := lw_g (lw_at lw_m1 110 rfl) rfl
theorem q192 : (Jvm.Cond.fieldLink "NoFartherThanAThrow" (123 : Nat) "NoFartherThanAThrow$World" "peopleThere" "I") ∈ lw_all := lw_g (lw_at lw_m1 114 rfl) rfl
theorem q197 : (Jvm.Cond.fieldLink "NoFartherThanAThrow" (219 : Nat) "NoFartherThanAThrow$World" "wantsThere" "I") ∈ lw_all := lw_g (lw_at lw_m1 119 rfl) rfl
theorem q199 : (Jvm.Cond.fieldLink "NoFartherThanAThrow" (314 : Nat) "NoFartherThanAThrow$World" "gone" "I") ∈ lw_all := lw_g (lw_at lw_m1 121 rfl) rfl
theorem q201 : (Jvm.Cond.fieldLink "NoFartherThanAThrow" (388 : Nat) "NoFartherThanAThrow$World" "seed" "I") ∈ lw_all := lw_g (lw_at lw_m1 123 rfl) rfl
theorem q203 : (Jvm.Cond.fieldLink "NoFartherThanAThrow" (119 : Nat) "NoFartherThanAThrow$World" "things" "[LNoFartherThanAThrow$Thing;") ∈ lw_all := lw_g (lw_at lw_m1 125 rfl) rfl
theorem q206 : (Jvm.Cond.fieldLink "NoFartherThanAThrow" (132 : Nat) "NoFartherThanAThrow$World" "step" "[I") ∈ lw_all := lw_g (lw_at lw_m1 128 rfl) rfl
theorem q208 : (Jvm.Cond.fieldLink "NoFartherThanAThrow" (262 : Nat) "NoFartherThanAThrow$World" "last" "[I") ∈ lw_all := lw_g (lw_at lw_m1 130 rfl) rfl
theorem q211 : (Jvm.Cond.fieldLink "NoFartherThanAThrow" (265 : Nat) "NoFartherThanAThrow$World" "broken" "[Z") ∈ lw_all := lw_g (lw_at lw_m1 133 rfl) rfl
theorem q213 : (Jvm.Cond.fieldLink "NoFartherThanAThrow" (269 : Nat) "NoFartherThanAThrow$World" "strength" "[I") ∈ lw_all := lw_g (lw_at lw_m1 135 rfl) rfl
theorem q215 : (Jvm.Cond.fieldLink "NoFartherThanAThrow" (272 : Nat) "NoFartherThanAThrow$World" "tired" "[I") ∈ lw_all := lw_g (lw_at lw_m1 137 rfl) rfl
theorem q218 : (Jvm.Cond.fieldLink "NoFartherThanAThrow" (275 : Nat) "NoFartherThanAThrow$World" "wantThing" "[I") ∈ lw_all := lw_g (lw_at lw_m1 140 rfl) rfl
theorem q221 : (Jvm.Cond.fieldLink "NoFartherThanAThrow" (278 : Nat) "NoFartherThanAThrow$World" "wantStep" "[I") ∈ lw_all := lw_g (lw_at lw_m1 143 rfl) rfl
theorem q224 : (Jvm.Cond.fieldLink "NoFartherThanAThrow" (281 : Nat) "NoFartherThanAThrow$World" "wantWorth" "[I") ∈ lw_all := lw_g (lw_at lw_m1 146 rfl) rfl
theorem q264 : (Jvm.Cond.methodLink "NoFartherThanAThrow" (98 : Nat) ({ cls := "NoFartherThanAThrow$Shelf", name := "<init>", desc := "()V" } : Jvm.MethodName)) ∈ lw_all := lw_g (lw_at lw_m1 186 rfl) rfl
theorem q269 : (Jvm.Cond.fieldLink "NoFartherThanAThrow" (143 : Nat) "NoFartherThanAThrow$Shelf" "held" "Ljava/lang/Object;") ∈ lw_all := lw_g (lw_at lw_m1 191 rfl) rfl
theorem q273 : (Jvm.Cond.fieldLink "NoFartherThanAThrow" (59 : Nat) "NoFartherThanAThrow" "shelves" "[LNoFartherThanAThrow$Shelf;") ∈ lw_all := lw_g (lw_at lw_m1 195 rfl) rfl
theorem q274 : (Jvm.Cond.fieldLink "NoFartherThanAThrow" (63 : Nat) "NoFartherThanAThrow" "refusals" "[I") ∈ lw_all := lw_g (lw_at lw_m1 196 rfl) rfl
theorem q275 : (Jvm.Cond.fieldLink "NoFartherThanAThrow" (70 : Nat) "NoFartherThanAThrow" "ran" "LNoFartherThanAThrow$Trace;") ∈ lw_all := lw_g (lw_at lw_m1 197 rfl) rfl
theorem q276 : (Jvm.Cond.fieldLink "NoFartherThanAThrow" (77 : Nat) "NoFartherThanAThrow" "seeker" "LNoFartherThanAThrow$Seeker;") ∈ lw_all := lw_g (lw_at lw_m1 198 rfl) rfl
theorem q277 : (Jvm.Cond.fieldLink "NoFartherThanAThrow" (81 : Nat) "NoFartherThanAThrow" "now" "[I") ∈ lw_all := lw_g (lw_at lw_m1 199 rfl) rfl
theorem q278 : (Jvm.Cond.fieldLink "NoFartherThanAThrow" (84 : Nat) "NoFartherThanAThrow" "then" "[I") ∈ lw_all := lw_g (lw_at lw_m1 200 rfl) rfl
theorem q279 : (Jvm.Cond.fieldLink "NoFartherThanAThrow" (90 : Nat) "NoFartherThanAThrow" "w" "LNoFartherThanAThrow$World;") ∈ lw_all := lw_g (lw_at lw_m1 201 rfl) rfl
theorem q280 : (Jvm.Cond.fieldLink "NoFartherThanAThrow" (410 : Nat) "NoFartherThanAThrow" "imaged" "LNoFartherThanAThrow$World;") ∈ lw_all := lw_g (lw_at lw_m1 202 rfl) rfl
theorem q281 : (Jvm.Cond.fieldLink "NoFartherThanAThrow" (94 : Nat) "NoFartherThanAThrow" "latestFault" "I") ∈ lw_all := lw_g (lw_at lw_m1 203 rfl) rfl
theorem q282 : (Jvm.Cond.laysFinal "NoFartherThanAThrow" "NoFartherThanAThrow" "shelves" "[LNoFartherThanAThrow$Shelf;") ∈ lw_all := lw_g (lw_at lw_m1 204 rfl) rfl
theorem q283 : (Jvm.Cond.soleField "NoFartherThanAThrow" "shelves") ∈ lw_all := lw_g (lw_at lw_m1 205 rfl) rfl
theorem q284 : (Jvm.Cond.laysFinal "NoFartherThanAThrow" "NoFartherThanAThrow" "refusals" "[I") ∈ lw_all := lw_g (lw_at lw_m1 206 rfl) rfl
theorem q285 : (Jvm.Cond.soleField "NoFartherThanAThrow" "refusals") ∈ lw_all := lw_g (lw_at lw_m1 207 rfl) rfl
theorem q286 : (Jvm.Cond.laysFinal "NoFartherThanAThrow" "NoFartherThanAThrow" "ran" "LNoFartherThanAThrow$Trace;") ∈ lw_all := lw_g (lw_at lw_m1 208 rfl) rfl
theorem q287 : (Jvm.Cond.soleField "NoFartherThanAThrow" "ran") ∈ lw_all := lw_g (lw_at lw_m1 209 rfl) rfl
theorem q288 : (Jvm.Cond.laysFinal "NoFartherThanAThrow" "NoFartherThanAThrow" "seeker" "LNoFartherThanAThrow$Seeker;") ∈ lw_all := lw_g (lw_at lw_m1 210 rfl) rfl
theorem q289 : (Jvm.Cond.soleField "NoFartherThanAThrow" "seeker") ∈ lw_all := lw_g (lw_at lw_m1 211 rfl) rfl
theorem q290 : (Jvm.Cond.laysFinal "NoFartherThanAThrow" "NoFartherThanAThrow" "now" "[I") ∈ lw_all := lw_g (lw_at lw_m1 212 rfl) rfl
theorem q291 : (Jvm.Cond.soleField "NoFartherThanAThrow" "now") ∈ lw_all := lw_g (lw_at lw_m1 213 rfl) rfl
theorem q292 : (Jvm.Cond.laysFinal "NoFartherThanAThrow" "NoFartherThanAThrow" "then" "[I") ∈ lw_all := lw_g (lw_at lw_m1 214 rfl) rfl
theorem q293 : (Jvm.Cond.soleField "NoFartherThanAThrow" "then") ∈ lw_all := lw_g (lw_at lw_m1 215 rfl) rfl
theorem q294 : (Jvm.Cond.lays "NoFartherThanAThrow" "NoFartherThanAThrow" "w" "LNoFartherThanAThrow$World;") ∈ lw_all := lw_g (lw_at lw_m1 216 rfl) rfl
theorem q295 : (Jvm.Cond.soleField "NoFartherThanAThrow" "w") ∈ lw_all := lw_g (lw_at lw_m1 217 rfl) rfl
theorem q296 : (Jvm.Cond.lays "NoFartherThanAThrow" "NoFartherThanAThrow" "imaged" "LNoFartherThanAThrow$World;") ∈ lw_all := lw_g (lw_at lw_m1 218 rfl) rfl
theorem q297 : (Jvm.Cond.soleField "NoFartherThanAThrow" "imaged") ∈ lw_all := lw_g (lw_at lw_m1 219 rfl) rfl
theorem q298 : (Jvm.Cond.lays "NoFartherThanAThrow" "NoFartherThanAThrow" "latestFault" "I") ∈ lw_all := lw_g (lw_at lw_m1 220 rfl) rfl
theorem q299 : (Jvm.Cond.soleField "NoFartherThanAThrow" "latestFault") ∈ lw_all := lw_g (lw_at lw_m1 221 rfl) rfl
theorem q300 : (Jvm.Cond.superclass "NoFartherThanAThrow" "java/lang/Object") ∈ lw_all := lw_g (lw_at lw_m1 222 rfl) rfl
theorem q302 : (Jvm.Cond.instanceMethod ({ cls := "NoFartherThanAThrow", name := "row", desc := "(III)I" } : Jvm.MethodName)) ∈ lw_all := lw_g (lw_at lw_m1 224 rfl) rfl
theorem q303 : (Jvm.Cond.selects "NoFartherThanAThrow" ({ cls := "NoFartherThanAThrow", name := "row", desc := "(III)I" } : Jvm.MethodName) ({ cls := "NoFartherThanAThrow", name := "row", desc := "(III)I" } : Jvm.MethodName)) ∈ lw_all := lw_g (lw_at lw_m1 225 rfl) rfl
theorem q304 : (Jvm.Cond.codeWith ({ cls := "NoFartherThanAThrow", name := "row", desc := "(III)I" } : Jvm.MethodName) prog_1_method_18_code (5 : Nat) (Option.some Jvm.ClassFile.FieldType.int) [((0 : Nat), (63 : Nat), (64 : Nat), (21 : Nat))]) ∈ lw_all := lw_g (lw_at lw_m1 226 rfl) rfl
theorem q305 : (Jvm.Cond.classLink "NoFartherThanAThrow" (21 : Nat) "NoFartherThanAThrow$Refused") ∈ lw_all := lw_g (lw_at lw_m1 227 rfl) rfl
theorem q306 : (Jvm.Cond.methodLink "NoFartherThanAThrow" (163 : Nat) ({ cls := "NoFartherThanAThrow", name := "shelf", desc := "(I)LNoFartherThanAThrow$Shelf;" } : Jvm.MethodName)) ∈ lw_all := lw_g (lw_at lw_m1 228 rfl) rfl
theorem q307 : (Jvm.Cond.privateMethod ({ cls := "NoFartherThanAThrow", name := "shelf", desc := "(I)LNoFartherThanAThrow$Shelf;" } : Jvm.MethodName)) ∈ lw_tbl := lw_at lw_m1 229 rfl
theorem q308 : (Jvm.Cond.instanceMethod ({ cls := "NoFartherThanAThrow", name := "shelf", desc := "(I)LNoFartherThanAThrow$Shelf;" } : Jvm.MethodName)) ∈ lw_all := lw_g (lw_at lw_m1 230 rfl) rfl
theorem q309 : (Jvm.Cond.codeWith ({ cls := "NoFartherThanAThrow", name := "shelf", desc := "(I)LNoFartherThanAThrow$Shelf;" } : Jvm.MethodName) prog_1_method_8_code (3 : Nat) (Option.some (Jvm.ClassFile.FieldType.object "NoFartherThanAThrow$Shelf")) [((0 : Nat), (6 : Nat), (7 : Nat), (102 : Nat))]) ∈ lw_all := lw_g (lw_at lw_m1 231 rfl) rfl
theorem q310 : (Jvm.Cond.classLink "NoFartherThanAThrow" (102 : Nat) "java/lang/ArrayIndexOutOfBoundsException") ∈ lw_all := lw_g (lw_at lw_m1 232 rfl) rfl
theorem q396 : (Jvm.Cond.methodLink "NoFartherThanAThrow" (23 : Nat) ({ cls := "NoFartherThanAThrow$Refused", name := "<init>", desc := "(I)V" } : Jvm.MethodName)) ∈ lw_all := lw_g (lw_at lw_m2 78 rfl) rfl
theorem q406 : (Jvm.Cond.fieldLink "NoFartherThanAThrow" (99 : Nat) "NoFartherThanAThrow$Refused" "why" "I") ∈ lw_all := lw_g (lw_at lw_m2 88 rfl) rfl
theorem q411 : (Jvm.Cond.methodLink "NoFartherThanAThrow" (115 : Nat) ({ cls := "NoFartherThanAThrow", name := "need", desc := "(ZI)V" } : Jvm.MethodName)) ∈ lw_all := lw_g (lw_at lw_m2 93 rfl) rfl
theorem q412 : (Jvm.Cond.static ({ cls := "NoFartherThanAThrow", name := "need", desc := "(ZI)V" } : Jvm.MethodName)) ∈ lw_all := lw_g (lw_at lw_m2 94 rfl) rfl
theorem q413 : (Jvm.Cond.code ({ cls := "NoFartherThanAThrow", name := "need", desc := "(ZI)V" } : Jvm.MethodName) prog_1_method_2_code (2 : Nat) (Option.none : Option Jvm.ClassFile.FieldType)) ∈ lw_all := lw_g (lw_at lw_m2 95 rfl) rfl
theorem q414 : (Jvm.Cond.constantLong "NoFartherThanAThrow" (167 : Nat) (3 : Int64)) ∈ lw_all := lw_g (lw_at lw_m2 96 rfl) rfl
theorem q415 : (Jvm.Cond.methodLink "NoFartherThanAThrow" (107 : Nat) ({ cls := "NoFartherThanAThrow", name := "in", desc := "(JJJ)Z" } : Jvm.MethodName)) ∈ lw_all := lw_g (lw_at lw_m2 97 rfl) rfl
theorem q416 : (Jvm.Cond.static ({ cls := "NoFartherThanAThrow", name := "in", desc := "(JJJ)Z" } : Jvm.MethodName)) ∈ lw_all := lw_g (lw_at lw_m2 98 rfl) rfl
theorem q417 : (Jvm.Cond.code ({ cls := "NoFartherThanAThrow", name := "in", desc := "(JJJ)Z" } : Jvm.MethodName) prog_1_method_3_code (6 : Nat) (Option.some Jvm.ClassFile.FieldType.boolean)) ∈ lw_all := lw_g (lw_at lw_m2 99 rfl) rfl
theorem q418 : (Jvm.Cond.methodLink "NoFartherThanAThrow" (169 : Nat) ({ cls := "NoFartherThanAThrow", name := "newRow", desc := "(II)LNoFartherThanAThrow$Row;" } : Jvm.MethodName)) ∈ lw_all := lw_g (lw_at lw_m2 100 rfl) rfl
theorem q419 : (Jvm.Cond.static ({ cls := "NoFartherThanAThrow", name := "newRow", desc := "(II)LNoFartherThanAThrow$Row;" } : Jvm.MethodName)) ∈ lw_all := lw_g (lw_at lw_m2 101 rfl) rfl
theorem q420 : (Jvm.Cond.codeWith ({ cls := "NoFartherThanAThrow", name := "newRow", desc := "(II)LNoFartherThanAThrow$Row;" } : Jvm.MethodName) prog_1_method_17_code (3 : Nat) (Option.some (Jvm.ClassFile.FieldType.object "NoFartherThanAThrow$Row")) [((0 : Nat), (40 : Nat), (78 : Nat), (161 : Nat)), ((41 : Nat), (49 : Nat), (78 : Nat), (161 : Nat)), ((50 : Nat), (58 : Nat), (78 : Nat), (161 : Nat)), ((59 : Nat), (67 : Nat), (78 : Nat), (161 : Nat)), ((68 : Nat), (78 : Nat), (78 : Nat), (161 : Nat))]) ∈ lw_all := lw_g (lw_at lw_m2 102 rfl) rfl
theorem q421 : (Jvm.Cond.classLink "NoFartherThanAThrow" (161 : Nat) "java/lang/NegativeArraySizeException") ∈ lw_all := lw_g (lw_at lw_m2 103 rfl) rfl
theorem q435 : (Jvm.Cond.classLink "NoFartherThanAThrow" (149 : Nat) "NoFartherThanAThrow$Bytes") ∈ lw_all := lw_g (lw_at lw_m2 117 rfl) rfl
theorem q437 : (Jvm.Cond.methodLink "NoFartherThanAThrow" (151 : Nat) ({ cls := "NoFartherThanAThrow$Bytes", name := "<init>", desc := "(I)V" } : Jvm.MethodName)) ∈ lw_all := lw_g (lw_at lw_m2 119 rfl) rfl
theorem q448 : (Jvm.Cond.classLink "NoFartherThanAThrow" (152 : Nat) "NoFartherThanAThrow$Shorts") ∈ lw_all := lw_g (lw_at lw_m2 130 rfl) rfl
theorem q450 : (Jvm.Cond.methodLink "NoFartherThanAThrow" (154 : Nat) ({ cls := "NoFartherThanAThrow$Shorts", name := "<init>", desc := "(I)V" } : Jvm.MethodName)) ∈ lw_all := lw_g (lw_at lw_m2 132 rfl) rfl
theorem q459 : (Jvm.Cond.classLink "NoFartherThanAThrow" (155 : Nat) "NoFartherThanAThrow$Ints") ∈ lw_all := lw_g (lw_at lw_m2 141 rfl) rfl
theorem q461 : (Jvm.Cond.methodLink "NoFartherThanAThrow" (157 : Nat) ({ cls := "NoFartherThanAThrow$Ints", name := "<init>", desc := "(I)V" } : Jvm.MethodName)) ∈ lw_all := lw_g (lw_at lw_m2 143 rfl) rfl
theorem q469 : (Jvm.Cond.classLink "NoFartherThanAThrow" (158 : Nat) "NoFartherThanAThrow$Longs") ∈ lw_all := lw_g (lw_at lw_m2 151 rfl) rfl
theorem q471 : (Jvm.Cond.methodLink "NoFartherThanAThrow" (160 : Nat) ({ cls := "NoFartherThanAThrow$Longs", name := "<init>", desc := "(I)V" } : Jvm.MethodName)) ∈ lw_all := lw_g (lw_at lw_m2 153 rfl) rfl
theorem q480 : (Jvm.Cond.methodLink "NoFartherThanAThrow" (173 : Nat) ({ cls := "NoFartherThanAThrow", name := "refused", desc := "(LNoFartherThanAThrow$Refused;)I" } : Jvm.MethodName)) ∈ lw_all := lw_g (lw_at lw_m2 162 rfl) rfl
theorem q481 : (Jvm.Cond.privateMethod ({ cls := "NoFartherThanAThrow", name := "refused", desc := "(LNoFartherThanAThrow$Refused;)I" } : Jvm.MethodName)) ∈ lw_tbl := lw_at lw_m2 163 rfl
theorem q482 : (Jvm.Cond.instanceMethod ({ cls := "NoFartherThanAThrow", name := "refused", desc := "(LNoFartherThanAThrow$Refused;)I" } : Jvm.MethodName)) ∈ lw_all := lw_g (lw_at lw_m2 164 rfl) rfl
theorem q483 : (Jvm.Cond.code ({ cls := "NoFartherThanAThrow", name := "refused", desc := "(LNoFartherThanAThrow$Refused;)I" } : Jvm.MethodName) prog_1_method_6_code (2 : Nat) (Option.some Jvm.ClassFile.FieldType.int)) ∈ lw_all := lw_g (lw_at lw_m2 165 rfl) rfl
theorem q485 : (Jvm.Cond.instanceMethod ({ cls := "NoFartherThanAThrow", name := "set", desc := "(IIJ)I" } : Jvm.MethodName)) ∈ lw_all := lw_g (lw_at lw_m2 167 rfl) rfl
theorem q486 : (Jvm.Cond.selects "NoFartherThanAThrow" ({ cls := "NoFartherThanAThrow", name := "set", desc := "(IIJ)I" } : Jvm.MethodName) ({ cls := "NoFartherThanAThrow", name := "set", desc := "(IIJ)I" } : Jvm.MethodName)) ∈ lw_all := lw_g (lw_at lw_m2 168 rfl) rfl
theorem q487 : (Jvm.Cond.codeWith ({ cls := "NoFartherThanAThrow", name := "set", desc := "(IIJ)I" } : Jvm.MethodName) prog_1_method_19_code (7 : Nat) (Option.some Jvm.ClassFile.FieldType.int) [((10 : Nat), (17 : Nat), (20 : Nat), (102 : Nat)), ((0 : Nat), (33 : Nat), (34 : Nat), (21 : Nat))]) ∈ lw_all := lw_g (lw_at lw_m2 169 rfl) rfl
theorem q488 : (Jvm.Cond.methodLink "NoFartherThanAThrow" (177 : Nat) ({ cls := "NoFartherThanAThrow$Shelf", name := "row", desc := "()LNoFartherThanAThrow$Row;" } : Jvm.MethodName)) ∈ lw_all := lw_g (lw_at lw_m2 170 rfl) rfl
theorem q510 : (Jvm.Cond.methodLink "NoFartherThanAThrow" (180 : Nat) ({ cls := "NoFartherThanAThrow$Row", name := "put", desc := "(IJ)V" } : Jvm.MethodName)) ∈ lw_all := lw_g (lw_at lw_m2 192 rfl) rfl
theorem q526 : (Jvm.Cond.instanceMethod ({ cls := "NoFartherThanAThrow", name := "copy", desc := "(IIIII)I" } : Jvm.MethodName)) ∈ lw_all := lw_g (lw_at lw_m2 208 rfl) rfl
theorem q527 : (Jvm.Cond.selects "NoFartherThanAThrow" ({ cls := "NoFartherThanAThrow", name := "copy", desc := "(IIIII)I" } : Jvm.MethodName) ({ cls := "NoFartherThanAThrow", name := "copy", desc := "(IIIII)I" } : Jvm.MethodName)) ∈ lw_all := lw_g (lw_at lw_m2 209 rfl) rfl
theorem q528 : (Jvm.Cond.codeWith ({ cls := "NoFartherThanAThrow", name := "copy", desc := "(IIIII)I" } : Jvm.MethodName) prog_1_method_20_code (11 : Nat) (Option.some Jvm.ClassFile.FieldType.int) [((114 : Nat), (132 : Nat), (135 : Nat), (187 : Nat)), ((0 : Nat), (148 : Nat), (149 : Nat), (21 : Nat))]) ∈ lw_all := lw_g (lw_at lw_m2 210 rfl) rfl
theorem q529 : (Jvm.Cond.classLink "NoFartherThanAThrow" (187 : Nat) "java/lang/IndexOutOfBoundsException") ∈ lw_all := lw_g (lw_at lw_m2 211 rfl) rfl
theorem q530 : (Jvm.Cond.methodLink "NoFartherThanAThrow" (139 : Nat) ({ cls := "NoFartherThanAThrow$Shelf", name := "holdsThing", desc := "()Z" } : Jvm.MethodName)) ∈ lw_all := lw_g (lw_at lw_m2 212 rfl) rfl
theorem q535 : (Jvm.Cond.methodLink "NoFartherThanAThrow" (184 : Nat) ({ cls := "NoFartherThanAThrow$Row", name := "sort", desc := "()I" } : Jvm.MethodName)) ∈ lw_all := lw_g (lw_at lw_m2 217 rfl) rfl
theorem q550 : (Jvm.Cond.methodLink "NoFartherThanAThrow" (7 : Nat) ({ cls := "NoFartherThanAThrow$Row", name := "held", desc := "()Ljava/lang/Object;" } : Jvm.MethodName)) ∈ lw_all := lw_g (lw_at lw_m2 232 rfl) rfl
theorem q565 : (Jvm.Cond.methodLink "NoFartherThanAThrow" (15 : Nat) ({ cls := "java/lang/System", name := "arraycopy", desc := "(Ljava/lang/Object;ILjava/lang/Object;II)V" } : Jvm.MethodName)) ∈ lw_all := lw_g (lw_at lw_m3 7 rfl) rfl
theorem q569 : (Jvm.Cond.instanceMethod ({ cls := "NoFartherThanAThrow", name := "element", desc := "(II)J" } : Jvm.MethodName)) ∈ lw_all := lw_g (lw_at lw_m3 11 rfl) rfl
theorem q570 : (Jvm.Cond.selects "NoFartherThanAThrow" ({ cls := "NoFartherThanAThrow", name := "element", desc := "(II)J" } : Jvm.MethodName) ({ cls := "NoFartherThanAThrow", name := "element", desc := "(II)J" } : Jvm.MethodName)) ∈ lw_all := lw_g (lw_at lw_m3 12 rfl) rfl
theorem q571 : (Jvm.Cond.codeWith ({ cls := "NoFartherThanAThrow", name := "element", desc := "(II)J" } : Jvm.MethodName) prog_1_method_21_code (4 : Nat) (Option.some Jvm.ClassFile.FieldType.long) [((0 : Nat), (12 : Nat), (13 : Nat), (21 : Nat)), ((0 : Nat), (12 : Nat), (16 : Nat), (102 : Nat))]) ∈ lw_all := lw_g (lw_at lw_m3 13 rfl) rfl
theorem q572 : (Jvm.Cond.methodLink "NoFartherThanAThrow" (189 : Nat) ({ cls := "NoFartherThanAThrow$Row", name := "get", desc := "(I)J" } : Jvm.MethodName)) ∈ lw_all := lw_g (lw_at lw_m3 14 rfl) rfl
theorem q588 : (Jvm.Cond.instanceMethod ({ cls := "NoFartherThanAThrow", name := "show", desc := "(II)I" } : Jvm.MethodName)) ∈ lw_all := lw_g (lw_at lw_m3 30 rfl) rfl
theorem q589 : (Jvm.Cond.selects "NoFartherThanAThrow" ({ cls := "NoFartherThanAThrow", name := "show", desc := "(II)I" } : Jvm.MethodName) ({ cls := "NoFartherThanAThrow", name := "show", desc := "(II)I" } : Jvm.MethodName)) ∈ lw_all := lw_g (lw_at lw_m3 31 rfl) rfl
theorem q590 : (Jvm.Cond.codeWith ({ cls := "NoFartherThanAThrow", name := "show", desc := "(II)I" } : Jvm.MethodName) prog_1_method_22_code (4 : Nat) (Option.some Jvm.ClassFile.FieldType.int) [((0 : Nat), (17 : Nat), (29 : Nat), (21 : Nat)), ((18 : Nat), (28 : Nat), (29 : Nat), (21 : Nat))]) ∈ lw_all := lw_g (lw_at lw_m3 32 rfl) rfl
theorem q591 : (Jvm.Cond.methodLink "NoFartherThanAThrow" (193 : Nat) ({ cls := "NoFartherThanAThrow", name := "thingAt", desc := "(I)LNoFartherThanAThrow$Thing;" } : Jvm.MethodName)) ∈ lw_all := lw_g (lw_at lw_m3 33 rfl) rfl
theorem q592 : (Jvm.Cond.privateMethod ({ cls := "NoFartherThanAThrow", name := "thingAt", desc := "(I)LNoFartherThanAThrow$Thing;" } : Jvm.MethodName)) ∈ lw_tbl := lw_at lw_m3 34 rfl
theorem q593 : (Jvm.Cond.instanceMethod ({ cls := "NoFartherThanAThrow", name := "thingAt", desc := "(I)LNoFartherThanAThrow$Thing;" } : Jvm.MethodName)) ∈ lw_all := lw_g (lw_at lw_m3 35 rfl) rfl
theorem q594 : (Jvm.Cond.code ({ cls := "NoFartherThanAThrow", name := "thingAt", desc := "(I)LNoFartherThanAThrow$Thing;" } : Jvm.MethodName) prog_1_method_10_code (2 : Nat) (Option.some (Jvm.ClassFile.FieldType.object "NoFartherThanAThrow$Thing"))) ∈ lw_all := lw_g (lw_at lw_m3 36 rfl) rfl
theorem q595 : (Jvm.Cond.methodLink "NoFartherThanAThrow" (111 : Nat) ({ cls := "NoFartherThanAThrow", name := "isThing", desc := "(I)Z" } : Jvm.MethodName)) ∈ lw_all := lw_g (lw_at lw_m3 37 rfl) rfl
theorem q596 : (Jvm.Cond.privateMethod ({ cls := "NoFartherThanAThrow", name := "isThing", desc := "(I)Z" } : Jvm.MethodName)) ∈ lw_tbl := lw_at lw_m3 38 rfl
theorem q597 : (Jvm.Cond.instanceMethod ({ cls := "NoFartherThanAThrow", name := "isThing", desc := "(I)Z" } : Jvm.MethodName)) ∈ lw_all := lw_g (lw_at lw_m3 39 rfl) rfl
theorem q598 : (Jvm.Cond.code ({ cls := "NoFartherThanAThrow", name := "isThing", desc := "(I)Z" } : Jvm.MethodName) prog_1_method_9_code (2 : Nat) (Option.some Jvm.ClassFile.FieldType.boolean)) ∈ lw_all := lw_g (lw_at lw_m3 40 rfl) rfl
theorem q600 : (Jvm.Cond.instanceMethod ({ cls := "NoFartherThanAThrow", name := "holds", desc := "(I)I" } : Jvm.MethodName)) ∈ lw_all := lw_g (lw_at lw_m3 42 rfl) rfl
theorem q601 : (Jvm.Cond.selects "NoFartherThanAThrow" ({ cls := "NoFartherThanAThrow", name := "holds", desc := "(I)I" } : Jvm.MethodName) ({ cls := "NoFartherThanAThrow", name := "holds", desc := "(I)I" } : Jvm.MethodName)) ∈ lw_all := lw_g (lw_at lw_m3 43 rfl) rfl
theorem q602 : (Jvm.Cond.code ({ cls := "NoFartherThanAThrow", name := "holds", desc := "(I)I" } : Jvm.MethodName) prog_1_method_23_code (3 : Nat) (Option.some Jvm.ClassFile.FieldType.int)) ∈ lw_all := lw_g (lw_at lw_m3 44 rfl) rfl
theorem q603 : (Jvm.Cond.classLink "NoFartherThanAThrow" (47 : Nat) "NoFartherThanAThrow$Thing") ∈ lw_all := lw_g (lw_at lw_m3 45 rfl) rfl
theorem q604 : (Jvm.Cond.classLink "NoFartherThanAThrow" (2 : Nat) "NoFartherThanAThrow$Row") ∈ lw_all := lw_g (lw_at lw_m3 46 rfl) rfl
theorem q606 : (Jvm.Cond.instanceMethod ({ cls := "NoFartherThanAThrow", name := "says", desc := "(II)I" } : Jvm.MethodName)) ∈ lw_all := lw_g (lw_at lw_m3 48 rfl) rfl
theorem q607 : (Jvm.Cond.selects "NoFartherThanAThrow" ({ cls := "NoFartherThanAThrow", name := "says", desc := "(II)I" } : Jvm.MethodName) ({ cls := "NoFartherThanAThrow", name := "says", desc := "(II)I" } : Jvm.MethodName)) ∈ lw_all := lw_g (lw_at lw_m3 49 rfl) rfl
theorem q608 : (Jvm.Cond.codeWith ({ cls := "NoFartherThanAThrow", name := "says", desc := "(II)I" } : Jvm.MethodName) prog_1_method_24_code (4 : Nat) (Option.some Jvm.ClassFile.FieldType.int) [((0 : Nat), (28 : Nat), (29 : Nat), (21 : Nat))]) ∈ lw_all := lw_g (lw_at lw_m3 50 rfl) rfl
theorem q609 : (Jvm.Cond.constantLong "NoFartherThanAThrow" (197 : Nat) (6 : Int64)) ∈ lw_all := lw_g (lw_at lw_m3 51 rfl) rfl
theorem q610 : (Jvm.Cond.methodLink "NoFartherThanAThrow" (199 : Nat) ({ cls := "NoFartherThanAThrow$Shelf", name := "says", desc := "(ILNoFartherThanAThrow$World;)I" } : Jvm.MethodName)) ∈ lw_all := lw_g (lw_at lw_m3 52 rfl) rfl
theorem q700 : (Jvm.Cond.instanceMethod ({ cls := "NoFartherThanAThrow", name := "thing", desc := "(IIII)I" } : Jvm.MethodName)) ∈ lw_all := lw_g (lw_at lw_m3 142 rfl) rfl
theorem q701 : (Jvm.Cond.selects "NoFartherThanAThrow" ({ cls := "NoFartherThanAThrow", name := "thing", desc := "(IIII)I" } : Jvm.MethodName) ({ cls := "NoFartherThanAThrow", name := "thing", desc := "(IIII)I" } : Jvm.MethodName)) ∈ lw_all := lw_g (lw_at lw_m3 143 rfl) rfl
theorem q702 : (Jvm.Cond.codeWith ({ cls := "NoFartherThanAThrow", name := "thing", desc := "(IIII)I" } : Jvm.MethodName) prog_1_method_25_code (6 : Nat) (Option.some Jvm.ClassFile.FieldType.int) [((0 : Nat), (103 : Nat), (104 : Nat), (21 : Nat))]) ∈ lw_all := lw_g (lw_at lw_m3 144 rfl) rfl
theorem q703 : (Jvm.Cond.constantLong "NoFartherThanAThrow" (203 : Nat) (99 : Int64)) ∈ lw_all := lw_g (lw_at lw_m3 145 rfl) rfl
theorem q704 : (Jvm.Cond.constantLong "NoFartherThanAThrow" (205 : Nat) (9 : Int64)) ∈ lw_all := lw_g (lw_at lw_m3 146 rfl) rfl
theorem q705 : (Jvm.Cond.methodLink "NoFartherThanAThrow" (129 : Nat) ({ cls := "NoFartherThanAThrow$World", name := "isStep", desc := "(I)Z" } : Jvm.MethodName)) ∈ lw_all := lw_g (lw_at lw_m3 147 rfl) rfl
theorem q714 : (Jvm.Cond.methodLink "NoFartherThanAThrow" (207 : Nat) ({ cls := "NoFartherThanAThrow$World", name := "addThing", desc := "(IIIII)V" } : Jvm.MethodName)) ∈ lw_all := lw_g (lw_at lw_m3 156 rfl) rfl
theorem q723 : (Jvm.Cond.static ({ cls := "NoFartherThanAThrow", name := "thingOfKind", desc := "(IIII)LNoFartherThanAThrow$Thing;" } : Jvm.MethodName)) ∈ lw_all := lw_g (lw_at lw_m3 165 rfl) rfl
theorem q724 : (Jvm.Cond.code ({ cls := "NoFartherThanAThrow", name := "thingOfKind", desc := "(IIII)LNoFartherThanAThrow$Thing;" } : Jvm.MethodName) prog_1_method_4_code (4 : Nat) (Option.some (Jvm.ClassFile.FieldType.object "NoFartherThanAThrow$Thing"))) ∈ lw_all := lw_g (lw_at lw_m3 166 rfl) rfl
theorem q725 : (Jvm.Cond.classLink "NoFartherThanAThrow" (27 : Nat) "NoFartherThanAThrow$Heavy") ∈ lw_all := lw_g (lw_at lw_m3 167 rfl) rfl
theorem q727 : (Jvm.Cond.methodLink "NoFartherThanAThrow" (29 : Nat) ({ cls := "NoFartherThanAThrow$Heavy", name := "<init>", desc := "(III)V" } : Jvm.MethodName)) ∈ lw_all := lw_g (lw_at lw_m3 169 rfl) rfl
theorem q739 : (Jvm.Cond.fieldLink "NoFartherThanAThrow" (146 : Nat) "NoFartherThanAThrow$Thing" "index" "I") ∈ lw_all := lw_g (lw_at lw_m3 181 rfl) rfl
theorem q746 : (Jvm.Cond.fieldLink "NoFartherThanAThrow" (256 : Nat) "NoFartherThanAThrow$Thing" "weight" "I") ∈ lw_all := lw_g (lw_at lw_m3 188 rfl) rfl
theorem q754 : (Jvm.Cond.fieldLink "NoFartherThanAThrow" (259 : Nat) "NoFartherThanAThrow$Thing" "extra" "I") ∈ lw_all := lw_g (lw_at lw_m3 196 rfl) rfl
theorem q761 : (Jvm.Cond.classLink "NoFartherThanAThrow" (32 : Nat) "NoFartherThanAThrow$Light") ∈ lw_all := lw_g (lw_at lw_m3 203 rfl) rfl
theorem q763 : (Jvm.Cond.methodLink "NoFartherThanAThrow" (34 : Nat) ({ cls := "NoFartherThanAThrow$Light", name := "<init>", desc := "(III)V" } : Jvm.MethodName)) ∈ lw_all := lw_g (lw_at lw_m3 205 rfl) rfl
theorem q770 : (Jvm.Cond.classLink "NoFartherThanAThrow" (35 : Nat) "NoFartherThanAThrow$Feather") ∈ lw_all := lw_g (lw_at lw_m3 212 rfl) rfl
theorem q772 : (Jvm.Cond.methodLink "NoFartherThanAThrow" (37 : Nat) ({ cls := "NoFartherThanAThrow$Feather", name := "<init>", desc := "(III)V" } : Jvm.MethodName)) ∈ lw_all := lw_g (lw_at lw_m3 214 rfl) rfl
theorem q779 : (Jvm.Cond.classLink "NoFartherThanAThrow" (38 : Nat) "NoFartherThanAThrow$Glass") ∈ lw_all := lw_g (lw_at lw_m3 221 rfl) rfl
theorem q781 : (Jvm.Cond.methodLink "NoFartherThanAThrow" (40 : Nat) ({ cls := "NoFartherThanAThrow$Glass", name := "<init>", desc := "(III)V" } : Jvm.MethodName)) ∈ lw_all := lw_g (lw_at lw_m3 223 rfl) rfl
theorem q789 : (Jvm.Cond.classLink "NoFartherThanAThrow" (41 : Nat) "NoFartherThanAThrow$Parted") ∈ lw_all := lw_g (lw_at lw_m3 231 rfl) rfl
theorem q791 : (Jvm.Cond.methodLink "NoFartherThanAThrow" (43 : Nat) ({ cls := "NoFartherThanAThrow$Parted", name := "<init>", desc := "(III)V" } : Jvm.MethodName)) ∈ lw_all := lw_g (lw_at lw_m3 233 rfl) rfl
theorem q798 : (Jvm.Cond.classLink "NoFartherThanAThrow" (44 : Nat) "NoFartherThanAThrow$Round") ∈ lw_all := lw_g (lw_at lw_m4 0 rfl) rfl
theorem q800 : (Jvm.Cond.methodLink "NoFartherThanAThrow" (46 : Nat) ({ cls := "NoFartherThanAThrow$Round", name := "<init>", desc := "(III)V" } : Jvm.MethodName)) ∈ lw_all := lw_g (lw_at lw_m4 2 rfl) rfl
theorem q809 : (Jvm.Cond.methodLink "NoFartherThanAThrow" (49 : Nat) ({ cls := "NoFartherThanAThrow$Thing", name := "<init>", desc := "(III)V" } : Jvm.MethodName)) ∈ lw_all := lw_g (lw_at lw_m4 11 rfl) rfl
theorem q815 : (Jvm.Cond.instanceMethod ({ cls := "NoFartherThanAThrow", name := "man", desc := "(I)I" } : Jvm.MethodName)) ∈ lw_all := lw_g (lw_at lw_m4 17 rfl) rfl
theorem q816 : (Jvm.Cond.selects "NoFartherThanAThrow" ({ cls := "NoFartherThanAThrow", name := "man", desc := "(I)I" } : Jvm.MethodName) ({ cls := "NoFartherThanAThrow", name := "man", desc := "(I)I" } : Jvm.MethodName)) ∈ lw_all := lw_g (lw_at lw_m4 18 rfl) rfl
theorem q817 : (Jvm.Cond.codeWith ({ cls := "NoFartherThanAThrow", name := "man", desc := "(I)I" } : Jvm.MethodName) prog_1_method_27_code (3 : Nat) (Option.some Jvm.ClassFile.FieldType.int) [((0 : Nat), (14 : Nat), (15 : Nat), (21 : Nat))]) ∈ lw_all := lw_g (lw_at lw_m4 19 rfl) rfl
theorem q818 : (Jvm.Cond.methodLink "NoFartherThanAThrow" (214 : Nat) ({ cls := "NoFartherThanAThrow", name := "addMan", desc := "(I)V" } : Jvm.MethodName)) ∈ lw_all := lw_g (lw_at lw_m4 20 rfl) rfl
theorem q819 : (Jvm.Cond.privateMethod ({ cls := "NoFartherThanAThrow", name := "addMan", desc := "(I)V" } : Jvm.MethodName)) ∈ lw_tbl := lw_at lw_m4 21 rfl
theorem q820 : (Jvm.Cond.instanceMethod ({ cls := "NoFartherThanAThrow", name := "addMan", desc := "(I)V" } : Jvm.MethodName)) ∈ lw_all := lw_g (lw_at lw_m4 22 rfl) rfl
theorem q821 : (Jvm.Cond.code ({ cls := "NoFartherThanAThrow", name := "addMan", desc := "(I)V" } : Jvm.MethodName) prog_1_method_26_code (2 : Nat) (Option.none : Option Jvm.ClassFile.FieldType)) ∈ lw_all := lw_g (lw_at lw_m4 23 rfl) rfl
theorem q822 : (Jvm.Cond.methodLink "NoFartherThanAThrow" (211 : Nat) ({ cls := "NoFartherThanAThrow$World", name := "addMan", desc := "(I)V" } : Jvm.MethodName)) ∈ lw_all := lw_g (lw_at lw_m4 24 rfl) rfl
theorem q827 : (Jvm.Cond.instanceMethod ({ cls := "NoFartherThanAThrow", name := "men", desc := "(III)I" } : Jvm.MethodName)) ∈ lw_all := lw_g (lw_at lw_m4 29 rfl) rfl
theorem q828 : (Jvm.Cond.selects "NoFartherThanAThrow" ({ cls := "NoFartherThanAThrow", name := "men", desc := "(III)I" } : Jvm.MethodName) ({ cls := "NoFartherThanAThrow", name := "men", desc := "(III)I" } : Jvm.MethodName)) ∈ lw_all := lw_g (lw_at lw_m4 30 rfl) rfl
theorem q829 : (Jvm.Cond.codeWith ({ cls := "NoFartherThanAThrow", name := "men", desc := "(III)I" } : Jvm.MethodName) prog_1_method_28_code (7 : Nat) (Option.some Jvm.ClassFile.FieldType.int) [((61 : Nat), (92 : Nat), (95 : Nat), (21 : Nat)), ((0 : Nat), (99 : Nat), (103 : Nat), (21 : Nat)), ((100 : Nat), (102 : Nat), (103 : Nat), (21 : Nat))]) ∈ lw_all := lw_g (lw_at lw_m4 31 rfl) rfl
theorem q830 : (Jvm.Cond.methodLink "NoFartherThanAThrow" (11 : Nat) ({ cls := "NoFartherThanAThrow$Row", name := "length", desc := "()I" } : Jvm.MethodName)) ∈ lw_all := lw_g (lw_at lw_m4 32 rfl) rfl
theorem q845 : (Jvm.Cond.methodLink "NoFartherThanAThrow" (215 : Nat) ({ cls := "NoFartherThanAThrow$Row", name := "asInt", desc := "(I)I" } : Jvm.MethodName)) ∈ lw_all := lw_g (lw_at lw_m4 47 rfl) rfl
theorem q855 : (Jvm.Cond.instanceMethod ({ cls := "NoFartherThanAThrow", name := "want", desc := "(III)I" } : Jvm.MethodName)) ∈ lw_all := lw_g (lw_at lw_m4 57 rfl) rfl
theorem q856 : (Jvm.Cond.selects "NoFartherThanAThrow" ({ cls := "NoFartherThanAThrow", name := "want", desc := "(III)I" } : Jvm.MethodName) ({ cls := "NoFartherThanAThrow", name := "want", desc := "(III)I" } : Jvm.MethodName)) ∈ lw_all := lw_g (lw_at lw_m4 58 rfl) rfl
theorem q857 : (Jvm.Cond.codeWith ({ cls := "NoFartherThanAThrow", name := "want", desc := "(III)I" } : Jvm.MethodName) prog_1_method_29_code (5 : Nat) (Option.some Jvm.ClassFile.FieldType.int) [((0 : Nat), (79 : Nat), (80 : Nat), (21 : Nat))]) ∈ lw_all := lw_g (lw_at lw_m4 59 rfl) rfl
theorem q858 : (Jvm.Cond.methodLink "NoFartherThanAThrow" (222 : Nat) ({ cls := "NoFartherThanAThrow$World", name := "addWant", desc := "(III)V" } : Jvm.MethodName)) ∈ lw_all := lw_g (lw_at lw_m4 60 rfl) rfl
theorem q863 : (Jvm.Cond.instanceMethod ({ cls := "NoFartherThanAThrow", name := "ask", desc := "(II)I" } : Jvm.MethodName)) ∈ lw_all := lw_g (lw_at lw_m4 65 rfl) rfl
theorem q864 : (Jvm.Cond.selects "NoFartherThanAThrow" ({ cls := "NoFartherThanAThrow", name := "ask", desc := "(II)I" } : Jvm.MethodName) ({ cls := "NoFartherThanAThrow", name := "ask", desc := "(II)I" } : Jvm.MethodName)) ∈ lw_all := lw_g (lw_at lw_m4 66 rfl) rfl
theorem q865 : (Jvm.Cond.codeWith ({ cls := "NoFartherThanAThrow", name := "ask", desc := "(II)I" } : Jvm.MethodName) prog_1_method_30_code (4 : Nat) (Option.some Jvm.ClassFile.FieldType.int) [((0 : Nat), (91 : Nat), (92 : Nat), (21 : Nat))]) ∈ lw_all := lw_g (lw_at lw_m4 67 rfl) rfl
theorem q866 : (Jvm.Cond.methodLink "NoFartherThanAThrow" (225 : Nat) ({ cls := "NoFartherThanAThrow$World", name := "farthest", desc := "()I" } : Jvm.MethodName)) ∈ lw_all := lw_g (lw_at lw_m4 68 rfl) rfl
theorem q871 : (Jvm.Cond.methodLink "NoFartherThanAThrow" (228 : Nat) ({ cls := "java/lang/Math", name := "max", desc := "(II)I" } : Jvm.MethodName)) ∈ lw_all := lw_g (lw_at lw_m4 73 rfl) rfl
theorem q873 : (Jvm.Cond.instanceMethod ({ cls := "NoFartherThanAThrow", name := "river", desc := "(II)I" } : Jvm.MethodName)) ∈ lw_all := lw_g (lw_at lw_m4 75 rfl) rfl
theorem q874 : (Jvm.Cond.selects "NoFartherThanAThrow" ({ cls := "NoFartherThanAThrow", name := "river", desc := "(II)I" } : Jvm.MethodName) ({ cls := "NoFartherThanAThrow", name := "river", desc := "(II)I" } : Jvm.MethodName)) ∈ lw_all := lw_g (lw_at lw_m4 76 rfl) rfl
theorem q875 : (Jvm.Cond.codeWith ({ cls := "NoFartherThanAThrow", name := "river", desc := "(II)I" } : Jvm.MethodName) prog_1_method_31_code (4 : Nat) (Option.some Jvm.ClassFile.FieldType.int) [((0 : Nat), (31 : Nat), (32 : Nat), (21 : Nat))]) ∈ lw_all := lw_g (lw_at lw_m4 77 rfl) rfl
theorem q876 : (Jvm.Cond.methodLink "NoFartherThanAThrow" (240 : Nat) ({ cls := "NoFartherThanAThrow$World", name := "mayFlow", desc := "(II)Z" } : Jvm.MethodName)) ∈ lw_all := lw_g (lw_at lw_m4 78 rfl) rfl
theorem q881 : (Jvm.Cond.instanceMethod ({ cls := "NoFartherThanAThrow", name := "thingOf", desc := "(II)I" } : Jvm.MethodName)) ∈ lw_all := lw_g (lw_at lw_m4 83 rfl) rfl
theorem q882 : (Jvm.Cond.selects "NoFartherThanAThrow" ({ cls := "NoFartherThanAThrow", name := "thingOf", desc := "(II)I" } : Jvm.MethodName) ({ cls := "NoFartherThanAThrow", name := "thingOf", desc := "(II)I" } : Jvm.MethodName)) ∈ lw_all := lw_g (lw_at lw_m4 84 rfl) rfl
theorem q883 : (Jvm.Cond.code ({ cls := "NoFartherThanAThrow", name := "thingOf", desc := "(II)I" } : Jvm.MethodName) prog_1_method_32_code (4 : Nat) (Option.some Jvm.ClassFile.FieldType.int)) ∈ lw_all := lw_g (lw_at lw_m4 85 rfl) rfl
theorem q884 : (Jvm.Cond.methodLink "NoFartherThanAThrow" (250 : Nat) ({ cls := "NoFartherThanAThrow", name := "beyond", desc := "()I" } : Jvm.MethodName)) ∈ lw_all := lw_g (lw_at lw_m4 86 rfl) rfl
theorem q885 : (Jvm.Cond.privateMethod ({ cls := "NoFartherThanAThrow", name := "beyond", desc := "()I" } : Jvm.MethodName)) ∈ lw_tbl := lw_at lw_m4 87 rfl
theorem q886 : (Jvm.Cond.instanceMethod ({ cls := "NoFartherThanAThrow", name := "beyond", desc := "()I" } : Jvm.MethodName)) ∈ lw_all := lw_g (lw_at lw_m4 88 rfl) rfl
theorem q887 : (Jvm.Cond.code ({ cls := "NoFartherThanAThrow", name := "beyond", desc := "()I" } : Jvm.MethodName) prog_1_method_7_code (1 : Nat) (Option.some Jvm.ClassFile.FieldType.int)) ∈ lw_all := lw_g (lw_at lw_m4 89 rfl) rfl
theorem q888 : (Jvm.Cond.methodLink "NoFartherThanAThrow" (253 : Nat) ({ cls := "NoFartherThanAThrow$Thing", name := "kind", desc := "()I" } : Jvm.MethodName)) ∈ lw_all := lw_g (lw_at lw_m4 90 rfl) rfl
theorem q912 : (Jvm.Cond.instanceMethod ({ cls := "NoFartherThanAThrow", name := "manOf", desc := "(II)I" } : Jvm.MethodName)) ∈ lw_all := lw_g (lw_at lw_m4 114 rfl) rfl
theorem q913 : (Jvm.Cond.selects "NoFartherThanAThrow" ({ cls := "NoFartherThanAThrow", name := "manOf", desc := "(II)I" } : Jvm.MethodName) ({ cls := "NoFartherThanAThrow", name := "manOf", desc := "(II)I" } : Jvm.MethodName)) ∈ lw_all := lw_g (lw_at lw_m4 115 rfl) rfl
theorem q914 : (Jvm.Cond.code ({ cls := "NoFartherThanAThrow", name := "manOf", desc := "(II)I" } : Jvm.MethodName) prog_1_method_33_code (3 : Nat) (Option.some Jvm.ClassFile.FieldType.int)) ∈ lw_all := lw_g (lw_at lw_m4 116 rfl) rfl
theorem q915 : (Jvm.Cond.methodLink "NoFartherThanAThrow" (126 : Nat) ({ cls := "NoFartherThanAThrow", name := "isMan", desc := "(I)Z" } : Jvm.MethodName)) ∈ lw_all := lw_g (lw_at lw_m4 117 rfl) rfl
theorem q916 : (Jvm.Cond.privateMethod ({ cls := "NoFartherThanAThrow", name := "isMan", desc := "(I)Z" } : Jvm.MethodName)) ∈ lw_tbl := lw_at lw_m4 118 rfl
theorem q917 : (Jvm.Cond.instanceMethod ({ cls := "NoFartherThanAThrow", name := "isMan", desc := "(I)Z" } : Jvm.MethodName)) ∈ lw_all := lw_g (lw_at lw_m4 119 rfl) rfl
theorem q918 : (Jvm.Cond.code ({ cls := "NoFartherThanAThrow", name := "isMan", desc := "(I)Z" } : Jvm.MethodName) prog_1_method_11_code (2 : Nat) (Option.some Jvm.ClassFile.FieldType.boolean)) ∈ lw_all := lw_g (lw_at lw_m4 120 rfl) rfl
theorem q920 : (Jvm.Cond.instanceMethod ({ cls := "NoFartherThanAThrow", name := "wantOf", desc := "(II)I" } : Jvm.MethodName)) ∈ lw_all := lw_g (lw_at lw_m4 122 rfl) rfl
theorem q921 : (Jvm.Cond.selects "NoFartherThanAThrow" ({ cls := "NoFartherThanAThrow", name := "wantOf", desc := "(II)I" } : Jvm.MethodName) ({ cls := "NoFartherThanAThrow", name := "wantOf", desc := "(II)I" } : Jvm.MethodName)) ∈ lw_all := lw_g (lw_at lw_m4 123 rfl) rfl
theorem q922 : (Jvm.Cond.code ({ cls := "NoFartherThanAThrow", name := "wantOf", desc := "(II)I" } : Jvm.MethodName) prog_1_method_34_code (3 : Nat) (Option.some Jvm.ClassFile.FieldType.int)) ∈ lw_all := lw_g (lw_at lw_m4 124 rfl) rfl
theorem q924 : (Jvm.Cond.instanceMethod ({ cls := "NoFartherThanAThrow", name := "valley", desc := "(I)I" } : Jvm.MethodName)) ∈ lw_all := lw_g (lw_at lw_m4 126 rfl) rfl
theorem q925 : (Jvm.Cond.selects "NoFartherThanAThrow" ({ cls := "NoFartherThanAThrow", name := "valley", desc := "(I)I" } : Jvm.MethodName) ({ cls := "NoFartherThanAThrow", name := "valley", desc := "(I)I" } : Jvm.MethodName)) ∈ lw_all := lw_g (lw_at lw_m4 127 rfl) rfl
theorem q926 : (Jvm.Cond.codeWith ({ cls := "NoFartherThanAThrow", name := "valley", desc := "(I)I" } : Jvm.MethodName) prog_1_method_35_code (5 : Nat) (Option.some Jvm.ClassFile.FieldType.int) [((22 : Nat), (43 : Nat), (44 : Nat), (295 : Nat)), ((0 : Nat), (43 : Nat), (65 : Nat), (21 : Nat)), ((44 : Nat), (65 : Nat), (65 : Nat), (21 : Nat))]) ∈ lw_all := lw_g (lw_at lw_m4 128 rfl) rfl
theorem q927 : (Jvm.Cond.classLink "NoFartherThanAThrow" (295 : Nat) "NoFartherThanAThrow$Faulty") ∈ lw_all := lw_g (lw_at lw_m4 129 rfl) rfl
theorem q928 : (Jvm.Cond.methodLink "NoFartherThanAThrow" (284 : Nat) ({ cls := "NoFartherThanAThrow$World", name := "again", desc := "()LNoFartherThanAThrow$World;" } : Jvm.MethodName)) ∈ lw_all := lw_g (lw_at lw_m4 130 rfl) rfl
theorem q935 : (Jvm.Cond.classLink "NoFartherThanAThrow" (287 : Nat) "NoFartherThanAThrow$Reader") ∈ lw_all := lw_g (lw_at lw_m4 137 rfl) rfl
theorem q937 : (Jvm.Cond.methodLink "NoFartherThanAThrow" (289 : Nat) ({ cls := "NoFartherThanAThrow$Reader", name := "<init>", desc := "(LNoFartherThanAThrow$Row;LNoFartherThanAThrow$World;)V" } : Jvm.MethodName)) ∈ lw_all := lw_g (lw_at lw_m4 139 rfl) rfl
theorem q951 : (Jvm.Cond.methodLink "NoFartherThanAThrow" (292 : Nat) ({ cls := "NoFartherThanAThrow$Reader", name := "items", desc := "()I" } : Jvm.MethodName)) ∈ lw_all := lw_g (lw_at lw_m4 153 rfl) rfl
theorem q1040 : (Jvm.Cond.fieldLink "NoFartherThanAThrow" (297 : Nat) "NoFartherThanAThrow$Faulty" "place" "I") ∈ lw_all := lw_g (lw_at lw_m5 2 rfl) rfl
theorem q1079 : (Jvm.Cond.instanceMethod ({ cls := "NoFartherThanAThrow", name := "fault", desc := "()I" } : Jvm.MethodName)) ∈ lw_all := lw_g (lw_at lw_m5 41 rfl) rfl
theorem q1080 : (Jvm.Cond.selects "NoFartherThanAThrow" ({ cls := "NoFartherThanAThrow", name := "fault", desc := "()I" } : Jvm.MethodName) ({ cls := "NoFartherThanAThrow", name := "fault", desc := "()I" } : Jvm.MethodName)) ∈ lw_all := lw_g (lw_at lw_m5 42 rfl) rfl
theorem q1081 : (Jvm.Cond.code ({ cls := "NoFartherThanAThrow", name := "fault", desc := "()I" } : Jvm.MethodName) prog_1_method_36_code (1 : Nat) (Option.some Jvm.ClassFile.FieldType.int)) ∈ lw_all := lw_g (lw_at lw_m5 43 rfl) rfl
theorem q1083 : (Jvm.Cond.instanceMethod ({ cls := "NoFartherThanAThrow", name := "far", desc := "(II)I" } : Jvm.MethodName)) ∈ lw_all := lw_g (lw_at lw_m5 45 rfl) rfl
theorem q1084 : (Jvm.Cond.selects "NoFartherThanAThrow" ({ cls := "NoFartherThanAThrow", name := "far", desc := "(II)I" } : Jvm.MethodName) ({ cls := "NoFartherThanAThrow", name := "far", desc := "(II)I" } : Jvm.MethodName)) ∈ lw_all := lw_g (lw_at lw_m5 46 rfl) rfl
theorem q1085 : (Jvm.Cond.codeWith ({ cls := "NoFartherThanAThrow", name := "far", desc := "(II)I" } : Jvm.MethodName) prog_1_method_37_code (4 : Nat) (Option.some Jvm.ClassFile.FieldType.int) [((0 : Nat), (15 : Nat), (16 : Nat), (21 : Nat))]) ∈ lw_all := lw_g (lw_at lw_m5 47 rfl) rfl
theorem q1086 : (Jvm.Cond.methodLink "NoFartherThanAThrow" (300 : Nat) ({ cls := "NoFartherThanAThrow", name := "must", desc := "(II)V" } : Jvm.MethodName)) ∈ lw_all := lw_g (lw_at lw_m5 48 rfl) rfl
theorem q1087 : (Jvm.Cond.privateMethod ({ cls := "NoFartherThanAThrow", name := "must", desc := "(II)V" } : Jvm.MethodName)) ∈ lw_tbl := lw_at lw_m5 49 rfl
theorem q1088 : (Jvm.Cond.instanceMethod ({ cls := "NoFartherThanAThrow", name := "must", desc := "(II)V" } : Jvm.MethodName)) ∈ lw_all := lw_g (lw_at lw_m5 50 rfl) rfl
theorem q1089 : (Jvm.Cond.code ({ cls := "NoFartherThanAThrow", name := "must", desc := "(II)V" } : Jvm.MethodName) prog_1_method_12_code (3 : Nat) (Option.none : Option Jvm.ClassFile.FieldType)) ∈ lw_all := lw_g (lw_at lw_m5 51 rfl) rfl
theorem q1090 : (Jvm.Cond.methodLink "NoFartherThanAThrow" (304 : Nat) ({ cls := "NoFartherThanAThrow$World", name := "far", desc := "(II)I" } : Jvm.MethodName)) ∈ lw_all := lw_g (lw_at lw_m5 52 rfl) rfl
theorem q1112 : (Jvm.Cond.instanceMethod ({ cls := "NoFartherThanAThrow", name := "wrong", desc := "(III)I" } : Jvm.MethodName)) ∈ lw_all := lw_g (lw_at lw_m5 74 rfl) rfl
theorem q1113 : (Jvm.Cond.selects "NoFartherThanAThrow" ({ cls := "NoFartherThanAThrow", name := "wrong", desc := "(III)I" } : Jvm.MethodName) ({ cls := "NoFartherThanAThrow", name := "wrong", desc := "(III)I" } : Jvm.MethodName)) ∈ lw_all := lw_g (lw_at lw_m5 75 rfl) rfl
theorem q1114 : (Jvm.Cond.codeWith ({ cls := "NoFartherThanAThrow", name := "wrong", desc := "(III)I" } : Jvm.MethodName) prog_1_method_38_code (5 : Nat) (Option.some Jvm.ClassFile.FieldType.int) [((0 : Nat), (16 : Nat), (17 : Nat), (21 : Nat))]) ∈ lw_all := lw_g (lw_at lw_m5 76 rfl) rfl
theorem q1115 : (Jvm.Cond.methodLink "NoFartherThanAThrow" (307 : Nat) ({ cls := "NoFartherThanAThrow$World", name := "wrong", desc := "(III)I" } : Jvm.MethodName)) ∈ lw_all := lw_g (lw_at lw_m5 77 rfl) rfl
theorem q1124 : (Jvm.Cond.instanceMethod ({ cls := "NoFartherThanAThrow", name := "carry", desc := "(III)I" } : Jvm.MethodName)) ∈ lw_all := lw_g (lw_at lw_m5 86 rfl) rfl
theorem q1125 : (Jvm.Cond.selects "NoFartherThanAThrow" ({ cls := "NoFartherThanAThrow", name := "carry", desc := "(III)I" } : Jvm.MethodName) ({ cls := "NoFartherThanAThrow", name := "carry", desc := "(III)I" } : Jvm.MethodName)) ∈ lw_all := lw_g (lw_at lw_m5 87 rfl) rfl
theorem q1126 : (Jvm.Cond.codeWith ({ cls := "NoFartherThanAThrow", name := "carry", desc := "(III)I" } : Jvm.MethodName) prog_1_method_39_code (5 : Nat) (Option.some Jvm.ClassFile.FieldType.int) [((0 : Nat), (61 : Nat), (62 : Nat), (21 : Nat))]) ∈ lw_all := lw_g (lw_at lw_m5 88 rfl) rfl
theorem q1127 : (Jvm.Cond.methodLink "NoFartherThanAThrow" (311 : Nat) ({ cls := "NoFartherThanAThrow$World", name := "carry", desc := "(III)V" } : Jvm.MethodName)) ∈ lw_all := lw_g (lw_at lw_m5 89 rfl) rfl
theorem q1137 : (Jvm.Cond.instanceMethod ({ cls := "NoFartherThanAThrow", name := "judge", desc := "(III)I" } : Jvm.MethodName)) ∈ lw_all := lw_g (lw_at lw_m5 99 rfl) rfl
theorem q1138 : (Jvm.Cond.selects "NoFartherThanAThrow" ({ cls := "NoFartherThanAThrow", name := "judge", desc := "(III)I" } : Jvm.MethodName) ({ cls := "NoFartherThanAThrow", name := "judge", desc := "(III)I" } : Jvm.MethodName)) ∈ lw_all := lw_g (lw_at lw_m5 100 rfl) rfl
theorem q1139 : (Jvm.Cond.codeWith ({ cls := "NoFartherThanAThrow", name := "judge", desc := "(III)I" } : Jvm.MethodName) prog_1_method_40_code (10 : Nat) (Option.some Jvm.ClassFile.FieldType.int) [((0 : Nat), (137 : Nat), (156 : Nat), (21 : Nat)), ((138 : Nat), (155 : Nat), (156 : Nat), (21 : Nat))]) ∈ lw_all := lw_g (lw_at lw_m5 101 rfl) rfl
theorem q1141 : (Jvm.Cond.instanceMethod ({ cls := "NoFartherThanAThrow", name := "end", desc := "(II)I" } : Jvm.MethodName)) ∈ lw_all := lw_g (lw_at lw_m5 103 rfl) rfl
theorem q1142 : (Jvm.Cond.selects "NoFartherThanAThrow" ({ cls := "NoFartherThanAThrow", name := "end", desc := "(II)I" } : Jvm.MethodName) ({ cls := "NoFartherThanAThrow", name := "end", desc := "(II)I" } : Jvm.MethodName)) ∈ lw_all := lw_g (lw_at lw_m5 104 rfl) rfl
theorem q1143 : (Jvm.Cond.codeWith ({ cls := "NoFartherThanAThrow", name := "end", desc := "(II)I" } : Jvm.MethodName) prog_1_method_41_code (4 : Nat) (Option.some Jvm.ClassFile.FieldType.int) [((0 : Nat), (29 : Nat), (30 : Nat), (21 : Nat))]) ∈ lw_all := lw_g (lw_at lw_m5 105 rfl) rfl
theorem q1144 : (Jvm.Cond.methodLink "NoFartherThanAThrow" (317 : Nat) ({ cls := "NoFartherThanAThrow", name := "isSet", desc := "(I)Z" } : Jvm.MethodName)) ∈ lw_all := lw_g (lw_at lw_m5 106 rfl) rfl
theorem q1145 : (Jvm.Cond.privateMethod ({ cls := "NoFartherThanAThrow", name := "isSet", desc := "(I)Z" } : Jvm.MethodName)) ∈ lw_tbl := lw_at lw_m5 107 rfl
theorem q1146 : (Jvm.Cond.instanceMethod ({ cls := "NoFartherThanAThrow", name := "isSet", desc := "(I)Z" } : Jvm.MethodName)) ∈ lw_all := lw_g (lw_at lw_m5 108 rfl) rfl
theorem q1147 : (Jvm.Cond.code ({ cls := "NoFartherThanAThrow", name := "isSet", desc := "(I)Z" } : Jvm.MethodName) prog_1_method_13_code (2 : Nat) (Option.some Jvm.ClassFile.FieldType.boolean)) ∈ lw_all := lw_g (lw_at lw_m5 109 rfl) rfl
theorem q1148 : (Jvm.Cond.methodLink "NoFartherThanAThrow" (320 : Nat) ({ cls := "NoFartherThanAThrow", name := "reachOf", desc := "(II)[I" } : Jvm.MethodName)) ∈ lw_all := lw_g (lw_at lw_m5 110 rfl) rfl
theorem q1149 : (Jvm.Cond.privateMethod ({ cls := "NoFartherThanAThrow", name := "reachOf", desc := "(II)[I" } : Jvm.MethodName)) ∈ lw_tbl := lw_at lw_m5 111 rfl
theorem q1150 : (Jvm.Cond.instanceMethod ({ cls := "NoFartherThanAThrow", name := "reachOf", desc := "(II)[I" } : Jvm.MethodName)) ∈ lw_all := lw_g (lw_at lw_m5 112 rfl) rfl
theorem q1151 : (Jvm.Cond.code ({ cls := "NoFartherThanAThrow", name := "reachOf", desc := "(II)[I" } : Jvm.MethodName) prog_1_method_15_code (3 : Nat) (Option.some (Jvm.ClassFile.FieldType.array Jvm.ClassFile.FieldType.int))) ∈ lw_all := lw_g (lw_at lw_m5 113 rfl) rfl
theorem q1152 : (Jvm.Cond.methodLink "NoFartherThanAThrow" (135 : Nat) ({ cls := "NoFartherThanAThrow$Seeker", name := "find", desc := "(LNoFartherThanAThrow$World;IIII)[I" } : Jvm.MethodName)) ∈ lw_all := lw_g (lw_at lw_m5 114 rfl) rfl
theorem q1164 : (Jvm.Cond.instanceMethod ({ cls := "NoFartherThanAThrow", name := "does", desc := "(III)I" } : Jvm.MethodName)) ∈ lw_all := lw_g (lw_at lw_m5 126 rfl) rfl
theorem q1165 : (Jvm.Cond.selects "NoFartherThanAThrow" ({ cls := "NoFartherThanAThrow", name := "does", desc := "(III)I" } : Jvm.MethodName) ({ cls := "NoFartherThanAThrow", name := "does", desc := "(III)I" } : Jvm.MethodName)) ∈ lw_all := lw_g (lw_at lw_m5 127 rfl) rfl
theorem q1166 : (Jvm.Cond.codeWith ({ cls := "NoFartherThanAThrow", name := "does", desc := "(III)I" } : Jvm.MethodName) prog_1_method_43_code (5 : Nat) (Option.some Jvm.ClassFile.FieldType.int) [((0 : Nat), (15 : Nat), (16 : Nat), (21 : Nat))]) ∈ lw_all := lw_g (lw_at lw_m5 128 rfl) rfl
theorem q1167 : (Jvm.Cond.methodLink "NoFartherThanAThrow" (327 : Nat) ({ cls := "NoFartherThanAThrow", name := "isDone", desc := "(III)Z" } : Jvm.MethodName)) ∈ lw_all := lw_g (lw_at lw_m5 129 rfl) rfl
theorem q1168 : (Jvm.Cond.privateMethod ({ cls := "NoFartherThanAThrow", name := "isDone", desc := "(III)Z" } : Jvm.MethodName)) ∈ lw_tbl := lw_at lw_m5 130 rfl
theorem q1169 : (Jvm.Cond.instanceMethod ({ cls := "NoFartherThanAThrow", name := "isDone", desc := "(III)Z" } : Jvm.MethodName)) ∈ lw_all := lw_g (lw_at lw_m5 131 rfl) rfl
theorem q1170 : (Jvm.Cond.code ({ cls := "NoFartherThanAThrow", name := "isDone", desc := "(III)Z" } : Jvm.MethodName) prog_1_method_42_code (4 : Nat) (Option.some Jvm.ClassFile.FieldType.boolean)) ∈ lw_all := lw_g (lw_at lw_m5 132 rfl) rfl
theorem q1171 : (Jvm.Cond.methodLink "NoFartherThanAThrow" (324 : Nat) ({ cls := "NoFartherThanAThrow", name := "mustEnd", desc := "(II)V" } : Jvm.MethodName)) ∈ lw_all := lw_g (lw_at lw_m5 133 rfl) rfl
theorem q1172 : (Jvm.Cond.privateMethod ({ cls := "NoFartherThanAThrow", name := "mustEnd", desc := "(II)V" } : Jvm.MethodName)) ∈ lw_tbl := lw_at lw_m5 134 rfl
theorem q1173 : (Jvm.Cond.instanceMethod ({ cls := "NoFartherThanAThrow", name := "mustEnd", desc := "(II)V" } : Jvm.MethodName)) ∈ lw_all := lw_g (lw_at lw_m5 135 rfl) rfl
theorem q1174 : (Jvm.Cond.code ({ cls := "NoFartherThanAThrow", name := "mustEnd", desc := "(II)V" } : Jvm.MethodName) prog_1_method_14_code (3 : Nat) (Option.none : Option Jvm.ClassFile.FieldType)) ∈ lw_all := lw_g (lw_at lw_m5 136 rfl) rfl
theorem q1176 : (Jvm.Cond.instanceMethod ({ cls := "NoFartherThanAThrow", name := "fewest", desc := "(II)I" } : Jvm.MethodName)) ∈ lw_all := lw_g (lw_at lw_m5 138 rfl) rfl
theorem q1177 : (Jvm.Cond.selects "NoFartherThanAThrow" ({ cls := "NoFartherThanAThrow", name := "fewest", desc := "(II)I" } : Jvm.MethodName) ({ cls := "NoFartherThanAThrow", name := "fewest", desc := "(II)I" } : Jvm.MethodName)) ∈ lw_all := lw_g (lw_at lw_m5 139 rfl) rfl
theorem q1178 : (Jvm.Cond.codeWith ({ cls := "NoFartherThanAThrow", name := "fewest", desc := "(II)I" } : Jvm.MethodName) prog_1_method_44_code (8 : Nat) (Option.some Jvm.ClassFile.FieldType.int) [((0 : Nat), (159 : Nat), (160 : Nat), (21 : Nat))]) ∈ lw_all := lw_g (lw_at lw_m5 140 rfl) rfl
theorem q1179 : (Jvm.Cond.methodLink "NoFartherThanAThrow" (331 : Nat) ({ cls := "java/lang/Integer", name := "bitCount", desc := "(I)I" } : Jvm.MethodName)) ∈ lw_all := lw_g (lw_at lw_m5 141 rfl) rfl
theorem q1186 : (Jvm.Cond.instanceMethod ({ cls := "NoFartherThanAThrow", name := "order", desc := "(IIII)I" } : Jvm.MethodName)) ∈ lw_all := lw_g (lw_at lw_m5 148 rfl) rfl
theorem q1187 : (Jvm.Cond.selects "NoFartherThanAThrow" ({ cls := "NoFartherThanAThrow", name := "order", desc := "(IIII)I" } : Jvm.MethodName) ({ cls := "NoFartherThanAThrow", name := "order", desc := "(IIII)I" } : Jvm.MethodName)) ∈ lw_all := lw_g (lw_at lw_m5 149 rfl) rfl
theorem q1188 : (Jvm.Cond.codeWith ({ cls := "NoFartherThanAThrow", name := "order", desc := "(IIII)I" } : Jvm.MethodName) prog_1_method_45_code (10 : Nat) (Option.some Jvm.ClassFile.FieldType.int) [((0 : Nat), (177 : Nat), (178 : Nat), (21 : Nat))]) ∈ lw_all := lw_g (lw_at lw_m5 150 rfl) rfl
theorem q1189 : (Jvm.Cond.methodLink "NoFartherThanAThrow" (336 : Nat) ({ cls := "NoFartherThanAThrow", name := "nextOf", desc := "(IIII)I" } : Jvm.MethodName)) ∈ lw_all := lw_g (lw_at lw_m5 151 rfl) rfl
theorem q1190 : (Jvm.Cond.privateMethod ({ cls := "NoFartherThanAThrow", name := "nextOf", desc := "(IIII)I" } : Jvm.MethodName)) ∈ lw_tbl := lw_at lw_m5 152 rfl
theorem q1191 : (Jvm.Cond.instanceMethod ({ cls := "NoFartherThanAThrow", name := "nextOf", desc := "(IIII)I" } : Jvm.MethodName)) ∈ lw_all := lw_g (lw_at lw_m5 153 rfl) rfl
theorem q1192 : (Jvm.Cond.code ({ cls := "NoFartherThanAThrow", name := "nextOf", desc := "(IIII)I" } : Jvm.MethodName) prog_1_method_46_code (7 : Nat) (Option.some Jvm.ClassFile.FieldType.int)) ∈ lw_all := lw_g (lw_at lw_m5 154 rfl) rfl
theorem q1193 : (Jvm.Cond.methodLink "NoFartherThanAThrow" (340 : Nat) ({ cls := "NoFartherThanAThrow$World", name := "brings", desc := "(III)I" } : Jvm.MethodName)) ∈ lw_all := lw_g (lw_at lw_m5 155 rfl) rfl
theorem q1195 : (Jvm.Cond.instanceMethod ({ cls := "NoFartherThanAThrow", name := "handovers", desc := "(II)I" } : Jvm.MethodName)) ∈ lw_all := lw_g (lw_at lw_m5 157 rfl) rfl
theorem q1196 : (Jvm.Cond.selects "NoFartherThanAThrow" ({ cls := "NoFartherThanAThrow", name := "handovers", desc := "(II)I" } : Jvm.MethodName) ({ cls := "NoFartherThanAThrow", name := "handovers", desc := "(II)I" } : Jvm.MethodName)) ∈ lw_all := lw_g (lw_at lw_m5 158 rfl) rfl
theorem q1197 : (Jvm.Cond.codeWith ({ cls := "NoFartherThanAThrow", name := "handovers", desc := "(II)I" } : Jvm.MethodName) prog_1_method_47_code (7 : Nat) (Option.some Jvm.ClassFile.FieldType.int) [((0 : Nat), (136 : Nat), (165 : Nat), (21 : Nat)), ((137 : Nat), (164 : Nat), (165 : Nat), (21 : Nat))]) ∈ lw_all := lw_g (lw_at lw_m5 159 rfl) rfl
theorem q1198 : (Jvm.Cond.methodLink "NoFartherThanAThrow" (343 : Nat) ({ cls := "NoFartherThanAThrow", name := "goesOn", desc := "(IZ)I" } : Jvm.MethodName)) ∈ lw_all := lw_g (lw_at lw_m5 160 rfl) rfl
theorem q1199 : (Jvm.Cond.privateMethod ({ cls := "NoFartherThanAThrow", name := "goesOn", desc := "(IZ)I" } : Jvm.MethodName)) ∈ lw_tbl := lw_at lw_m5 161 rfl
theorem q1200 : (Jvm.Cond.instanceMethod ({ cls := "NoFartherThanAThrow", name := "goesOn", desc := "(IZ)I" } : Jvm.MethodName)) ∈ lw_all := lw_g (lw_at lw_m5 162 rfl) rfl
theorem q1201 : (Jvm.Cond.code ({ cls := "NoFartherThanAThrow", name := "goesOn", desc := "(IZ)I" } : Jvm.MethodName) prog_1_method_48_code (7 : Nat) (Option.some Jvm.ClassFile.FieldType.int)) ∈ lw_all := lw_g (lw_at lw_m5 163 rfl) rfl
theorem q1203 : (Jvm.Cond.instanceMethod ({ cls := "NoFartherThanAThrow", name := "shared", desc := "()I" } : Jvm.MethodName)) ∈ lw_all := lw_g (lw_at lw_m5 165 rfl) rfl
theorem q1204 : (Jvm.Cond.selects "NoFartherThanAThrow" ({ cls := "NoFartherThanAThrow", name := "shared", desc := "()I" } : Jvm.MethodName) ({ cls := "NoFartherThanAThrow", name := "shared", desc := "()I" } : Jvm.MethodName)) ∈ lw_all := lw_g (lw_at lw_m5 166 rfl) rfl
theorem q1205 : (Jvm.Cond.code ({ cls := "NoFartherThanAThrow", name := "shared", desc := "()I" } : Jvm.MethodName) prog_1_method_49_code (1 : Nat) (Option.some Jvm.ClassFile.FieldType.int)) ∈ lw_all := lw_g (lw_at lw_m5 167 rfl) rfl
theorem q1206 : (Jvm.Cond.methodLink "NoFartherThanAThrow" (347 : Nat) ({ cls := "NoFartherThanAThrow$Seeker", name := "share", desc := "(LNoFartherThanAThrow$World;)V" } : Jvm.MethodName)) ∈ lw_all := lw_g (lw_at lw_m5 168 rfl) rfl
theorem q1221 : (Jvm.Cond.instanceMethod ({ cls := "NoFartherThanAThrow", name := "given", desc := "(I)I" } : Jvm.MethodName)) ∈ lw_all := lw_g (lw_at lw_m5 183 rfl) rfl
theorem q1222 : (Jvm.Cond.selects "NoFartherThanAThrow" ({ cls := "NoFartherThanAThrow", name := "given", desc := "(I)I" } : Jvm.MethodName) ({ cls := "NoFartherThanAThrow", name := "given", desc := "(I)I" } : Jvm.MethodName)) ∈ lw_all := lw_g (lw_at lw_m5 184 rfl) rfl
theorem q1223 : (Jvm.Cond.codeWith ({ cls := "NoFartherThanAThrow", name := "given", desc := "(I)I" } : Jvm.MethodName) prog_1_method_50_code (3 : Nat) (Option.some Jvm.ClassFile.FieldType.int) [((0 : Nat), (29 : Nat), (30 : Nat), (21 : Nat))]) ∈ lw_all := lw_g (lw_at lw_m5 185 rfl) rfl
theorem q1225 : (Jvm.Cond.instanceMethod ({ cls := "NoFartherThanAThrow", name := "mill", desc := "(III)I" } : Jvm.MethodName)) ∈ lw_all := lw_g (lw_at lw_m5 187 rfl) rfl
theorem q1226 : (Jvm.Cond.selects "NoFartherThanAThrow" ({ cls := "NoFartherThanAThrow", name := "mill", desc := "(III)I" } : Jvm.MethodName) ({ cls := "NoFartherThanAThrow", name := "mill", desc := "(III)I" } : Jvm.MethodName)) ∈ lw_all := lw_g (lw_at lw_m5 188 rfl) rfl
theorem q1227 : (Jvm.Cond.codeWith ({ cls := "NoFartherThanAThrow", name := "mill", desc := "(III)I" } : Jvm.MethodName) prog_1_method_51_code (9 : Nat) (Option.some Jvm.ClassFile.FieldType.int) [((0 : Nat), (84 : Nat), (98 : Nat), (21 : Nat)), ((85 : Nat), (97 : Nat), (98 : Nat), (21 : Nat))]) ∈ lw_all := lw_g (lw_at lw_m5 189 rfl) rfl
theorem q1228 : (Jvm.Cond.methodLink "NoFartherThanAThrow" (357 : Nat) ({ cls := "NoFartherThanAThrow$Thing", name := "far", desc := "(II)I" } : Jvm.MethodName)) ∈ lw_all := lw_g (lw_at lw_m5 190 rfl) rfl
theorem q1230 : (Jvm.Cond.instanceMethod ({ cls := "NoFartherThanAThrow", name := "weakest", desc := "(II)I" } : Jvm.MethodName)) ∈ lw_all := lw_g (lw_at lw_m5 192 rfl) rfl
theorem q1231 : (Jvm.Cond.selects "NoFartherThanAThrow" ({ cls := "NoFartherThanAThrow", name := "weakest", desc := "(II)I" } : Jvm.MethodName) ({ cls := "NoFartherThanAThrow", name := "weakest", desc := "(II)I" } : Jvm.MethodName)) ∈ lw_all := lw_g (lw_at lw_m5 193 rfl) rfl
theorem q1232 : (Jvm.Cond.codeWith ({ cls := "NoFartherThanAThrow", name := "weakest", desc := "(II)I" } : Jvm.MethodName) prog_1_method_52_code (7 : Nat) (Option.some Jvm.ClassFile.FieldType.int) [((0 : Nat), (127 : Nat), (128 : Nat), (21 : Nat))]) ∈ lw_all := lw_g (lw_at lw_m5 194 rfl) rfl
theorem q1234 : (Jvm.Cond.instanceMethod ({ cls := "NoFartherThanAThrow", name := "helps", desc := "(IIII)I" } : Jvm.MethodName)) ∈ lw_all := lw_g (lw_at lw_m5 196 rfl) rfl
theorem q1235 : (Jvm.Cond.selects "NoFartherThanAThrow" ({ cls := "NoFartherThanAThrow", name := "helps", desc := "(IIII)I" } : Jvm.MethodName) ({ cls := "NoFartherThanAThrow", name := "helps", desc := "(IIII)I" } : Jvm.MethodName)) ∈ lw_all := lw_g (lw_at lw_m5 197 rfl) rfl
theorem q1236 : (Jvm.Cond.codeWith ({ cls := "NoFartherThanAThrow", name := "helps", desc := "(IIII)I" } : Jvm.MethodName) prog_1_method_53_code (9 : Nat) (Option.some Jvm.ClassFile.FieldType.int) [((25 : Nat), (117 : Nat), (174 : Nat), (21 : Nat)), ((141 : Nat), (150 : Nat), (174 : Nat), (21 : Nat)), ((25 : Nat), (117 : Nat), (211 : Nat), (0 : Nat)), ((141 : Nat), (150 : Nat), (211 : Nat), (0 : Nat)), ((174 : Nat), (187 : Nat), (211 : Nat), (0 : Nat)), ((211 : Nat), (213 : Nat), (211 : Nat), (0 : Nat))]) ∈ lw_all := lw_g (lw_at lw_m5 198 rfl) rfl
theorem q1238 : (Jvm.Cond.instanceMethod ({ cls := "NoFartherThanAThrow", name := "caught", desc := "(III)I" } : Jvm.MethodName)) ∈ lw_all := lw_g (lw_at lw_m5 200 rfl) rfl
theorem q1239 : (Jvm.Cond.selects "NoFartherThanAThrow" ({ cls := "NoFartherThanAThrow", name := "caught", desc := "(III)I" } : Jvm.MethodName) ({ cls := "NoFartherThanAThrow", name := "caught", desc := "(III)I" } : Jvm.MethodName)) ∈ lw_all := lw_g (lw_at lw_m5 201 rfl) rfl
theorem q1240 : (Jvm.Cond.codeWith ({ cls := "NoFartherThanAThrow", name := "caught", desc := "(III)I" } : Jvm.MethodName) prog_1_method_55_code (5 : Nat) (Option.some Jvm.ClassFile.FieldType.int) [((0 : Nat), (43 : Nat), (44 : Nat), (21 : Nat))]) ∈ lw_all := lw_g (lw_at lw_m5 202 rfl) rfl
theorem q1241 : (Jvm.Cond.constantLong "NoFartherThanAThrow" (358 : Nat) (40 : Int64)) ∈ lw_all := lw_g (lw_at lw_m5 203 rfl) rfl
theorem q1242 : (Jvm.Cond.methodLink "NoFartherThanAThrow" (360 : Nat) ({ cls := "NoFartherThanAThrow", name := "caughtBy", desc := "(I)I" } : Jvm.MethodName)) ∈ lw_all := lw_g (lw_at lw_m5 204 rfl) rfl
theorem q1243 : (Jvm.Cond.static ({ cls := "NoFartherThanAThrow", name := "caughtBy", desc := "(I)I" } : Jvm.MethodName)) ∈ lw_all := lw_g (lw_at lw_m5 205 rfl) rfl
theorem q1244 : (Jvm.Cond.code ({ cls := "NoFartherThanAThrow", name := "caughtBy", desc := "(I)I" } : Jvm.MethodName) prog_1_method_54_code (1 : Nat) (Option.some Jvm.ClassFile.FieldType.int)) ∈ lw_all := lw_g (lw_at lw_m5 206 rfl) rfl
theorem q1246 : (Jvm.Cond.instanceMethod ({ cls := "NoFartherThanAThrow", name := "mean", desc := "(III)I" } : Jvm.MethodName)) ∈ lw_all := lw_g (lw_at lw_m5 208 rfl) rfl
theorem q1247 : (Jvm.Cond.selects "NoFartherThanAThrow" ({ cls := "NoFartherThanAThrow", name := "mean", desc := "(III)I" } : Jvm.MethodName) ({ cls := "NoFartherThanAThrow", name := "mean", desc := "(III)I" } : Jvm.MethodName)) ∈ lw_all := lw_g (lw_at lw_m5 209 rfl) rfl
theorem q1248 : (Jvm.Cond.codeWith ({ cls := "NoFartherThanAThrow", name := "mean", desc := "(III)I" } : Jvm.MethodName) prog_1_method_57_code (5 : Nat) (Option.some Jvm.ClassFile.FieldType.int) [((0 : Nat), (27 : Nat), (28 : Nat), (21 : Nat))]) ∈ lw_all := lw_g (lw_at lw_m5 210 rfl) rfl
theorem q1249 : (Jvm.Cond.methodLink "NoFartherThanAThrow" (366 : Nat) ({ cls := "NoFartherThanAThrow", name := "meanOf", desc := "(III)I" } : Jvm.MethodName)) ∈ lw_all := lw_g (lw_at lw_m5 211 rfl) rfl
theorem q1250 : (Jvm.Cond.privateMethod ({ cls := "NoFartherThanAThrow", name := "meanOf", desc := "(III)I" } : Jvm.MethodName)) ∈ lw_tbl := lw_at lw_m5 212 rfl
theorem q1251 : (Jvm.Cond.instanceMethod ({ cls := "NoFartherThanAThrow", name := "meanOf", desc := "(III)I" } : Jvm.MethodName)) ∈ lw_all := lw_g (lw_at lw_m5 213 rfl) rfl
theorem q1252 : (Jvm.Cond.code ({ cls := "NoFartherThanAThrow", name := "meanOf", desc := "(III)I" } : Jvm.MethodName) prog_1_method_56_code (6 : Nat) (Option.some Jvm.ClassFile.FieldType.int)) ∈ lw_all := lw_g (lw_at lw_m5 214 rfl) rfl
theorem q1253 : (Jvm.Cond.methodLink "NoFartherThanAThrow" (363 : Nat) ({ cls := "NoFartherThanAThrow$World", name := "mayThrow", desc := "(III)Z" } : Jvm.MethodName)) ∈ lw_all := lw_g (lw_at lw_m5 215 rfl) rfl
theorem q1259 : (Jvm.Cond.instanceMethod ({ cls := "NoFartherThanAThrow", name := "cast", desc := "(II)I" } : Jvm.MethodName)) ∈ lw_all := lw_g (lw_at lw_m5 221 rfl) rfl
theorem q1260 : (Jvm.Cond.selects "NoFartherThanAThrow" ({ cls := "NoFartherThanAThrow", name := "cast", desc := "(II)I" } : Jvm.MethodName) ({ cls := "NoFartherThanAThrow", name := "cast", desc := "(II)I" } : Jvm.MethodName)) ∈ lw_all := lw_g (lw_at lw_m5 222 rfl) rfl
theorem q1261 : (Jvm.Cond.codeWith ({ cls := "NoFartherThanAThrow", name := "cast", desc := "(II)I" } : Jvm.MethodName) prog_1_method_58_code (7 : Nat) (Option.some Jvm.ClassFile.FieldType.int) [((0 : Nat), (52 : Nat), (53 : Nat), (21 : Nat))]) ∈ lw_all := lw_g (lw_at lw_m5 223 rfl) rfl
theorem q1263 : (Jvm.Cond.instanceMethod ({ cls := "NoFartherThanAThrow", name := "toss", desc := "(III)I" } : Jvm.MethodName)) ∈ lw_all := lw_g (lw_at lw_m5 225 rfl) rfl
theorem q1264 : (Jvm.Cond.selects "NoFartherThanAThrow" ({ cls := "NoFartherThanAThrow", name := "toss", desc := "(III)I" } : Jvm.MethodName) ({ cls := "NoFartherThanAThrow", name := "toss", desc := "(III)I" } : Jvm.MethodName)) ∈ lw_all := lw_g (lw_at lw_m5 226 rfl) rfl
theorem q1265 : (Jvm.Cond.codeWith ({ cls := "NoFartherThanAThrow", name := "toss", desc := "(III)I" } : Jvm.MethodName) prog_1_method_59_code (5 : Nat) (Option.some Jvm.ClassFile.FieldType.int) [((0 : Nat), (165 : Nat), (166 : Nat), (21 : Nat))]) ∈ lw_all := lw_g (lw_at lw_m5 227 rfl) rfl
theorem q1266 : (Jvm.Cond.methodLink "NoFartherThanAThrow" (369 : Nat) ({ cls := "NoFartherThanAThrow$World", name := "draw", desc := "(I)I" } : Jvm.MethodName)) ∈ lw_all := lw_g (lw_at lw_m5 228 rfl) rfl
theorem q1271 : (Jvm.Cond.methodLink "NoFartherThanAThrow" (372 : Nat) ({ cls := "NoFartherThanAThrow$Thing", name := "breaks", desc := "()Z" } : Jvm.MethodName)) ∈ lw_all := lw_g (lw_at lw_m5 233 rfl) rfl
theorem q1285 : (Jvm.Cond.methodLink "NoFartherThanAThrow" (375 : Nat) ({ cls := "NoFartherThanAThrow$World", name := "tires", desc := "(II)V" } : Jvm.MethodName)) ∈ lw_all := lw_g (lw_at lw_m6 7 rfl) rfl
theorem q1287 : (Jvm.Cond.instanceMethod ({ cls := "NoFartherThanAThrow", name := "part", desc := "(I)I" } : Jvm.MethodName)) ∈ lw_all := lw_g (lw_at lw_m6 9 rfl) rfl
theorem q1288 : (Jvm.Cond.selects "NoFartherThanAThrow" ({ cls := "NoFartherThanAThrow", name := "part", desc := "(I)I" } : Jvm.MethodName) ({ cls := "NoFartherThanAThrow", name := "part", desc := "(I)I" } : Jvm.MethodName)) ∈ lw_all := lw_g (lw_at lw_m6 10 rfl) rfl
theorem q1289 : (Jvm.Cond.codeWith ({ cls := "NoFartherThanAThrow", name := "part", desc := "(I)I" } : Jvm.MethodName) prog_1_method_60_code (7 : Nat) (Option.some Jvm.ClassFile.FieldType.int) [((0 : Nat), (129 : Nat), (130 : Nat), (21 : Nat))]) ∈ lw_all := lw_g (lw_at lw_m6 11 rfl) rfl
theorem q1290 : (Jvm.Cond.methodLink "NoFartherThanAThrow" (378 : Nat) ({ cls := "NoFartherThanAThrow$Thing", name := "counts", desc := "()I" } : Jvm.MethodName)) ∈ lw_all := lw_g (lw_at lw_m6 12 rfl) rfl
theorem q1291 : (Jvm.Cond.methodLink "NoFartherThanAThrow" (381 : Nat) ({ cls := "NoFartherThanAThrow$World", name := "putThing", desc := "(IIIIII)V" } : Jvm.MethodName)) ∈ lw_all := lw_g (lw_at lw_m6 13 rfl) rfl
theorem q1292 : (Jvm.Cond.methodLink "NoFartherThanAThrow" (385 : Nat) ({ cls := "NoFartherThanAThrow", name := "shelvesFollow", desc := "()V" } : Jvm.MethodName)) ∈ lw_all := lw_g (lw_at lw_m6 14 rfl) rfl
theorem q1293 : (Jvm.Cond.privateMethod ({ cls := "NoFartherThanAThrow", name := "shelvesFollow", desc := "()V" } : Jvm.MethodName)) ∈ lw_tbl := lw_at lw_m6 15 rfl
theorem q1294 : (Jvm.Cond.instanceMethod ({ cls := "NoFartherThanAThrow", name := "shelvesFollow", desc := "()V" } : Jvm.MethodName)) ∈ lw_all := lw_g (lw_at lw_m6 16 rfl) rfl
theorem q1295 : (Jvm.Cond.code ({ cls := "NoFartherThanAThrow", name := "shelvesFollow", desc := "()V" } : Jvm.MethodName) prog_1_method_16_code (6 : Nat) (Option.none : Option Jvm.ClassFile.FieldType)) ∈ lw_all := lw_g (lw_at lw_m6 17 rfl) rfl
theorem q1297 : (Jvm.Cond.instanceMethod ({ cls := "NoFartherThanAThrow", name := "night", desc := "()I" } : Jvm.MethodName)) ∈ lw_all := lw_g (lw_at lw_m6 19 rfl) rfl
theorem q1298 : (Jvm.Cond.selects "NoFartherThanAThrow" ({ cls := "NoFartherThanAThrow", name := "night", desc := "()I" } : Jvm.MethodName) ({ cls := "NoFartherThanAThrow", name := "night", desc := "()I" } : Jvm.MethodName)) ∈ lw_all := lw_g (lw_at lw_m6 20 rfl) rfl
theorem q1299 : (Jvm.Cond.code ({ cls := "NoFartherThanAThrow", name := "night", desc := "()I" } : Jvm.MethodName) prog_1_method_61_code (3 : Nat) (Option.some Jvm.ClassFile.FieldType.int)) ∈ lw_all := lw_g (lw_at lw_m6 21 rfl) rfl
theorem q1301 : (Jvm.Cond.instanceMethod ({ cls := "NoFartherThanAThrow", name := "seed", desc := "(I)I" } : Jvm.MethodName)) ∈ lw_all := lw_g (lw_at lw_m6 23 rfl) rfl
theorem q1302 : (Jvm.Cond.selects "NoFartherThanAThrow" ({ cls := "NoFartherThanAThrow", name := "seed", desc := "(I)I" } : Jvm.MethodName) ({ cls := "NoFartherThanAThrow", name := "seed", desc := "(I)I" } : Jvm.MethodName)) ∈ lw_all := lw_g (lw_at lw_m6 24 rfl) rfl
theorem q1303 : (Jvm.Cond.code ({ cls := "NoFartherThanAThrow", name := "seed", desc := "(I)I" } : Jvm.MethodName) prog_1_method_62_code (3 : Nat) (Option.some Jvm.ClassFile.FieldType.int)) ∈ lw_all := lw_g (lw_at lw_m6 25 rfl) rfl
theorem q1305 : (Jvm.Cond.instanceMethod ({ cls := "NoFartherThanAThrow", name := "act", desc := "(III)I" } : Jvm.MethodName)) ∈ lw_all := lw_g (lw_at lw_m6 27 rfl) rfl
theorem q1306 : (Jvm.Cond.selects "NoFartherThanAThrow" ({ cls := "NoFartherThanAThrow", name := "act", desc := "(III)I" } : Jvm.MethodName) ({ cls := "NoFartherThanAThrow", name := "act", desc := "(III)I" } : Jvm.MethodName)) ∈ lw_all := lw_g (lw_at lw_m6 28 rfl) rfl
theorem q1307 : (Jvm.Cond.code ({ cls := "NoFartherThanAThrow", name := "act", desc := "(III)I" } : Jvm.MethodName) prog_1_method_63_code (5 : Nat) (Option.some Jvm.ClassFile.FieldType.int)) ∈ lw_all := lw_g (lw_at lw_m6 29 rfl) rfl
theorem q1308 : (Jvm.Cond.methodLink "NoFartherThanAThrow" (394 : Nat) ({ cls := "NoFartherThanAThrow$Thing", name := "going", desc := "(ILNoFartherThanAThrow$Trace;)I" } : Jvm.MethodName)) ∈ lw_all := lw_g (lw_at lw_m6 30 rfl) rfl
theorem q1335 : (Jvm.Cond.methodLink "NoFartherThanAThrow" (398 : Nat) ({ cls := "NoFartherThanAThrow$Thing", name := "resting", desc := "(ILNoFartherThanAThrow$Trace;)I" } : Jvm.MethodName)) ∈ lw_all := lw_g (lw_at lw_m6 57 rfl) rfl
theorem q1361 : (Jvm.Cond.methodLink "NoFartherThanAThrow" (401 : Nat) ({ cls := "NoFartherThanAThrow$Thing", name := "falling", desc := "(ILNoFartherThanAThrow$Trace;)I" } : Jvm.MethodName)) ∈ lw_all := lw_g (lw_at lw_m6 83 rfl) rfl
theorem q1382 : (Jvm.Cond.instanceMethod ({ cls := "NoFartherThanAThrow", name := "trace", desc := "(I)I" } : Jvm.MethodName)) ∈ lw_all := lw_g (lw_at lw_m6 104 rfl) rfl
theorem q1383 : (Jvm.Cond.selects "NoFartherThanAThrow" ({ cls := "NoFartherThanAThrow", name := "trace", desc := "(I)I" } : Jvm.MethodName) ({ cls := "NoFartherThanAThrow", name := "trace", desc := "(I)I" } : Jvm.MethodName)) ∈ lw_all := lw_g (lw_at lw_m6 105 rfl) rfl
theorem q1384 : (Jvm.Cond.code ({ cls := "NoFartherThanAThrow", name := "trace", desc := "(I)I" } : Jvm.MethodName) prog_1_method_64_code (2 : Nat) (Option.some Jvm.ClassFile.FieldType.int)) ∈ lw_all := lw_g (lw_at lw_m6 106 rfl) rfl
theorem q1385 : (Jvm.Cond.methodLink "NoFartherThanAThrow" (404 : Nat) ({ cls := "java/lang/Math", name := "min", desc := "(II)I" } : Jvm.MethodName)) ∈ lw_all := lw_g (lw_at lw_m6 107 rfl) rfl
theorem q1387 : (Jvm.Cond.instanceMethod ({ cls := "NoFartherThanAThrow", name := "image", desc := "()I" } : Jvm.MethodName)) ∈ lw_all := lw_g (lw_at lw_m6 109 rfl) rfl
theorem q1388 : (Jvm.Cond.selects "NoFartherThanAThrow" ({ cls := "NoFartherThanAThrow", name := "image", desc := "()I" } : Jvm.MethodName) ({ cls := "NoFartherThanAThrow", name := "image", desc := "()I" } : Jvm.MethodName)) ∈ lw_all := lw_g (lw_at lw_m6 110 rfl) rfl
theorem q1389 : (Jvm.Cond.code ({ cls := "NoFartherThanAThrow", name := "image", desc := "()I" } : Jvm.MethodName) prog_1_method_65_code (1 : Nat) (Option.some Jvm.ClassFile.FieldType.int)) ∈ lw_all := lw_g (lw_at lw_m6 111 rfl) rfl
theorem q1391 : (Jvm.Cond.instanceMethod ({ cls := "NoFartherThanAThrow", name := "restore", desc := "()I" } : Jvm.MethodName)) ∈ lw_all := lw_g (lw_at lw_m6 113 rfl) rfl
theorem q1392 : (Jvm.Cond.selects "NoFartherThanAThrow" ({ cls := "NoFartherThanAThrow", name := "restore", desc := "()I" } : Jvm.MethodName) ({ cls := "NoFartherThanAThrow", name := "restore", desc := "()I" } : Jvm.MethodName)) ∈ lw_all := lw_g (lw_at lw_m6 114 rfl) rfl
theorem q1393 : (Jvm.Cond.codeWith ({ cls := "NoFartherThanAThrow", name := "restore", desc := "()I" } : Jvm.MethodName) prog_1_method_66_code (2 : Nat) (Option.some Jvm.ClassFile.FieldType.int) [((0 : Nat), (39 : Nat), (40 : Nat), (21 : Nat))]) ∈ lw_all := lw_g (lw_at lw_m6 115 rfl) rfl
theorem q1395 : (Jvm.Cond.instanceMethod ({ cls := "NoFartherThanAThrow", name := "status", desc := "(I)I" } : Jvm.MethodName)) ∈ lw_all := lw_g (lw_at lw_m6 117 rfl) rfl
theorem q1396 : (Jvm.Cond.selects "NoFartherThanAThrow" ({ cls := "NoFartherThanAThrow", name := "status", desc := "(I)I" } : Jvm.MethodName) ({ cls := "NoFartherThanAThrow", name := "status", desc := "(I)I" } : Jvm.MethodName)) ∈ lw_all := lw_g (lw_at lw_m6 118 rfl) rfl
theorem q1397 : (Jvm.Cond.code ({ cls := "NoFartherThanAThrow", name := "status", desc := "(I)I" } : Jvm.MethodName) prog_1_method_67_code (2 : Nat) (Option.some Jvm.ClassFile.FieldType.int)) ∈ lw_all := lw_g (lw_at lw_m6 119 rfl) rfl
theorem q1398 : (Jvm.Cond.constantLong "NoFartherThanAThrow" (413 : Nat) (11 : Int64)) ∈ lw_all := lw_g (lw_at lw_m6 120 rfl) rfl
theorem q1399 : (Jvm.Cond.constantLong "NoFartherThanAThrow" (415 : Nat) (17 : Int64)) ∈ lw_all := lw_g (lw_at lw_m6 121 rfl) rfl
theorem in_X0 : ∀ w ∈ wsX00, w ∈ lw_all := lw_in wsX00 [282, 284, 286, 288, 290, 292, 294, 296, 298] (by decide +kernel) (by decide +kernel)
