/-! TaxOnLooks -/
set_option maxRecDepth 100000
def RX0 : String := "TaxOnLooks"
def TX0 : u_T := fun k => match k with
  | 0 => ("TaxOnLooks", "shelves", "[LTaxOnLooks$Shelf;", true)
  | 1 => ("TaxOnLooks", "refusals", "[I", true)
  | 2 => ("TaxOnLooks", "ran", "LTaxOnLooks$Trace;", true)
  | 3 => ("TaxOnLooks", "tried", "LTaxOnLooks$Town;", true)
  | 4 => ("TaxOnLooks", "walks", "LTaxOnLooks$Walks;", true)
  | 5 => ("TaxOnLooks", "w", "LTaxOnLooks$Town;", false)
  | 6 => ("TaxOnLooks", "imaged", "LTaxOnLooks$Town;", false)
  | 7 => ("TaxOnLooks", "latestFault", "I", false)
  | _ => ("TaxOnLooks", "paid", "I", false)
def tyX0 : Nat → FieldType := fun k => match k with
  | 0 => .array (.object "TaxOnLooks$Shelf")
  | 1 => .array .int
  | 2 => .object "TaxOnLooks$Trace"
  | 3 => .object "TaxOnLooks$Town"
  | 4 => .object "TaxOnLooks$Walks"
  | 5 => .object "TaxOnLooks$Town"
  | 6 => .object "TaxOnLooks$Town"
  | 7 => .int
  | _ => .int
abbrev wsX00 : List Cond := u_ws RX0 TX0 9
theorem nmX0 : ∀ a, a < 9 → ∀ b, b < 9 → a ≠ b → (TX0 a).2.1 ≠ (TX0 b).2.1 := by decide +kernel
theorem tyX0_ok : ∀ k, k < 9 → parseFieldDescriptor (TX0 k).2.2.1 = some (tyX0 k) := by decide +kernel
abbrev cX0_init : ByteArray := prog_1_method_5_code
def yX0_init : MethodName := ⟨RX0, "<init>", "()V"⟩
def dkwX0_init_4 : List UInt8 := [132, 1, 1, 167, 255, 234, 177]
abbrev dktX0_init_4 : List UInt8 := dkwX0_init_4 ++ []
def dkwX0_init_3 : List UInt8 := [181, 0, 91, 3, 60, 27, 16, 8, 162, 0, 22, 42, 180, 0, 59, 27, 187, 0, 57, 89, 183, 0, 95, 83]
abbrev dktX0_init_3 : List UInt8 := dkwX0_init_3 ++ dktX0_init_4
def dkwX0_init_2 : List UInt8 := [187, 0, 81, 89, 183, 0, 83, 181, 0, 84, 42, 187, 0, 74, 89, 183, 0, 76, 181, 0, 88, 42, 2]
abbrev dktX0_init_2 : List UInt8 := dkwX0_init_2 ++ dktX0_init_3
def dkwX0_init_1 : List UInt8 := [187, 0, 67, 89, 183, 0, 69, 181, 0, 70, 42, 187, 0, 74, 89, 183, 0, 76, 181, 0, 77, 42]
abbrev dktX0_init_1 : List UInt8 := dkwX0_init_1 ++ dktX0_init_2
def dkwX0_init_0 : List UInt8 := [42, 183, 0, 50, 42, 16, 8, 189, 0, 57, 181, 0, 59, 42, 16, 8, 188, 10, 181, 0, 63, 42]
abbrev dktX0_init_0 : List UInt8 := dkwX0_init_0 ++ dktX0_init_1
theorem dksX0_init_0 : cX0_init.data.toList.drop 0 = dktX0_init_0 := by decide +kernel
theorem dksX0_init_1 : cX0_init.data.toList.drop 22 = dktX0_init_1 := dk_seg dksX0_init_0 22 rfl rfl
theorem dksX0_init_2 : cX0_init.data.toList.drop 44 = dktX0_init_2 := dk_seg dksX0_init_1 22 rfl rfl
theorem dksX0_init_3 : cX0_init.data.toList.drop 67 = dktX0_init_3 := dk_seg dksX0_init_2 23 rfl rfl
theorem dksX0_init_4 : cX0_init.data.toList.drop 91 = dktX0_init_4 := dk_seg dksX0_init_3 24 rfl rfl
theorem dX0_init_0 : decode cX0_init 0 = .ok (.aload_n 0, 1) := dk_42 (dk_at dksX0_init_0 0 rfl rfl)
theorem dX0_init_1 : decode cX0_init 1 = .ok (.invokespecial 50, 3) := dk_183 0 50 (dk_at dksX0_init_0 1 rfl rfl)
theorem dX0_init_4 : decode cX0_init 4 = .ok (.aload_n 0, 1) := dk_42 (dk_at dksX0_init_0 4 rfl rfl)
theorem dX0_init_5 : decode cX0_init 5 = .ok (.bipush 8, 2) := dk_16 8 (dk_at dksX0_init_0 5 rfl rfl)
theorem dX0_init_7 : decode cX0_init 7 = .ok (.anewarray 57, 3) := dk_189 0 57 (dk_at dksX0_init_0 7 rfl rfl)
theorem dX0_init_10 : decode cX0_init 10 = .ok (.putfield 59, 3) := dk_181 0 59 (dk_at dksX0_init_0 10 rfl rfl)
theorem dX0_init_13 : decode cX0_init 13 = .ok (.aload_n 0, 1) := dk_42 (dk_at dksX0_init_0 13 rfl rfl)
theorem dX0_init_14 : decode cX0_init 14 = .ok (.bipush 8, 2) := dk_16 8 (dk_at dksX0_init_0 14 rfl rfl)
theorem dX0_init_16 : decode cX0_init 16 = .ok (.newarray .int, 2) := dk_188_10 (dk_at dksX0_init_0 16 rfl rfl)
theorem dX0_init_18 : decode cX0_init 18 = .ok (.putfield 63, 3) := dk_181 0 63 (dk_at dksX0_init_0 18 rfl rfl)
theorem dX0_init_21 : decode cX0_init 21 = .ok (.aload_n 0, 1) := dk_42 (dk_at dksX0_init_0 21 rfl rfl)
theorem dX0_init_22 : decode cX0_init 22 = .ok (.new 67, 3) := dk_187 0 67 (dk_at dksX0_init_1 0 rfl rfl)
theorem dX0_init_25 : decode cX0_init 25 = .ok (.dup, 1) := dk_89 (dk_at dksX0_init_1 3 rfl rfl)
theorem dX0_init_26 : decode cX0_init 26 = .ok (.invokespecial 69, 3) := dk_183 0 69 (dk_at dksX0_init_1 4 rfl rfl)
theorem dX0_init_29 : decode cX0_init 29 = .ok (.putfield 70, 3) := dk_181 0 70 (dk_at dksX0_init_1 7 rfl rfl)
theorem dX0_init_32 : decode cX0_init 32 = .ok (.aload_n 0, 1) := dk_42 (dk_at dksX0_init_1 10 rfl rfl)
theorem dX0_init_33 : decode cX0_init 33 = .ok (.new 74, 3) := dk_187 0 74 (dk_at dksX0_init_1 11 rfl rfl)
theorem dX0_init_36 : decode cX0_init 36 = .ok (.dup, 1) := dk_89 (dk_at dksX0_init_1 14 rfl rfl)
theorem dX0_init_37 : decode cX0_init 37 = .ok (.invokespecial 76, 3) := dk_183 0 76 (dk_at dksX0_init_1 15 rfl rfl)
theorem dX0_init_40 : decode cX0_init 40 = .ok (.putfield 77, 3) := dk_181 0 77 (dk_at dksX0_init_1 18 rfl rfl)
theorem dX0_init_43 : decode cX0_init 43 = .ok (.aload_n 0, 1) := dk_42 (dk_at dksX0_init_1 21 rfl rfl)
theorem dX0_init_44 : decode cX0_init 44 = .ok (.new 81, 3) := dk_187 0 81 (dk_at dksX0_init_2 0 rfl rfl)
theorem dX0_init_47 : decode cX0_init 47 = .ok (.dup, 1) := dk_89 (dk_at dksX0_init_2 3 rfl rfl)
theorem dX0_init_48 : decode cX0_init 48 = .ok (.invokespecial 83, 3) := dk_183 0 83 (dk_at dksX0_init_2 4 rfl rfl)
theorem dX0_init_51 : decode cX0_init 51 = .ok (.putfield 84, 3) := dk_181 0 84 (dk_at dksX0_init_2 7 rfl rfl)
theorem dX0_init_54 : decode cX0_init 54 = .ok (.aload_n 0, 1) := dk_42 (dk_at dksX0_init_2 10 rfl rfl)
theorem dX0_init_55 : decode cX0_init 55 = .ok (.new 74, 3) := dk_187 0 74 (dk_at dksX0_init_2 11 rfl rfl)
theorem dX0_init_58 : decode cX0_init 58 = .ok (.dup, 1) := dk_89 (dk_at dksX0_init_2 14 rfl rfl)
theorem dX0_init_59 : decode cX0_init 59 = .ok (.invokespecial 76, 3) := dk_183 0 76 (dk_at dksX0_init_2 15 rfl rfl)
theorem dX0_init_62 : decode cX0_init 62 = .ok (.putfield 88, 3) := dk_181 0 88 (dk_at dksX0_init_2 18 rfl rfl)
theorem dX0_init_65 : decode cX0_init 65 = .ok (.aload_n 0, 1) := dk_42 (dk_at dksX0_init_2 21 rfl rfl)
theorem dX0_init_66 : decode cX0_init 66 = .ok (.iconst (-1), 1) := dk_2 (dk_at dksX0_init_2 22 rfl rfl)
theorem dX0_init_67 : decode cX0_init 67 = .ok (.putfield 91, 3) := dk_181 0 91 (dk_at dksX0_init_3 0 rfl rfl)
theorem dX0_init_70 : decode cX0_init 70 = .ok (.iconst 0, 1) := dk_3 (dk_at dksX0_init_3 3 rfl rfl)
theorem dX0_init_71 : decode cX0_init 71 = .ok (.istore_n 1, 1) := dk_60 (dk_at dksX0_init_3 4 rfl rfl)
theorem dX0_init_72 : decode cX0_init 72 = .ok (.iload_n 1, 1) := dk_27 (dk_at dksX0_init_3 5 rfl rfl)
theorem dX0_init_73 : decode cX0_init 73 = .ok (.bipush 8, 2) := dk_16 8 (dk_at dksX0_init_3 6 rfl rfl)
theorem dX0_init_75 : decode cX0_init 75 = .ok (.if_icmp .ge 22, 3) := dk_162 0 22 (dk_at dksX0_init_3 8 rfl rfl)
theorem dX0_init_78 : decode cX0_init 78 = .ok (.aload_n 0, 1) := dk_42 (dk_at dksX0_init_3 11 rfl rfl)
theorem dX0_init_79 : decode cX0_init 79 = .ok (.getfield 59, 3) := dk_180 0 59 (dk_at dksX0_init_3 12 rfl rfl)
theorem dX0_init_82 : decode cX0_init 82 = .ok (.iload_n 1, 1) := dk_27 (dk_at dksX0_init_3 15 rfl rfl)
theorem dX0_init_83 : decode cX0_init 83 = .ok (.new 57, 3) := dk_187 0 57 (dk_at dksX0_init_3 16 rfl rfl)
theorem dX0_init_86 : decode cX0_init 86 = .ok (.dup, 1) := dk_89 (dk_at dksX0_init_3 19 rfl rfl)
theorem dX0_init_87 : decode cX0_init 87 = .ok (.invokespecial 95, 3) := dk_183 0 95 (dk_at dksX0_init_3 20 rfl rfl)
theorem dX0_init_90 : decode cX0_init 90 = .ok (.aastore, 1) := dk_83 (dk_at dksX0_init_3 23 rfl rfl)
theorem dX0_init_91 : decode cX0_init 91 = .ok (.iinc 1 1, 3) := dk_132 1 1 (dk_at dksX0_init_4 0 rfl rfl)
theorem dX0_init_94 : decode cX0_init 94 = .ok (.goto (-22), 3) := dk_167 255 234 (dk_at dksX0_init_4 3 rfl rfl)
theorem dX0_init_97 : decode cX0_init 97 = .ok (.return_, 1) := dk_177 (dk_at dksX0_init_4 6 rfl rfl)
abbrev cX0_row : ByteArray := prog_1_method_12_code
def yX0_row : MethodName := ⟨RX0, "row", "(III)I"⟩
def dkwX0_row_3 : List UInt8 := [182, 0, 151, 172]
abbrev dktX0_row_3 : List UInt8 := dkwX0_row_3 ++ []
def dkwX0_row_2 : List UInt8 := [16, 249, 184, 0, 105, 25, 4, 28, 29, 184, 0, 147, 181, 0, 113, 4, 172, 58, 4, 42, 25, 4]
abbrev dktX0_row_2 : List UInt8 := dkwX0_row_2 ++ dktX0_row_3
def dkwX0_row_1 : List UInt8 := [20, 0, 141, 184, 0, 143, 16, 250, 184, 0, 105, 29, 17, 0, 160, 163, 0, 7, 4, 167, 0, 4, 3]
abbrev dktX0_row_1 : List UInt8 := dkwX0_row_1 ++ dktX0_row_2
def dkwX0_row_0 : List UInt8 := [42, 27, 182, 0, 137, 58, 4, 29, 155, 0, 7, 4, 167, 0, 4, 3, 16, 252, 184, 0, 105, 28, 133, 9]
abbrev dktX0_row_0 : List UInt8 := dkwX0_row_0 ++ dktX0_row_1
theorem dksX0_row_0 : cX0_row.data.toList.drop 0 = dktX0_row_0 := by decide +kernel
theorem dksX0_row_1 : cX0_row.data.toList.drop 24 = dktX0_row_1 := dk_seg dksX0_row_0 24 rfl rfl
theorem dksX0_row_2 : cX0_row.data.toList.drop 47 = dktX0_row_2 := dk_seg dksX0_row_1 23 rfl rfl
theorem dksX0_row_3 : cX0_row.data.toList.drop 69 = dktX0_row_3 := dk_seg dksX0_row_2 22 rfl rfl
theorem dX0_row_0 : decode cX0_row 0 = .ok (.aload_n 0, 1) := dk_42 (dk_at dksX0_row_0 0 rfl rfl)
theorem dX0_row_1 : decode cX0_row 1 = .ok (.iload_n 1, 1) := dk_27 (dk_at dksX0_row_0 1 rfl rfl)
theorem dX0_row_2 : decode cX0_row 2 = .ok (.invokevirtual 137, 3) := dk_182 0 137 (dk_at dksX0_row_0 2 rfl rfl)
theorem dX0_row_5 : decode cX0_row 5 = .ok (.astore 4, 2) := dk_58 4 (dk_at dksX0_row_0 5 rfl rfl)
theorem dX0_row_7 : decode cX0_row 7 = .ok (.iload_n 3, 1) := dk_29 (dk_at dksX0_row_0 7 rfl rfl)
theorem dX0_row_8 : decode cX0_row 8 = .ok (.ifCond .lt 7, 3) := dk_155 0 7 (dk_at dksX0_row_0 8 rfl rfl)
theorem dX0_row_11 : decode cX0_row 11 = .ok (.iconst 1, 1) := dk_4 (dk_at dksX0_row_0 11 rfl rfl)
theorem dX0_row_12 : decode cX0_row 12 = .ok (.goto 4, 3) := dk_167 0 4 (dk_at dksX0_row_0 12 rfl rfl)
theorem dX0_row_15 : decode cX0_row 15 = .ok (.iconst 0, 1) := dk_3 (dk_at dksX0_row_0 15 rfl rfl)
theorem dX0_row_16 : decode cX0_row 16 = .ok (.bipush (-4), 2) := dk_16 252 (dk_at dksX0_row_0 16 rfl rfl)
theorem dX0_row_18 : decode cX0_row 18 = .ok (.invokestatic 105, 3) := dk_184 0 105 (dk_at dksX0_row_0 18 rfl rfl)
theorem dX0_row_21 : decode cX0_row 21 = .ok (.iload_n 2, 1) := dk_28 (dk_at dksX0_row_0 21 rfl rfl)
theorem dX0_row_22 : decode cX0_row 22 = .ok (.i2l, 1) := dk_133 (dk_at dksX0_row_0 22 rfl rfl)
theorem dX0_row_23 : decode cX0_row 23 = .ok (.lconst 0, 1) := dk_9 (dk_at dksX0_row_0 23 rfl rfl)
theorem dX0_row_24 : decode cX0_row 24 = .ok (.ldc2_w 141, 3) := dk_20 0 141 (dk_at dksX0_row_1 0 rfl rfl)
theorem dX0_row_27 : decode cX0_row 27 = .ok (.invokestatic 143, 3) := dk_184 0 143 (dk_at dksX0_row_1 3 rfl rfl)
theorem dX0_row_30 : decode cX0_row 30 = .ok (.bipush (-6), 2) := dk_16 250 (dk_at dksX0_row_1 6 rfl rfl)
theorem dX0_row_32 : decode cX0_row 32 = .ok (.invokestatic 105, 3) := dk_184 0 105 (dk_at dksX0_row_1 8 rfl rfl)
theorem dX0_row_35 : decode cX0_row 35 = .ok (.iload_n 3, 1) := dk_29 (dk_at dksX0_row_1 11 rfl rfl)
theorem dX0_row_36 : decode cX0_row 36 = .ok (.sipush 160, 3) := dk_17 0 160 (dk_at dksX0_row_1 12 rfl rfl)
theorem dX0_row_39 : decode cX0_row 39 = .ok (.if_icmp .gt 7, 3) := dk_163 0 7 (dk_at dksX0_row_1 15 rfl rfl)
theorem dX0_row_42 : decode cX0_row 42 = .ok (.iconst 1, 1) := dk_4 (dk_at dksX0_row_1 18 rfl rfl)
theorem dX0_row_43 : decode cX0_row 43 = .ok (.goto 4, 3) := dk_167 0 4 (dk_at dksX0_row_1 19 rfl rfl)
theorem dX0_row_46 : decode cX0_row 46 = .ok (.iconst 0, 1) := dk_3 (dk_at dksX0_row_1 22 rfl rfl)
theorem dX0_row_47 : decode cX0_row 47 = .ok (.bipush (-7), 2) := dk_16 249 (dk_at dksX0_row_2 0 rfl rfl)
theorem dX0_row_49 : decode cX0_row 49 = .ok (.invokestatic 105, 3) := dk_184 0 105 (dk_at dksX0_row_2 2 rfl rfl)
theorem dX0_row_52 : decode cX0_row 52 = .ok (.aload 4, 2) := dk_25 4 (dk_at dksX0_row_2 5 rfl rfl)
theorem dX0_row_54 : decode cX0_row 54 = .ok (.iload_n 2, 1) := dk_28 (dk_at dksX0_row_2 7 rfl rfl)
theorem dX0_row_55 : decode cX0_row 55 = .ok (.iload_n 3, 1) := dk_29 (dk_at dksX0_row_2 8 rfl rfl)
theorem dX0_row_56 : decode cX0_row 56 = .ok (.invokestatic 147, 3) := dk_184 0 147 (dk_at dksX0_row_2 9 rfl rfl)
theorem dX0_row_59 : decode cX0_row 59 = .ok (.putfield 113, 3) := dk_181 0 113 (dk_at dksX0_row_2 12 rfl rfl)
theorem dX0_row_62 : decode cX0_row 62 = .ok (.iconst 1, 1) := dk_4 (dk_at dksX0_row_2 15 rfl rfl)
theorem dX0_row_63 : decode cX0_row 63 = .ok (.ireturn, 1) := dk_172 (dk_at dksX0_row_2 16 rfl rfl)
theorem dX0_row_64 : decode cX0_row 64 = .ok (.astore 4, 2) := dk_58 4 (dk_at dksX0_row_2 17 rfl rfl)
theorem dX0_row_66 : decode cX0_row 66 = .ok (.aload_n 0, 1) := dk_42 (dk_at dksX0_row_2 19 rfl rfl)
theorem dX0_row_67 : decode cX0_row 67 = .ok (.aload 4, 2) := dk_25 4 (dk_at dksX0_row_2 20 rfl rfl)
theorem dX0_row_69 : decode cX0_row 69 = .ok (.invokevirtual 151, 3) := dk_182 0 151 (dk_at dksX0_row_3 0 rfl rfl)
theorem dX0_row_72 : decode cX0_row 72 = .ok (.ireturn, 1) := dk_172 (dk_at dksX0_row_3 3 rfl rfl)
abbrev cX0_shelf : ByteArray := prog_1_method_8_code
def yX0_shelf : MethodName := ⟨RX0, "shelf", "(I)LTaxOnLooks$Shelf;"⟩
def dkwX0_shelf_0 : List UInt8 := [42, 180, 0, 59, 27, 50, 176, 77, 187, 0, 21, 89, 2, 183, 0, 23, 191]
abbrev dktX0_shelf_0 : List UInt8 := dkwX0_shelf_0 ++ []
theorem dksX0_shelf_0 : cX0_shelf.data.toList.drop 0 = dktX0_shelf_0 := by decide +kernel
theorem dX0_shelf_0 : decode cX0_shelf 0 = .ok (.aload_n 0, 1) := dk_42 (dk_at dksX0_shelf_0 0 rfl rfl)
theorem dX0_shelf_1 : decode cX0_shelf 1 = .ok (.getfield 59, 3) := dk_180 0 59 (dk_at dksX0_shelf_0 1 rfl rfl)
theorem dX0_shelf_4 : decode cX0_shelf 4 = .ok (.iload_n 1, 1) := dk_27 (dk_at dksX0_shelf_0 4 rfl rfl)
theorem dX0_shelf_5 : decode cX0_shelf 5 = .ok (.aaload, 1) := dk_50 (dk_at dksX0_shelf_0 5 rfl rfl)
theorem dX0_shelf_6 : decode cX0_shelf 6 = .ok (.areturn, 1) := dk_176 (dk_at dksX0_shelf_0 6 rfl rfl)
theorem dX0_shelf_7 : decode cX0_shelf 7 = .ok (.astore_n 2, 1) := dk_77 (dk_at dksX0_shelf_0 7 rfl rfl)
theorem dX0_shelf_8 : decode cX0_shelf 8 = .ok (.new 21, 3) := dk_187 0 21 (dk_at dksX0_shelf_0 8 rfl rfl)
theorem dX0_shelf_11 : decode cX0_shelf 11 = .ok (.dup, 1) := dk_89 (dk_at dksX0_shelf_0 11 rfl rfl)
theorem dX0_shelf_12 : decode cX0_shelf 12 = .ok (.iconst (-1), 1) := dk_2 (dk_at dksX0_shelf_0 12 rfl rfl)
theorem dX0_shelf_13 : decode cX0_shelf 13 = .ok (.invokespecial 23, 3) := dk_183 0 23 (dk_at dksX0_shelf_0 13 rfl rfl)
theorem dX0_shelf_16 : decode cX0_shelf 16 = .ok (.athrow, 1) := dk_191 (dk_at dksX0_shelf_0 16 rfl rfl)
abbrev cX0_need : ByteArray := prog_1_method_2_code
def yX0_need : MethodName := ⟨RX0, "need", "(ZI)V"⟩
def dkwX0_need_0 : List UInt8 := [26, 154, 0, 12, 187, 0, 21, 89, 27, 183, 0, 23, 191, 177]
abbrev dktX0_need_0 : List UInt8 := dkwX0_need_0 ++ []
theorem dksX0_need_0 : cX0_need.data.toList.drop 0 = dktX0_need_0 := by decide +kernel
theorem dX0_need_0 : decode cX0_need 0 = .ok (.iload_n 0, 1) := dk_26 (dk_at dksX0_need_0 0 rfl rfl)
theorem dX0_need_1 : decode cX0_need 1 = .ok (.ifCond .ne 12, 3) := dk_154 0 12 (dk_at dksX0_need_0 1 rfl rfl)
theorem dX0_need_4 : decode cX0_need 4 = .ok (.new 21, 3) := dk_187 0 21 (dk_at dksX0_need_0 4 rfl rfl)
theorem dX0_need_7 : decode cX0_need 7 = .ok (.dup, 1) := dk_89 (dk_at dksX0_need_0 7 rfl rfl)
theorem dX0_need_8 : decode cX0_need 8 = .ok (.iload_n 1, 1) := dk_27 (dk_at dksX0_need_0 8 rfl rfl)
theorem dX0_need_9 : decode cX0_need 9 = .ok (.invokespecial 23, 3) := dk_183 0 23 (dk_at dksX0_need_0 9 rfl rfl)
theorem dX0_need_12 : decode cX0_need 12 = .ok (.athrow, 1) := dk_191 (dk_at dksX0_need_0 12 rfl rfl)
theorem dX0_need_13 : decode cX0_need 13 = .ok (.return_, 1) := dk_177 (dk_at dksX0_need_0 13 rfl rfl)
abbrev cX0_in : ByteArray := prog_1_method_3_code
def yX0_in : MethodName := ⟨RX0, "in", "(JJJ)Z"⟩
def dkwX0_in_0 : List UInt8 := [30, 32, 148, 155, 0, 14, 30, 22, 4, 148, 157, 0, 7, 4, 167, 0, 4, 3, 172]
abbrev dktX0_in_0 : List UInt8 := dkwX0_in_0 ++ []
theorem dksX0_in_0 : cX0_in.data.toList.drop 0 = dktX0_in_0 := by decide +kernel
theorem dX0_in_0 : decode cX0_in 0 = .ok (.lload_n 0, 1) := dk_30 (dk_at dksX0_in_0 0 rfl rfl)
theorem dX0_in_1 : decode cX0_in 1 = .ok (.lload_n 2, 1) := dk_32 (dk_at dksX0_in_0 1 rfl rfl)
theorem dX0_in_2 : decode cX0_in 2 = .ok (.lcmp, 1) := dk_148 (dk_at dksX0_in_0 2 rfl rfl)
theorem dX0_in_3 : decode cX0_in 3 = .ok (.ifCond .lt 14, 3) := dk_155 0 14 (dk_at dksX0_in_0 3 rfl rfl)
theorem dX0_in_6 : decode cX0_in 6 = .ok (.lload_n 0, 1) := dk_30 (dk_at dksX0_in_0 6 rfl rfl)
theorem dX0_in_7 : decode cX0_in 7 = .ok (.lload 4, 2) := dk_22 4 (dk_at dksX0_in_0 7 rfl rfl)
theorem dX0_in_9 : decode cX0_in 9 = .ok (.lcmp, 1) := dk_148 (dk_at dksX0_in_0 9 rfl rfl)
theorem dX0_in_10 : decode cX0_in 10 = .ok (.ifCond .gt 7, 3) := dk_157 0 7 (dk_at dksX0_in_0 10 rfl rfl)
theorem dX0_in_13 : decode cX0_in 13 = .ok (.iconst 1, 1) := dk_4 (dk_at dksX0_in_0 13 rfl rfl)
theorem dX0_in_14 : decode cX0_in 14 = .ok (.goto 4, 3) := dk_167 0 4 (dk_at dksX0_in_0 14 rfl rfl)
theorem dX0_in_17 : decode cX0_in 17 = .ok (.iconst 0, 1) := dk_3 (dk_at dksX0_in_0 17 rfl rfl)
theorem dX0_in_18 : decode cX0_in 18 = .ok (.ireturn, 1) := dk_172 (dk_at dksX0_in_0 18 rfl rfl)
abbrev cX0_newRow : ByteArray := prog_1_method_11_code
def yX0_newRow : MethodName := ⟨RX0, "newRow", "(II)LTaxOnLooks$Row;"⟩
def dkwX0_newRow_4 : List UInt8 := [187, 0, 21, 89, 16, 252, 183, 0, 23, 191]
abbrev dktX0_newRow_4 : List UInt8 := dkwX0_newRow_4 ++ []
def dkwX0_newRow_3 : List UInt8 := [183, 0, 131, 176, 187, 0, 132, 89, 27, 183, 0, 134, 176, 187, 0, 21, 89, 16, 250, 183, 0, 23, 191, 77]
abbrev dktX0_newRow_3 : List UInt8 := dkwX0_newRow_3 ++ dktX0_newRow_4
def dkwX0_newRow_2 : List UInt8 := [187, 0, 123, 89, 27, 183, 0, 125, 176, 187, 0, 126, 89, 27, 183, 0, 128, 176, 187, 0, 129, 89, 27]
abbrev dktX0_newRow_2 : List UInt8 := dkwX0_newRow_2 ++ dktX0_newRow_3
def dkwX0_newRow_1 : List UInt8 := [170, 0, 0, 0, 0, 0, 67, 0, 0, 0, 0, 0, 0, 0, 3, 0, 0, 0, 31, 0, 0, 0, 40, 0, 0, 0, 49, 0, 0, 0, 58]
abbrev dktX0_newRow_1 : List UInt8 := dkwX0_newRow_1 ++ dktX0_newRow_2
def dkwX0_newRow_0 : List UInt8 := [26]
abbrev dktX0_newRow_0 : List UInt8 := dkwX0_newRow_0 ++ dktX0_newRow_1
theorem dksX0_newRow_0 : cX0_newRow.data.toList.drop 0 = dktX0_newRow_0 := by decide +kernel
theorem dksX0_newRow_1 : cX0_newRow.data.toList.drop 1 = dktX0_newRow_1 := dk_seg dksX0_newRow_0 1 rfl rfl
theorem dksX0_newRow_2 : cX0_newRow.data.toList.drop 32 = dktX0_newRow_2 := dk_seg dksX0_newRow_1 31 rfl rfl
theorem dksX0_newRow_3 : cX0_newRow.data.toList.drop 55 = dktX0_newRow_3 := dk_seg dksX0_newRow_2 23 rfl rfl
theorem dksX0_newRow_4 : cX0_newRow.data.toList.drop 79 = dktX0_newRow_4 := dk_seg dksX0_newRow_3 24 rfl rfl
theorem dX0_newRow_0 : decode cX0_newRow 0 = .ok (.iload_n 0, 1) := dk_26 (dk_at dksX0_newRow_0 0 rfl rfl)
theorem dX0_newRow_1 : decode cX0_newRow 1 = .ok (.tableswitch 67 0 3 #[31, 40, 49, 58], 31) := by decide +kernel
theorem dX0_newRow_32 : decode cX0_newRow 32 = .ok (.new 123, 3) := dk_187 0 123 (dk_at dksX0_newRow_2 0 rfl rfl)
theorem dX0_newRow_35 : decode cX0_newRow 35 = .ok (.dup, 1) := dk_89 (dk_at dksX0_newRow_2 3 rfl rfl)
theorem dX0_newRow_36 : decode cX0_newRow 36 = .ok (.iload_n 1, 1) := dk_27 (dk_at dksX0_newRow_2 4 rfl rfl)
theorem dX0_newRow_37 : decode cX0_newRow 37 = .ok (.invokespecial 125, 3) := dk_183 0 125 (dk_at dksX0_newRow_2 5 rfl rfl)
theorem dX0_newRow_40 : decode cX0_newRow 40 = .ok (.areturn, 1) := dk_176 (dk_at dksX0_newRow_2 8 rfl rfl)
theorem dX0_newRow_41 : decode cX0_newRow 41 = .ok (.new 126, 3) := dk_187 0 126 (dk_at dksX0_newRow_2 9 rfl rfl)
theorem dX0_newRow_44 : decode cX0_newRow 44 = .ok (.dup, 1) := dk_89 (dk_at dksX0_newRow_2 12 rfl rfl)
theorem dX0_newRow_45 : decode cX0_newRow 45 = .ok (.iload_n 1, 1) := dk_27 (dk_at dksX0_newRow_2 13 rfl rfl)
theorem dX0_newRow_46 : decode cX0_newRow 46 = .ok (.invokespecial 128, 3) := dk_183 0 128 (dk_at dksX0_newRow_2 14 rfl rfl)
theorem dX0_newRow_49 : decode cX0_newRow 49 = .ok (.areturn, 1) := dk_176 (dk_at dksX0_newRow_2 17 rfl rfl)
theorem dX0_newRow_50 : decode cX0_newRow 50 = .ok (.new 129, 3) := dk_187 0 129 (dk_at dksX0_newRow_2 18 rfl rfl)
theorem dX0_newRow_53 : decode cX0_newRow 53 = .ok (.dup, 1) := dk_89 (dk_at dksX0_newRow_2 21 rfl rfl)
theorem dX0_newRow_54 : decode cX0_newRow 54 = .ok (.iload_n 1, 1) := dk_27 (dk_at dksX0_newRow_2 22 rfl rfl)
theorem dX0_newRow_55 : decode cX0_newRow 55 = .ok (.invokespecial 131, 3) := dk_183 0 131 (dk_at dksX0_newRow_3 0 rfl rfl)
theorem dX0_newRow_58 : decode cX0_newRow 58 = .ok (.areturn, 1) := dk_176 (dk_at dksX0_newRow_3 3 rfl rfl)
theorem dX0_newRow_59 : decode cX0_newRow 59 = .ok (.new 132, 3) := dk_187 0 132 (dk_at dksX0_newRow_3 4 rfl rfl)
theorem dX0_newRow_62 : decode cX0_newRow 62 = .ok (.dup, 1) := dk_89 (dk_at dksX0_newRow_3 7 rfl rfl)
theorem dX0_newRow_63 : decode cX0_newRow 63 = .ok (.iload_n 1, 1) := dk_27 (dk_at dksX0_newRow_3 8 rfl rfl)
theorem dX0_newRow_64 : decode cX0_newRow 64 = .ok (.invokespecial 134, 3) := dk_183 0 134 (dk_at dksX0_newRow_3 9 rfl rfl)
theorem dX0_newRow_67 : decode cX0_newRow 67 = .ok (.areturn, 1) := dk_176 (dk_at dksX0_newRow_3 12 rfl rfl)
theorem dX0_newRow_68 : decode cX0_newRow 68 = .ok (.new 21, 3) := dk_187 0 21 (dk_at dksX0_newRow_3 13 rfl rfl)
theorem dX0_newRow_71 : decode cX0_newRow 71 = .ok (.dup, 1) := dk_89 (dk_at dksX0_newRow_3 16 rfl rfl)
theorem dX0_newRow_72 : decode cX0_newRow 72 = .ok (.bipush (-6), 2) := dk_16 250 (dk_at dksX0_newRow_3 17 rfl rfl)
theorem dX0_newRow_74 : decode cX0_newRow 74 = .ok (.invokespecial 23, 3) := dk_183 0 23 (dk_at dksX0_newRow_3 19 rfl rfl)
theorem dX0_newRow_77 : decode cX0_newRow 77 = .ok (.athrow, 1) := dk_191 (dk_at dksX0_newRow_3 22 rfl rfl)
theorem dX0_newRow_78 : decode cX0_newRow 78 = .ok (.astore_n 2, 1) := dk_77 (dk_at dksX0_newRow_3 23 rfl rfl)
theorem dX0_newRow_79 : decode cX0_newRow 79 = .ok (.new 21, 3) := dk_187 0 21 (dk_at dksX0_newRow_4 0 rfl rfl)
theorem dX0_newRow_82 : decode cX0_newRow 82 = .ok (.dup, 1) := dk_89 (dk_at dksX0_newRow_4 3 rfl rfl)
theorem dX0_newRow_83 : decode cX0_newRow 83 = .ok (.bipush (-4), 2) := dk_16 252 (dk_at dksX0_newRow_4 4 rfl rfl)
theorem dX0_newRow_85 : decode cX0_newRow 85 = .ok (.invokespecial 23, 3) := dk_183 0 23 (dk_at dksX0_newRow_4 6 rfl rfl)
theorem dX0_newRow_88 : decode cX0_newRow 88 = .ok (.athrow, 1) := dk_191 (dk_at dksX0_newRow_4 9 rfl rfl)
abbrev cX0_refused : ByteArray := prog_1_method_6_code
def yX0_refused : MethodName := ⟨RX0, "refused", "(LTaxOnLooks$Refused;)I"⟩
def dkwX0_refused_0 : List UInt8 := [42, 180, 0, 63, 43, 180, 0, 96, 116, 92, 46, 4, 96, 79, 43, 180, 0, 96, 172]
abbrev dktX0_refused_0 : List UInt8 := dkwX0_refused_0 ++ []
theorem dksX0_refused_0 : cX0_refused.data.toList.drop 0 = dktX0_refused_0 := by decide +kernel
theorem dX0_refused_0 : decode cX0_refused 0 = .ok (.aload_n 0, 1) := dk_42 (dk_at dksX0_refused_0 0 rfl rfl)
theorem dX0_refused_1 : decode cX0_refused 1 = .ok (.getfield 63, 3) := dk_180 0 63 (dk_at dksX0_refused_0 1 rfl rfl)
theorem dX0_refused_4 : decode cX0_refused 4 = .ok (.aload_n 1, 1) := dk_43 (dk_at dksX0_refused_0 4 rfl rfl)
theorem dX0_refused_5 : decode cX0_refused 5 = .ok (.getfield 96, 3) := dk_180 0 96 (dk_at dksX0_refused_0 5 rfl rfl)
theorem dX0_refused_8 : decode cX0_refused 8 = .ok (.ineg, 1) := dk_116 (dk_at dksX0_refused_0 8 rfl rfl)
theorem dX0_refused_9 : decode cX0_refused 9 = .ok (.dup2, 1) := dk_92 (dk_at dksX0_refused_0 9 rfl rfl)
theorem dX0_refused_10 : decode cX0_refused 10 = .ok (.iaload, 1) := dk_46 (dk_at dksX0_refused_0 10 rfl rfl)
theorem dX0_refused_11 : decode cX0_refused 11 = .ok (.iconst 1, 1) := dk_4 (dk_at dksX0_refused_0 11 rfl rfl)
theorem dX0_refused_12 : decode cX0_refused 12 = .ok (.iadd, 1) := dk_96 (dk_at dksX0_refused_0 12 rfl rfl)
theorem dX0_refused_13 : decode cX0_refused 13 = .ok (.iastore, 1) := dk_79 (dk_at dksX0_refused_0 13 rfl rfl)
theorem dX0_refused_14 : decode cX0_refused 14 = .ok (.aload_n 1, 1) := dk_43 (dk_at dksX0_refused_0 14 rfl rfl)
theorem dX0_refused_15 : decode cX0_refused 15 = .ok (.getfield 96, 3) := dk_180 0 96 (dk_at dksX0_refused_0 15 rfl rfl)
theorem dX0_refused_18 : decode cX0_refused 18 = .ok (.ireturn, 1) := dk_172 (dk_at dksX0_refused_0 18 rfl rfl)
abbrev cX0_set : ByteArray := prog_1_method_13_code
def yX0_set : MethodName := ⟨RX0, "set", "(IIJ)I"⟩
def dkwX0_set_1 : List UInt8 := [187, 0, 21, 89, 16, 251, 183, 0, 23, 191, 4, 172, 58, 5, 42, 25, 5, 182, 0, 151, 172]
abbrev dktX0_set_1 : List UInt8 := dkwX0_set_1 ++ []
def dkwX0_set_0 : List UInt8 := [42, 27, 182, 0, 137, 182, 0, 155, 58, 5, 25, 5, 28, 33, 182, 0, 158, 167, 0, 15, 58, 6]
abbrev dktX0_set_0 : List UInt8 := dkwX0_set_0 ++ dktX0_set_1
theorem dksX0_set_0 : cX0_set.data.toList.drop 0 = dktX0_set_0 := by decide +kernel
theorem dksX0_set_1 : cX0_set.data.toList.drop 22 = dktX0_set_1 := dk_seg dksX0_set_0 22 rfl rfl
theorem dX0_set_0 : decode cX0_set 0 = .ok (.aload_n 0, 1) := dk_42 (dk_at dksX0_set_0 0 rfl rfl)
theorem dX0_set_1 : decode cX0_set 1 = .ok (.iload_n 1, 1) := dk_27 (dk_at dksX0_set_0 1 rfl rfl)
theorem dX0_set_2 : decode cX0_set 2 = .ok (.invokevirtual 137, 3) := dk_182 0 137 (dk_at dksX0_set_0 2 rfl rfl)
theorem dX0_set_5 : decode cX0_set 5 = .ok (.invokevirtual 155, 3) := dk_182 0 155 (dk_at dksX0_set_0 5 rfl rfl)
theorem dX0_set_8 : decode cX0_set 8 = .ok (.astore 5, 2) := dk_58 5 (dk_at dksX0_set_0 8 rfl rfl)
theorem dX0_set_10 : decode cX0_set 10 = .ok (.aload 5, 2) := dk_25 5 (dk_at dksX0_set_0 10 rfl rfl)
theorem dX0_set_12 : decode cX0_set 12 = .ok (.iload_n 2, 1) := dk_28 (dk_at dksX0_set_0 12 rfl rfl)
theorem dX0_set_13 : decode cX0_set 13 = .ok (.lload_n 3, 1) := dk_33 (dk_at dksX0_set_0 13 rfl rfl)
theorem dX0_set_14 : decode cX0_set 14 = .ok (.invokevirtual 158, 3) := dk_182 0 158 (dk_at dksX0_set_0 14 rfl rfl)
theorem dX0_set_17 : decode cX0_set 17 = .ok (.goto 15, 3) := dk_167 0 15 (dk_at dksX0_set_0 17 rfl rfl)
theorem dX0_set_20 : decode cX0_set 20 = .ok (.astore 6, 2) := dk_58 6 (dk_at dksX0_set_0 20 rfl rfl)
theorem dX0_set_22 : decode cX0_set 22 = .ok (.new 21, 3) := dk_187 0 21 (dk_at dksX0_set_1 0 rfl rfl)
theorem dX0_set_25 : decode cX0_set 25 = .ok (.dup, 1) := dk_89 (dk_at dksX0_set_1 3 rfl rfl)
theorem dX0_set_26 : decode cX0_set 26 = .ok (.bipush (-5), 2) := dk_16 251 (dk_at dksX0_set_1 4 rfl rfl)
theorem dX0_set_28 : decode cX0_set 28 = .ok (.invokespecial 23, 3) := dk_183 0 23 (dk_at dksX0_set_1 6 rfl rfl)
theorem dX0_set_31 : decode cX0_set 31 = .ok (.athrow, 1) := dk_191 (dk_at dksX0_set_1 9 rfl rfl)
theorem dX0_set_32 : decode cX0_set 32 = .ok (.iconst 1, 1) := dk_4 (dk_at dksX0_set_1 10 rfl rfl)
theorem dX0_set_33 : decode cX0_set 33 = .ok (.ireturn, 1) := dk_172 (dk_at dksX0_set_1 11 rfl rfl)
theorem dX0_set_34 : decode cX0_set 34 = .ok (.astore 5, 2) := dk_58 5 (dk_at dksX0_set_1 12 rfl rfl)
theorem dX0_set_36 : decode cX0_set 36 = .ok (.aload_n 0, 1) := dk_42 (dk_at dksX0_set_1 14 rfl rfl)
theorem dX0_set_37 : decode cX0_set 37 = .ok (.aload 5, 2) := dk_25 5 (dk_at dksX0_set_1 15 rfl rfl)
theorem dX0_set_39 : decode cX0_set 39 = .ok (.invokevirtual 151, 3) := dk_182 0 151 (dk_at dksX0_set_1 17 rfl rfl)
theorem dX0_set_42 : decode cX0_set 42 = .ok (.ireturn, 1) := dk_172 (dk_at dksX0_set_1 20 rfl rfl)
abbrev cX0_copy : ByteArray := prog_1_method_14_code
def yX0_copy : MethodName := ⟨RX0, "copy", "(IIIII)I"⟩
def dkwX0_copy_6 : List UInt8 := [89, 16, 251, 183, 0, 23, 191, 4, 172, 58, 6, 42, 25, 6, 182, 0, 151, 172]
abbrev dktX0_copy_6 : List UInt8 := dkwX0_copy_6 ++ []
def dkwX0_copy_5 : List UInt8 := [182, 0, 7, 29, 25, 9, 182, 0, 7, 21, 4, 21, 5, 184, 0, 15, 167, 0, 15, 58, 10, 187, 0, 21]
abbrev dktX0_copy_5 : List UInt8 := dkwX0_copy_5 ++ dktX0_copy_6
def dkwX0_copy_4 : List UInt8 := [182, 0, 155, 58, 9, 21, 5, 155, 0, 7, 4, 167, 0, 4, 3, 16, 252, 184, 0, 105, 25, 8]
abbrev dktX0_copy_4 : List UInt8 := dkwX0_copy_4 ++ dktX0_copy_5
def dkwX0_copy_3 : List UInt8 := [160, 0, 7, 4, 167, 0, 4, 3, 16, 254, 184, 0, 105, 25, 6, 182, 0, 155, 58, 8, 25, 7]
abbrev dktX0_copy_3 : List UInt8 := dkwX0_copy_3 ++ dktX0_copy_4
def dkwX0_copy_2 : List UInt8 := [25, 7, 180, 0, 113, 198, 0, 32, 25, 6, 182, 0, 155, 182, 0, 162, 25, 7, 182, 0, 155, 182, 0, 162]
abbrev dktX0_copy_2 : List UInt8 := dkwX0_copy_2 ++ dktX0_copy_3
def dkwX0_copy_1 : List UInt8 := [182, 0, 109, 154, 0, 7, 4, 167, 0, 4, 3, 16, 254, 184, 0, 105, 25, 6, 180, 0, 113, 198, 0, 40]
abbrev dktX0_copy_1 : List UInt8 := dkwX0_copy_1 ++ dktX0_copy_2
def dkwX0_copy_0 : List UInt8 := [42, 27, 182, 0, 137, 58, 6, 42, 28, 182, 0, 137, 58, 7, 25, 6, 182, 0, 109, 154, 0, 15, 25, 7]
abbrev dktX0_copy_0 : List UInt8 := dkwX0_copy_0 ++ dktX0_copy_1
theorem dksX0_copy_0 : cX0_copy.data.toList.drop 0 = dktX0_copy_0 := by decide +kernel
theorem dksX0_copy_1 : cX0_copy.data.toList.drop 24 = dktX0_copy_1 := dk_seg dksX0_copy_0 24 rfl rfl
theorem dksX0_copy_2 : cX0_copy.data.toList.drop 48 = dktX0_copy_2 := dk_seg dksX0_copy_1 24 rfl rfl
theorem dksX0_copy_3 : cX0_copy.data.toList.drop 72 = dktX0_copy_3 := dk_seg dksX0_copy_2 24 rfl rfl
theorem dksX0_copy_4 : cX0_copy.data.toList.drop 94 = dktX0_copy_4 := dk_seg dksX0_copy_3 22 rfl rfl
theorem dksX0_copy_5 : cX0_copy.data.toList.drop 116 = dktX0_copy_5 := dk_seg dksX0_copy_4 22 rfl rfl
theorem dksX0_copy_6 : cX0_copy.data.toList.drop 140 = dktX0_copy_6 := dk_seg dksX0_copy_5 24 rfl rfl
theorem dX0_copy_0 : decode cX0_copy 0 = .ok (.aload_n 0, 1) := dk_42 (dk_at dksX0_copy_0 0 rfl rfl)
theorem dX0_copy_1 : decode cX0_copy 1 = .ok (.iload_n 1, 1) := dk_27 (dk_at dksX0_copy_0 1 rfl rfl)
theorem dX0_copy_2 : decode cX0_copy 2 = .ok (.invokevirtual 137, 3) := dk_182 0 137 (dk_at dksX0_copy_0 2 rfl rfl)
theorem dX0_copy_5 : decode cX0_copy 5 = .ok (.astore 6, 2) := dk_58 6 (dk_at dksX0_copy_0 5 rfl rfl)
theorem dX0_copy_7 : decode cX0_copy 7 = .ok (.aload_n 0, 1) := dk_42 (dk_at dksX0_copy_0 7 rfl rfl)
theorem dX0_copy_8 : decode cX0_copy 8 = .ok (.iload_n 2, 1) := dk_28 (dk_at dksX0_copy_0 8 rfl rfl)
theorem dX0_copy_9 : decode cX0_copy 9 = .ok (.invokevirtual 137, 3) := dk_182 0 137 (dk_at dksX0_copy_0 9 rfl rfl)
theorem dX0_copy_12 : decode cX0_copy 12 = .ok (.astore 7, 2) := dk_58 7 (dk_at dksX0_copy_0 12 rfl rfl)
theorem dX0_copy_14 : decode cX0_copy 14 = .ok (.aload 6, 2) := dk_25 6 (dk_at dksX0_copy_0 14 rfl rfl)
theorem dX0_copy_16 : decode cX0_copy 16 = .ok (.invokevirtual 109, 3) := dk_182 0 109 (dk_at dksX0_copy_0 16 rfl rfl)
theorem dX0_copy_19 : decode cX0_copy 19 = .ok (.ifCond .ne 15, 3) := dk_154 0 15 (dk_at dksX0_copy_0 19 rfl rfl)
theorem dX0_copy_22 : decode cX0_copy 22 = .ok (.aload 7, 2) := dk_25 7 (dk_at dksX0_copy_0 22 rfl rfl)
theorem dX0_copy_24 : decode cX0_copy 24 = .ok (.invokevirtual 109, 3) := dk_182 0 109 (dk_at dksX0_copy_1 0 rfl rfl)
theorem dX0_copy_27 : decode cX0_copy 27 = .ok (.ifCond .ne 7, 3) := dk_154 0 7 (dk_at dksX0_copy_1 3 rfl rfl)
theorem dX0_copy_30 : decode cX0_copy 30 = .ok (.iconst 1, 1) := dk_4 (dk_at dksX0_copy_1 6 rfl rfl)
theorem dX0_copy_31 : decode cX0_copy 31 = .ok (.goto 4, 3) := dk_167 0 4 (dk_at dksX0_copy_1 7 rfl rfl)
theorem dX0_copy_34 : decode cX0_copy 34 = .ok (.iconst 0, 1) := dk_3 (dk_at dksX0_copy_1 10 rfl rfl)
theorem dX0_copy_35 : decode cX0_copy 35 = .ok (.bipush (-2), 2) := dk_16 254 (dk_at dksX0_copy_1 11 rfl rfl)
theorem dX0_copy_37 : decode cX0_copy 37 = .ok (.invokestatic 105, 3) := dk_184 0 105 (dk_at dksX0_copy_1 13 rfl rfl)
theorem dX0_copy_40 : decode cX0_copy 40 = .ok (.aload 6, 2) := dk_25 6 (dk_at dksX0_copy_1 16 rfl rfl)
theorem dX0_copy_42 : decode cX0_copy 42 = .ok (.getfield 113, 3) := dk_180 0 113 (dk_at dksX0_copy_1 18 rfl rfl)
theorem dX0_copy_45 : decode cX0_copy 45 = .ok (.ifnull 40, 3) := dk_198 0 40 (dk_at dksX0_copy_1 21 rfl rfl)
theorem dX0_copy_48 : decode cX0_copy 48 = .ok (.aload 7, 2) := dk_25 7 (dk_at dksX0_copy_2 0 rfl rfl)
theorem dX0_copy_50 : decode cX0_copy 50 = .ok (.getfield 113, 3) := dk_180 0 113 (dk_at dksX0_copy_2 2 rfl rfl)
theorem dX0_copy_53 : decode cX0_copy 53 = .ok (.ifnull 32, 3) := dk_198 0 32 (dk_at dksX0_copy_2 5 rfl rfl)
theorem dX0_copy_56 : decode cX0_copy 56 = .ok (.aload 6, 2) := dk_25 6 (dk_at dksX0_copy_2 8 rfl rfl)
theorem dX0_copy_58 : decode cX0_copy 58 = .ok (.invokevirtual 155, 3) := dk_182 0 155 (dk_at dksX0_copy_2 10 rfl rfl)
theorem dX0_copy_61 : decode cX0_copy 61 = .ok (.invokevirtual 162, 3) := dk_182 0 162 (dk_at dksX0_copy_2 13 rfl rfl)
theorem dX0_copy_64 : decode cX0_copy 64 = .ok (.aload 7, 2) := dk_25 7 (dk_at dksX0_copy_2 16 rfl rfl)
theorem dX0_copy_66 : decode cX0_copy 66 = .ok (.invokevirtual 155, 3) := dk_182 0 155 (dk_at dksX0_copy_2 18 rfl rfl)
theorem dX0_copy_69 : decode cX0_copy 69 = .ok (.invokevirtual 162, 3) := dk_182 0 162 (dk_at dksX0_copy_2 21 rfl rfl)
theorem dX0_copy_72 : decode cX0_copy 72 = .ok (.if_icmp .ne 7, 3) := dk_160 0 7 (dk_at dksX0_copy_3 0 rfl rfl)
theorem dX0_copy_75 : decode cX0_copy 75 = .ok (.iconst 1, 1) := dk_4 (dk_at dksX0_copy_3 3 rfl rfl)
theorem dX0_copy_76 : decode cX0_copy 76 = .ok (.goto 4, 3) := dk_167 0 4 (dk_at dksX0_copy_3 4 rfl rfl)
theorem dX0_copy_79 : decode cX0_copy 79 = .ok (.iconst 0, 1) := dk_3 (dk_at dksX0_copy_3 7 rfl rfl)
theorem dX0_copy_80 : decode cX0_copy 80 = .ok (.bipush (-2), 2) := dk_16 254 (dk_at dksX0_copy_3 8 rfl rfl)
theorem dX0_copy_82 : decode cX0_copy 82 = .ok (.invokestatic 105, 3) := dk_184 0 105 (dk_at dksX0_copy_3 10 rfl rfl)
theorem dX0_copy_85 : decode cX0_copy 85 = .ok (.aload 6, 2) := dk_25 6 (dk_at dksX0_copy_3 13 rfl rfl)
theorem dX0_copy_87 : decode cX0_copy 87 = .ok (.invokevirtual 155, 3) := dk_182 0 155 (dk_at dksX0_copy_3 15 rfl rfl)
theorem dX0_copy_90 : decode cX0_copy 90 = .ok (.astore 8, 2) := dk_58 8 (dk_at dksX0_copy_3 18 rfl rfl)
theorem dX0_copy_92 : decode cX0_copy 92 = .ok (.aload 7, 2) := dk_25 7 (dk_at dksX0_copy_3 20 rfl rfl)
theorem dX0_copy_94 : decode cX0_copy 94 = .ok (.invokevirtual 155, 3) := dk_182 0 155 (dk_at dksX0_copy_4 0 rfl rfl)
theorem dX0_copy_97 : decode cX0_copy 97 = .ok (.astore 9, 2) := dk_58 9 (dk_at dksX0_copy_4 3 rfl rfl)
theorem dX0_copy_99 : decode cX0_copy 99 = .ok (.iload 5, 2) := dk_21 5 (dk_at dksX0_copy_4 5 rfl rfl)
theorem dX0_copy_101 : decode cX0_copy 101 = .ok (.ifCond .lt 7, 3) := dk_155 0 7 (dk_at dksX0_copy_4 7 rfl rfl)
theorem dX0_copy_104 : decode cX0_copy 104 = .ok (.iconst 1, 1) := dk_4 (dk_at dksX0_copy_4 10 rfl rfl)
theorem dX0_copy_105 : decode cX0_copy 105 = .ok (.goto 4, 3) := dk_167 0 4 (dk_at dksX0_copy_4 11 rfl rfl)
theorem dX0_copy_108 : decode cX0_copy 108 = .ok (.iconst 0, 1) := dk_3 (dk_at dksX0_copy_4 14 rfl rfl)
theorem dX0_copy_109 : decode cX0_copy 109 = .ok (.bipush (-4), 2) := dk_16 252 (dk_at dksX0_copy_4 15 rfl rfl)
theorem dX0_copy_111 : decode cX0_copy 111 = .ok (.invokestatic 105, 3) := dk_184 0 105 (dk_at dksX0_copy_4 17 rfl rfl)
theorem dX0_copy_114 : decode cX0_copy 114 = .ok (.aload 8, 2) := dk_25 8 (dk_at dksX0_copy_4 20 rfl rfl)
theorem dX0_copy_116 : decode cX0_copy 116 = .ok (.invokevirtual 7, 3) := dk_182 0 7 (dk_at dksX0_copy_5 0 rfl rfl)
theorem dX0_copy_119 : decode cX0_copy 119 = .ok (.iload_n 3, 1) := dk_29 (dk_at dksX0_copy_5 3 rfl rfl)
theorem dX0_copy_120 : decode cX0_copy 120 = .ok (.aload 9, 2) := dk_25 9 (dk_at dksX0_copy_5 4 rfl rfl)
theorem dX0_copy_122 : decode cX0_copy 122 = .ok (.invokevirtual 7, 3) := dk_182 0 7 (dk_at dksX0_copy_5 6 rfl rfl)
theorem dX0_copy_125 : decode cX0_copy 125 = .ok (.iload 4, 2) := dk_21 4 (dk_at dksX0_copy_5 9 rfl rfl)
theorem dX0_copy_127 : decode cX0_copy 127 = .ok (.iload 5, 2) := dk_21 5 (dk_at dksX0_copy_5 11 rfl rfl)
theorem dX0_copy_129 : decode cX0_copy 129 = .ok (.invokestatic 15, 3) := dk_184 0 15 (dk_at dksX0_copy_5 13 rfl rfl)
theorem dX0_copy_132 : decode cX0_copy 132 = .ok (.goto 15, 3) := dk_167 0 15 (dk_at dksX0_copy_5 16 rfl rfl)
theorem dX0_copy_135 : decode cX0_copy 135 = .ok (.astore 10, 2) := dk_58 10 (dk_at dksX0_copy_5 19 rfl rfl)
theorem dX0_copy_137 : decode cX0_copy 137 = .ok (.new 21, 3) := dk_187 0 21 (dk_at dksX0_copy_5 21 rfl rfl)
theorem dX0_copy_140 : decode cX0_copy 140 = .ok (.dup, 1) := dk_89 (dk_at dksX0_copy_6 0 rfl rfl)
theorem dX0_copy_141 : decode cX0_copy 141 = .ok (.bipush (-5), 2) := dk_16 251 (dk_at dksX0_copy_6 1 rfl rfl)
theorem dX0_copy_143 : decode cX0_copy 143 = .ok (.invokespecial 23, 3) := dk_183 0 23 (dk_at dksX0_copy_6 3 rfl rfl)
theorem dX0_copy_146 : decode cX0_copy 146 = .ok (.athrow, 1) := dk_191 (dk_at dksX0_copy_6 6 rfl rfl)
theorem dX0_copy_147 : decode cX0_copy 147 = .ok (.iconst 1, 1) := dk_4 (dk_at dksX0_copy_6 7 rfl rfl)
theorem dX0_copy_148 : decode cX0_copy 148 = .ok (.ireturn, 1) := dk_172 (dk_at dksX0_copy_6 8 rfl rfl)
theorem dX0_copy_149 : decode cX0_copy 149 = .ok (.astore 6, 2) := dk_58 6 (dk_at dksX0_copy_6 9 rfl rfl)
theorem dX0_copy_151 : decode cX0_copy 151 = .ok (.aload_n 0, 1) := dk_42 (dk_at dksX0_copy_6 11 rfl rfl)
theorem dX0_copy_152 : decode cX0_copy 152 = .ok (.aload 6, 2) := dk_25 6 (dk_at dksX0_copy_6 12 rfl rfl)
theorem dX0_copy_154 : decode cX0_copy 154 = .ok (.invokevirtual 151, 3) := dk_182 0 151 (dk_at dksX0_copy_6 14 rfl rfl)
theorem dX0_copy_157 : decode cX0_copy 157 = .ok (.ireturn, 1) := dk_172 (dk_at dksX0_copy_6 17 rfl rfl)
abbrev cX0_element : ByteArray := prog_1_method_15_code
def yX0_element : MethodName := ⟨RX0, "element", "(II)J"⟩
def dkwX0_element_0 : List UInt8 := [42, 27, 182, 0, 137, 182, 0, 155, 28, 182, 0, 167, 173, 78, 9, 173, 78, 9, 173]
abbrev dktX0_element_0 : List UInt8 := dkwX0_element_0 ++ []
theorem dksX0_element_0 : cX0_element.data.toList.drop 0 = dktX0_element_0 := by decide +kernel
theorem dX0_element_0 : decode cX0_element 0 = .ok (.aload_n 0, 1) := dk_42 (dk_at dksX0_element_0 0 rfl rfl)
theorem dX0_element_1 : decode cX0_element 1 = .ok (.iload_n 1, 1) := dk_27 (dk_at dksX0_element_0 1 rfl rfl)
theorem dX0_element_2 : decode cX0_element 2 = .ok (.invokevirtual 137, 3) := dk_182 0 137 (dk_at dksX0_element_0 2 rfl rfl)
theorem dX0_element_5 : decode cX0_element 5 = .ok (.invokevirtual 155, 3) := dk_182 0 155 (dk_at dksX0_element_0 5 rfl rfl)
theorem dX0_element_8 : decode cX0_element 8 = .ok (.iload_n 2, 1) := dk_28 (dk_at dksX0_element_0 8 rfl rfl)
theorem dX0_element_9 : decode cX0_element 9 = .ok (.invokevirtual 167, 3) := dk_182 0 167 (dk_at dksX0_element_0 9 rfl rfl)
theorem dX0_element_12 : decode cX0_element 12 = .ok (.lreturn, 1) := dk_173 (dk_at dksX0_element_0 12 rfl rfl)
theorem dX0_element_13 : decode cX0_element 13 = .ok (.astore_n 3, 1) := dk_78 (dk_at dksX0_element_0 13 rfl rfl)
theorem dX0_element_14 : decode cX0_element 14 = .ok (.lconst 0, 1) := dk_9 (dk_at dksX0_element_0 14 rfl rfl)
theorem dX0_element_15 : decode cX0_element 15 = .ok (.lreturn, 1) := dk_173 (dk_at dksX0_element_0 15 rfl rfl)
theorem dX0_element_16 : decode cX0_element 16 = .ok (.astore_n 3, 1) := dk_78 (dk_at dksX0_element_0 16 rfl rfl)
theorem dX0_element_17 : decode cX0_element 17 = .ok (.lconst 0, 1) := dk_9 (dk_at dksX0_element_0 17 rfl rfl)
theorem dX0_element_18 : decode cX0_element 18 = .ok (.lreturn, 1) := dk_173 (dk_at dksX0_element_0 18 rfl rfl)
abbrev cX0_show : ByteArray := prog_1_method_16_code
def yX0_show : MethodName := ⟨RX0, "show", "(II)I"⟩
def dkwX0_show_1 : List UInt8 := [42, 180, 0, 88, 180, 0, 119, 28, 50, 181, 0, 113, 4, 172, 78, 42, 45, 182, 0, 151, 172]
abbrev dktX0_show_1 : List UInt8 := dkwX0_show_1 ++ []
def dkwX0_show_0 : List UInt8 := [42, 27, 182, 0, 137, 78, 28, 2, 160, 0, 10, 45, 1, 181, 0, 113, 3, 172, 42, 28, 182, 0, 171, 45]
abbrev dktX0_show_0 : List UInt8 := dkwX0_show_0 ++ dktX0_show_1
theorem dksX0_show_0 : cX0_show.data.toList.drop 0 = dktX0_show_0 := by decide +kernel
theorem dksX0_show_1 : cX0_show.data.toList.drop 24 = dktX0_show_1 := dk_seg dksX0_show_0 24 rfl rfl
theorem dX0_show_0 : decode cX0_show 0 = .ok (.aload_n 0, 1) := dk_42 (dk_at dksX0_show_0 0 rfl rfl)
theorem dX0_show_1 : decode cX0_show 1 = .ok (.iload_n 1, 1) := dk_27 (dk_at dksX0_show_0 1 rfl rfl)
theorem dX0_show_2 : decode cX0_show 2 = .ok (.invokevirtual 137, 3) := dk_182 0 137 (dk_at dksX0_show_0 2 rfl rfl)
theorem dX0_show_5 : decode cX0_show 5 = .ok (.astore_n 3, 1) := dk_78 (dk_at dksX0_show_0 5 rfl rfl)
theorem dX0_show_6 : decode cX0_show 6 = .ok (.iload_n 2, 1) := dk_28 (dk_at dksX0_show_0 6 rfl rfl)
theorem dX0_show_7 : decode cX0_show 7 = .ok (.iconst (-1), 1) := dk_2 (dk_at dksX0_show_0 7 rfl rfl)
theorem dX0_show_8 : decode cX0_show 8 = .ok (.if_icmp .ne 10, 3) := dk_160 0 10 (dk_at dksX0_show_0 8 rfl rfl)
theorem dX0_show_11 : decode cX0_show 11 = .ok (.aload_n 3, 1) := dk_45 (dk_at dksX0_show_0 11 rfl rfl)
theorem dX0_show_12 : decode cX0_show 12 = .ok (.aconst_null, 1) := dk_1 (dk_at dksX0_show_0 12 rfl rfl)
theorem dX0_show_13 : decode cX0_show 13 = .ok (.putfield 113, 3) := dk_181 0 113 (dk_at dksX0_show_0 13 rfl rfl)
theorem dX0_show_16 : decode cX0_show 16 = .ok (.iconst 0, 1) := dk_3 (dk_at dksX0_show_0 16 rfl rfl)
theorem dX0_show_17 : decode cX0_show 17 = .ok (.ireturn, 1) := dk_172 (dk_at dksX0_show_0 17 rfl rfl)
theorem dX0_show_18 : decode cX0_show 18 = .ok (.aload_n 0, 1) := dk_42 (dk_at dksX0_show_0 18 rfl rfl)
theorem dX0_show_19 : decode cX0_show 19 = .ok (.iload_n 2, 1) := dk_28 (dk_at dksX0_show_0 19 rfl rfl)
theorem dX0_show_20 : decode cX0_show 20 = .ok (.invokevirtual 171, 3) := dk_182 0 171 (dk_at dksX0_show_0 20 rfl rfl)
theorem dX0_show_23 : decode cX0_show 23 = .ok (.aload_n 3, 1) := dk_45 (dk_at dksX0_show_0 23 rfl rfl)
theorem dX0_show_24 : decode cX0_show 24 = .ok (.aload_n 0, 1) := dk_42 (dk_at dksX0_show_1 0 rfl rfl)
theorem dX0_show_25 : decode cX0_show 25 = .ok (.getfield 88, 3) := dk_180 0 88 (dk_at dksX0_show_1 1 rfl rfl)
theorem dX0_show_28 : decode cX0_show 28 = .ok (.getfield 119, 3) := dk_180 0 119 (dk_at dksX0_show_1 4 rfl rfl)
theorem dX0_show_31 : decode cX0_show 31 = .ok (.iload_n 2, 1) := dk_28 (dk_at dksX0_show_1 7 rfl rfl)
theorem dX0_show_32 : decode cX0_show 32 = .ok (.aaload, 1) := dk_50 (dk_at dksX0_show_1 8 rfl rfl)
theorem dX0_show_33 : decode cX0_show 33 = .ok (.putfield 113, 3) := dk_181 0 113 (dk_at dksX0_show_1 9 rfl rfl)
theorem dX0_show_36 : decode cX0_show 36 = .ok (.iconst 1, 1) := dk_4 (dk_at dksX0_show_1 12 rfl rfl)
theorem dX0_show_37 : decode cX0_show 37 = .ok (.ireturn, 1) := dk_172 (dk_at dksX0_show_1 13 rfl rfl)
theorem dX0_show_38 : decode cX0_show 38 = .ok (.astore_n 3, 1) := dk_78 (dk_at dksX0_show_1 14 rfl rfl)
theorem dX0_show_39 : decode cX0_show 39 = .ok (.aload_n 0, 1) := dk_42 (dk_at dksX0_show_1 15 rfl rfl)
theorem dX0_show_40 : decode cX0_show 40 = .ok (.aload_n 3, 1) := dk_45 (dk_at dksX0_show_1 16 rfl rfl)
theorem dX0_show_41 : decode cX0_show 41 = .ok (.invokevirtual 151, 3) := dk_182 0 151 (dk_at dksX0_show_1 17 rfl rfl)
theorem dX0_show_44 : decode cX0_show 44 = .ok (.ireturn, 1) := dk_172 (dk_at dksX0_show_1 20 rfl rfl)
abbrev cX0_mustPerson : ByteArray := prog_1_method_9_code
def yX0_mustPerson : MethodName := ⟨RX0, "mustPerson", "(I)V"⟩
def dkwX0_mustPerson_0 : List UInt8 := [42, 180, 0, 88, 27, 182, 0, 101, 2, 184, 0, 105, 177]
abbrev dktX0_mustPerson_0 : List UInt8 := dkwX0_mustPerson_0 ++ []
theorem dksX0_mustPerson_0 : cX0_mustPerson.data.toList.drop 0 = dktX0_mustPerson_0 := by decide +kernel
theorem dX0_mustPerson_0 : decode cX0_mustPerson 0 = .ok (.aload_n 0, 1) := dk_42 (dk_at dksX0_mustPerson_0 0 rfl rfl)
theorem dX0_mustPerson_1 : decode cX0_mustPerson 1 = .ok (.getfield 88, 3) := dk_180 0 88 (dk_at dksX0_mustPerson_0 1 rfl rfl)
theorem dX0_mustPerson_4 : decode cX0_mustPerson 4 = .ok (.iload_n 1, 1) := dk_27 (dk_at dksX0_mustPerson_0 4 rfl rfl)
theorem dX0_mustPerson_5 : decode cX0_mustPerson 5 = .ok (.invokevirtual 101, 3) := dk_182 0 101 (dk_at dksX0_mustPerson_0 5 rfl rfl)
theorem dX0_mustPerson_8 : decode cX0_mustPerson 8 = .ok (.iconst (-1), 1) := dk_2 (dk_at dksX0_mustPerson_0 8 rfl rfl)
theorem dX0_mustPerson_9 : decode cX0_mustPerson 9 = .ok (.invokestatic 105, 3) := dk_184 0 105 (dk_at dksX0_mustPerson_0 9 rfl rfl)
theorem dX0_mustPerson_12 : decode cX0_mustPerson 12 = .ok (.return_, 1) := dk_177 (dk_at dksX0_mustPerson_0 12 rfl rfl)
abbrev cX0_holds : ByteArray := prog_1_method_17_code
def yX0_holds : MethodName := ⟨RX0, "holds", "(I)I"⟩
def dkwX0_holds_2 : List UInt8 := [167, 0, 13, 16, 100, 44, 192, 0, 2, 182, 0, 162, 96, 172]
abbrev dktX0_holds_2 : List UInt8 := dkwX0_holds_2 ++ []
def dkwX0_holds_1 : List UInt8 := [42, 180, 0, 59, 27, 50, 180, 0, 113, 77, 44, 193, 0, 47, 153, 0, 13, 44, 192, 0, 47, 180, 0, 116]
abbrev dktX0_holds_1 : List UInt8 := dkwX0_holds_1 ++ dktX0_holds_2
def dkwX0_holds_0 : List UInt8 := [27, 155, 0, 21, 27, 16, 8, 162, 0, 15, 42, 180, 0, 59, 27, 50, 180, 0, 113, 199, 0, 5, 2, 172]
abbrev dktX0_holds_0 : List UInt8 := dkwX0_holds_0 ++ dktX0_holds_1
theorem dksX0_holds_0 : cX0_holds.data.toList.drop 0 = dktX0_holds_0 := by decide +kernel
theorem dksX0_holds_1 : cX0_holds.data.toList.drop 24 = dktX0_holds_1 := dk_seg dksX0_holds_0 24 rfl rfl
theorem dksX0_holds_2 : cX0_holds.data.toList.drop 48 = dktX0_holds_2 := dk_seg dksX0_holds_1 24 rfl rfl
theorem dX0_holds_0 : decode cX0_holds 0 = .ok (.iload_n 1, 1) := dk_27 (dk_at dksX0_holds_0 0 rfl rfl)
theorem dX0_holds_1 : decode cX0_holds 1 = .ok (.ifCond .lt 21, 3) := dk_155 0 21 (dk_at dksX0_holds_0 1 rfl rfl)
theorem dX0_holds_4 : decode cX0_holds 4 = .ok (.iload_n 1, 1) := dk_27 (dk_at dksX0_holds_0 4 rfl rfl)
theorem dX0_holds_5 : decode cX0_holds 5 = .ok (.bipush 8, 2) := dk_16 8 (dk_at dksX0_holds_0 5 rfl rfl)
theorem dX0_holds_7 : decode cX0_holds 7 = .ok (.if_icmp .ge 15, 3) := dk_162 0 15 (dk_at dksX0_holds_0 7 rfl rfl)
theorem dX0_holds_10 : decode cX0_holds 10 = .ok (.aload_n 0, 1) := dk_42 (dk_at dksX0_holds_0 10 rfl rfl)
theorem dX0_holds_11 : decode cX0_holds 11 = .ok (.getfield 59, 3) := dk_180 0 59 (dk_at dksX0_holds_0 11 rfl rfl)
theorem dX0_holds_14 : decode cX0_holds 14 = .ok (.iload_n 1, 1) := dk_27 (dk_at dksX0_holds_0 14 rfl rfl)
theorem dX0_holds_15 : decode cX0_holds 15 = .ok (.aaload, 1) := dk_50 (dk_at dksX0_holds_0 15 rfl rfl)
theorem dX0_holds_16 : decode cX0_holds 16 = .ok (.getfield 113, 3) := dk_180 0 113 (dk_at dksX0_holds_0 16 rfl rfl)
theorem dX0_holds_19 : decode cX0_holds 19 = .ok (.ifnonnull 5, 3) := dk_199 0 5 (dk_at dksX0_holds_0 19 rfl rfl)
theorem dX0_holds_22 : decode cX0_holds 22 = .ok (.iconst (-1), 1) := dk_2 (dk_at dksX0_holds_0 22 rfl rfl)
theorem dX0_holds_23 : decode cX0_holds 23 = .ok (.ireturn, 1) := dk_172 (dk_at dksX0_holds_0 23 rfl rfl)
theorem dX0_holds_24 : decode cX0_holds 24 = .ok (.aload_n 0, 1) := dk_42 (dk_at dksX0_holds_1 0 rfl rfl)
theorem dX0_holds_25 : decode cX0_holds 25 = .ok (.getfield 59, 3) := dk_180 0 59 (dk_at dksX0_holds_1 1 rfl rfl)
theorem dX0_holds_28 : decode cX0_holds 28 = .ok (.iload_n 1, 1) := dk_27 (dk_at dksX0_holds_1 4 rfl rfl)
theorem dX0_holds_29 : decode cX0_holds 29 = .ok (.aaload, 1) := dk_50 (dk_at dksX0_holds_1 5 rfl rfl)
theorem dX0_holds_30 : decode cX0_holds 30 = .ok (.getfield 113, 3) := dk_180 0 113 (dk_at dksX0_holds_1 6 rfl rfl)
theorem dX0_holds_33 : decode cX0_holds 33 = .ok (.astore_n 2, 1) := dk_77 (dk_at dksX0_holds_1 9 rfl rfl)
theorem dX0_holds_34 : decode cX0_holds 34 = .ok (.aload_n 2, 1) := dk_44 (dk_at dksX0_holds_1 10 rfl rfl)
theorem dX0_holds_35 : decode cX0_holds 35 = .ok (.instanceof 47, 3) := dk_193 0 47 (dk_at dksX0_holds_1 11 rfl rfl)
theorem dX0_holds_38 : decode cX0_holds 38 = .ok (.ifCond .eq 13, 3) := dk_153 0 13 (dk_at dksX0_holds_1 14 rfl rfl)
theorem dX0_holds_41 : decode cX0_holds 41 = .ok (.aload_n 2, 1) := dk_44 (dk_at dksX0_holds_1 17 rfl rfl)
theorem dX0_holds_42 : decode cX0_holds 42 = .ok (.checkcast 47, 3) := dk_192 0 47 (dk_at dksX0_holds_1 18 rfl rfl)
theorem dX0_holds_45 : decode cX0_holds 45 = .ok (.getfield 116, 3) := dk_180 0 116 (dk_at dksX0_holds_1 21 rfl rfl)
theorem dX0_holds_48 : decode cX0_holds 48 = .ok (.goto 13, 3) := dk_167 0 13 (dk_at dksX0_holds_2 0 rfl rfl)
theorem dX0_holds_51 : decode cX0_holds 51 = .ok (.bipush 100, 2) := dk_16 100 (dk_at dksX0_holds_2 3 rfl rfl)
theorem dX0_holds_53 : decode cX0_holds 53 = .ok (.aload_n 2, 1) := dk_44 (dk_at dksX0_holds_2 5 rfl rfl)
theorem dX0_holds_54 : decode cX0_holds 54 = .ok (.checkcast 2, 3) := dk_192 0 2 (dk_at dksX0_holds_2 6 rfl rfl)
theorem dX0_holds_57 : decode cX0_holds 57 = .ok (.invokevirtual 162, 3) := dk_182 0 162 (dk_at dksX0_holds_2 9 rfl rfl)
theorem dX0_holds_60 : decode cX0_holds 60 = .ok (.iadd, 1) := dk_96 (dk_at dksX0_holds_2 12 rfl rfl)
theorem dX0_holds_61 : decode cX0_holds 61 = .ok (.ireturn, 1) := dk_172 (dk_at dksX0_holds_2 13 rfl rfl)
abbrev cX0_says : ByteArray := prog_1_method_18_code
def yX0_says : MethodName := ⟨RX0, "says", "(II)I"⟩
def dkwX0_says_1 : List UInt8 := [180, 0, 88, 182, 0, 176, 172, 78, 42, 45, 182, 0, 151, 172]
abbrev dktX0_says_1 : List UInt8 := dkwX0_says_1 ++ []
def dkwX0_says_0 : List UInt8 := [42, 27, 182, 0, 137, 78, 28, 133, 9, 20, 0, 174, 184, 0, 143, 2, 184, 0, 105, 45, 28, 42]
abbrev dktX0_says_0 : List UInt8 := dkwX0_says_0 ++ dktX0_says_1
theorem dksX0_says_0 : cX0_says.data.toList.drop 0 = dktX0_says_0 := by decide +kernel
theorem dksX0_says_1 : cX0_says.data.toList.drop 22 = dktX0_says_1 := dk_seg dksX0_says_0 22 rfl rfl
theorem dX0_says_0 : decode cX0_says 0 = .ok (.aload_n 0, 1) := dk_42 (dk_at dksX0_says_0 0 rfl rfl)
theorem dX0_says_1 : decode cX0_says 1 = .ok (.iload_n 1, 1) := dk_27 (dk_at dksX0_says_0 1 rfl rfl)
theorem dX0_says_2 : decode cX0_says 2 = .ok (.invokevirtual 137, 3) := dk_182 0 137 (dk_at dksX0_says_0 2 rfl rfl)
theorem dX0_says_5 : decode cX0_says 5 = .ok (.astore_n 3, 1) := dk_78 (dk_at dksX0_says_0 5 rfl rfl)
theorem dX0_says_6 : decode cX0_says 6 = .ok (.iload_n 2, 1) := dk_28 (dk_at dksX0_says_0 6 rfl rfl)
theorem dX0_says_7 : decode cX0_says 7 = .ok (.i2l, 1) := dk_133 (dk_at dksX0_says_0 7 rfl rfl)
theorem dX0_says_8 : decode cX0_says 8 = .ok (.lconst 0, 1) := dk_9 (dk_at dksX0_says_0 8 rfl rfl)
theorem dX0_says_9 : decode cX0_says 9 = .ok (.ldc2_w 174, 3) := dk_20 0 174 (dk_at dksX0_says_0 9 rfl rfl)
theorem dX0_says_12 : decode cX0_says 12 = .ok (.invokestatic 143, 3) := dk_184 0 143 (dk_at dksX0_says_0 12 rfl rfl)
theorem dX0_says_15 : decode cX0_says 15 = .ok (.iconst (-1), 1) := dk_2 (dk_at dksX0_says_0 15 rfl rfl)
theorem dX0_says_16 : decode cX0_says 16 = .ok (.invokestatic 105, 3) := dk_184 0 105 (dk_at dksX0_says_0 16 rfl rfl)
theorem dX0_says_19 : decode cX0_says 19 = .ok (.aload_n 3, 1) := dk_45 (dk_at dksX0_says_0 19 rfl rfl)
theorem dX0_says_20 : decode cX0_says 20 = .ok (.iload_n 2, 1) := dk_28 (dk_at dksX0_says_0 20 rfl rfl)
theorem dX0_says_21 : decode cX0_says 21 = .ok (.aload_n 0, 1) := dk_42 (dk_at dksX0_says_0 21 rfl rfl)
theorem dX0_says_22 : decode cX0_says 22 = .ok (.getfield 88, 3) := dk_180 0 88 (dk_at dksX0_says_1 0 rfl rfl)
theorem dX0_says_25 : decode cX0_says 25 = .ok (.invokevirtual 176, 3) := dk_182 0 176 (dk_at dksX0_says_1 3 rfl rfl)
theorem dX0_says_28 : decode cX0_says 28 = .ok (.ireturn, 1) := dk_172 (dk_at dksX0_says_1 6 rfl rfl)
theorem dX0_says_29 : decode cX0_says 29 = .ok (.astore_n 3, 1) := dk_78 (dk_at dksX0_says_1 7 rfl rfl)
theorem dX0_says_30 : decode cX0_says 30 = .ok (.aload_n 0, 1) := dk_42 (dk_at dksX0_says_1 8 rfl rfl)
theorem dX0_says_31 : decode cX0_says 31 = .ok (.aload_n 3, 1) := dk_45 (dk_at dksX0_says_1 9 rfl rfl)
theorem dX0_says_32 : decode cX0_says 32 = .ok (.invokevirtual 151, 3) := dk_182 0 151 (dk_at dksX0_says_1 10 rfl rfl)
theorem dX0_says_35 : decode cX0_says 35 = .ok (.ireturn, 1) := dk_172 (dk_at dksX0_says_1 13 rfl rfl)
abbrev cX0_person : ByteArray := prog_1_method_19_code
def yX0_person : MethodName := ⟨RX0, "person", "(IIIIII)I"⟩
def dkwX0_person_6 : List UInt8 := [21, 6, 182, 0, 196, 42, 180, 0, 88, 180, 0, 189, 4, 100, 172, 58, 7, 42, 25, 7, 182, 0, 151, 172]
abbrev dktX0_person_6 : List UInt8 := dkwX0_person_6 ++ []
def dkwX0_person_5 : List UInt8 := [184, 0, 105, 42, 180, 0, 88, 27, 42, 180, 0, 88, 180, 0, 189, 28, 21, 4, 184, 0, 192, 29, 21, 5]
abbrev dktX0_person_5 : List UInt8 := dkwX0_person_5 ++ dktX0_person_6
def dkwX0_person_4 : List UInt8 := [16, 250, 184, 0, 105, 42, 180, 0, 88, 180, 0, 189, 16, 7, 162, 0, 7, 4, 167, 0, 4, 3, 16, 249]
abbrev dktX0_person_4 : List UInt8 := dkwX0_person_4 ++ dktX0_person_5
def dkwX0_person_3 : List UInt8 := [184, 0, 143, 153, 0, 19, 42, 180, 0, 88, 21, 6, 182, 0, 186, 153, 0, 7, 4, 167, 0, 4, 3]
abbrev dktX0_person_3 : List UInt8 := dkwX0_person_3 ++ dktX0_person_4
def dkwX0_person_2 : List UInt8 := [184, 0, 143, 153, 0, 7, 4, 167, 0, 4, 3, 16, 250, 184, 0, 105, 21, 5, 133, 9, 20, 0, 184]
abbrev dktX0_person_2 : List UInt8 := dkwX0_person_2 ++ dktX0_person_3
def dkwX0_person_1 : List UInt8 := [153, 0, 32, 29, 133, 9, 20, 0, 182, 184, 0, 143, 153, 0, 20, 21, 4, 133, 9, 20, 0, 180]
abbrev dktX0_person_1 : List UInt8 := dkwX0_person_1 ++ dktX0_person_2
def dkwX0_person_0 : List UInt8 := [27, 133, 9, 20, 0, 174, 184, 0, 143, 2, 184, 0, 105, 28, 133, 9, 20, 0, 180, 184, 0, 143]
abbrev dktX0_person_0 : List UInt8 := dkwX0_person_0 ++ dktX0_person_1
theorem dksX0_person_0 : cX0_person.data.toList.drop 0 = dktX0_person_0 := by decide +kernel
theorem dksX0_person_1 : cX0_person.data.toList.drop 22 = dktX0_person_1 := dk_seg dksX0_person_0 22 rfl rfl
theorem dksX0_person_2 : cX0_person.data.toList.drop 44 = dktX0_person_2 := dk_seg dksX0_person_1 22 rfl rfl
theorem dksX0_person_3 : cX0_person.data.toList.drop 67 = dktX0_person_3 := dk_seg dksX0_person_2 23 rfl rfl
theorem dksX0_person_4 : cX0_person.data.toList.drop 90 = dktX0_person_4 := dk_seg dksX0_person_3 23 rfl rfl
theorem dksX0_person_5 : cX0_person.data.toList.drop 114 = dktX0_person_5 := dk_seg dksX0_person_4 24 rfl rfl
theorem dksX0_person_6 : cX0_person.data.toList.drop 138 = dktX0_person_6 := dk_seg dksX0_person_5 24 rfl rfl
theorem dX0_person_0 : decode cX0_person 0 = .ok (.iload_n 1, 1) := dk_27 (dk_at dksX0_person_0 0 rfl rfl)
theorem dX0_person_1 : decode cX0_person 1 = .ok (.i2l, 1) := dk_133 (dk_at dksX0_person_0 1 rfl rfl)
theorem dX0_person_2 : decode cX0_person 2 = .ok (.lconst 0, 1) := dk_9 (dk_at dksX0_person_0 2 rfl rfl)
theorem dX0_person_3 : decode cX0_person 3 = .ok (.ldc2_w 174, 3) := dk_20 0 174 (dk_at dksX0_person_0 3 rfl rfl)
theorem dX0_person_6 : decode cX0_person 6 = .ok (.invokestatic 143, 3) := dk_184 0 143 (dk_at dksX0_person_0 6 rfl rfl)
theorem dX0_person_9 : decode cX0_person 9 = .ok (.iconst (-1), 1) := dk_2 (dk_at dksX0_person_0 9 rfl rfl)
theorem dX0_person_10 : decode cX0_person 10 = .ok (.invokestatic 105, 3) := dk_184 0 105 (dk_at dksX0_person_0 10 rfl rfl)
theorem dX0_person_13 : decode cX0_person 13 = .ok (.iload_n 2, 1) := dk_28 (dk_at dksX0_person_0 13 rfl rfl)
theorem dX0_person_14 : decode cX0_person 14 = .ok (.i2l, 1) := dk_133 (dk_at dksX0_person_0 14 rfl rfl)
theorem dX0_person_15 : decode cX0_person 15 = .ok (.lconst 0, 1) := dk_9 (dk_at dksX0_person_0 15 rfl rfl)
theorem dX0_person_16 : decode cX0_person 16 = .ok (.ldc2_w 180, 3) := dk_20 0 180 (dk_at dksX0_person_0 16 rfl rfl)
theorem dX0_person_19 : decode cX0_person 19 = .ok (.invokestatic 143, 3) := dk_184 0 143 (dk_at dksX0_person_0 19 rfl rfl)
theorem dX0_person_22 : decode cX0_person 22 = .ok (.ifCond .eq 32, 3) := dk_153 0 32 (dk_at dksX0_person_1 0 rfl rfl)
theorem dX0_person_25 : decode cX0_person 25 = .ok (.iload_n 3, 1) := dk_29 (dk_at dksX0_person_1 3 rfl rfl)
theorem dX0_person_26 : decode cX0_person 26 = .ok (.i2l, 1) := dk_133 (dk_at dksX0_person_1 4 rfl rfl)
theorem dX0_person_27 : decode cX0_person 27 = .ok (.lconst 0, 1) := dk_9 (dk_at dksX0_person_1 5 rfl rfl)
theorem dX0_person_28 : decode cX0_person 28 = .ok (.ldc2_w 182, 3) := dk_20 0 182 (dk_at dksX0_person_1 6 rfl rfl)
theorem dX0_person_31 : decode cX0_person 31 = .ok (.invokestatic 143, 3) := dk_184 0 143 (dk_at dksX0_person_1 9 rfl rfl)
theorem dX0_person_34 : decode cX0_person 34 = .ok (.ifCond .eq 20, 3) := dk_153 0 20 (dk_at dksX0_person_1 12 rfl rfl)
theorem dX0_person_37 : decode cX0_person 37 = .ok (.iload 4, 2) := dk_21 4 (dk_at dksX0_person_1 15 rfl rfl)
theorem dX0_person_39 : decode cX0_person 39 = .ok (.i2l, 1) := dk_133 (dk_at dksX0_person_1 17 rfl rfl)
theorem dX0_person_40 : decode cX0_person 40 = .ok (.lconst 0, 1) := dk_9 (dk_at dksX0_person_1 18 rfl rfl)
theorem dX0_person_41 : decode cX0_person 41 = .ok (.ldc2_w 180, 3) := dk_20 0 180 (dk_at dksX0_person_1 19 rfl rfl)
theorem dX0_person_44 : decode cX0_person 44 = .ok (.invokestatic 143, 3) := dk_184 0 143 (dk_at dksX0_person_2 0 rfl rfl)
theorem dX0_person_47 : decode cX0_person 47 = .ok (.ifCond .eq 7, 3) := dk_153 0 7 (dk_at dksX0_person_2 3 rfl rfl)
theorem dX0_person_50 : decode cX0_person 50 = .ok (.iconst 1, 1) := dk_4 (dk_at dksX0_person_2 6 rfl rfl)
theorem dX0_person_51 : decode cX0_person 51 = .ok (.goto 4, 3) := dk_167 0 4 (dk_at dksX0_person_2 7 rfl rfl)
theorem dX0_person_54 : decode cX0_person 54 = .ok (.iconst 0, 1) := dk_3 (dk_at dksX0_person_2 10 rfl rfl)
theorem dX0_person_55 : decode cX0_person 55 = .ok (.bipush (-6), 2) := dk_16 250 (dk_at dksX0_person_2 11 rfl rfl)
theorem dX0_person_57 : decode cX0_person 57 = .ok (.invokestatic 105, 3) := dk_184 0 105 (dk_at dksX0_person_2 13 rfl rfl)
theorem dX0_person_60 : decode cX0_person 60 = .ok (.iload 5, 2) := dk_21 5 (dk_at dksX0_person_2 16 rfl rfl)
theorem dX0_person_62 : decode cX0_person 62 = .ok (.i2l, 1) := dk_133 (dk_at dksX0_person_2 18 rfl rfl)
theorem dX0_person_63 : decode cX0_person 63 = .ok (.lconst 0, 1) := dk_9 (dk_at dksX0_person_2 19 rfl rfl)
theorem dX0_person_64 : decode cX0_person 64 = .ok (.ldc2_w 184, 3) := dk_20 0 184 (dk_at dksX0_person_2 20 rfl rfl)
theorem dX0_person_67 : decode cX0_person 67 = .ok (.invokestatic 143, 3) := dk_184 0 143 (dk_at dksX0_person_3 0 rfl rfl)
theorem dX0_person_70 : decode cX0_person 70 = .ok (.ifCond .eq 19, 3) := dk_153 0 19 (dk_at dksX0_person_3 3 rfl rfl)
theorem dX0_person_73 : decode cX0_person 73 = .ok (.aload_n 0, 1) := dk_42 (dk_at dksX0_person_3 6 rfl rfl)
theorem dX0_person_74 : decode cX0_person 74 = .ok (.getfield 88, 3) := dk_180 0 88 (dk_at dksX0_person_3 7 rfl rfl)
theorem dX0_person_77 : decode cX0_person 77 = .ok (.iload 6, 2) := dk_21 6 (dk_at dksX0_person_3 10 rfl rfl)
theorem dX0_person_79 : decode cX0_person 79 = .ok (.invokevirtual 186, 3) := dk_182 0 186 (dk_at dksX0_person_3 12 rfl rfl)
theorem dX0_person_82 : decode cX0_person 82 = .ok (.ifCond .eq 7, 3) := dk_153 0 7 (dk_at dksX0_person_3 15 rfl rfl)
theorem dX0_person_85 : decode cX0_person 85 = .ok (.iconst 1, 1) := dk_4 (dk_at dksX0_person_3 18 rfl rfl)
theorem dX0_person_86 : decode cX0_person 86 = .ok (.goto 4, 3) := dk_167 0 4 (dk_at dksX0_person_3 19 rfl rfl)
theorem dX0_person_89 : decode cX0_person 89 = .ok (.iconst 0, 1) := dk_3 (dk_at dksX0_person_3 22 rfl rfl)
theorem dX0_person_90 : decode cX0_person 90 = .ok (.bipush (-6), 2) := dk_16 250 (dk_at dksX0_person_4 0 rfl rfl)
theorem dX0_person_92 : decode cX0_person 92 = .ok (.invokestatic 105, 3) := dk_184 0 105 (dk_at dksX0_person_4 2 rfl rfl)
theorem dX0_person_95 : decode cX0_person 95 = .ok (.aload_n 0, 1) := dk_42 (dk_at dksX0_person_4 5 rfl rfl)
theorem dX0_person_96 : decode cX0_person 96 = .ok (.getfield 88, 3) := dk_180 0 88 (dk_at dksX0_person_4 6 rfl rfl)
theorem dX0_person_99 : decode cX0_person 99 = .ok (.getfield 189, 3) := dk_180 0 189 (dk_at dksX0_person_4 9 rfl rfl)
theorem dX0_person_102 : decode cX0_person 102 = .ok (.bipush 7, 2) := dk_16 7 (dk_at dksX0_person_4 12 rfl rfl)
theorem dX0_person_104 : decode cX0_person 104 = .ok (.if_icmp .ge 7, 3) := dk_162 0 7 (dk_at dksX0_person_4 14 rfl rfl)
theorem dX0_person_107 : decode cX0_person 107 = .ok (.iconst 1, 1) := dk_4 (dk_at dksX0_person_4 17 rfl rfl)
theorem dX0_person_108 : decode cX0_person 108 = .ok (.goto 4, 3) := dk_167 0 4 (dk_at dksX0_person_4 18 rfl rfl)
theorem dX0_person_111 : decode cX0_person 111 = .ok (.iconst 0, 1) := dk_3 (dk_at dksX0_person_4 21 rfl rfl)
theorem dX0_person_112 : decode cX0_person 112 = .ok (.bipush (-7), 2) := dk_16 249 (dk_at dksX0_person_4 22 rfl rfl)
theorem dX0_person_114 : decode cX0_person 114 = .ok (.invokestatic 105, 3) := dk_184 0 105 (dk_at dksX0_person_5 0 rfl rfl)
theorem dX0_person_117 : decode cX0_person 117 = .ok (.aload_n 0, 1) := dk_42 (dk_at dksX0_person_5 3 rfl rfl)
theorem dX0_person_118 : decode cX0_person 118 = .ok (.getfield 88, 3) := dk_180 0 88 (dk_at dksX0_person_5 4 rfl rfl)
theorem dX0_person_121 : decode cX0_person 121 = .ok (.iload_n 1, 1) := dk_27 (dk_at dksX0_person_5 7 rfl rfl)
theorem dX0_person_122 : decode cX0_person 122 = .ok (.aload_n 0, 1) := dk_42 (dk_at dksX0_person_5 8 rfl rfl)
theorem dX0_person_123 : decode cX0_person 123 = .ok (.getfield 88, 3) := dk_180 0 88 (dk_at dksX0_person_5 9 rfl rfl)
theorem dX0_person_126 : decode cX0_person 126 = .ok (.getfield 189, 3) := dk_180 0 189 (dk_at dksX0_person_5 12 rfl rfl)
theorem dX0_person_129 : decode cX0_person 129 = .ok (.iload_n 2, 1) := dk_28 (dk_at dksX0_person_5 15 rfl rfl)
theorem dX0_person_130 : decode cX0_person 130 = .ok (.iload 4, 2) := dk_21 4 (dk_at dksX0_person_5 16 rfl rfl)
theorem dX0_person_132 : decode cX0_person 132 = .ok (.invokestatic 192, 3) := dk_184 0 192 (dk_at dksX0_person_5 18 rfl rfl)
theorem dX0_person_135 : decode cX0_person 135 = .ok (.iload_n 3, 1) := dk_29 (dk_at dksX0_person_5 21 rfl rfl)
theorem dX0_person_136 : decode cX0_person 136 = .ok (.iload 5, 2) := dk_21 5 (dk_at dksX0_person_5 22 rfl rfl)
theorem dX0_person_138 : decode cX0_person 138 = .ok (.iload 6, 2) := dk_21 6 (dk_at dksX0_person_6 0 rfl rfl)
theorem dX0_person_140 : decode cX0_person 140 = .ok (.invokevirtual 196, 3) := dk_182 0 196 (dk_at dksX0_person_6 2 rfl rfl)
theorem dX0_person_143 : decode cX0_person 143 = .ok (.aload_n 0, 1) := dk_42 (dk_at dksX0_person_6 5 rfl rfl)
theorem dX0_person_144 : decode cX0_person 144 = .ok (.getfield 88, 3) := dk_180 0 88 (dk_at dksX0_person_6 6 rfl rfl)
theorem dX0_person_147 : decode cX0_person 147 = .ok (.getfield 189, 3) := dk_180 0 189 (dk_at dksX0_person_6 9 rfl rfl)
theorem dX0_person_150 : decode cX0_person 150 = .ok (.iconst 1, 1) := dk_4 (dk_at dksX0_person_6 12 rfl rfl)
theorem dX0_person_151 : decode cX0_person 151 = .ok (.isub, 1) := dk_100 (dk_at dksX0_person_6 13 rfl rfl)
theorem dX0_person_152 : decode cX0_person 152 = .ok (.ireturn, 1) := dk_172 (dk_at dksX0_person_6 14 rfl rfl)
theorem dX0_person_153 : decode cX0_person 153 = .ok (.astore 7, 2) := dk_58 7 (dk_at dksX0_person_6 15 rfl rfl)
theorem dX0_person_155 : decode cX0_person 155 = .ok (.aload_n 0, 1) := dk_42 (dk_at dksX0_person_6 17 rfl rfl)
theorem dX0_person_156 : decode cX0_person 156 = .ok (.aload 7, 2) := dk_25 7 (dk_at dksX0_person_6 18 rfl rfl)
theorem dX0_person_158 : decode cX0_person 158 = .ok (.invokevirtual 151, 3) := dk_182 0 151 (dk_at dksX0_person_6 20 rfl rfl)
theorem dX0_person_161 : decode cX0_person 161 = .ok (.ireturn, 1) := dk_172 (dk_at dksX0_person_6 23 rfl rfl)
abbrev cX0_personOfKind : ByteArray := prog_1_method_4_code
def yX0_personOfKind : MethodName := ⟨RX0, "personOfKind", "(IIII)LTaxOnLooks$Person;"⟩
def dkwX0_personOfKind_5 : List UInt8 := [187, 0, 47, 89, 27, 28, 29, 183, 0, 49, 176]
abbrev dktX0_personOfKind_5 : List UInt8 := dkwX0_personOfKind_5 ++ []
def dkwX0_personOfKind_4 : List UInt8 := [187, 0, 41, 89, 27, 28, 29, 183, 0, 43, 176, 187, 0, 44, 89, 27, 28, 29, 183, 0, 46, 176]
abbrev dktX0_personOfKind_4 : List UInt8 := dkwX0_personOfKind_4 ++ dktX0_personOfKind_5
def dkwX0_personOfKind_3 : List UInt8 := [187, 0, 35, 89, 27, 28, 29, 183, 0, 37, 176, 187, 0, 38, 89, 27, 28, 29, 183, 0, 40, 176]
abbrev dktX0_personOfKind_3 : List UInt8 := dkwX0_personOfKind_3 ++ dktX0_personOfKind_4
def dkwX0_personOfKind_2 : List UInt8 := [187, 0, 27, 89, 27, 28, 29, 183, 0, 29, 176, 187, 0, 32, 89, 27, 28, 29, 183, 0, 34, 176]
abbrev dktX0_personOfKind_2 : List UInt8 := dkwX0_personOfKind_2 ++ dktX0_personOfKind_3
def dkwX0_personOfKind_1 : List UInt8 := [170, 0, 0, 0, 0, 0, 105, 0, 0, 0, 1, 0, 0, 0, 6, 0, 0, 0, 39, 0, 0, 0, 50, 0, 0, 0, 61, 0, 0, 0, 72, 0, 0, 0, 83, 0, 0, 0, 94]
abbrev dktX0_personOfKind_1 : List UInt8 := dkwX0_personOfKind_1 ++ dktX0_personOfKind_2
def dkwX0_personOfKind_0 : List UInt8 := [26]
abbrev dktX0_personOfKind_0 : List UInt8 := dkwX0_personOfKind_0 ++ dktX0_personOfKind_1
theorem dksX0_personOfKind_0 : cX0_personOfKind.data.toList.drop 0 = dktX0_personOfKind_0 := by decide +kernel
theorem dksX0_personOfKind_1 : cX0_personOfKind.data.toList.drop 1 = dktX0_personOfKind_1 := dk_seg dksX0_personOfKind_0 1 rfl rfl
theorem dksX0_personOfKind_2 : cX0_personOfKind.data.toList.drop 40 = dktX0_personOfKind_2 := dk_seg dksX0_personOfKind_1 39 rfl rfl
theorem dksX0_personOfKind_3 : cX0_personOfKind.data.toList.drop 62 = dktX0_personOfKind_3 := dk_seg dksX0_personOfKind_2 22 rfl rfl
theorem dksX0_personOfKind_4 : cX0_personOfKind.data.toList.drop 84 = dktX0_personOfKind_4 := dk_seg dksX0_personOfKind_3 22 rfl rfl
theorem dksX0_personOfKind_5 : cX0_personOfKind.data.toList.drop 106 = dktX0_personOfKind_5 := dk_seg dksX0_personOfKind_4 22 rfl rfl
theorem dX0_personOfKind_0 : decode cX0_personOfKind 0 = .ok (.iload_n 0, 1) := dk_26 (dk_at dksX0_personOfKind_0 0 rfl rfl)
theorem dX0_personOfKind_1 : decode cX0_personOfKind 1 = .ok (.tableswitch 105 1 6 #[39, 50, 61, 72, 83, 94], 39) := by decide +kernel
theorem dX0_personOfKind_40 : decode cX0_personOfKind 40 = .ok (.new 27, 3) := dk_187 0 27 (dk_at dksX0_personOfKind_2 0 rfl rfl)
theorem dX0_personOfKind_43 : decode cX0_personOfKind 43 = .ok (.dup, 1) := dk_89 (dk_at dksX0_personOfKind_2 3 rfl rfl)
theorem dX0_personOfKind_44 : decode cX0_personOfKind 44 = .ok (.iload_n 1, 1) := dk_27 (dk_at dksX0_personOfKind_2 4 rfl rfl)
theorem dX0_personOfKind_45 : decode cX0_personOfKind 45 = .ok (.iload_n 2, 1) := dk_28 (dk_at dksX0_personOfKind_2 5 rfl rfl)
theorem dX0_personOfKind_46 : decode cX0_personOfKind 46 = .ok (.iload_n 3, 1) := dk_29 (dk_at dksX0_personOfKind_2 6 rfl rfl)
theorem dX0_personOfKind_47 : decode cX0_personOfKind 47 = .ok (.invokespecial 29, 3) := dk_183 0 29 (dk_at dksX0_personOfKind_2 7 rfl rfl)
theorem dX0_personOfKind_50 : decode cX0_personOfKind 50 = .ok (.areturn, 1) := dk_176 (dk_at dksX0_personOfKind_2 10 rfl rfl)
theorem dX0_personOfKind_51 : decode cX0_personOfKind 51 = .ok (.new 32, 3) := dk_187 0 32 (dk_at dksX0_personOfKind_2 11 rfl rfl)
theorem dX0_personOfKind_54 : decode cX0_personOfKind 54 = .ok (.dup, 1) := dk_89 (dk_at dksX0_personOfKind_2 14 rfl rfl)
theorem dX0_personOfKind_55 : decode cX0_personOfKind 55 = .ok (.iload_n 1, 1) := dk_27 (dk_at dksX0_personOfKind_2 15 rfl rfl)
theorem dX0_personOfKind_56 : decode cX0_personOfKind 56 = .ok (.iload_n 2, 1) := dk_28 (dk_at dksX0_personOfKind_2 16 rfl rfl)
theorem dX0_personOfKind_57 : decode cX0_personOfKind 57 = .ok (.iload_n 3, 1) := dk_29 (dk_at dksX0_personOfKind_2 17 rfl rfl)
theorem dX0_personOfKind_58 : decode cX0_personOfKind 58 = .ok (.invokespecial 34, 3) := dk_183 0 34 (dk_at dksX0_personOfKind_2 18 rfl rfl)
theorem dX0_personOfKind_61 : decode cX0_personOfKind 61 = .ok (.areturn, 1) := dk_176 (dk_at dksX0_personOfKind_2 21 rfl rfl)
theorem dX0_personOfKind_62 : decode cX0_personOfKind 62 = .ok (.new 35, 3) := dk_187 0 35 (dk_at dksX0_personOfKind_3 0 rfl rfl)
theorem dX0_personOfKind_65 : decode cX0_personOfKind 65 = .ok (.dup, 1) := dk_89 (dk_at dksX0_personOfKind_3 3 rfl rfl)
theorem dX0_personOfKind_66 : decode cX0_personOfKind 66 = .ok (.iload_n 1, 1) := dk_27 (dk_at dksX0_personOfKind_3 4 rfl rfl)
theorem dX0_personOfKind_67 : decode cX0_personOfKind 67 = .ok (.iload_n 2, 1) := dk_28 (dk_at dksX0_personOfKind_3 5 rfl rfl)
theorem dX0_personOfKind_68 : decode cX0_personOfKind 68 = .ok (.iload_n 3, 1) := dk_29 (dk_at dksX0_personOfKind_3 6 rfl rfl)
theorem dX0_personOfKind_69 : decode cX0_personOfKind 69 = .ok (.invokespecial 37, 3) := dk_183 0 37 (dk_at dksX0_personOfKind_3 7 rfl rfl)
theorem dX0_personOfKind_72 : decode cX0_personOfKind 72 = .ok (.areturn, 1) := dk_176 (dk_at dksX0_personOfKind_3 10 rfl rfl)
theorem dX0_personOfKind_73 : decode cX0_personOfKind 73 = .ok (.new 38, 3) := dk_187 0 38 (dk_at dksX0_personOfKind_3 11 rfl rfl)
theorem dX0_personOfKind_76 : decode cX0_personOfKind 76 = .ok (.dup, 1) := dk_89 (dk_at dksX0_personOfKind_3 14 rfl rfl)
theorem dX0_personOfKind_77 : decode cX0_personOfKind 77 = .ok (.iload_n 1, 1) := dk_27 (dk_at dksX0_personOfKind_3 15 rfl rfl)
theorem dX0_personOfKind_78 : decode cX0_personOfKind 78 = .ok (.iload_n 2, 1) := dk_28 (dk_at dksX0_personOfKind_3 16 rfl rfl)
theorem dX0_personOfKind_79 : decode cX0_personOfKind 79 = .ok (.iload_n 3, 1) := dk_29 (dk_at dksX0_personOfKind_3 17 rfl rfl)
theorem dX0_personOfKind_80 : decode cX0_personOfKind 80 = .ok (.invokespecial 40, 3) := dk_183 0 40 (dk_at dksX0_personOfKind_3 18 rfl rfl)
theorem dX0_personOfKind_83 : decode cX0_personOfKind 83 = .ok (.areturn, 1) := dk_176 (dk_at dksX0_personOfKind_3 21 rfl rfl)
theorem dX0_personOfKind_84 : decode cX0_personOfKind 84 = .ok (.new 41, 3) := dk_187 0 41 (dk_at dksX0_personOfKind_4 0 rfl rfl)
theorem dX0_personOfKind_87 : decode cX0_personOfKind 87 = .ok (.dup, 1) := dk_89 (dk_at dksX0_personOfKind_4 3 rfl rfl)
theorem dX0_personOfKind_88 : decode cX0_personOfKind 88 = .ok (.iload_n 1, 1) := dk_27 (dk_at dksX0_personOfKind_4 4 rfl rfl)
theorem dX0_personOfKind_89 : decode cX0_personOfKind 89 = .ok (.iload_n 2, 1) := dk_28 (dk_at dksX0_personOfKind_4 5 rfl rfl)
theorem dX0_personOfKind_90 : decode cX0_personOfKind 90 = .ok (.iload_n 3, 1) := dk_29 (dk_at dksX0_personOfKind_4 6 rfl rfl)
theorem dX0_personOfKind_91 : decode cX0_personOfKind 91 = .ok (.invokespecial 43, 3) := dk_183 0 43 (dk_at dksX0_personOfKind_4 7 rfl rfl)
theorem dX0_personOfKind_94 : decode cX0_personOfKind 94 = .ok (.areturn, 1) := dk_176 (dk_at dksX0_personOfKind_4 10 rfl rfl)
theorem dX0_personOfKind_95 : decode cX0_personOfKind 95 = .ok (.new 44, 3) := dk_187 0 44 (dk_at dksX0_personOfKind_4 11 rfl rfl)
theorem dX0_personOfKind_98 : decode cX0_personOfKind 98 = .ok (.dup, 1) := dk_89 (dk_at dksX0_personOfKind_4 14 rfl rfl)
theorem dX0_personOfKind_99 : decode cX0_personOfKind 99 = .ok (.iload_n 1, 1) := dk_27 (dk_at dksX0_personOfKind_4 15 rfl rfl)
theorem dX0_personOfKind_100 : decode cX0_personOfKind 100 = .ok (.iload_n 2, 1) := dk_28 (dk_at dksX0_personOfKind_4 16 rfl rfl)
theorem dX0_personOfKind_101 : decode cX0_personOfKind 101 = .ok (.iload_n 3, 1) := dk_29 (dk_at dksX0_personOfKind_4 17 rfl rfl)
theorem dX0_personOfKind_102 : decode cX0_personOfKind 102 = .ok (.invokespecial 46, 3) := dk_183 0 46 (dk_at dksX0_personOfKind_4 18 rfl rfl)
theorem dX0_personOfKind_105 : decode cX0_personOfKind 105 = .ok (.areturn, 1) := dk_176 (dk_at dksX0_personOfKind_4 21 rfl rfl)
theorem dX0_personOfKind_106 : decode cX0_personOfKind 106 = .ok (.new 47, 3) := dk_187 0 47 (dk_at dksX0_personOfKind_5 0 rfl rfl)
theorem dX0_personOfKind_109 : decode cX0_personOfKind 109 = .ok (.dup, 1) := dk_89 (dk_at dksX0_personOfKind_5 3 rfl rfl)
theorem dX0_personOfKind_110 : decode cX0_personOfKind 110 = .ok (.iload_n 1, 1) := dk_27 (dk_at dksX0_personOfKind_5 4 rfl rfl)
theorem dX0_personOfKind_111 : decode cX0_personOfKind 111 = .ok (.iload_n 2, 1) := dk_28 (dk_at dksX0_personOfKind_5 5 rfl rfl)
theorem dX0_personOfKind_112 : decode cX0_personOfKind 112 = .ok (.iload_n 3, 1) := dk_29 (dk_at dksX0_personOfKind_5 6 rfl rfl)
theorem dX0_personOfKind_113 : decode cX0_personOfKind 113 = .ok (.invokespecial 49, 3) := dk_183 0 49 (dk_at dksX0_personOfKind_5 7 rfl rfl)
theorem dX0_personOfKind_116 : decode cX0_personOfKind 116 = .ok (.areturn, 1) := dk_176 (dk_at dksX0_personOfKind_5 10 rfl rfl)
abbrev cX0_build : ByteArray := prog_1_method_21_code
def yX0_build : MethodName := ⟨RX0, "build", "(IIZ)I"⟩
def dkwX0_build_7 : List UInt8 := [25, 4, 182, 0, 151, 172]
abbrev dktX0_build_7 : List UInt8 := dkwX0_build_7 ++ []
def dkwX0_build_6 : List UInt8 := [184, 0, 215, 167, 0, 10, 42, 180, 0, 88, 180, 0, 212, 181, 0, 212, 22, 4, 136, 172, 58, 4, 42]
abbrev dktX0_build_6 : List UInt8 := dkwX0_build_6 ++ dktX0_build_7
def dkwX0_build_5 : List UInt8 := [180, 0, 208, 181, 0, 208, 42, 180, 0, 88, 28, 4, 160, 0, 18, 42, 180, 0, 88, 180, 0, 212, 27, 29]
abbrev dktX0_build_5 : List UInt8 := dkwX0_build_5 ++ dktX0_build_6
def dkwX0_build_4 : List UInt8 := [154, 0, 18, 42, 180, 0, 88, 180, 0, 208, 27, 29, 184, 0, 215, 167, 0, 10, 42, 180, 0, 88]
abbrev dktX0_build_4 : List UInt8 := dkwX0_build_4 ++ dktX0_build_5
def dkwX0_build_3 : List UInt8 := [180, 0, 208, 167, 0, 10, 42, 180, 0, 88, 180, 0, 212, 27, 123, 10, 127, 55, 4, 42, 180, 0, 88, 28]
abbrev dktX0_build_3 : List UInt8 := dkwX0_build_3 ++ dktX0_build_4
def dkwX0_build_2 : List UInt8 := [182, 0, 204, 154, 0, 7, 4, 167, 0, 4, 3, 16, 250, 184, 0, 105, 28, 154, 0, 13, 42, 180, 0, 88]
abbrev dktX0_build_2 : List UInt8 := dkwX0_build_2 ++ dktX0_build_3
def dkwX0_build_1 : List UInt8 := [167, 0, 4, 3, 16, 250, 184, 0, 105, 28, 4, 159, 0, 18, 29, 153, 0, 14, 42, 180, 0, 88, 27]
abbrev dktX0_build_1 : List UInt8 := dkwX0_build_1 ++ dktX0_build_2
def dkwX0_build_0 : List UInt8 := [27, 133, 9, 20, 0, 202, 184, 0, 143, 153, 0, 17, 28, 133, 9, 10, 184, 0, 143, 153, 0, 7, 4]
abbrev dktX0_build_0 : List UInt8 := dkwX0_build_0 ++ dktX0_build_1
theorem dksX0_build_0 : cX0_build.data.toList.drop 0 = dktX0_build_0 := by decide +kernel
theorem dksX0_build_1 : cX0_build.data.toList.drop 23 = dktX0_build_1 := dk_seg dksX0_build_0 23 rfl rfl
theorem dksX0_build_2 : cX0_build.data.toList.drop 46 = dktX0_build_2 := dk_seg dksX0_build_1 23 rfl rfl
theorem dksX0_build_3 : cX0_build.data.toList.drop 70 = dktX0_build_3 := dk_seg dksX0_build_2 24 rfl rfl
theorem dksX0_build_4 : cX0_build.data.toList.drop 94 = dktX0_build_4 := dk_seg dksX0_build_3 24 rfl rfl
theorem dksX0_build_5 : cX0_build.data.toList.drop 116 = dktX0_build_5 := dk_seg dksX0_build_4 22 rfl rfl
theorem dksX0_build_6 : cX0_build.data.toList.drop 140 = dktX0_build_6 := dk_seg dksX0_build_5 24 rfl rfl
theorem dksX0_build_7 : cX0_build.data.toList.drop 163 = dktX0_build_7 := dk_seg dksX0_build_6 23 rfl rfl
theorem dX0_build_0 : decode cX0_build 0 = .ok (.iload_n 1, 1) := dk_27 (dk_at dksX0_build_0 0 rfl rfl)
theorem dX0_build_1 : decode cX0_build 1 = .ok (.i2l, 1) := dk_133 (dk_at dksX0_build_0 1 rfl rfl)
theorem dX0_build_2 : decode cX0_build 2 = .ok (.lconst 0, 1) := dk_9 (dk_at dksX0_build_0 2 rfl rfl)
theorem dX0_build_3 : decode cX0_build 3 = .ok (.ldc2_w 202, 3) := dk_20 0 202 (dk_at dksX0_build_0 3 rfl rfl)
theorem dX0_build_6 : decode cX0_build 6 = .ok (.invokestatic 143, 3) := dk_184 0 143 (dk_at dksX0_build_0 6 rfl rfl)
theorem dX0_build_9 : decode cX0_build 9 = .ok (.ifCond .eq 17, 3) := dk_153 0 17 (dk_at dksX0_build_0 9 rfl rfl)
theorem dX0_build_12 : decode cX0_build 12 = .ok (.iload_n 2, 1) := dk_28 (dk_at dksX0_build_0 12 rfl rfl)
theorem dX0_build_13 : decode cX0_build 13 = .ok (.i2l, 1) := dk_133 (dk_at dksX0_build_0 13 rfl rfl)
theorem dX0_build_14 : decode cX0_build 14 = .ok (.lconst 0, 1) := dk_9 (dk_at dksX0_build_0 14 rfl rfl)
theorem dX0_build_15 : decode cX0_build 15 = .ok (.lconst 1, 1) := dk_10 (dk_at dksX0_build_0 15 rfl rfl)
theorem dX0_build_16 : decode cX0_build 16 = .ok (.invokestatic 143, 3) := dk_184 0 143 (dk_at dksX0_build_0 16 rfl rfl)
theorem dX0_build_19 : decode cX0_build 19 = .ok (.ifCond .eq 7, 3) := dk_153 0 7 (dk_at dksX0_build_0 19 rfl rfl)
theorem dX0_build_22 : decode cX0_build 22 = .ok (.iconst 1, 1) := dk_4 (dk_at dksX0_build_0 22 rfl rfl)
theorem dX0_build_23 : decode cX0_build 23 = .ok (.goto 4, 3) := dk_167 0 4 (dk_at dksX0_build_1 0 rfl rfl)
theorem dX0_build_26 : decode cX0_build 26 = .ok (.iconst 0, 1) := dk_3 (dk_at dksX0_build_1 3 rfl rfl)
theorem dX0_build_27 : decode cX0_build 27 = .ok (.bipush (-6), 2) := dk_16 250 (dk_at dksX0_build_1 4 rfl rfl)
theorem dX0_build_29 : decode cX0_build 29 = .ok (.invokestatic 105, 3) := dk_184 0 105 (dk_at dksX0_build_1 6 rfl rfl)
theorem dX0_build_32 : decode cX0_build 32 = .ok (.iload_n 2, 1) := dk_28 (dk_at dksX0_build_1 9 rfl rfl)
theorem dX0_build_33 : decode cX0_build 33 = .ok (.iconst 1, 1) := dk_4 (dk_at dksX0_build_1 10 rfl rfl)
theorem dX0_build_34 : decode cX0_build 34 = .ok (.if_icmp .eq 18, 3) := dk_159 0 18 (dk_at dksX0_build_1 11 rfl rfl)
theorem dX0_build_37 : decode cX0_build 37 = .ok (.iload_n 3, 1) := dk_29 (dk_at dksX0_build_1 14 rfl rfl)
theorem dX0_build_38 : decode cX0_build 38 = .ok (.ifCond .eq 14, 3) := dk_153 0 14 (dk_at dksX0_build_1 15 rfl rfl)
theorem dX0_build_41 : decode cX0_build 41 = .ok (.aload_n 0, 1) := dk_42 (dk_at dksX0_build_1 18 rfl rfl)
theorem dX0_build_42 : decode cX0_build 42 = .ok (.getfield 88, 3) := dk_180 0 88 (dk_at dksX0_build_1 19 rfl rfl)
theorem dX0_build_45 : decode cX0_build 45 = .ok (.iload_n 1, 1) := dk_27 (dk_at dksX0_build_1 22 rfl rfl)
theorem dX0_build_46 : decode cX0_build 46 = .ok (.invokevirtual 204, 3) := dk_182 0 204 (dk_at dksX0_build_2 0 rfl rfl)
theorem dX0_build_49 : decode cX0_build 49 = .ok (.ifCond .ne 7, 3) := dk_154 0 7 (dk_at dksX0_build_2 3 rfl rfl)
theorem dX0_build_52 : decode cX0_build 52 = .ok (.iconst 1, 1) := dk_4 (dk_at dksX0_build_2 6 rfl rfl)
theorem dX0_build_53 : decode cX0_build 53 = .ok (.goto 4, 3) := dk_167 0 4 (dk_at dksX0_build_2 7 rfl rfl)
theorem dX0_build_56 : decode cX0_build 56 = .ok (.iconst 0, 1) := dk_3 (dk_at dksX0_build_2 10 rfl rfl)
theorem dX0_build_57 : decode cX0_build 57 = .ok (.bipush (-6), 2) := dk_16 250 (dk_at dksX0_build_2 11 rfl rfl)
theorem dX0_build_59 : decode cX0_build 59 = .ok (.invokestatic 105, 3) := dk_184 0 105 (dk_at dksX0_build_2 13 rfl rfl)
theorem dX0_build_62 : decode cX0_build 62 = .ok (.iload_n 2, 1) := dk_28 (dk_at dksX0_build_2 16 rfl rfl)
theorem dX0_build_63 : decode cX0_build 63 = .ok (.ifCond .ne 13, 3) := dk_154 0 13 (dk_at dksX0_build_2 17 rfl rfl)
theorem dX0_build_66 : decode cX0_build 66 = .ok (.aload_n 0, 1) := dk_42 (dk_at dksX0_build_2 20 rfl rfl)
theorem dX0_build_67 : decode cX0_build 67 = .ok (.getfield 88, 3) := dk_180 0 88 (dk_at dksX0_build_2 21 rfl rfl)
theorem dX0_build_70 : decode cX0_build 70 = .ok (.getfield 208, 3) := dk_180 0 208 (dk_at dksX0_build_3 0 rfl rfl)
theorem dX0_build_73 : decode cX0_build 73 = .ok (.goto 10, 3) := dk_167 0 10 (dk_at dksX0_build_3 3 rfl rfl)
theorem dX0_build_76 : decode cX0_build 76 = .ok (.aload_n 0, 1) := dk_42 (dk_at dksX0_build_3 6 rfl rfl)
theorem dX0_build_77 : decode cX0_build 77 = .ok (.getfield 88, 3) := dk_180 0 88 (dk_at dksX0_build_3 7 rfl rfl)
theorem dX0_build_80 : decode cX0_build 80 = .ok (.getfield 212, 3) := dk_180 0 212 (dk_at dksX0_build_3 10 rfl rfl)
theorem dX0_build_83 : decode cX0_build 83 = .ok (.iload_n 1, 1) := dk_27 (dk_at dksX0_build_3 13 rfl rfl)
theorem dX0_build_84 : decode cX0_build 84 = .ok (.lshr, 1) := dk_123 (dk_at dksX0_build_3 14 rfl rfl)
theorem dX0_build_85 : decode cX0_build 85 = .ok (.lconst 1, 1) := dk_10 (dk_at dksX0_build_3 15 rfl rfl)
theorem dX0_build_86 : decode cX0_build 86 = .ok (.land, 1) := dk_127 (dk_at dksX0_build_3 16 rfl rfl)
theorem dX0_build_87 : decode cX0_build 87 = .ok (.lstore 4, 2) := dk_55 4 (dk_at dksX0_build_3 17 rfl rfl)
theorem dX0_build_89 : decode cX0_build 89 = .ok (.aload_n 0, 1) := dk_42 (dk_at dksX0_build_3 19 rfl rfl)
theorem dX0_build_90 : decode cX0_build 90 = .ok (.getfield 88, 3) := dk_180 0 88 (dk_at dksX0_build_3 20 rfl rfl)
theorem dX0_build_93 : decode cX0_build 93 = .ok (.iload_n 2, 1) := dk_28 (dk_at dksX0_build_3 23 rfl rfl)
theorem dX0_build_94 : decode cX0_build 94 = .ok (.ifCond .ne 18, 3) := dk_154 0 18 (dk_at dksX0_build_4 0 rfl rfl)
theorem dX0_build_97 : decode cX0_build 97 = .ok (.aload_n 0, 1) := dk_42 (dk_at dksX0_build_4 3 rfl rfl)
theorem dX0_build_98 : decode cX0_build 98 = .ok (.getfield 88, 3) := dk_180 0 88 (dk_at dksX0_build_4 4 rfl rfl)
theorem dX0_build_101 : decode cX0_build 101 = .ok (.getfield 208, 3) := dk_180 0 208 (dk_at dksX0_build_4 7 rfl rfl)
theorem dX0_build_104 : decode cX0_build 104 = .ok (.iload_n 1, 1) := dk_27 (dk_at dksX0_build_4 10 rfl rfl)
theorem dX0_build_105 : decode cX0_build 105 = .ok (.iload_n 3, 1) := dk_29 (dk_at dksX0_build_4 11 rfl rfl)
theorem dX0_build_106 : decode cX0_build 106 = .ok (.invokestatic 215, 3) := dk_184 0 215 (dk_at dksX0_build_4 12 rfl rfl)
theorem dX0_build_109 : decode cX0_build 109 = .ok (.goto 10, 3) := dk_167 0 10 (dk_at dksX0_build_4 15 rfl rfl)
theorem dX0_build_112 : decode cX0_build 112 = .ok (.aload_n 0, 1) := dk_42 (dk_at dksX0_build_4 18 rfl rfl)
theorem dX0_build_113 : decode cX0_build 113 = .ok (.getfield 88, 3) := dk_180 0 88 (dk_at dksX0_build_4 19 rfl rfl)
theorem dX0_build_116 : decode cX0_build 116 = .ok (.getfield 208, 3) := dk_180 0 208 (dk_at dksX0_build_5 0 rfl rfl)
theorem dX0_build_119 : decode cX0_build 119 = .ok (.putfield 208, 3) := dk_181 0 208 (dk_at dksX0_build_5 3 rfl rfl)
theorem dX0_build_122 : decode cX0_build 122 = .ok (.aload_n 0, 1) := dk_42 (dk_at dksX0_build_5 6 rfl rfl)
theorem dX0_build_123 : decode cX0_build 123 = .ok (.getfield 88, 3) := dk_180 0 88 (dk_at dksX0_build_5 7 rfl rfl)
theorem dX0_build_126 : decode cX0_build 126 = .ok (.iload_n 2, 1) := dk_28 (dk_at dksX0_build_5 10 rfl rfl)
theorem dX0_build_127 : decode cX0_build 127 = .ok (.iconst 1, 1) := dk_4 (dk_at dksX0_build_5 11 rfl rfl)
theorem dX0_build_128 : decode cX0_build 128 = .ok (.if_icmp .ne 18, 3) := dk_160 0 18 (dk_at dksX0_build_5 12 rfl rfl)
theorem dX0_build_131 : decode cX0_build 131 = .ok (.aload_n 0, 1) := dk_42 (dk_at dksX0_build_5 15 rfl rfl)
theorem dX0_build_132 : decode cX0_build 132 = .ok (.getfield 88, 3) := dk_180 0 88 (dk_at dksX0_build_5 16 rfl rfl)
theorem dX0_build_135 : decode cX0_build 135 = .ok (.getfield 212, 3) := dk_180 0 212 (dk_at dksX0_build_5 19 rfl rfl)
theorem dX0_build_138 : decode cX0_build 138 = .ok (.iload_n 1, 1) := dk_27 (dk_at dksX0_build_5 22 rfl rfl)
theorem dX0_build_139 : decode cX0_build 139 = .ok (.iload_n 3, 1) := dk_29 (dk_at dksX0_build_5 23 rfl rfl)
theorem dX0_build_140 : decode cX0_build 140 = .ok (.invokestatic 215, 3) := dk_184 0 215 (dk_at dksX0_build_6 0 rfl rfl)
theorem dX0_build_143 : decode cX0_build 143 = .ok (.goto 10, 3) := dk_167 0 10 (dk_at dksX0_build_6 3 rfl rfl)
theorem dX0_build_146 : decode cX0_build 146 = .ok (.aload_n 0, 1) := dk_42 (dk_at dksX0_build_6 6 rfl rfl)
theorem dX0_build_147 : decode cX0_build 147 = .ok (.getfield 88, 3) := dk_180 0 88 (dk_at dksX0_build_6 7 rfl rfl)
theorem dX0_build_150 : decode cX0_build 150 = .ok (.getfield 212, 3) := dk_180 0 212 (dk_at dksX0_build_6 10 rfl rfl)
theorem dX0_build_153 : decode cX0_build 153 = .ok (.putfield 212, 3) := dk_181 0 212 (dk_at dksX0_build_6 13 rfl rfl)
theorem dX0_build_156 : decode cX0_build 156 = .ok (.lload 4, 2) := dk_22 4 (dk_at dksX0_build_6 16 rfl rfl)
theorem dX0_build_158 : decode cX0_build 158 = .ok (.l2i, 1) := dk_136 (dk_at dksX0_build_6 18 rfl rfl)
theorem dX0_build_159 : decode cX0_build 159 = .ok (.ireturn, 1) := dk_172 (dk_at dksX0_build_6 19 rfl rfl)
theorem dX0_build_160 : decode cX0_build 160 = .ok (.astore 4, 2) := dk_58 4 (dk_at dksX0_build_6 20 rfl rfl)
theorem dX0_build_162 : decode cX0_build 162 = .ok (.aload_n 0, 1) := dk_42 (dk_at dksX0_build_6 22 rfl rfl)
theorem dX0_build_163 : decode cX0_build 163 = .ok (.aload 4, 2) := dk_25 4 (dk_at dksX0_build_7 0 rfl rfl)
theorem dX0_build_165 : decode cX0_build 165 = .ok (.invokevirtual 151, 3) := dk_182 0 151 (dk_at dksX0_build_7 2 rfl rfl)
theorem dX0_build_168 : decode cX0_build 168 = .ok (.ireturn, 1) := dk_172 (dk_at dksX0_build_7 5 rfl rfl)
abbrev cX0_changed : ByteArray := prog_1_method_20_code
def yX0_changed : MethodName := ⟨RX0, "changed", "(JIZ)J"⟩
def dkwX0_changed_0 : List UInt8 := [29, 153, 0, 11, 30, 10, 28, 121, 129, 167, 0, 12, 30, 10, 28, 121, 20, 0, 200, 131, 127, 173]
abbrev dktX0_changed_0 : List UInt8 := dkwX0_changed_0 ++ []
theorem dksX0_changed_0 : cX0_changed.data.toList.drop 0 = dktX0_changed_0 := by decide +kernel
theorem dX0_changed_0 : decode cX0_changed 0 = .ok (.iload_n 3, 1) := dk_29 (dk_at dksX0_changed_0 0 rfl rfl)
theorem dX0_changed_1 : decode cX0_changed 1 = .ok (.ifCond .eq 11, 3) := dk_153 0 11 (dk_at dksX0_changed_0 1 rfl rfl)
theorem dX0_changed_4 : decode cX0_changed 4 = .ok (.lload_n 0, 1) := dk_30 (dk_at dksX0_changed_0 4 rfl rfl)
theorem dX0_changed_5 : decode cX0_changed 5 = .ok (.lconst 1, 1) := dk_10 (dk_at dksX0_changed_0 5 rfl rfl)
theorem dX0_changed_6 : decode cX0_changed 6 = .ok (.iload_n 2, 1) := dk_28 (dk_at dksX0_changed_0 6 rfl rfl)
theorem dX0_changed_7 : decode cX0_changed 7 = .ok (.lshl, 1) := dk_121 (dk_at dksX0_changed_0 7 rfl rfl)
theorem dX0_changed_8 : decode cX0_changed 8 = .ok (.lor, 1) := dk_129 (dk_at dksX0_changed_0 8 rfl rfl)
theorem dX0_changed_9 : decode cX0_changed 9 = .ok (.goto 12, 3) := dk_167 0 12 (dk_at dksX0_changed_0 9 rfl rfl)
theorem dX0_changed_12 : decode cX0_changed 12 = .ok (.lload_n 0, 1) := dk_30 (dk_at dksX0_changed_0 12 rfl rfl)
theorem dX0_changed_13 : decode cX0_changed 13 = .ok (.lconst 1, 1) := dk_10 (dk_at dksX0_changed_0 13 rfl rfl)
theorem dX0_changed_14 : decode cX0_changed 14 = .ok (.iload_n 2, 1) := dk_28 (dk_at dksX0_changed_0 14 rfl rfl)
theorem dX0_changed_15 : decode cX0_changed 15 = .ok (.lshl, 1) := dk_121 (dk_at dksX0_changed_0 15 rfl rfl)
theorem dX0_changed_16 : decode cX0_changed 16 = .ok (.ldc2_w 200, 3) := dk_20 0 200 (dk_at dksX0_changed_0 16 rfl rfl)
theorem dX0_changed_19 : decode cX0_changed 19 = .ok (.lxor, 1) := dk_131 (dk_at dksX0_changed_0 19 rfl rfl)
theorem dX0_changed_20 : decode cX0_changed 20 = .ok (.land, 1) := dk_127 (dk_at dksX0_changed_0 20 rfl rfl)
theorem dX0_changed_21 : decode cX0_changed 21 = .ok (.lreturn, 1) := dk_173 (dk_at dksX0_changed_0 21 rfl rfl)
abbrev cX0_put : ByteArray := prog_1_method_22_code
def yX0_put : MethodName := ⟨RX0, "put", "(II)I"⟩
def dkwX0_put_2 : List UInt8 := [172]
abbrev dktX0_put_2 : List UInt8 := dkwX0_put_2 ++ []
def dkwX0_put_1 : List UInt8 := [180, 0, 219, 27, 46, 62, 42, 180, 0, 88, 180, 0, 219, 27, 28, 79, 29, 172, 78, 42, 45, 182, 0, 151]
abbrev dktX0_put_1 : List UInt8 := dkwX0_put_1 ++ dktX0_put_2
def dkwX0_put_0 : List UInt8 := [42, 27, 182, 0, 171, 42, 180, 0, 88, 28, 182, 0, 186, 16, 250, 184, 0, 105, 42, 180, 0, 88]
abbrev dktX0_put_0 : List UInt8 := dkwX0_put_0 ++ dktX0_put_1
theorem dksX0_put_0 : cX0_put.data.toList.drop 0 = dktX0_put_0 := by decide +kernel
theorem dksX0_put_1 : cX0_put.data.toList.drop 22 = dktX0_put_1 := dk_seg dksX0_put_0 22 rfl rfl
theorem dksX0_put_2 : cX0_put.data.toList.drop 46 = dktX0_put_2 := dk_seg dksX0_put_1 24 rfl rfl
theorem dX0_put_0 : decode cX0_put 0 = .ok (.aload_n 0, 1) := dk_42 (dk_at dksX0_put_0 0 rfl rfl)
theorem dX0_put_1 : decode cX0_put 1 = .ok (.iload_n 1, 1) := dk_27 (dk_at dksX0_put_0 1 rfl rfl)
theorem dX0_put_2 : decode cX0_put 2 = .ok (.invokevirtual 171, 3) := dk_182 0 171 (dk_at dksX0_put_0 2 rfl rfl)
theorem dX0_put_5 : decode cX0_put 5 = .ok (.aload_n 0, 1) := dk_42 (dk_at dksX0_put_0 5 rfl rfl)
theorem dX0_put_6 : decode cX0_put 6 = .ok (.getfield 88, 3) := dk_180 0 88 (dk_at dksX0_put_0 6 rfl rfl)
theorem dX0_put_9 : decode cX0_put 9 = .ok (.iload_n 2, 1) := dk_28 (dk_at dksX0_put_0 9 rfl rfl)
theorem dX0_put_10 : decode cX0_put 10 = .ok (.invokevirtual 186, 3) := dk_182 0 186 (dk_at dksX0_put_0 10 rfl rfl)
theorem dX0_put_13 : decode cX0_put 13 = .ok (.bipush (-6), 2) := dk_16 250 (dk_at dksX0_put_0 13 rfl rfl)
theorem dX0_put_15 : decode cX0_put 15 = .ok (.invokestatic 105, 3) := dk_184 0 105 (dk_at dksX0_put_0 15 rfl rfl)
theorem dX0_put_18 : decode cX0_put 18 = .ok (.aload_n 0, 1) := dk_42 (dk_at dksX0_put_0 18 rfl rfl)
theorem dX0_put_19 : decode cX0_put 19 = .ok (.getfield 88, 3) := dk_180 0 88 (dk_at dksX0_put_0 19 rfl rfl)
theorem dX0_put_22 : decode cX0_put 22 = .ok (.getfield 219, 3) := dk_180 0 219 (dk_at dksX0_put_1 0 rfl rfl)
theorem dX0_put_25 : decode cX0_put 25 = .ok (.iload_n 1, 1) := dk_27 (dk_at dksX0_put_1 3 rfl rfl)
theorem dX0_put_26 : decode cX0_put 26 = .ok (.iaload, 1) := dk_46 (dk_at dksX0_put_1 4 rfl rfl)
theorem dX0_put_27 : decode cX0_put 27 = .ok (.istore_n 3, 1) := dk_62 (dk_at dksX0_put_1 5 rfl rfl)
theorem dX0_put_28 : decode cX0_put 28 = .ok (.aload_n 0, 1) := dk_42 (dk_at dksX0_put_1 6 rfl rfl)
theorem dX0_put_29 : decode cX0_put 29 = .ok (.getfield 88, 3) := dk_180 0 88 (dk_at dksX0_put_1 7 rfl rfl)
theorem dX0_put_32 : decode cX0_put 32 = .ok (.getfield 219, 3) := dk_180 0 219 (dk_at dksX0_put_1 10 rfl rfl)
theorem dX0_put_35 : decode cX0_put 35 = .ok (.iload_n 1, 1) := dk_27 (dk_at dksX0_put_1 13 rfl rfl)
theorem dX0_put_36 : decode cX0_put 36 = .ok (.iload_n 2, 1) := dk_28 (dk_at dksX0_put_1 14 rfl rfl)
theorem dX0_put_37 : decode cX0_put 37 = .ok (.iastore, 1) := dk_79 (dk_at dksX0_put_1 15 rfl rfl)
theorem dX0_put_38 : decode cX0_put 38 = .ok (.iload_n 3, 1) := dk_29 (dk_at dksX0_put_1 16 rfl rfl)
theorem dX0_put_39 : decode cX0_put 39 = .ok (.ireturn, 1) := dk_172 (dk_at dksX0_put_1 17 rfl rfl)
theorem dX0_put_40 : decode cX0_put 40 = .ok (.astore_n 3, 1) := dk_78 (dk_at dksX0_put_1 18 rfl rfl)
theorem dX0_put_41 : decode cX0_put 41 = .ok (.aload_n 0, 1) := dk_42 (dk_at dksX0_put_1 19 rfl rfl)
theorem dX0_put_42 : decode cX0_put 42 = .ok (.aload_n 3, 1) := dk_45 (dk_at dksX0_put_1 20 rfl rfl)
theorem dX0_put_43 : decode cX0_put 43 = .ok (.invokevirtual 151, 3) := dk_182 0 151 (dk_at dksX0_put_1 21 rfl rfl)
theorem dX0_put_46 : decode cX0_put 46 = .ok (.ireturn, 1) := dk_172 (dk_at dksX0_put_2 0 rfl rfl)
abbrev cX0_sack : ByteArray := prog_1_method_23_code
def yX0_sack : MethodName := ⟨RX0, "sack", "(IZ)I"⟩
def dkwX0_sack_2 : List UInt8 := [4, 27, 120, 2, 130, 126, 181, 0, 222, 29, 172, 78, 42, 45, 182, 0, 151, 172]
abbrev dktX0_sack_2 : List UInt8 := dkwX0_sack_2 ++ []
def dkwX0_sack_1 : List UInt8 := [153, 0, 17, 42, 180, 0, 88, 180, 0, 222, 4, 27, 120, 128, 167, 0, 16, 42, 180, 0, 88, 180, 0, 222]
abbrev dktX0_sack_1 : List UInt8 := dkwX0_sack_1 ++ dktX0_sack_2
def dkwX0_sack_0 : List UInt8 := [42, 27, 182, 0, 171, 42, 180, 0, 88, 180, 0, 222, 27, 122, 4, 126, 62, 42, 180, 0, 88, 28]
abbrev dktX0_sack_0 : List UInt8 := dkwX0_sack_0 ++ dktX0_sack_1
theorem dksX0_sack_0 : cX0_sack.data.toList.drop 0 = dktX0_sack_0 := by decide +kernel
theorem dksX0_sack_1 : cX0_sack.data.toList.drop 22 = dktX0_sack_1 := dk_seg dksX0_sack_0 22 rfl rfl
theorem dksX0_sack_2 : cX0_sack.data.toList.drop 46 = dktX0_sack_2 := dk_seg dksX0_sack_1 24 rfl rfl
theorem dX0_sack_0 : decode cX0_sack 0 = .ok (.aload_n 0, 1) := dk_42 (dk_at dksX0_sack_0 0 rfl rfl)
theorem dX0_sack_1 : decode cX0_sack 1 = .ok (.iload_n 1, 1) := dk_27 (dk_at dksX0_sack_0 1 rfl rfl)
theorem dX0_sack_2 : decode cX0_sack 2 = .ok (.invokevirtual 171, 3) := dk_182 0 171 (dk_at dksX0_sack_0 2 rfl rfl)
theorem dX0_sack_5 : decode cX0_sack 5 = .ok (.aload_n 0, 1) := dk_42 (dk_at dksX0_sack_0 5 rfl rfl)
theorem dX0_sack_6 : decode cX0_sack 6 = .ok (.getfield 88, 3) := dk_180 0 88 (dk_at dksX0_sack_0 6 rfl rfl)
theorem dX0_sack_9 : decode cX0_sack 9 = .ok (.getfield 222, 3) := dk_180 0 222 (dk_at dksX0_sack_0 9 rfl rfl)
theorem dX0_sack_12 : decode cX0_sack 12 = .ok (.iload_n 1, 1) := dk_27 (dk_at dksX0_sack_0 12 rfl rfl)
theorem dX0_sack_13 : decode cX0_sack 13 = .ok (.ishr, 1) := dk_122 (dk_at dksX0_sack_0 13 rfl rfl)
theorem dX0_sack_14 : decode cX0_sack 14 = .ok (.iconst 1, 1) := dk_4 (dk_at dksX0_sack_0 14 rfl rfl)
theorem dX0_sack_15 : decode cX0_sack 15 = .ok (.iand, 1) := dk_126 (dk_at dksX0_sack_0 15 rfl rfl)
theorem dX0_sack_16 : decode cX0_sack 16 = .ok (.istore_n 3, 1) := dk_62 (dk_at dksX0_sack_0 16 rfl rfl)
theorem dX0_sack_17 : decode cX0_sack 17 = .ok (.aload_n 0, 1) := dk_42 (dk_at dksX0_sack_0 17 rfl rfl)
theorem dX0_sack_18 : decode cX0_sack 18 = .ok (.getfield 88, 3) := dk_180 0 88 (dk_at dksX0_sack_0 18 rfl rfl)
theorem dX0_sack_21 : decode cX0_sack 21 = .ok (.iload_n 2, 1) := dk_28 (dk_at dksX0_sack_0 21 rfl rfl)
theorem dX0_sack_22 : decode cX0_sack 22 = .ok (.ifCond .eq 17, 3) := dk_153 0 17 (dk_at dksX0_sack_1 0 rfl rfl)
theorem dX0_sack_25 : decode cX0_sack 25 = .ok (.aload_n 0, 1) := dk_42 (dk_at dksX0_sack_1 3 rfl rfl)
theorem dX0_sack_26 : decode cX0_sack 26 = .ok (.getfield 88, 3) := dk_180 0 88 (dk_at dksX0_sack_1 4 rfl rfl)
theorem dX0_sack_29 : decode cX0_sack 29 = .ok (.getfield 222, 3) := dk_180 0 222 (dk_at dksX0_sack_1 7 rfl rfl)
theorem dX0_sack_32 : decode cX0_sack 32 = .ok (.iconst 1, 1) := dk_4 (dk_at dksX0_sack_1 10 rfl rfl)
theorem dX0_sack_33 : decode cX0_sack 33 = .ok (.iload_n 1, 1) := dk_27 (dk_at dksX0_sack_1 11 rfl rfl)
theorem dX0_sack_34 : decode cX0_sack 34 = .ok (.ishl, 1) := dk_120 (dk_at dksX0_sack_1 12 rfl rfl)
theorem dX0_sack_35 : decode cX0_sack 35 = .ok (.ior, 1) := dk_128 (dk_at dksX0_sack_1 13 rfl rfl)
theorem dX0_sack_36 : decode cX0_sack 36 = .ok (.goto 16, 3) := dk_167 0 16 (dk_at dksX0_sack_1 14 rfl rfl)
theorem dX0_sack_39 : decode cX0_sack 39 = .ok (.aload_n 0, 1) := dk_42 (dk_at dksX0_sack_1 17 rfl rfl)
theorem dX0_sack_40 : decode cX0_sack 40 = .ok (.getfield 88, 3) := dk_180 0 88 (dk_at dksX0_sack_1 18 rfl rfl)
theorem dX0_sack_43 : decode cX0_sack 43 = .ok (.getfield 222, 3) := dk_180 0 222 (dk_at dksX0_sack_1 21 rfl rfl)
theorem dX0_sack_46 : decode cX0_sack 46 = .ok (.iconst 1, 1) := dk_4 (dk_at dksX0_sack_2 0 rfl rfl)
theorem dX0_sack_47 : decode cX0_sack 47 = .ok (.iload_n 1, 1) := dk_27 (dk_at dksX0_sack_2 1 rfl rfl)
theorem dX0_sack_48 : decode cX0_sack 48 = .ok (.ishl, 1) := dk_120 (dk_at dksX0_sack_2 2 rfl rfl)
theorem dX0_sack_49 : decode cX0_sack 49 = .ok (.iconst (-1), 1) := dk_2 (dk_at dksX0_sack_2 3 rfl rfl)
theorem dX0_sack_50 : decode cX0_sack 50 = .ok (.ixor, 1) := dk_130 (dk_at dksX0_sack_2 4 rfl rfl)
theorem dX0_sack_51 : decode cX0_sack 51 = .ok (.iand, 1) := dk_126 (dk_at dksX0_sack_2 5 rfl rfl)
theorem dX0_sack_52 : decode cX0_sack 52 = .ok (.putfield 222, 3) := dk_181 0 222 (dk_at dksX0_sack_2 6 rfl rfl)
theorem dX0_sack_55 : decode cX0_sack 55 = .ok (.iload_n 3, 1) := dk_29 (dk_at dksX0_sack_2 9 rfl rfl)
theorem dX0_sack_56 : decode cX0_sack 56 = .ok (.ireturn, 1) := dk_172 (dk_at dksX0_sack_2 10 rfl rfl)
theorem dX0_sack_57 : decode cX0_sack 57 = .ok (.astore_n 3, 1) := dk_78 (dk_at dksX0_sack_2 11 rfl rfl)
theorem dX0_sack_58 : decode cX0_sack 58 = .ok (.aload_n 0, 1) := dk_42 (dk_at dksX0_sack_2 12 rfl rfl)
theorem dX0_sack_59 : decode cX0_sack 59 = .ok (.aload_n 3, 1) := dk_45 (dk_at dksX0_sack_2 13 rfl rfl)
theorem dX0_sack_60 : decode cX0_sack 60 = .ok (.invokevirtual 151, 3) := dk_182 0 151 (dk_at dksX0_sack_2 14 rfl rfl)
theorem dX0_sack_63 : decode cX0_sack 63 = .ok (.ireturn, 1) := dk_172 (dk_at dksX0_sack_2 17 rfl rfl)
abbrev cX0_ask : ByteArray := prog_1_method_25_code
def yX0_ask : MethodName := ⟨RX0, "ask", "(II)I"⟩
def dkwX0_ask_0 : List UInt8 := [42, 27, 28, 182, 0, 237, 172, 78, 42, 45, 182, 0, 151, 172]
abbrev dktX0_ask_0 : List UInt8 := dkwX0_ask_0 ++ []
theorem dksX0_ask_0 : cX0_ask.data.toList.drop 0 = dktX0_ask_0 := by decide +kernel
theorem dX0_ask_0 : decode cX0_ask 0 = .ok (.aload_n 0, 1) := dk_42 (dk_at dksX0_ask_0 0 rfl rfl)
theorem dX0_ask_1 : decode cX0_ask 1 = .ok (.iload_n 1, 1) := dk_27 (dk_at dksX0_ask_0 1 rfl rfl)
theorem dX0_ask_2 : decode cX0_ask 2 = .ok (.iload_n 2, 1) := dk_28 (dk_at dksX0_ask_0 2 rfl rfl)
theorem dX0_ask_3 : decode cX0_ask 3 = .ok (.invokevirtual 237, 3) := dk_182 0 237 (dk_at dksX0_ask_0 3 rfl rfl)
theorem dX0_ask_6 : decode cX0_ask 6 = .ok (.ireturn, 1) := dk_172 (dk_at dksX0_ask_0 6 rfl rfl)
theorem dX0_ask_7 : decode cX0_ask 7 = .ok (.astore_n 3, 1) := dk_78 (dk_at dksX0_ask_0 7 rfl rfl)
theorem dX0_ask_8 : decode cX0_ask 8 = .ok (.aload_n 0, 1) := dk_42 (dk_at dksX0_ask_0 8 rfl rfl)
theorem dX0_ask_9 : decode cX0_ask 9 = .ok (.aload_n 3, 1) := dk_45 (dk_at dksX0_ask_0 9 rfl rfl)
theorem dX0_ask_10 : decode cX0_ask 10 = .ok (.invokevirtual 151, 3) := dk_182 0 151 (dk_at dksX0_ask_0 10 rfl rfl)
theorem dX0_ask_13 : decode cX0_ask 13 = .ok (.ireturn, 1) := dk_172 (dk_at dksX0_ask_0 13 rfl rfl)
abbrev cX0_asked : ByteArray := prog_1_method_24_code
def yX0_asked : MethodName := ⟨RX0, "asked", "(II)I"⟩
def dkwX0_asked_7 : List UInt8 := [183, 0, 23, 191]
abbrev dktX0_asked_7 : List UInt8 := dkwX0_asked_7 ++ []
def dkwX0_asked_6 : List UInt8 := [180, 0, 88, 28, 4, 160, 0, 7, 4, 167, 0, 4, 3, 181, 0, 233, 29, 172, 187, 0, 21, 89, 16, 250]
abbrev dktX0_asked_6 : List UInt8 := dkwX0_asked_6 ++ dktX0_asked_7
def dkwX0_asked_5 : List UInt8 := [16, 250, 184, 0, 105, 42, 180, 0, 88, 180, 0, 233, 153, 0, 7, 4, 167, 0, 4, 3, 62, 42]
abbrev dktX0_asked_5 : List UInt8 := dkwX0_asked_5 ++ dktX0_asked_6
def dkwX0_asked_4 : List UInt8 := [180, 0, 88, 180, 0, 230, 62, 42, 180, 0, 88, 28, 181, 0, 230, 29, 172, 28, 133, 9, 10, 184, 0, 143]
abbrev dktX0_asked_4 : List UInt8 := dkwX0_asked_4 ++ dktX0_asked_5
def dkwX0_asked_3 : List UInt8 := [180, 0, 88, 28, 181, 0, 225, 29, 172, 28, 133, 10, 20, 0, 228, 184, 0, 143, 16, 250, 184, 0, 105, 42]
abbrev dktX0_asked_3 : List UInt8 := dkwX0_asked_3 ++ dktX0_asked_4
def dkwX0_asked_2 : List UInt8 := [28, 133, 10, 20, 0, 180, 184, 0, 143, 16, 250, 184, 0, 105, 42, 180, 0, 88, 180, 0, 225, 62, 42]
abbrev dktX0_asked_2 : List UInt8 := dkwX0_asked_2 ++ dktX0_asked_3
def dkwX0_asked_1 : List UInt8 := [170, 0, 0, 0, 0, 0, 138, 0, 0, 0, 0, 0, 0, 0, 2, 0, 0, 0, 27, 0, 0, 0, 59, 0, 0, 0, 91]
abbrev dktX0_asked_1 : List UInt8 := dkwX0_asked_1 ++ dktX0_asked_2
def dkwX0_asked_0 : List UInt8 := [27]
abbrev dktX0_asked_0 : List UInt8 := dkwX0_asked_0 ++ dktX0_asked_1
theorem dksX0_asked_0 : cX0_asked.data.toList.drop 0 = dktX0_asked_0 := by decide +kernel
theorem dksX0_asked_1 : cX0_asked.data.toList.drop 1 = dktX0_asked_1 := dk_seg dksX0_asked_0 1 rfl rfl
theorem dksX0_asked_2 : cX0_asked.data.toList.drop 28 = dktX0_asked_2 := dk_seg dksX0_asked_1 27 rfl rfl
theorem dksX0_asked_3 : cX0_asked.data.toList.drop 51 = dktX0_asked_3 := dk_seg dksX0_asked_2 23 rfl rfl
theorem dksX0_asked_4 : cX0_asked.data.toList.drop 75 = dktX0_asked_4 := dk_seg dksX0_asked_3 24 rfl rfl
theorem dksX0_asked_5 : cX0_asked.data.toList.drop 99 = dktX0_asked_5 := dk_seg dksX0_asked_4 24 rfl rfl
theorem dksX0_asked_6 : cX0_asked.data.toList.drop 121 = dktX0_asked_6 := dk_seg dksX0_asked_5 22 rfl rfl
theorem dksX0_asked_7 : cX0_asked.data.toList.drop 145 = dktX0_asked_7 := dk_seg dksX0_asked_6 24 rfl rfl
theorem dX0_asked_0 : decode cX0_asked 0 = .ok (.iload_n 1, 1) := dk_27 (dk_at dksX0_asked_0 0 rfl rfl)
theorem dX0_asked_1 : decode cX0_asked 1 = .ok (.tableswitch 138 0 2 #[27, 59, 91], 27) := by decide +kernel
theorem dX0_asked_28 : decode cX0_asked 28 = .ok (.iload_n 2, 1) := dk_28 (dk_at dksX0_asked_2 0 rfl rfl)
theorem dX0_asked_29 : decode cX0_asked 29 = .ok (.i2l, 1) := dk_133 (dk_at dksX0_asked_2 1 rfl rfl)
theorem dX0_asked_30 : decode cX0_asked 30 = .ok (.lconst 1, 1) := dk_10 (dk_at dksX0_asked_2 2 rfl rfl)
theorem dX0_asked_31 : decode cX0_asked 31 = .ok (.ldc2_w 180, 3) := dk_20 0 180 (dk_at dksX0_asked_2 3 rfl rfl)
theorem dX0_asked_34 : decode cX0_asked 34 = .ok (.invokestatic 143, 3) := dk_184 0 143 (dk_at dksX0_asked_2 6 rfl rfl)
theorem dX0_asked_37 : decode cX0_asked 37 = .ok (.bipush (-6), 2) := dk_16 250 (dk_at dksX0_asked_2 9 rfl rfl)
theorem dX0_asked_39 : decode cX0_asked 39 = .ok (.invokestatic 105, 3) := dk_184 0 105 (dk_at dksX0_asked_2 11 rfl rfl)
theorem dX0_asked_42 : decode cX0_asked 42 = .ok (.aload_n 0, 1) := dk_42 (dk_at dksX0_asked_2 14 rfl rfl)
theorem dX0_asked_43 : decode cX0_asked 43 = .ok (.getfield 88, 3) := dk_180 0 88 (dk_at dksX0_asked_2 15 rfl rfl)
theorem dX0_asked_46 : decode cX0_asked 46 = .ok (.getfield 225, 3) := dk_180 0 225 (dk_at dksX0_asked_2 18 rfl rfl)
theorem dX0_asked_49 : decode cX0_asked 49 = .ok (.istore_n 3, 1) := dk_62 (dk_at dksX0_asked_2 21 rfl rfl)
theorem dX0_asked_50 : decode cX0_asked 50 = .ok (.aload_n 0, 1) := dk_42 (dk_at dksX0_asked_2 22 rfl rfl)
theorem dX0_asked_51 : decode cX0_asked 51 = .ok (.getfield 88, 3) := dk_180 0 88 (dk_at dksX0_asked_3 0 rfl rfl)
theorem dX0_asked_54 : decode cX0_asked 54 = .ok (.iload_n 2, 1) := dk_28 (dk_at dksX0_asked_3 3 rfl rfl)
theorem dX0_asked_55 : decode cX0_asked 55 = .ok (.putfield 225, 3) := dk_181 0 225 (dk_at dksX0_asked_3 4 rfl rfl)
theorem dX0_asked_58 : decode cX0_asked 58 = .ok (.iload_n 3, 1) := dk_29 (dk_at dksX0_asked_3 7 rfl rfl)
theorem dX0_asked_59 : decode cX0_asked 59 = .ok (.ireturn, 1) := dk_172 (dk_at dksX0_asked_3 8 rfl rfl)
theorem dX0_asked_60 : decode cX0_asked 60 = .ok (.iload_n 2, 1) := dk_28 (dk_at dksX0_asked_3 9 rfl rfl)
theorem dX0_asked_61 : decode cX0_asked 61 = .ok (.i2l, 1) := dk_133 (dk_at dksX0_asked_3 10 rfl rfl)
theorem dX0_asked_62 : decode cX0_asked 62 = .ok (.lconst 1, 1) := dk_10 (dk_at dksX0_asked_3 11 rfl rfl)
theorem dX0_asked_63 : decode cX0_asked 63 = .ok (.ldc2_w 228, 3) := dk_20 0 228 (dk_at dksX0_asked_3 12 rfl rfl)
theorem dX0_asked_66 : decode cX0_asked 66 = .ok (.invokestatic 143, 3) := dk_184 0 143 (dk_at dksX0_asked_3 15 rfl rfl)
theorem dX0_asked_69 : decode cX0_asked 69 = .ok (.bipush (-6), 2) := dk_16 250 (dk_at dksX0_asked_3 18 rfl rfl)
theorem dX0_asked_71 : decode cX0_asked 71 = .ok (.invokestatic 105, 3) := dk_184 0 105 (dk_at dksX0_asked_3 20 rfl rfl)
theorem dX0_asked_74 : decode cX0_asked 74 = .ok (.aload_n 0, 1) := dk_42 (dk_at dksX0_asked_3 23 rfl rfl)
theorem dX0_asked_75 : decode cX0_asked 75 = .ok (.getfield 88, 3) := dk_180 0 88 (dk_at dksX0_asked_4 0 rfl rfl)
theorem dX0_asked_78 : decode cX0_asked 78 = .ok (.getfield 230, 3) := dk_180 0 230 (dk_at dksX0_asked_4 3 rfl rfl)
theorem dX0_asked_81 : decode cX0_asked 81 = .ok (.istore_n 3, 1) := dk_62 (dk_at dksX0_asked_4 6 rfl rfl)
theorem dX0_asked_82 : decode cX0_asked 82 = .ok (.aload_n 0, 1) := dk_42 (dk_at dksX0_asked_4 7 rfl rfl)
theorem dX0_asked_83 : decode cX0_asked 83 = .ok (.getfield 88, 3) := dk_180 0 88 (dk_at dksX0_asked_4 8 rfl rfl)
theorem dX0_asked_86 : decode cX0_asked 86 = .ok (.iload_n 2, 1) := dk_28 (dk_at dksX0_asked_4 11 rfl rfl)
theorem dX0_asked_87 : decode cX0_asked 87 = .ok (.putfield 230, 3) := dk_181 0 230 (dk_at dksX0_asked_4 12 rfl rfl)
theorem dX0_asked_90 : decode cX0_asked 90 = .ok (.iload_n 3, 1) := dk_29 (dk_at dksX0_asked_4 15 rfl rfl)
theorem dX0_asked_91 : decode cX0_asked 91 = .ok (.ireturn, 1) := dk_172 (dk_at dksX0_asked_4 16 rfl rfl)
theorem dX0_asked_92 : decode cX0_asked 92 = .ok (.iload_n 2, 1) := dk_28 (dk_at dksX0_asked_4 17 rfl rfl)
theorem dX0_asked_93 : decode cX0_asked 93 = .ok (.i2l, 1) := dk_133 (dk_at dksX0_asked_4 18 rfl rfl)
theorem dX0_asked_94 : decode cX0_asked 94 = .ok (.lconst 0, 1) := dk_9 (dk_at dksX0_asked_4 19 rfl rfl)
theorem dX0_asked_95 : decode cX0_asked 95 = .ok (.lconst 1, 1) := dk_10 (dk_at dksX0_asked_4 20 rfl rfl)
theorem dX0_asked_96 : decode cX0_asked 96 = .ok (.invokestatic 143, 3) := dk_184 0 143 (dk_at dksX0_asked_4 21 rfl rfl)
theorem dX0_asked_99 : decode cX0_asked 99 = .ok (.bipush (-6), 2) := dk_16 250 (dk_at dksX0_asked_5 0 rfl rfl)
theorem dX0_asked_101 : decode cX0_asked 101 = .ok (.invokestatic 105, 3) := dk_184 0 105 (dk_at dksX0_asked_5 2 rfl rfl)
theorem dX0_asked_104 : decode cX0_asked 104 = .ok (.aload_n 0, 1) := dk_42 (dk_at dksX0_asked_5 5 rfl rfl)
theorem dX0_asked_105 : decode cX0_asked 105 = .ok (.getfield 88, 3) := dk_180 0 88 (dk_at dksX0_asked_5 6 rfl rfl)
theorem dX0_asked_108 : decode cX0_asked 108 = .ok (.getfield 233, 3) := dk_180 0 233 (dk_at dksX0_asked_5 9 rfl rfl)
theorem dX0_asked_111 : decode cX0_asked 111 = .ok (.ifCond .eq 7, 3) := dk_153 0 7 (dk_at dksX0_asked_5 12 rfl rfl)
theorem dX0_asked_114 : decode cX0_asked 114 = .ok (.iconst 1, 1) := dk_4 (dk_at dksX0_asked_5 15 rfl rfl)
theorem dX0_asked_115 : decode cX0_asked 115 = .ok (.goto 4, 3) := dk_167 0 4 (dk_at dksX0_asked_5 16 rfl rfl)
theorem dX0_asked_118 : decode cX0_asked 118 = .ok (.iconst 0, 1) := dk_3 (dk_at dksX0_asked_5 19 rfl rfl)
theorem dX0_asked_119 : decode cX0_asked 119 = .ok (.istore_n 3, 1) := dk_62 (dk_at dksX0_asked_5 20 rfl rfl)
theorem dX0_asked_120 : decode cX0_asked 120 = .ok (.aload_n 0, 1) := dk_42 (dk_at dksX0_asked_5 21 rfl rfl)
theorem dX0_asked_121 : decode cX0_asked 121 = .ok (.getfield 88, 3) := dk_180 0 88 (dk_at dksX0_asked_6 0 rfl rfl)
theorem dX0_asked_124 : decode cX0_asked 124 = .ok (.iload_n 2, 1) := dk_28 (dk_at dksX0_asked_6 3 rfl rfl)
theorem dX0_asked_125 : decode cX0_asked 125 = .ok (.iconst 1, 1) := dk_4 (dk_at dksX0_asked_6 4 rfl rfl)
theorem dX0_asked_126 : decode cX0_asked 126 = .ok (.if_icmp .ne 7, 3) := dk_160 0 7 (dk_at dksX0_asked_6 5 rfl rfl)
theorem dX0_asked_129 : decode cX0_asked 129 = .ok (.iconst 1, 1) := dk_4 (dk_at dksX0_asked_6 8 rfl rfl)
theorem dX0_asked_130 : decode cX0_asked 130 = .ok (.goto 4, 3) := dk_167 0 4 (dk_at dksX0_asked_6 9 rfl rfl)
theorem dX0_asked_133 : decode cX0_asked 133 = .ok (.iconst 0, 1) := dk_3 (dk_at dksX0_asked_6 12 rfl rfl)
theorem dX0_asked_134 : decode cX0_asked 134 = .ok (.putfield 233, 3) := dk_181 0 233 (dk_at dksX0_asked_6 13 rfl rfl)
theorem dX0_asked_137 : decode cX0_asked 137 = .ok (.iload_n 3, 1) := dk_29 (dk_at dksX0_asked_6 16 rfl rfl)
theorem dX0_asked_138 : decode cX0_asked 138 = .ok (.ireturn, 1) := dk_172 (dk_at dksX0_asked_6 17 rfl rfl)
theorem dX0_asked_139 : decode cX0_asked 139 = .ok (.new 21, 3) := dk_187 0 21 (dk_at dksX0_asked_6 18 rfl rfl)
theorem dX0_asked_142 : decode cX0_asked 142 = .ok (.dup, 1) := dk_89 (dk_at dksX0_asked_6 21 rfl rfl)
theorem dX0_asked_143 : decode cX0_asked 143 = .ok (.bipush (-6), 2) := dk_16 250 (dk_at dksX0_asked_6 22 rfl rfl)
theorem dX0_asked_145 : decode cX0_asked 145 = .ok (.invokespecial 23, 3) := dk_183 0 23 (dk_at dksX0_asked_7 0 rfl rfl)
theorem dX0_asked_148 : decode cX0_asked 148 = .ok (.athrow, 1) := dk_191 (dk_at dksX0_asked_7 3 rfl rfl)
abbrev cX0_personOf : ByteArray := prog_1_method_26_code
def yX0_personOf : MethodName := ⟨RX0, "personOf", "(II)I"⟩
def dkwX0_personOf_6 : List UInt8 := [182, 0, 241, 172]
abbrev dktX0_personOf_6 : List UInt8 := dkwX0_personOf_6 ++ []
def dkwX0_personOf_5 : List UInt8 := [42, 180, 0, 88, 180, 0, 222, 27, 122, 4, 126, 172, 42, 180, 0, 88, 27, 182, 1, 3, 172, 42]
abbrev dktX0_personOf_5 : List UInt8 := dkwX0_personOf_5 ++ dktX0_personOf_6
def dkwX0_personOf_4 : List UInt8 := [180, 0, 253, 172, 42, 180, 0, 88, 180, 1, 0, 27, 46, 172, 42, 180, 0, 88, 180, 0, 219, 27, 46, 172]
abbrev dktX0_personOf_4 : List UInt8 := dkwX0_personOf_4 ++ dktX0_personOf_5
def dkwX0_personOf_3 : List UInt8 := [180, 0, 247, 172, 42, 180, 0, 88, 180, 0, 250, 27, 46, 172, 42, 180, 0, 88, 180, 0, 119, 27, 50]
abbrev dktX0_personOf_3 : List UInt8 := dkwX0_personOf_3 ++ dktX0_personOf_4
def dkwX0_personOf_2 : List UInt8 := [42, 180, 0, 88, 180, 0, 119, 27, 50, 182, 0, 244, 172, 42, 180, 0, 88, 180, 0, 119, 27, 50]
abbrev dktX0_personOf_2 : List UInt8 := dkwX0_personOf_2 ++ dktX0_personOf_3
def dkwX0_personOf_1 : List UInt8 := [170, 0, 0, 0, 0, 0, 137, 0, 0, 0, 0, 0, 0, 0, 7, 0, 0, 0, 47, 0, 0, 0, 60, 0, 0, 0, 73, 0, 0, 0, 83, 0, 0, 0, 96, 0, 0, 0, 106, 0, 0, 0, 116, 0, 0, 0, 128]
abbrev dktX0_personOf_1 : List UInt8 := dkwX0_personOf_1 ++ dktX0_personOf_2
def dkwX0_personOf_0 : List UInt8 := [42, 180, 0, 88, 27, 182, 0, 101, 154, 0, 8, 42, 182, 0, 241, 172, 28]
abbrev dktX0_personOf_0 : List UInt8 := dkwX0_personOf_0 ++ dktX0_personOf_1
theorem dksX0_personOf_0 : cX0_personOf.data.toList.drop 0 = dktX0_personOf_0 := by decide +kernel
theorem dksX0_personOf_1 : cX0_personOf.data.toList.drop 17 = dktX0_personOf_1 := dk_seg dksX0_personOf_0 17 rfl rfl
theorem dksX0_personOf_2 : cX0_personOf.data.toList.drop 64 = dktX0_personOf_2 := dk_seg dksX0_personOf_1 47 rfl rfl
theorem dksX0_personOf_3 : cX0_personOf.data.toList.drop 86 = dktX0_personOf_3 := dk_seg dksX0_personOf_2 22 rfl rfl
theorem dksX0_personOf_4 : cX0_personOf.data.toList.drop 109 = dktX0_personOf_4 := dk_seg dksX0_personOf_3 23 rfl rfl
theorem dksX0_personOf_5 : cX0_personOf.data.toList.drop 133 = dktX0_personOf_5 := dk_seg dksX0_personOf_4 24 rfl rfl
theorem dksX0_personOf_6 : cX0_personOf.data.toList.drop 155 = dktX0_personOf_6 := dk_seg dksX0_personOf_5 22 rfl rfl
theorem dX0_personOf_0 : decode cX0_personOf 0 = .ok (.aload_n 0, 1) := dk_42 (dk_at dksX0_personOf_0 0 rfl rfl)
theorem dX0_personOf_1 : decode cX0_personOf 1 = .ok (.getfield 88, 3) := dk_180 0 88 (dk_at dksX0_personOf_0 1 rfl rfl)
theorem dX0_personOf_4 : decode cX0_personOf 4 = .ok (.iload_n 1, 1) := dk_27 (dk_at dksX0_personOf_0 4 rfl rfl)
theorem dX0_personOf_5 : decode cX0_personOf 5 = .ok (.invokevirtual 101, 3) := dk_182 0 101 (dk_at dksX0_personOf_0 5 rfl rfl)
theorem dX0_personOf_8 : decode cX0_personOf 8 = .ok (.ifCond .ne 8, 3) := dk_154 0 8 (dk_at dksX0_personOf_0 8 rfl rfl)
theorem dX0_personOf_11 : decode cX0_personOf 11 = .ok (.aload_n 0, 1) := dk_42 (dk_at dksX0_personOf_0 11 rfl rfl)
theorem dX0_personOf_12 : decode cX0_personOf 12 = .ok (.invokevirtual 241, 3) := dk_182 0 241 (dk_at dksX0_personOf_0 12 rfl rfl)
theorem dX0_personOf_15 : decode cX0_personOf 15 = .ok (.ireturn, 1) := dk_172 (dk_at dksX0_personOf_0 15 rfl rfl)
theorem dX0_personOf_16 : decode cX0_personOf 16 = .ok (.iload_n 2, 1) := dk_28 (dk_at dksX0_personOf_0 16 rfl rfl)
theorem dX0_personOf_17 : decode cX0_personOf 17 = .ok (.tableswitch 137 0 7 #[47, 60, 73, 83, 96, 106, 116, 128], 47) := by decide +kernel
theorem dX0_personOf_64 : decode cX0_personOf 64 = .ok (.aload_n 0, 1) := dk_42 (dk_at dksX0_personOf_2 0 rfl rfl)
theorem dX0_personOf_65 : decode cX0_personOf 65 = .ok (.getfield 88, 3) := dk_180 0 88 (dk_at dksX0_personOf_2 1 rfl rfl)
theorem dX0_personOf_68 : decode cX0_personOf 68 = .ok (.getfield 119, 3) := dk_180 0 119 (dk_at dksX0_personOf_2 4 rfl rfl)
theorem dX0_personOf_71 : decode cX0_personOf 71 = .ok (.iload_n 1, 1) := dk_27 (dk_at dksX0_personOf_2 7 rfl rfl)
theorem dX0_personOf_72 : decode cX0_personOf 72 = .ok (.aaload, 1) := dk_50 (dk_at dksX0_personOf_2 8 rfl rfl)
theorem dX0_personOf_73 : decode cX0_personOf 73 = .ok (.invokevirtual 244, 3) := dk_182 0 244 (dk_at dksX0_personOf_2 9 rfl rfl)
theorem dX0_personOf_76 : decode cX0_personOf 76 = .ok (.ireturn, 1) := dk_172 (dk_at dksX0_personOf_2 12 rfl rfl)
theorem dX0_personOf_77 : decode cX0_personOf 77 = .ok (.aload_n 0, 1) := dk_42 (dk_at dksX0_personOf_2 13 rfl rfl)
theorem dX0_personOf_78 : decode cX0_personOf 78 = .ok (.getfield 88, 3) := dk_180 0 88 (dk_at dksX0_personOf_2 14 rfl rfl)
theorem dX0_personOf_81 : decode cX0_personOf 81 = .ok (.getfield 119, 3) := dk_180 0 119 (dk_at dksX0_personOf_2 17 rfl rfl)
theorem dX0_personOf_84 : decode cX0_personOf 84 = .ok (.iload_n 1, 1) := dk_27 (dk_at dksX0_personOf_2 20 rfl rfl)
theorem dX0_personOf_85 : decode cX0_personOf 85 = .ok (.aaload, 1) := dk_50 (dk_at dksX0_personOf_2 21 rfl rfl)
theorem dX0_personOf_86 : decode cX0_personOf 86 = .ok (.getfield 247, 3) := dk_180 0 247 (dk_at dksX0_personOf_3 0 rfl rfl)
theorem dX0_personOf_89 : decode cX0_personOf 89 = .ok (.ireturn, 1) := dk_172 (dk_at dksX0_personOf_3 3 rfl rfl)
theorem dX0_personOf_90 : decode cX0_personOf 90 = .ok (.aload_n 0, 1) := dk_42 (dk_at dksX0_personOf_3 4 rfl rfl)
theorem dX0_personOf_91 : decode cX0_personOf 91 = .ok (.getfield 88, 3) := dk_180 0 88 (dk_at dksX0_personOf_3 5 rfl rfl)
theorem dX0_personOf_94 : decode cX0_personOf 94 = .ok (.getfield 250, 3) := dk_180 0 250 (dk_at dksX0_personOf_3 8 rfl rfl)
theorem dX0_personOf_97 : decode cX0_personOf 97 = .ok (.iload_n 1, 1) := dk_27 (dk_at dksX0_personOf_3 11 rfl rfl)
theorem dX0_personOf_98 : decode cX0_personOf 98 = .ok (.iaload, 1) := dk_46 (dk_at dksX0_personOf_3 12 rfl rfl)
theorem dX0_personOf_99 : decode cX0_personOf 99 = .ok (.ireturn, 1) := dk_172 (dk_at dksX0_personOf_3 13 rfl rfl)
theorem dX0_personOf_100 : decode cX0_personOf 100 = .ok (.aload_n 0, 1) := dk_42 (dk_at dksX0_personOf_3 14 rfl rfl)
theorem dX0_personOf_101 : decode cX0_personOf 101 = .ok (.getfield 88, 3) := dk_180 0 88 (dk_at dksX0_personOf_3 15 rfl rfl)
theorem dX0_personOf_104 : decode cX0_personOf 104 = .ok (.getfield 119, 3) := dk_180 0 119 (dk_at dksX0_personOf_3 18 rfl rfl)
theorem dX0_personOf_107 : decode cX0_personOf 107 = .ok (.iload_n 1, 1) := dk_27 (dk_at dksX0_personOf_3 21 rfl rfl)
theorem dX0_personOf_108 : decode cX0_personOf 108 = .ok (.aaload, 1) := dk_50 (dk_at dksX0_personOf_3 22 rfl rfl)
theorem dX0_personOf_109 : decode cX0_personOf 109 = .ok (.getfield 253, 3) := dk_180 0 253 (dk_at dksX0_personOf_4 0 rfl rfl)
theorem dX0_personOf_112 : decode cX0_personOf 112 = .ok (.ireturn, 1) := dk_172 (dk_at dksX0_personOf_4 3 rfl rfl)
theorem dX0_personOf_113 : decode cX0_personOf 113 = .ok (.aload_n 0, 1) := dk_42 (dk_at dksX0_personOf_4 4 rfl rfl)
theorem dX0_personOf_114 : decode cX0_personOf 114 = .ok (.getfield 88, 3) := dk_180 0 88 (dk_at dksX0_personOf_4 5 rfl rfl)
theorem dX0_personOf_117 : decode cX0_personOf 117 = .ok (.getfield 256, 3) := dk_180 1 0 (dk_at dksX0_personOf_4 8 rfl rfl)
theorem dX0_personOf_120 : decode cX0_personOf 120 = .ok (.iload_n 1, 1) := dk_27 (dk_at dksX0_personOf_4 11 rfl rfl)
theorem dX0_personOf_121 : decode cX0_personOf 121 = .ok (.iaload, 1) := dk_46 (dk_at dksX0_personOf_4 12 rfl rfl)
theorem dX0_personOf_122 : decode cX0_personOf 122 = .ok (.ireturn, 1) := dk_172 (dk_at dksX0_personOf_4 13 rfl rfl)
theorem dX0_personOf_123 : decode cX0_personOf 123 = .ok (.aload_n 0, 1) := dk_42 (dk_at dksX0_personOf_4 14 rfl rfl)
theorem dX0_personOf_124 : decode cX0_personOf 124 = .ok (.getfield 88, 3) := dk_180 0 88 (dk_at dksX0_personOf_4 15 rfl rfl)
theorem dX0_personOf_127 : decode cX0_personOf 127 = .ok (.getfield 219, 3) := dk_180 0 219 (dk_at dksX0_personOf_4 18 rfl rfl)
theorem dX0_personOf_130 : decode cX0_personOf 130 = .ok (.iload_n 1, 1) := dk_27 (dk_at dksX0_personOf_4 21 rfl rfl)
theorem dX0_personOf_131 : decode cX0_personOf 131 = .ok (.iaload, 1) := dk_46 (dk_at dksX0_personOf_4 22 rfl rfl)
theorem dX0_personOf_132 : decode cX0_personOf 132 = .ok (.ireturn, 1) := dk_172 (dk_at dksX0_personOf_4 23 rfl rfl)
theorem dX0_personOf_133 : decode cX0_personOf 133 = .ok (.aload_n 0, 1) := dk_42 (dk_at dksX0_personOf_5 0 rfl rfl)
theorem dX0_personOf_134 : decode cX0_personOf 134 = .ok (.getfield 88, 3) := dk_180 0 88 (dk_at dksX0_personOf_5 1 rfl rfl)
theorem dX0_personOf_137 : decode cX0_personOf 137 = .ok (.getfield 222, 3) := dk_180 0 222 (dk_at dksX0_personOf_5 4 rfl rfl)
theorem dX0_personOf_140 : decode cX0_personOf 140 = .ok (.iload_n 1, 1) := dk_27 (dk_at dksX0_personOf_5 7 rfl rfl)
theorem dX0_personOf_141 : decode cX0_personOf 141 = .ok (.ishr, 1) := dk_122 (dk_at dksX0_personOf_5 8 rfl rfl)
theorem dX0_personOf_142 : decode cX0_personOf 142 = .ok (.iconst 1, 1) := dk_4 (dk_at dksX0_personOf_5 9 rfl rfl)
theorem dX0_personOf_143 : decode cX0_personOf 143 = .ok (.iand, 1) := dk_126 (dk_at dksX0_personOf_5 10 rfl rfl)
theorem dX0_personOf_144 : decode cX0_personOf 144 = .ok (.ireturn, 1) := dk_172 (dk_at dksX0_personOf_5 11 rfl rfl)
theorem dX0_personOf_145 : decode cX0_personOf 145 = .ok (.aload_n 0, 1) := dk_42 (dk_at dksX0_personOf_5 12 rfl rfl)
theorem dX0_personOf_146 : decode cX0_personOf 146 = .ok (.getfield 88, 3) := dk_180 0 88 (dk_at dksX0_personOf_5 13 rfl rfl)
theorem dX0_personOf_149 : decode cX0_personOf 149 = .ok (.iload_n 1, 1) := dk_27 (dk_at dksX0_personOf_5 16 rfl rfl)
theorem dX0_personOf_150 : decode cX0_personOf 150 = .ok (.invokevirtual 259, 3) := dk_182 1 3 (dk_at dksX0_personOf_5 17 rfl rfl)
theorem dX0_personOf_153 : decode cX0_personOf 153 = .ok (.ireturn, 1) := dk_172 (dk_at dksX0_personOf_5 20 rfl rfl)
theorem dX0_personOf_154 : decode cX0_personOf 154 = .ok (.aload_n 0, 1) := dk_42 (dk_at dksX0_personOf_5 21 rfl rfl)
theorem dX0_personOf_155 : decode cX0_personOf 155 = .ok (.invokevirtual 241, 3) := dk_182 0 241 (dk_at dksX0_personOf_6 0 rfl rfl)
theorem dX0_personOf_158 : decode cX0_personOf 158 = .ok (.ireturn, 1) := dk_172 (dk_at dksX0_personOf_6 3 rfl rfl)
abbrev cX0_beyond : ByteArray := prog_1_method_7_code
def yX0_beyond : MethodName := ⟨RX0, "beyond", "()I"⟩
def dkwX0_beyond_0 : List UInt8 := [42, 180, 0, 63, 8, 92, 46, 4, 96, 79, 16, 251, 172]
abbrev dktX0_beyond_0 : List UInt8 := dkwX0_beyond_0 ++ []
theorem dksX0_beyond_0 : cX0_beyond.data.toList.drop 0 = dktX0_beyond_0 := by decide +kernel
theorem dX0_beyond_0 : decode cX0_beyond 0 = .ok (.aload_n 0, 1) := dk_42 (dk_at dksX0_beyond_0 0 rfl rfl)
theorem dX0_beyond_1 : decode cX0_beyond 1 = .ok (.getfield 63, 3) := dk_180 0 63 (dk_at dksX0_beyond_0 1 rfl rfl)
theorem dX0_beyond_4 : decode cX0_beyond 4 = .ok (.iconst 5, 1) := dk_8 (dk_at dksX0_beyond_0 4 rfl rfl)
theorem dX0_beyond_5 : decode cX0_beyond 5 = .ok (.dup2, 1) := dk_92 (dk_at dksX0_beyond_0 5 rfl rfl)
theorem dX0_beyond_6 : decode cX0_beyond 6 = .ok (.iaload, 1) := dk_46 (dk_at dksX0_beyond_0 6 rfl rfl)
theorem dX0_beyond_7 : decode cX0_beyond 7 = .ok (.iconst 1, 1) := dk_4 (dk_at dksX0_beyond_0 7 rfl rfl)
theorem dX0_beyond_8 : decode cX0_beyond 8 = .ok (.iadd, 1) := dk_96 (dk_at dksX0_beyond_0 8 rfl rfl)
theorem dX0_beyond_9 : decode cX0_beyond 9 = .ok (.iastore, 1) := dk_79 (dk_at dksX0_beyond_0 9 rfl rfl)
theorem dX0_beyond_10 : decode cX0_beyond 10 = .ok (.bipush (-5), 2) := dk_16 251 (dk_at dksX0_beyond_0 10 rfl rfl)
theorem dX0_beyond_12 : decode cX0_beyond 12 = .ok (.ireturn, 1) := dk_172 (dk_at dksX0_beyond_0 12 rfl rfl)
abbrev cX0_squareOf : ByteArray := prog_1_method_27_code
def yX0_squareOf : MethodName := ⟨RX0, "squareOf", "(II)I"⟩
def dkwX0_squareOf_3 : List UInt8 := [27, 123, 10, 127, 136, 172, 42, 180, 0, 88, 27, 182, 0, 204, 172, 42, 182, 0, 241, 172]
abbrev dktX0_squareOf_3 : List UInt8 := dkwX0_squareOf_3 ++ []
def dkwX0_squareOf_2 : List UInt8 := [42, 180, 0, 88, 27, 182, 1, 6, 153, 0, 7, 4, 167, 0, 4, 3, 172, 42, 180, 0, 88, 180, 0, 212]
abbrev dktX0_squareOf_2 : List UInt8 := dkwX0_squareOf_2 ++ dktX0_squareOf_3
def dkwX0_squareOf_1 : List UInt8 := [170, 0, 0, 0, 0, 65, 0, 0, 0, 0, 0, 0, 0, 2, 0, 0, 0, 26, 0, 0, 0, 43, 0, 0, 0, 56]
abbrev dktX0_squareOf_1 : List UInt8 := dkwX0_squareOf_1 ++ dktX0_squareOf_2
def dkwX0_squareOf_0 : List UInt8 := [27, 133, 9, 20, 0, 202, 184, 0, 143, 154, 0, 8, 42, 182, 0, 241, 172, 28]
abbrev dktX0_squareOf_0 : List UInt8 := dkwX0_squareOf_0 ++ dktX0_squareOf_1
theorem dksX0_squareOf_0 : cX0_squareOf.data.toList.drop 0 = dktX0_squareOf_0 := by decide +kernel
theorem dksX0_squareOf_1 : cX0_squareOf.data.toList.drop 18 = dktX0_squareOf_1 := dk_seg dksX0_squareOf_0 18 rfl rfl
theorem dksX0_squareOf_2 : cX0_squareOf.data.toList.drop 44 = dktX0_squareOf_2 := dk_seg dksX0_squareOf_1 26 rfl rfl
theorem dksX0_squareOf_3 : cX0_squareOf.data.toList.drop 68 = dktX0_squareOf_3 := dk_seg dksX0_squareOf_2 24 rfl rfl
theorem dX0_squareOf_0 : decode cX0_squareOf 0 = .ok (.iload_n 1, 1) := dk_27 (dk_at dksX0_squareOf_0 0 rfl rfl)
theorem dX0_squareOf_1 : decode cX0_squareOf 1 = .ok (.i2l, 1) := dk_133 (dk_at dksX0_squareOf_0 1 rfl rfl)
theorem dX0_squareOf_2 : decode cX0_squareOf 2 = .ok (.lconst 0, 1) := dk_9 (dk_at dksX0_squareOf_0 2 rfl rfl)
theorem dX0_squareOf_3 : decode cX0_squareOf 3 = .ok (.ldc2_w 202, 3) := dk_20 0 202 (dk_at dksX0_squareOf_0 3 rfl rfl)
theorem dX0_squareOf_6 : decode cX0_squareOf 6 = .ok (.invokestatic 143, 3) := dk_184 0 143 (dk_at dksX0_squareOf_0 6 rfl rfl)
theorem dX0_squareOf_9 : decode cX0_squareOf 9 = .ok (.ifCond .ne 8, 3) := dk_154 0 8 (dk_at dksX0_squareOf_0 9 rfl rfl)
theorem dX0_squareOf_12 : decode cX0_squareOf 12 = .ok (.aload_n 0, 1) := dk_42 (dk_at dksX0_squareOf_0 12 rfl rfl)
theorem dX0_squareOf_13 : decode cX0_squareOf 13 = .ok (.invokevirtual 241, 3) := dk_182 0 241 (dk_at dksX0_squareOf_0 13 rfl rfl)
theorem dX0_squareOf_16 : decode cX0_squareOf 16 = .ok (.ireturn, 1) := dk_172 (dk_at dksX0_squareOf_0 16 rfl rfl)
theorem dX0_squareOf_17 : decode cX0_squareOf 17 = .ok (.iload_n 2, 1) := dk_28 (dk_at dksX0_squareOf_0 17 rfl rfl)
theorem dX0_squareOf_18 : decode cX0_squareOf 18 = .ok (.tableswitch 65 0 2 #[26, 43, 56], 26) := by decide +kernel
theorem dX0_squareOf_44 : decode cX0_squareOf 44 = .ok (.aload_n 0, 1) := dk_42 (dk_at dksX0_squareOf_2 0 rfl rfl)
theorem dX0_squareOf_45 : decode cX0_squareOf 45 = .ok (.getfield 88, 3) := dk_180 0 88 (dk_at dksX0_squareOf_2 1 rfl rfl)
theorem dX0_squareOf_48 : decode cX0_squareOf 48 = .ok (.iload_n 1, 1) := dk_27 (dk_at dksX0_squareOf_2 4 rfl rfl)
theorem dX0_squareOf_49 : decode cX0_squareOf 49 = .ok (.invokevirtual 262, 3) := dk_182 1 6 (dk_at dksX0_squareOf_2 5 rfl rfl)
theorem dX0_squareOf_52 : decode cX0_squareOf 52 = .ok (.ifCond .eq 7, 3) := dk_153 0 7 (dk_at dksX0_squareOf_2 8 rfl rfl)
theorem dX0_squareOf_55 : decode cX0_squareOf 55 = .ok (.iconst 1, 1) := dk_4 (dk_at dksX0_squareOf_2 11 rfl rfl)
theorem dX0_squareOf_56 : decode cX0_squareOf 56 = .ok (.goto 4, 3) := dk_167 0 4 (dk_at dksX0_squareOf_2 12 rfl rfl)
theorem dX0_squareOf_59 : decode cX0_squareOf 59 = .ok (.iconst 0, 1) := dk_3 (dk_at dksX0_squareOf_2 15 rfl rfl)
theorem dX0_squareOf_60 : decode cX0_squareOf 60 = .ok (.ireturn, 1) := dk_172 (dk_at dksX0_squareOf_2 16 rfl rfl)
theorem dX0_squareOf_61 : decode cX0_squareOf 61 = .ok (.aload_n 0, 1) := dk_42 (dk_at dksX0_squareOf_2 17 rfl rfl)
theorem dX0_squareOf_62 : decode cX0_squareOf 62 = .ok (.getfield 88, 3) := dk_180 0 88 (dk_at dksX0_squareOf_2 18 rfl rfl)
theorem dX0_squareOf_65 : decode cX0_squareOf 65 = .ok (.getfield 212, 3) := dk_180 0 212 (dk_at dksX0_squareOf_2 21 rfl rfl)
theorem dX0_squareOf_68 : decode cX0_squareOf 68 = .ok (.iload_n 1, 1) := dk_27 (dk_at dksX0_squareOf_3 0 rfl rfl)
theorem dX0_squareOf_69 : decode cX0_squareOf 69 = .ok (.lshr, 1) := dk_123 (dk_at dksX0_squareOf_3 1 rfl rfl)
theorem dX0_squareOf_70 : decode cX0_squareOf 70 = .ok (.lconst 1, 1) := dk_10 (dk_at dksX0_squareOf_3 2 rfl rfl)
theorem dX0_squareOf_71 : decode cX0_squareOf 71 = .ok (.land, 1) := dk_127 (dk_at dksX0_squareOf_3 3 rfl rfl)
theorem dX0_squareOf_72 : decode cX0_squareOf 72 = .ok (.l2i, 1) := dk_136 (dk_at dksX0_squareOf_3 4 rfl rfl)
theorem dX0_squareOf_73 : decode cX0_squareOf 73 = .ok (.ireturn, 1) := dk_172 (dk_at dksX0_squareOf_3 5 rfl rfl)
theorem dX0_squareOf_74 : decode cX0_squareOf 74 = .ok (.aload_n 0, 1) := dk_42 (dk_at dksX0_squareOf_3 6 rfl rfl)
theorem dX0_squareOf_75 : decode cX0_squareOf 75 = .ok (.getfield 88, 3) := dk_180 0 88 (dk_at dksX0_squareOf_3 7 rfl rfl)
theorem dX0_squareOf_78 : decode cX0_squareOf 78 = .ok (.iload_n 1, 1) := dk_27 (dk_at dksX0_squareOf_3 10 rfl rfl)
theorem dX0_squareOf_79 : decode cX0_squareOf 79 = .ok (.invokevirtual 204, 3) := dk_182 0 204 (dk_at dksX0_squareOf_3 11 rfl rfl)
theorem dX0_squareOf_82 : decode cX0_squareOf 82 = .ok (.ireturn, 1) := dk_172 (dk_at dksX0_squareOf_3 14 rfl rfl)
theorem dX0_squareOf_83 : decode cX0_squareOf 83 = .ok (.aload_n 0, 1) := dk_42 (dk_at dksX0_squareOf_3 15 rfl rfl)
theorem dX0_squareOf_84 : decode cX0_squareOf 84 = .ok (.invokevirtual 241, 3) := dk_182 0 241 (dk_at dksX0_squareOf_3 16 rfl rfl)
theorem dX0_squareOf_87 : decode cX0_squareOf 87 = .ok (.ireturn, 1) := dk_172 (dk_at dksX0_squareOf_3 19 rfl rfl)
abbrev cX0_town : ByteArray := prog_1_method_28_code
def yX0_town : MethodName := ⟨RX0, "town", "(I)I"⟩
def dkwX0_town_3 : List UInt8 := [183, 0, 23, 191, 77, 42, 44, 182, 0, 151, 172]
abbrev dktX0_town_3 : List UInt8 := dkwX0_town_3 ++ []
def dkwX0_town_2 : List UInt8 := [181, 0, 88, 21, 4, 172, 58, 4, 42, 25, 4, 180, 1, 23, 181, 0, 91, 187, 0, 21, 89, 16, 250]
abbrev dktX0_town_2 : List UInt8 := dkwX0_town_2 ++ dktX0_town_3
def dkwX0_town_1 : List UInt8 := [180, 0, 88, 182, 1, 9, 78, 187, 1, 13, 89, 44, 45, 183, 1, 15, 182, 1, 18, 54, 4, 42, 45]
abbrev dktX0_town_1 : List UInt8 := dkwX0_town_1 ++ dktX0_town_2
def dkwX0_town_0 : List UInt8 := [42, 27, 182, 0, 137, 182, 0, 155, 77, 42, 2, 181, 0, 91, 187, 0, 74, 89, 183, 0, 76, 42]
abbrev dktX0_town_0 : List UInt8 := dkwX0_town_0 ++ dktX0_town_1
theorem dksX0_town_0 : cX0_town.data.toList.drop 0 = dktX0_town_0 := by decide +kernel
theorem dksX0_town_1 : cX0_town.data.toList.drop 22 = dktX0_town_1 := dk_seg dksX0_town_0 22 rfl rfl
theorem dksX0_town_2 : cX0_town.data.toList.drop 45 = dktX0_town_2 := dk_seg dksX0_town_1 23 rfl rfl
theorem dksX0_town_3 : cX0_town.data.toList.drop 68 = dktX0_town_3 := dk_seg dksX0_town_2 23 rfl rfl
theorem dX0_town_0 : decode cX0_town 0 = .ok (.aload_n 0, 1) := dk_42 (dk_at dksX0_town_0 0 rfl rfl)
theorem dX0_town_1 : decode cX0_town 1 = .ok (.iload_n 1, 1) := dk_27 (dk_at dksX0_town_0 1 rfl rfl)
theorem dX0_town_2 : decode cX0_town 2 = .ok (.invokevirtual 137, 3) := dk_182 0 137 (dk_at dksX0_town_0 2 rfl rfl)
theorem dX0_town_5 : decode cX0_town 5 = .ok (.invokevirtual 155, 3) := dk_182 0 155 (dk_at dksX0_town_0 5 rfl rfl)
theorem dX0_town_8 : decode cX0_town 8 = .ok (.astore_n 2, 1) := dk_77 (dk_at dksX0_town_0 8 rfl rfl)
theorem dX0_town_9 : decode cX0_town 9 = .ok (.aload_n 0, 1) := dk_42 (dk_at dksX0_town_0 9 rfl rfl)
theorem dX0_town_10 : decode cX0_town 10 = .ok (.iconst (-1), 1) := dk_2 (dk_at dksX0_town_0 10 rfl rfl)
theorem dX0_town_11 : decode cX0_town 11 = .ok (.putfield 91, 3) := dk_181 0 91 (dk_at dksX0_town_0 11 rfl rfl)
theorem dX0_town_14 : decode cX0_town 14 = .ok (.new 74, 3) := dk_187 0 74 (dk_at dksX0_town_0 14 rfl rfl)
theorem dX0_town_17 : decode cX0_town 17 = .ok (.dup, 1) := dk_89 (dk_at dksX0_town_0 17 rfl rfl)
theorem dX0_town_18 : decode cX0_town 18 = .ok (.invokespecial 76, 3) := dk_183 0 76 (dk_at dksX0_town_0 18 rfl rfl)
theorem dX0_town_21 : decode cX0_town 21 = .ok (.aload_n 0, 1) := dk_42 (dk_at dksX0_town_0 21 rfl rfl)
theorem dX0_town_22 : decode cX0_town 22 = .ok (.getfield 88, 3) := dk_180 0 88 (dk_at dksX0_town_1 0 rfl rfl)
theorem dX0_town_25 : decode cX0_town 25 = .ok (.invokevirtual 265, 3) := dk_182 1 9 (dk_at dksX0_town_1 3 rfl rfl)
theorem dX0_town_28 : decode cX0_town 28 = .ok (.astore_n 3, 1) := dk_78 (dk_at dksX0_town_1 6 rfl rfl)
theorem dX0_town_29 : decode cX0_town 29 = .ok (.new 269, 3) := dk_187 1 13 (dk_at dksX0_town_1 7 rfl rfl)
theorem dX0_town_32 : decode cX0_town 32 = .ok (.dup, 1) := dk_89 (dk_at dksX0_town_1 10 rfl rfl)
theorem dX0_town_33 : decode cX0_town 33 = .ok (.aload_n 2, 1) := dk_44 (dk_at dksX0_town_1 11 rfl rfl)
theorem dX0_town_34 : decode cX0_town 34 = .ok (.aload_n 3, 1) := dk_45 (dk_at dksX0_town_1 12 rfl rfl)
theorem dX0_town_35 : decode cX0_town 35 = .ok (.invokespecial 271, 3) := dk_183 1 15 (dk_at dksX0_town_1 13 rfl rfl)
theorem dX0_town_38 : decode cX0_town 38 = .ok (.invokevirtual 274, 3) := dk_182 1 18 (dk_at dksX0_town_1 16 rfl rfl)
theorem dX0_town_41 : decode cX0_town 41 = .ok (.istore 4, 2) := dk_54 4 (dk_at dksX0_town_1 19 rfl rfl)
theorem dX0_town_43 : decode cX0_town 43 = .ok (.aload_n 0, 1) := dk_42 (dk_at dksX0_town_1 21 rfl rfl)
theorem dX0_town_44 : decode cX0_town 44 = .ok (.aload_n 3, 1) := dk_45 (dk_at dksX0_town_1 22 rfl rfl)
theorem dX0_town_45 : decode cX0_town 45 = .ok (.putfield 88, 3) := dk_181 0 88 (dk_at dksX0_town_2 0 rfl rfl)
theorem dX0_town_48 : decode cX0_town 48 = .ok (.iload 4, 2) := dk_21 4 (dk_at dksX0_town_2 3 rfl rfl)
theorem dX0_town_50 : decode cX0_town 50 = .ok (.ireturn, 1) := dk_172 (dk_at dksX0_town_2 5 rfl rfl)
theorem dX0_town_51 : decode cX0_town 51 = .ok (.astore 4, 2) := dk_58 4 (dk_at dksX0_town_2 6 rfl rfl)
theorem dX0_town_53 : decode cX0_town 53 = .ok (.aload_n 0, 1) := dk_42 (dk_at dksX0_town_2 8 rfl rfl)
theorem dX0_town_54 : decode cX0_town 54 = .ok (.aload 4, 2) := dk_25 4 (dk_at dksX0_town_2 9 rfl rfl)
theorem dX0_town_56 : decode cX0_town 56 = .ok (.getfield 279, 3) := dk_180 1 23 (dk_at dksX0_town_2 11 rfl rfl)
theorem dX0_town_59 : decode cX0_town 59 = .ok (.putfield 91, 3) := dk_181 0 91 (dk_at dksX0_town_2 14 rfl rfl)
theorem dX0_town_62 : decode cX0_town 62 = .ok (.new 21, 3) := dk_187 0 21 (dk_at dksX0_town_2 17 rfl rfl)
theorem dX0_town_65 : decode cX0_town 65 = .ok (.dup, 1) := dk_89 (dk_at dksX0_town_2 20 rfl rfl)
theorem dX0_town_66 : decode cX0_town 66 = .ok (.bipush (-6), 2) := dk_16 250 (dk_at dksX0_town_2 21 rfl rfl)
theorem dX0_town_68 : decode cX0_town 68 = .ok (.invokespecial 23, 3) := dk_183 0 23 (dk_at dksX0_town_3 0 rfl rfl)
theorem dX0_town_71 : decode cX0_town 71 = .ok (.athrow, 1) := dk_191 (dk_at dksX0_town_3 3 rfl rfl)
theorem dX0_town_72 : decode cX0_town 72 = .ok (.astore_n 2, 1) := dk_77 (dk_at dksX0_town_3 4 rfl rfl)
theorem dX0_town_73 : decode cX0_town 73 = .ok (.aload_n 0, 1) := dk_42 (dk_at dksX0_town_3 5 rfl rfl)
theorem dX0_town_74 : decode cX0_town 74 = .ok (.aload_n 2, 1) := dk_44 (dk_at dksX0_town_3 6 rfl rfl)
theorem dX0_town_75 : decode cX0_town 75 = .ok (.invokevirtual 151, 3) := dk_182 0 151 (dk_at dksX0_town_3 7 rfl rfl)
theorem dX0_town_78 : decode cX0_town 78 = .ok (.ireturn, 1) := dk_172 (dk_at dksX0_town_3 10 rfl rfl)
abbrev cX0_fault : ByteArray := prog_1_method_29_code
def yX0_fault : MethodName := ⟨RX0, "fault", "()I"⟩
theorem dX0_fault_0 : decode cX0_fault 0 = .ok (.aload_n 0, 1) := by decide +kernel
theorem dX0_fault_1 : decode cX0_fault 1 = .ok (.getfield 91, 3) := by decide +kernel
theorem dX0_fault_4 : decode cX0_fault 4 = .ok (.ireturn, 1) := by decide +kernel
abbrev cX0_view : ByteArray := prog_1_method_30_code
def yX0_view : MethodName := ⟨RX0, "view", "(II)I"⟩
def dkwX0_view_2 : List UInt8 := [167, 0, 4, 3, 172, 78, 42, 45, 182, 0, 151, 172]
abbrev dktX0_view_2 : List UInt8 := dkwX0_view_2 ++ []
def dkwX0_view_1 : List UInt8 := [4, 167, 0, 4, 3, 16, 250, 184, 0, 105, 42, 180, 0, 88, 27, 28, 182, 1, 26, 153, 0, 7, 4]
abbrev dktX0_view_1 : List UInt8 := dkwX0_view_1 ++ dktX0_view_2
def dkwX0_view_0 : List UInt8 := [27, 133, 9, 20, 0, 202, 184, 0, 143, 153, 0, 19, 28, 133, 9, 20, 0, 202, 184, 0, 143, 153, 0, 7]
abbrev dktX0_view_0 : List UInt8 := dkwX0_view_0 ++ dktX0_view_1
theorem dksX0_view_0 : cX0_view.data.toList.drop 0 = dktX0_view_0 := by decide +kernel
theorem dksX0_view_1 : cX0_view.data.toList.drop 24 = dktX0_view_1 := dk_seg dksX0_view_0 24 rfl rfl
theorem dksX0_view_2 : cX0_view.data.toList.drop 47 = dktX0_view_2 := dk_seg dksX0_view_1 23 rfl rfl
theorem dX0_view_0 : decode cX0_view 0 = .ok (.iload_n 1, 1) := dk_27 (dk_at dksX0_view_0 0 rfl rfl)
theorem dX0_view_1 : decode cX0_view 1 = .ok (.i2l, 1) := dk_133 (dk_at dksX0_view_0 1 rfl rfl)
theorem dX0_view_2 : decode cX0_view 2 = .ok (.lconst 0, 1) := dk_9 (dk_at dksX0_view_0 2 rfl rfl)
theorem dX0_view_3 : decode cX0_view 3 = .ok (.ldc2_w 202, 3) := dk_20 0 202 (dk_at dksX0_view_0 3 rfl rfl)
theorem dX0_view_6 : decode cX0_view 6 = .ok (.invokestatic 143, 3) := dk_184 0 143 (dk_at dksX0_view_0 6 rfl rfl)
theorem dX0_view_9 : decode cX0_view 9 = .ok (.ifCond .eq 19, 3) := dk_153 0 19 (dk_at dksX0_view_0 9 rfl rfl)
theorem dX0_view_12 : decode cX0_view 12 = .ok (.iload_n 2, 1) := dk_28 (dk_at dksX0_view_0 12 rfl rfl)
theorem dX0_view_13 : decode cX0_view 13 = .ok (.i2l, 1) := dk_133 (dk_at dksX0_view_0 13 rfl rfl)
theorem dX0_view_14 : decode cX0_view 14 = .ok (.lconst 0, 1) := dk_9 (dk_at dksX0_view_0 14 rfl rfl)
theorem dX0_view_15 : decode cX0_view 15 = .ok (.ldc2_w 202, 3) := dk_20 0 202 (dk_at dksX0_view_0 15 rfl rfl)
theorem dX0_view_18 : decode cX0_view 18 = .ok (.invokestatic 143, 3) := dk_184 0 143 (dk_at dksX0_view_0 18 rfl rfl)
theorem dX0_view_21 : decode cX0_view 21 = .ok (.ifCond .eq 7, 3) := dk_153 0 7 (dk_at dksX0_view_0 21 rfl rfl)
theorem dX0_view_24 : decode cX0_view 24 = .ok (.iconst 1, 1) := dk_4 (dk_at dksX0_view_1 0 rfl rfl)
theorem dX0_view_25 : decode cX0_view 25 = .ok (.goto 4, 3) := dk_167 0 4 (dk_at dksX0_view_1 1 rfl rfl)
theorem dX0_view_28 : decode cX0_view 28 = .ok (.iconst 0, 1) := dk_3 (dk_at dksX0_view_1 4 rfl rfl)
theorem dX0_view_29 : decode cX0_view 29 = .ok (.bipush (-6), 2) := dk_16 250 (dk_at dksX0_view_1 5 rfl rfl)
theorem dX0_view_31 : decode cX0_view 31 = .ok (.invokestatic 105, 3) := dk_184 0 105 (dk_at dksX0_view_1 7 rfl rfl)
theorem dX0_view_34 : decode cX0_view 34 = .ok (.aload_n 0, 1) := dk_42 (dk_at dksX0_view_1 10 rfl rfl)
theorem dX0_view_35 : decode cX0_view 35 = .ok (.getfield 88, 3) := dk_180 0 88 (dk_at dksX0_view_1 11 rfl rfl)
theorem dX0_view_38 : decode cX0_view 38 = .ok (.iload_n 1, 1) := dk_27 (dk_at dksX0_view_1 14 rfl rfl)
theorem dX0_view_39 : decode cX0_view 39 = .ok (.iload_n 2, 1) := dk_28 (dk_at dksX0_view_1 15 rfl rfl)
theorem dX0_view_40 : decode cX0_view 40 = .ok (.invokevirtual 282, 3) := dk_182 1 26 (dk_at dksX0_view_1 16 rfl rfl)
theorem dX0_view_43 : decode cX0_view 43 = .ok (.ifCond .eq 7, 3) := dk_153 0 7 (dk_at dksX0_view_1 19 rfl rfl)
theorem dX0_view_46 : decode cX0_view 46 = .ok (.iconst 1, 1) := dk_4 (dk_at dksX0_view_1 22 rfl rfl)
theorem dX0_view_47 : decode cX0_view 47 = .ok (.goto 4, 3) := dk_167 0 4 (dk_at dksX0_view_2 0 rfl rfl)
theorem dX0_view_50 : decode cX0_view 50 = .ok (.iconst 0, 1) := dk_3 (dk_at dksX0_view_2 3 rfl rfl)
theorem dX0_view_51 : decode cX0_view 51 = .ok (.ireturn, 1) := dk_172 (dk_at dksX0_view_2 4 rfl rfl)
theorem dX0_view_52 : decode cX0_view 52 = .ok (.astore_n 3, 1) := dk_78 (dk_at dksX0_view_2 5 rfl rfl)
theorem dX0_view_53 : decode cX0_view 53 = .ok (.aload_n 0, 1) := dk_42 (dk_at dksX0_view_2 6 rfl rfl)
theorem dX0_view_54 : decode cX0_view 54 = .ok (.aload_n 3, 1) := dk_45 (dk_at dksX0_view_2 7 rfl rfl)
theorem dX0_view_55 : decode cX0_view 55 = .ok (.invokevirtual 151, 3) := dk_182 0 151 (dk_at dksX0_view_2 8 rfl rfl)
theorem dX0_view_58 : decode cX0_view 58 = .ok (.ireturn, 1) := dk_172 (dk_at dksX0_view_2 11 rfl rfl)
abbrev cX0_glances : ByteArray := prog_1_method_31_code
def yX0_glances : MethodName := ⟨RX0, "glances", "(II)I"⟩
def dkwX0_glances_2 : List UInt8 := [182, 0, 151, 172]
abbrev dktX0_glances_2 : List UInt8 := dkwX0_glances_2 ++ []
def dkwX0_glances_1 : List UInt8 := [180, 0, 88, 27, 182, 1, 30, 167, 0, 11, 42, 180, 0, 88, 27, 182, 1, 33, 172, 78, 42, 45]
abbrev dktX0_glances_1 : List UInt8 := dkwX0_glances_1 ++ dktX0_glances_2
def dkwX0_glances_0 : List UInt8 := [42, 27, 182, 0, 171, 28, 133, 9, 10, 184, 0, 143, 16, 251, 184, 0, 105, 28, 154, 0, 14, 42]
abbrev dktX0_glances_0 : List UInt8 := dkwX0_glances_0 ++ dktX0_glances_1
theorem dksX0_glances_0 : cX0_glances.data.toList.drop 0 = dktX0_glances_0 := by decide +kernel
theorem dksX0_glances_1 : cX0_glances.data.toList.drop 22 = dktX0_glances_1 := dk_seg dksX0_glances_0 22 rfl rfl
theorem dksX0_glances_2 : cX0_glances.data.toList.drop 44 = dktX0_glances_2 := dk_seg dksX0_glances_1 22 rfl rfl
theorem dX0_glances_0 : decode cX0_glances 0 = .ok (.aload_n 0, 1) := dk_42 (dk_at dksX0_glances_0 0 rfl rfl)
theorem dX0_glances_1 : decode cX0_glances 1 = .ok (.iload_n 1, 1) := dk_27 (dk_at dksX0_glances_0 1 rfl rfl)
theorem dX0_glances_2 : decode cX0_glances 2 = .ok (.invokevirtual 171, 3) := dk_182 0 171 (dk_at dksX0_glances_0 2 rfl rfl)
theorem dX0_glances_5 : decode cX0_glances 5 = .ok (.iload_n 2, 1) := dk_28 (dk_at dksX0_glances_0 5 rfl rfl)
theorem dX0_glances_6 : decode cX0_glances 6 = .ok (.i2l, 1) := dk_133 (dk_at dksX0_glances_0 6 rfl rfl)
theorem dX0_glances_7 : decode cX0_glances 7 = .ok (.lconst 0, 1) := dk_9 (dk_at dksX0_glances_0 7 rfl rfl)
theorem dX0_glances_8 : decode cX0_glances 8 = .ok (.lconst 1, 1) := dk_10 (dk_at dksX0_glances_0 8 rfl rfl)
theorem dX0_glances_9 : decode cX0_glances 9 = .ok (.invokestatic 143, 3) := dk_184 0 143 (dk_at dksX0_glances_0 9 rfl rfl)
theorem dX0_glances_12 : decode cX0_glances 12 = .ok (.bipush (-5), 2) := dk_16 251 (dk_at dksX0_glances_0 12 rfl rfl)
theorem dX0_glances_14 : decode cX0_glances 14 = .ok (.invokestatic 105, 3) := dk_184 0 105 (dk_at dksX0_glances_0 14 rfl rfl)
theorem dX0_glances_17 : decode cX0_glances 17 = .ok (.iload_n 2, 1) := dk_28 (dk_at dksX0_glances_0 17 rfl rfl)
theorem dX0_glances_18 : decode cX0_glances 18 = .ok (.ifCond .ne 14, 3) := dk_154 0 14 (dk_at dksX0_glances_0 18 rfl rfl)
theorem dX0_glances_21 : decode cX0_glances 21 = .ok (.aload_n 0, 1) := dk_42 (dk_at dksX0_glances_0 21 rfl rfl)
theorem dX0_glances_22 : decode cX0_glances 22 = .ok (.getfield 88, 3) := dk_180 0 88 (dk_at dksX0_glances_1 0 rfl rfl)
theorem dX0_glances_25 : decode cX0_glances 25 = .ok (.iload_n 1, 1) := dk_27 (dk_at dksX0_glances_1 3 rfl rfl)
theorem dX0_glances_26 : decode cX0_glances 26 = .ok (.invokevirtual 286, 3) := dk_182 1 30 (dk_at dksX0_glances_1 4 rfl rfl)
theorem dX0_glances_29 : decode cX0_glances 29 = .ok (.goto 11, 3) := dk_167 0 11 (dk_at dksX0_glances_1 7 rfl rfl)
theorem dX0_glances_32 : decode cX0_glances 32 = .ok (.aload_n 0, 1) := dk_42 (dk_at dksX0_glances_1 10 rfl rfl)
theorem dX0_glances_33 : decode cX0_glances 33 = .ok (.getfield 88, 3) := dk_180 0 88 (dk_at dksX0_glances_1 11 rfl rfl)
theorem dX0_glances_36 : decode cX0_glances 36 = .ok (.iload_n 1, 1) := dk_27 (dk_at dksX0_glances_1 14 rfl rfl)
theorem dX0_glances_37 : decode cX0_glances 37 = .ok (.invokevirtual 289, 3) := dk_182 1 33 (dk_at dksX0_glances_1 15 rfl rfl)
theorem dX0_glances_40 : decode cX0_glances 40 = .ok (.ireturn, 1) := dk_172 (dk_at dksX0_glances_1 18 rfl rfl)
theorem dX0_glances_41 : decode cX0_glances 41 = .ok (.astore_n 3, 1) := dk_78 (dk_at dksX0_glances_1 19 rfl rfl)
theorem dX0_glances_42 : decode cX0_glances 42 = .ok (.aload_n 0, 1) := dk_42 (dk_at dksX0_glances_1 20 rfl rfl)
theorem dX0_glances_43 : decode cX0_glances 43 = .ok (.aload_n 3, 1) := dk_45 (dk_at dksX0_glances_1 21 rfl rfl)
theorem dX0_glances_44 : decode cX0_glances 44 = .ok (.invokevirtual 151, 3) := dk_182 0 151 (dk_at dksX0_glances_2 0 rfl rfl)
theorem dX0_glances_47 : decode cX0_glances 47 = .ok (.ireturn, 1) := dk_172 (dk_at dksX0_glances_2 3 rfl rfl)
abbrev cX0_duty : ByteArray := prog_1_method_32_code
def yX0_duty : MethodName := ⟨RX0, "duty", "(II)I"⟩
def dkwX0_duty_2 : List UInt8 := [182, 0, 151, 172]
abbrev dktX0_duty_2 : List UInt8 := dkwX0_duty_2 ++ []
def dkwX0_duty_1 : List UInt8 := [180, 0, 88, 27, 182, 1, 36, 167, 0, 11, 42, 180, 0, 88, 27, 182, 1, 39, 172, 78, 42, 45]
abbrev dktX0_duty_1 : List UInt8 := dkwX0_duty_1 ++ dktX0_duty_2
def dkwX0_duty_0 : List UInt8 := [42, 27, 182, 0, 171, 28, 133, 9, 10, 184, 0, 143, 16, 251, 184, 0, 105, 28, 154, 0, 14, 42]
abbrev dktX0_duty_0 : List UInt8 := dkwX0_duty_0 ++ dktX0_duty_1
theorem dksX0_duty_0 : cX0_duty.data.toList.drop 0 = dktX0_duty_0 := by decide +kernel
theorem dksX0_duty_1 : cX0_duty.data.toList.drop 22 = dktX0_duty_1 := dk_seg dksX0_duty_0 22 rfl rfl
theorem dksX0_duty_2 : cX0_duty.data.toList.drop 44 = dktX0_duty_2 := dk_seg dksX0_duty_1 22 rfl rfl
theorem dX0_duty_0 : decode cX0_duty 0 = .ok (.aload_n 0, 1) := dk_42 (dk_at dksX0_duty_0 0 rfl rfl)
theorem dX0_duty_1 : decode cX0_duty 1 = .ok (.iload_n 1, 1) := dk_27 (dk_at dksX0_duty_0 1 rfl rfl)
theorem dX0_duty_2 : decode cX0_duty 2 = .ok (.invokevirtual 171, 3) := dk_182 0 171 (dk_at dksX0_duty_0 2 rfl rfl)
theorem dX0_duty_5 : decode cX0_duty 5 = .ok (.iload_n 2, 1) := dk_28 (dk_at dksX0_duty_0 5 rfl rfl)
theorem dX0_duty_6 : decode cX0_duty 6 = .ok (.i2l, 1) := dk_133 (dk_at dksX0_duty_0 6 rfl rfl)
theorem dX0_duty_7 : decode cX0_duty 7 = .ok (.lconst 0, 1) := dk_9 (dk_at dksX0_duty_0 7 rfl rfl)
theorem dX0_duty_8 : decode cX0_duty 8 = .ok (.lconst 1, 1) := dk_10 (dk_at dksX0_duty_0 8 rfl rfl)
theorem dX0_duty_9 : decode cX0_duty 9 = .ok (.invokestatic 143, 3) := dk_184 0 143 (dk_at dksX0_duty_0 9 rfl rfl)
theorem dX0_duty_12 : decode cX0_duty 12 = .ok (.bipush (-5), 2) := dk_16 251 (dk_at dksX0_duty_0 12 rfl rfl)
theorem dX0_duty_14 : decode cX0_duty 14 = .ok (.invokestatic 105, 3) := dk_184 0 105 (dk_at dksX0_duty_0 14 rfl rfl)
theorem dX0_duty_17 : decode cX0_duty 17 = .ok (.iload_n 2, 1) := dk_28 (dk_at dksX0_duty_0 17 rfl rfl)
theorem dX0_duty_18 : decode cX0_duty 18 = .ok (.ifCond .ne 14, 3) := dk_154 0 14 (dk_at dksX0_duty_0 18 rfl rfl)
theorem dX0_duty_21 : decode cX0_duty 21 = .ok (.aload_n 0, 1) := dk_42 (dk_at dksX0_duty_0 21 rfl rfl)
theorem dX0_duty_22 : decode cX0_duty 22 = .ok (.getfield 88, 3) := dk_180 0 88 (dk_at dksX0_duty_1 0 rfl rfl)
theorem dX0_duty_25 : decode cX0_duty 25 = .ok (.iload_n 1, 1) := dk_27 (dk_at dksX0_duty_1 3 rfl rfl)
theorem dX0_duty_26 : decode cX0_duty 26 = .ok (.invokevirtual 292, 3) := dk_182 1 36 (dk_at dksX0_duty_1 4 rfl rfl)
theorem dX0_duty_29 : decode cX0_duty 29 = .ok (.goto 11, 3) := dk_167 0 11 (dk_at dksX0_duty_1 7 rfl rfl)
theorem dX0_duty_32 : decode cX0_duty 32 = .ok (.aload_n 0, 1) := dk_42 (dk_at dksX0_duty_1 10 rfl rfl)
theorem dX0_duty_33 : decode cX0_duty 33 = .ok (.getfield 88, 3) := dk_180 0 88 (dk_at dksX0_duty_1 11 rfl rfl)
theorem dX0_duty_36 : decode cX0_duty 36 = .ok (.iload_n 1, 1) := dk_27 (dk_at dksX0_duty_1 14 rfl rfl)
theorem dX0_duty_37 : decode cX0_duty 37 = .ok (.invokevirtual 295, 3) := dk_182 1 39 (dk_at dksX0_duty_1 15 rfl rfl)
theorem dX0_duty_40 : decode cX0_duty 40 = .ok (.ireturn, 1) := dk_172 (dk_at dksX0_duty_1 18 rfl rfl)
theorem dX0_duty_41 : decode cX0_duty 41 = .ok (.astore_n 3, 1) := dk_78 (dk_at dksX0_duty_1 19 rfl rfl)
theorem dX0_duty_42 : decode cX0_duty 42 = .ok (.aload_n 0, 1) := dk_42 (dk_at dksX0_duty_1 20 rfl rfl)
theorem dX0_duty_43 : decode cX0_duty 43 = .ok (.aload_n 3, 1) := dk_45 (dk_at dksX0_duty_1 21 rfl rfl)
theorem dX0_duty_44 : decode cX0_duty 44 = .ok (.invokevirtual 151, 3) := dk_182 0 151 (dk_at dksX0_duty_2 0 rfl rfl)
theorem dX0_duty_47 : decode cX0_duty 47 = .ok (.ireturn, 1) := dk_172 (dk_at dksX0_duty_2 3 rfl rfl)
abbrev cX0_all : ByteArray := prog_1_method_33_code
def yX0_all : MethodName := ⟨RX0, "all", "(I)I"⟩
def dkwX0_all_6 : List UInt8 := [77, 42, 44, 182, 0, 151, 172]
abbrev dktX0_all_6 : List UInt8 := dkwX0_all_6 ++ []
def dkwX0_all_5 : List UInt8 := [167, 0, 23, 27, 4, 160, 0, 7, 28, 167, 0, 14, 27, 5, 160, 0, 7, 29, 167, 0, 5, 21, 4, 172]
abbrev dktX0_all_5 : List UInt8 := dkwX0_all_5 ++ dktX0_all_6
def dkwX0_all_4 : List UInt8 := [167, 0, 4, 3, 96, 54, 4, 132, 5, 1, 167, 255, 174, 27, 154, 0, 13, 42, 180, 0, 88, 182, 1, 42]
abbrev dktX0_all_4 : List UInt8 := dkwX0_all_4 ++ dktX0_all_5
def dkwX0_all_3 : List UInt8 := [21, 5, 120, 167, 0, 4, 3, 128, 62, 21, 4, 42, 180, 0, 88, 21, 5, 182, 1, 36, 154, 0, 7, 4]
abbrev dktX0_all_3 : List UInt8 := dkwX0_all_3 ++ dktX0_all_4
def dkwX0_all_2 : List UInt8 := [29, 42, 180, 0, 88, 21, 5, 182, 1, 36, 42, 180, 0, 88, 180, 1, 0, 21, 5, 46, 164, 0, 10, 4]
abbrev dktX0_all_2 : List UInt8 := dkwX0_all_2 ++ dktX0_all_3
def dkwX0_all_1 : List UInt8 := [21, 5, 42, 180, 0, 88, 180, 0, 189, 162, 0, 76, 28, 42, 180, 0, 88, 21, 5, 182, 1, 39, 96, 61]
abbrev dktX0_all_1 : List UInt8 := dkwX0_all_1 ++ dktX0_all_2
def dkwX0_all_0 : List UInt8 := [27, 133, 9, 20, 0, 141, 184, 0, 143, 16, 251, 184, 0, 105, 3, 61, 3, 62, 3, 54, 4, 3, 54, 5]
abbrev dktX0_all_0 : List UInt8 := dkwX0_all_0 ++ dktX0_all_1
theorem dksX0_all_0 : cX0_all.data.toList.drop 0 = dktX0_all_0 := by decide +kernel
theorem dksX0_all_1 : cX0_all.data.toList.drop 24 = dktX0_all_1 := dk_seg dksX0_all_0 24 rfl rfl
theorem dksX0_all_2 : cX0_all.data.toList.drop 48 = dktX0_all_2 := dk_seg dksX0_all_1 24 rfl rfl
theorem dksX0_all_3 : cX0_all.data.toList.drop 72 = dktX0_all_3 := dk_seg dksX0_all_2 24 rfl rfl
theorem dksX0_all_4 : cX0_all.data.toList.drop 96 = dktX0_all_4 := dk_seg dksX0_all_3 24 rfl rfl
theorem dksX0_all_5 : cX0_all.data.toList.drop 120 = dktX0_all_5 := dk_seg dksX0_all_4 24 rfl rfl
theorem dksX0_all_6 : cX0_all.data.toList.drop 144 = dktX0_all_6 := dk_seg dksX0_all_5 24 rfl rfl
theorem dX0_all_0 : decode cX0_all 0 = .ok (.iload_n 1, 1) := dk_27 (dk_at dksX0_all_0 0 rfl rfl)
theorem dX0_all_1 : decode cX0_all 1 = .ok (.i2l, 1) := dk_133 (dk_at dksX0_all_0 1 rfl rfl)
theorem dX0_all_2 : decode cX0_all 2 = .ok (.lconst 0, 1) := dk_9 (dk_at dksX0_all_0 2 rfl rfl)
theorem dX0_all_3 : decode cX0_all 3 = .ok (.ldc2_w 141, 3) := dk_20 0 141 (dk_at dksX0_all_0 3 rfl rfl)
theorem dX0_all_6 : decode cX0_all 6 = .ok (.invokestatic 143, 3) := dk_184 0 143 (dk_at dksX0_all_0 6 rfl rfl)
theorem dX0_all_9 : decode cX0_all 9 = .ok (.bipush (-5), 2) := dk_16 251 (dk_at dksX0_all_0 9 rfl rfl)
theorem dX0_all_11 : decode cX0_all 11 = .ok (.invokestatic 105, 3) := dk_184 0 105 (dk_at dksX0_all_0 11 rfl rfl)
theorem dX0_all_14 : decode cX0_all 14 = .ok (.iconst 0, 1) := dk_3 (dk_at dksX0_all_0 14 rfl rfl)
theorem dX0_all_15 : decode cX0_all 15 = .ok (.istore_n 2, 1) := dk_61 (dk_at dksX0_all_0 15 rfl rfl)
theorem dX0_all_16 : decode cX0_all 16 = .ok (.iconst 0, 1) := dk_3 (dk_at dksX0_all_0 16 rfl rfl)
theorem dX0_all_17 : decode cX0_all 17 = .ok (.istore_n 3, 1) := dk_62 (dk_at dksX0_all_0 17 rfl rfl)
theorem dX0_all_18 : decode cX0_all 18 = .ok (.iconst 0, 1) := dk_3 (dk_at dksX0_all_0 18 rfl rfl)
theorem dX0_all_19 : decode cX0_all 19 = .ok (.istore 4, 2) := dk_54 4 (dk_at dksX0_all_0 19 rfl rfl)
theorem dX0_all_21 : decode cX0_all 21 = .ok (.iconst 0, 1) := dk_3 (dk_at dksX0_all_0 21 rfl rfl)
theorem dX0_all_22 : decode cX0_all 22 = .ok (.istore 5, 2) := dk_54 5 (dk_at dksX0_all_0 22 rfl rfl)
theorem dX0_all_24 : decode cX0_all 24 = .ok (.iload 5, 2) := dk_21 5 (dk_at dksX0_all_1 0 rfl rfl)
theorem dX0_all_26 : decode cX0_all 26 = .ok (.aload_n 0, 1) := dk_42 (dk_at dksX0_all_1 2 rfl rfl)
theorem dX0_all_27 : decode cX0_all 27 = .ok (.getfield 88, 3) := dk_180 0 88 (dk_at dksX0_all_1 3 rfl rfl)
theorem dX0_all_30 : decode cX0_all 30 = .ok (.getfield 189, 3) := dk_180 0 189 (dk_at dksX0_all_1 6 rfl rfl)
theorem dX0_all_33 : decode cX0_all 33 = .ok (.if_icmp .ge 76, 3) := dk_162 0 76 (dk_at dksX0_all_1 9 rfl rfl)
theorem dX0_all_36 : decode cX0_all 36 = .ok (.iload_n 2, 1) := dk_28 (dk_at dksX0_all_1 12 rfl rfl)
theorem dX0_all_37 : decode cX0_all 37 = .ok (.aload_n 0, 1) := dk_42 (dk_at dksX0_all_1 13 rfl rfl)
theorem dX0_all_38 : decode cX0_all 38 = .ok (.getfield 88, 3) := dk_180 0 88 (dk_at dksX0_all_1 14 rfl rfl)
theorem dX0_all_41 : decode cX0_all 41 = .ok (.iload 5, 2) := dk_21 5 (dk_at dksX0_all_1 17 rfl rfl)
theorem dX0_all_43 : decode cX0_all 43 = .ok (.invokevirtual 295, 3) := dk_182 1 39 (dk_at dksX0_all_1 19 rfl rfl)
theorem dX0_all_46 : decode cX0_all 46 = .ok (.iadd, 1) := dk_96 (dk_at dksX0_all_1 22 rfl rfl)
theorem dX0_all_47 : decode cX0_all 47 = .ok (.istore_n 2, 1) := dk_61 (dk_at dksX0_all_1 23 rfl rfl)
theorem dX0_all_48 : decode cX0_all 48 = .ok (.iload_n 3, 1) := dk_29 (dk_at dksX0_all_2 0 rfl rfl)
theorem dX0_all_49 : decode cX0_all 49 = .ok (.aload_n 0, 1) := dk_42 (dk_at dksX0_all_2 1 rfl rfl)
theorem dX0_all_50 : decode cX0_all 50 = .ok (.getfield 88, 3) := dk_180 0 88 (dk_at dksX0_all_2 2 rfl rfl)
theorem dX0_all_53 : decode cX0_all 53 = .ok (.iload 5, 2) := dk_21 5 (dk_at dksX0_all_2 5 rfl rfl)
theorem dX0_all_55 : decode cX0_all 55 = .ok (.invokevirtual 292, 3) := dk_182 1 36 (dk_at dksX0_all_2 7 rfl rfl)
theorem dX0_all_58 : decode cX0_all 58 = .ok (.aload_n 0, 1) := dk_42 (dk_at dksX0_all_2 10 rfl rfl)
theorem dX0_all_59 : decode cX0_all 59 = .ok (.getfield 88, 3) := dk_180 0 88 (dk_at dksX0_all_2 11 rfl rfl)
theorem dX0_all_62 : decode cX0_all 62 = .ok (.getfield 256, 3) := dk_180 1 0 (dk_at dksX0_all_2 14 rfl rfl)
theorem dX0_all_65 : decode cX0_all 65 = .ok (.iload 5, 2) := dk_21 5 (dk_at dksX0_all_2 17 rfl rfl)
theorem dX0_all_67 : decode cX0_all 67 = .ok (.iaload, 1) := dk_46 (dk_at dksX0_all_2 19 rfl rfl)
theorem dX0_all_68 : decode cX0_all 68 = .ok (.if_icmp .le 10, 3) := dk_164 0 10 (dk_at dksX0_all_2 20 rfl rfl)
theorem dX0_all_71 : decode cX0_all 71 = .ok (.iconst 1, 1) := dk_4 (dk_at dksX0_all_2 23 rfl rfl)
theorem dX0_all_72 : decode cX0_all 72 = .ok (.iload 5, 2) := dk_21 5 (dk_at dksX0_all_3 0 rfl rfl)
theorem dX0_all_74 : decode cX0_all 74 = .ok (.ishl, 1) := dk_120 (dk_at dksX0_all_3 2 rfl rfl)
theorem dX0_all_75 : decode cX0_all 75 = .ok (.goto 4, 3) := dk_167 0 4 (dk_at dksX0_all_3 3 rfl rfl)
theorem dX0_all_78 : decode cX0_all 78 = .ok (.iconst 0, 1) := dk_3 (dk_at dksX0_all_3 6 rfl rfl)
theorem dX0_all_79 : decode cX0_all 79 = .ok (.ior, 1) := dk_128 (dk_at dksX0_all_3 7 rfl rfl)
theorem dX0_all_80 : decode cX0_all 80 = .ok (.istore_n 3, 1) := dk_62 (dk_at dksX0_all_3 8 rfl rfl)
theorem dX0_all_81 : decode cX0_all 81 = .ok (.iload 4, 2) := dk_21 4 (dk_at dksX0_all_3 9 rfl rfl)
theorem dX0_all_83 : decode cX0_all 83 = .ok (.aload_n 0, 1) := dk_42 (dk_at dksX0_all_3 11 rfl rfl)
theorem dX0_all_84 : decode cX0_all 84 = .ok (.getfield 88, 3) := dk_180 0 88 (dk_at dksX0_all_3 12 rfl rfl)
theorem dX0_all_87 : decode cX0_all 87 = .ok (.iload 5, 2) := dk_21 5 (dk_at dksX0_all_3 15 rfl rfl)
theorem dX0_all_89 : decode cX0_all 89 = .ok (.invokevirtual 292, 3) := dk_182 1 36 (dk_at dksX0_all_3 17 rfl rfl)
theorem dX0_all_92 : decode cX0_all 92 = .ok (.ifCond .ne 7, 3) := dk_154 0 7 (dk_at dksX0_all_3 20 rfl rfl)
theorem dX0_all_95 : decode cX0_all 95 = .ok (.iconst 1, 1) := dk_4 (dk_at dksX0_all_3 23 rfl rfl)
theorem dX0_all_96 : decode cX0_all 96 = .ok (.goto 4, 3) := dk_167 0 4 (dk_at dksX0_all_4 0 rfl rfl)
theorem dX0_all_99 : decode cX0_all 99 = .ok (.iconst 0, 1) := dk_3 (dk_at dksX0_all_4 3 rfl rfl)
theorem dX0_all_100 : decode cX0_all 100 = .ok (.iadd, 1) := dk_96 (dk_at dksX0_all_4 4 rfl rfl)
theorem dX0_all_101 : decode cX0_all 101 = .ok (.istore 4, 2) := dk_54 4 (dk_at dksX0_all_4 5 rfl rfl)
theorem dX0_all_103 : decode cX0_all 103 = .ok (.iinc 5 1, 3) := dk_132 5 1 (dk_at dksX0_all_4 7 rfl rfl)
theorem dX0_all_106 : decode cX0_all 106 = .ok (.goto (-82), 3) := dk_167 255 174 (dk_at dksX0_all_4 10 rfl rfl)
theorem dX0_all_109 : decode cX0_all 109 = .ok (.iload_n 1, 1) := dk_27 (dk_at dksX0_all_4 13 rfl rfl)
theorem dX0_all_110 : decode cX0_all 110 = .ok (.ifCond .ne 13, 3) := dk_154 0 13 (dk_at dksX0_all_4 14 rfl rfl)
theorem dX0_all_113 : decode cX0_all 113 = .ok (.aload_n 0, 1) := dk_42 (dk_at dksX0_all_4 17 rfl rfl)
theorem dX0_all_114 : decode cX0_all 114 = .ok (.getfield 88, 3) := dk_180 0 88 (dk_at dksX0_all_4 18 rfl rfl)
theorem dX0_all_117 : decode cX0_all 117 = .ok (.invokevirtual 298, 3) := dk_182 1 42 (dk_at dksX0_all_4 21 rfl rfl)
theorem dX0_all_120 : decode cX0_all 120 = .ok (.goto 23, 3) := dk_167 0 23 (dk_at dksX0_all_5 0 rfl rfl)
theorem dX0_all_123 : decode cX0_all 123 = .ok (.iload_n 1, 1) := dk_27 (dk_at dksX0_all_5 3 rfl rfl)
theorem dX0_all_124 : decode cX0_all 124 = .ok (.iconst 1, 1) := dk_4 (dk_at dksX0_all_5 4 rfl rfl)
theorem dX0_all_125 : decode cX0_all 125 = .ok (.if_icmp .ne 7, 3) := dk_160 0 7 (dk_at dksX0_all_5 5 rfl rfl)
theorem dX0_all_128 : decode cX0_all 128 = .ok (.iload_n 2, 1) := dk_28 (dk_at dksX0_all_5 8 rfl rfl)
theorem dX0_all_129 : decode cX0_all 129 = .ok (.goto 14, 3) := dk_167 0 14 (dk_at dksX0_all_5 9 rfl rfl)
theorem dX0_all_132 : decode cX0_all 132 = .ok (.iload_n 1, 1) := dk_27 (dk_at dksX0_all_5 12 rfl rfl)
theorem dX0_all_133 : decode cX0_all 133 = .ok (.iconst 2, 1) := dk_5 (dk_at dksX0_all_5 13 rfl rfl)
theorem dX0_all_134 : decode cX0_all 134 = .ok (.if_icmp .ne 7, 3) := dk_160 0 7 (dk_at dksX0_all_5 14 rfl rfl)
theorem dX0_all_137 : decode cX0_all 137 = .ok (.iload_n 3, 1) := dk_29 (dk_at dksX0_all_5 17 rfl rfl)
theorem dX0_all_138 : decode cX0_all 138 = .ok (.goto 5, 3) := dk_167 0 5 (dk_at dksX0_all_5 18 rfl rfl)
theorem dX0_all_141 : decode cX0_all 141 = .ok (.iload 4, 2) := dk_21 4 (dk_at dksX0_all_5 21 rfl rfl)
theorem dX0_all_143 : decode cX0_all 143 = .ok (.ireturn, 1) := dk_172 (dk_at dksX0_all_5 23 rfl rfl)
theorem dX0_all_144 : decode cX0_all 144 = .ok (.astore_n 2, 1) := dk_77 (dk_at dksX0_all_6 0 rfl rfl)
theorem dX0_all_145 : decode cX0_all 145 = .ok (.aload_n 0, 1) := dk_42 (dk_at dksX0_all_6 1 rfl rfl)
theorem dX0_all_146 : decode cX0_all 146 = .ok (.aload_n 2, 1) := dk_44 (dk_at dksX0_all_6 2 rfl rfl)
theorem dX0_all_147 : decode cX0_all 147 = .ok (.invokevirtual 151, 3) := dk_182 0 151 (dk_at dksX0_all_6 3 rfl rfl)
theorem dX0_all_150 : decode cX0_all 150 = .ok (.ireturn, 1) := dk_172 (dk_at dksX0_all_6 6 rfl rfl)
abbrev cX0_walk : ByteArray := prog_1_method_34_code
def yX0_walk : MethodName := ⟨RX0, "walk", "(III)I"⟩
def dkwX0_walk_5 : List UInt8 := [21, 4, 182, 1, 60, 172, 58, 4, 42, 25, 4, 182, 0, 151, 16, 10, 100, 172]
abbrev dktX0_walk_5 : List UInt8 := dkwX0_walk_5 ++ []
def dkwX0_walk_4 : List UInt8 := [160, 0, 15, 42, 180, 0, 84, 21, 4, 182, 1, 57, 167, 0, 16, 42, 180, 0, 84, 42, 180, 0, 77]
abbrev dktX0_walk_4 : List UInt8 := dkwX0_walk_4 ++ dktX0_walk_5
def dkwX0_walk_3 : List UInt8 := [154, 0, 5, 2, 172, 29, 154, 0, 15, 42, 180, 0, 84, 21, 4, 182, 1, 54, 167, 0, 33, 29, 4]
abbrev dktX0_walk_3 : List UInt8 := dkwX0_walk_3 ++ dktX0_walk_4
def dkwX0_walk_2 : List UInt8 := [28, 182, 1, 47, 42, 180, 0, 88, 180, 0, 219, 27, 46, 54, 4, 42, 180, 0, 84, 21, 4, 182, 1, 51]
abbrev dktX0_walk_2 : List UInt8 := dkwX0_walk_2 ++ dktX0_walk_3
def dkwX0_walk_1 : List UInt8 := [182, 0, 186, 16, 250, 184, 0, 105, 42, 180, 0, 84, 42, 180, 0, 77, 42, 180, 0, 88, 182, 1, 9, 27]
abbrev dktX0_walk_1 : List UInt8 := dkwX0_walk_1 ++ dktX0_walk_2
def dkwX0_walk_0 : List UInt8 := [42, 27, 182, 0, 171, 29, 133, 9, 20, 1, 45, 184, 0, 143, 16, 251, 184, 0, 105, 42, 180, 0, 88, 28]
abbrev dktX0_walk_0 : List UInt8 := dkwX0_walk_0 ++ dktX0_walk_1
theorem dksX0_walk_0 : cX0_walk.data.toList.drop 0 = dktX0_walk_0 := by decide +kernel
theorem dksX0_walk_1 : cX0_walk.data.toList.drop 24 = dktX0_walk_1 := dk_seg dksX0_walk_0 24 rfl rfl
theorem dksX0_walk_2 : cX0_walk.data.toList.drop 48 = dktX0_walk_2 := dk_seg dksX0_walk_1 24 rfl rfl
theorem dksX0_walk_3 : cX0_walk.data.toList.drop 72 = dktX0_walk_3 := dk_seg dksX0_walk_2 24 rfl rfl
theorem dksX0_walk_4 : cX0_walk.data.toList.drop 95 = dktX0_walk_4 := dk_seg dksX0_walk_3 23 rfl rfl
theorem dksX0_walk_5 : cX0_walk.data.toList.drop 118 = dktX0_walk_5 := dk_seg dksX0_walk_4 23 rfl rfl
theorem dX0_walk_0 : decode cX0_walk 0 = .ok (.aload_n 0, 1) := dk_42 (dk_at dksX0_walk_0 0 rfl rfl)
theorem dX0_walk_1 : decode cX0_walk 1 = .ok (.iload_n 1, 1) := dk_27 (dk_at dksX0_walk_0 1 rfl rfl)
theorem dX0_walk_2 : decode cX0_walk 2 = .ok (.invokevirtual 171, 3) := dk_182 0 171 (dk_at dksX0_walk_0 2 rfl rfl)
theorem dX0_walk_5 : decode cX0_walk 5 = .ok (.iload_n 3, 1) := dk_29 (dk_at dksX0_walk_0 5 rfl rfl)
theorem dX0_walk_6 : decode cX0_walk 6 = .ok (.i2l, 1) := dk_133 (dk_at dksX0_walk_0 6 rfl rfl)
theorem dX0_walk_7 : decode cX0_walk 7 = .ok (.lconst 0, 1) := dk_9 (dk_at dksX0_walk_0 7 rfl rfl)
theorem dX0_walk_8 : decode cX0_walk 8 = .ok (.ldc2_w 301, 3) := dk_20 1 45 (dk_at dksX0_walk_0 8 rfl rfl)
theorem dX0_walk_11 : decode cX0_walk 11 = .ok (.invokestatic 143, 3) := dk_184 0 143 (dk_at dksX0_walk_0 11 rfl rfl)
theorem dX0_walk_14 : decode cX0_walk 14 = .ok (.bipush (-5), 2) := dk_16 251 (dk_at dksX0_walk_0 14 rfl rfl)
theorem dX0_walk_16 : decode cX0_walk 16 = .ok (.invokestatic 105, 3) := dk_184 0 105 (dk_at dksX0_walk_0 16 rfl rfl)
theorem dX0_walk_19 : decode cX0_walk 19 = .ok (.aload_n 0, 1) := dk_42 (dk_at dksX0_walk_0 19 rfl rfl)
theorem dX0_walk_20 : decode cX0_walk 20 = .ok (.getfield 88, 3) := dk_180 0 88 (dk_at dksX0_walk_0 20 rfl rfl)
theorem dX0_walk_23 : decode cX0_walk 23 = .ok (.iload_n 2, 1) := dk_28 (dk_at dksX0_walk_0 23 rfl rfl)
theorem dX0_walk_24 : decode cX0_walk 24 = .ok (.invokevirtual 186, 3) := dk_182 0 186 (dk_at dksX0_walk_1 0 rfl rfl)
theorem dX0_walk_27 : decode cX0_walk 27 = .ok (.bipush (-6), 2) := dk_16 250 (dk_at dksX0_walk_1 3 rfl rfl)
theorem dX0_walk_29 : decode cX0_walk 29 = .ok (.invokestatic 105, 3) := dk_184 0 105 (dk_at dksX0_walk_1 5 rfl rfl)
theorem dX0_walk_32 : decode cX0_walk 32 = .ok (.aload_n 0, 1) := dk_42 (dk_at dksX0_walk_1 8 rfl rfl)
theorem dX0_walk_33 : decode cX0_walk 33 = .ok (.getfield 84, 3) := dk_180 0 84 (dk_at dksX0_walk_1 9 rfl rfl)
theorem dX0_walk_36 : decode cX0_walk 36 = .ok (.aload_n 0, 1) := dk_42 (dk_at dksX0_walk_1 12 rfl rfl)
theorem dX0_walk_37 : decode cX0_walk 37 = .ok (.getfield 77, 3) := dk_180 0 77 (dk_at dksX0_walk_1 13 rfl rfl)
theorem dX0_walk_40 : decode cX0_walk 40 = .ok (.aload_n 0, 1) := dk_42 (dk_at dksX0_walk_1 16 rfl rfl)
theorem dX0_walk_41 : decode cX0_walk 41 = .ok (.getfield 88, 3) := dk_180 0 88 (dk_at dksX0_walk_1 17 rfl rfl)
theorem dX0_walk_44 : decode cX0_walk 44 = .ok (.invokevirtual 265, 3) := dk_182 1 9 (dk_at dksX0_walk_1 20 rfl rfl)
theorem dX0_walk_47 : decode cX0_walk 47 = .ok (.iload_n 1, 1) := dk_27 (dk_at dksX0_walk_1 23 rfl rfl)
theorem dX0_walk_48 : decode cX0_walk 48 = .ok (.iload_n 2, 1) := dk_28 (dk_at dksX0_walk_2 0 rfl rfl)
theorem dX0_walk_49 : decode cX0_walk 49 = .ok (.invokevirtual 303, 3) := dk_182 1 47 (dk_at dksX0_walk_2 1 rfl rfl)
theorem dX0_walk_52 : decode cX0_walk 52 = .ok (.aload_n 0, 1) := dk_42 (dk_at dksX0_walk_2 4 rfl rfl)
theorem dX0_walk_53 : decode cX0_walk 53 = .ok (.getfield 88, 3) := dk_180 0 88 (dk_at dksX0_walk_2 5 rfl rfl)
theorem dX0_walk_56 : decode cX0_walk 56 = .ok (.getfield 219, 3) := dk_180 0 219 (dk_at dksX0_walk_2 8 rfl rfl)
theorem dX0_walk_59 : decode cX0_walk 59 = .ok (.iload_n 1, 1) := dk_27 (dk_at dksX0_walk_2 11 rfl rfl)
theorem dX0_walk_60 : decode cX0_walk 60 = .ok (.iaload, 1) := dk_46 (dk_at dksX0_walk_2 12 rfl rfl)
theorem dX0_walk_61 : decode cX0_walk 61 = .ok (.istore 4, 2) := dk_54 4 (dk_at dksX0_walk_2 13 rfl rfl)
theorem dX0_walk_63 : decode cX0_walk 63 = .ok (.aload_n 0, 1) := dk_42 (dk_at dksX0_walk_2 15 rfl rfl)
theorem dX0_walk_64 : decode cX0_walk 64 = .ok (.getfield 84, 3) := dk_180 0 84 (dk_at dksX0_walk_2 16 rfl rfl)
theorem dX0_walk_67 : decode cX0_walk 67 = .ok (.iload 4, 2) := dk_21 4 (dk_at dksX0_walk_2 19 rfl rfl)
theorem dX0_walk_69 : decode cX0_walk 69 = .ok (.invokevirtual 307, 3) := dk_182 1 51 (dk_at dksX0_walk_2 21 rfl rfl)
theorem dX0_walk_72 : decode cX0_walk 72 = .ok (.ifCond .ne 5, 3) := dk_154 0 5 (dk_at dksX0_walk_3 0 rfl rfl)
theorem dX0_walk_75 : decode cX0_walk 75 = .ok (.iconst (-1), 1) := dk_2 (dk_at dksX0_walk_3 3 rfl rfl)
theorem dX0_walk_76 : decode cX0_walk 76 = .ok (.ireturn, 1) := dk_172 (dk_at dksX0_walk_3 4 rfl rfl)
theorem dX0_walk_77 : decode cX0_walk 77 = .ok (.iload_n 3, 1) := dk_29 (dk_at dksX0_walk_3 5 rfl rfl)
theorem dX0_walk_78 : decode cX0_walk 78 = .ok (.ifCond .ne 15, 3) := dk_154 0 15 (dk_at dksX0_walk_3 6 rfl rfl)
theorem dX0_walk_81 : decode cX0_walk 81 = .ok (.aload_n 0, 1) := dk_42 (dk_at dksX0_walk_3 9 rfl rfl)
theorem dX0_walk_82 : decode cX0_walk 82 = .ok (.getfield 84, 3) := dk_180 0 84 (dk_at dksX0_walk_3 10 rfl rfl)
theorem dX0_walk_85 : decode cX0_walk 85 = .ok (.iload 4, 2) := dk_21 4 (dk_at dksX0_walk_3 13 rfl rfl)
theorem dX0_walk_87 : decode cX0_walk 87 = .ok (.invokevirtual 310, 3) := dk_182 1 54 (dk_at dksX0_walk_3 15 rfl rfl)
theorem dX0_walk_90 : decode cX0_walk 90 = .ok (.goto 33, 3) := dk_167 0 33 (dk_at dksX0_walk_3 18 rfl rfl)
theorem dX0_walk_93 : decode cX0_walk 93 = .ok (.iload_n 3, 1) := dk_29 (dk_at dksX0_walk_3 21 rfl rfl)
theorem dX0_walk_94 : decode cX0_walk 94 = .ok (.iconst 1, 1) := dk_4 (dk_at dksX0_walk_3 22 rfl rfl)
theorem dX0_walk_95 : decode cX0_walk 95 = .ok (.if_icmp .ne 15, 3) := dk_160 0 15 (dk_at dksX0_walk_4 0 rfl rfl)
theorem dX0_walk_98 : decode cX0_walk 98 = .ok (.aload_n 0, 1) := dk_42 (dk_at dksX0_walk_4 3 rfl rfl)
theorem dX0_walk_99 : decode cX0_walk 99 = .ok (.getfield 84, 3) := dk_180 0 84 (dk_at dksX0_walk_4 4 rfl rfl)
theorem dX0_walk_102 : decode cX0_walk 102 = .ok (.iload 4, 2) := dk_21 4 (dk_at dksX0_walk_4 7 rfl rfl)
theorem dX0_walk_104 : decode cX0_walk 104 = .ok (.invokevirtual 313, 3) := dk_182 1 57 (dk_at dksX0_walk_4 9 rfl rfl)
theorem dX0_walk_107 : decode cX0_walk 107 = .ok (.goto 16, 3) := dk_167 0 16 (dk_at dksX0_walk_4 12 rfl rfl)
theorem dX0_walk_110 : decode cX0_walk 110 = .ok (.aload_n 0, 1) := dk_42 (dk_at dksX0_walk_4 15 rfl rfl)
theorem dX0_walk_111 : decode cX0_walk 111 = .ok (.getfield 84, 3) := dk_180 0 84 (dk_at dksX0_walk_4 16 rfl rfl)
theorem dX0_walk_114 : decode cX0_walk 114 = .ok (.aload_n 0, 1) := dk_42 (dk_at dksX0_walk_4 19 rfl rfl)
theorem dX0_walk_115 : decode cX0_walk 115 = .ok (.getfield 77, 3) := dk_180 0 77 (dk_at dksX0_walk_4 20 rfl rfl)
theorem dX0_walk_118 : decode cX0_walk 118 = .ok (.iload 4, 2) := dk_21 4 (dk_at dksX0_walk_5 0 rfl rfl)
theorem dX0_walk_120 : decode cX0_walk 120 = .ok (.invokevirtual 316, 3) := dk_182 1 60 (dk_at dksX0_walk_5 2 rfl rfl)
theorem dX0_walk_123 : decode cX0_walk 123 = .ok (.ireturn, 1) := dk_172 (dk_at dksX0_walk_5 5 rfl rfl)
theorem dX0_walk_124 : decode cX0_walk 124 = .ok (.astore 4, 2) := dk_58 4 (dk_at dksX0_walk_5 6 rfl rfl)
theorem dX0_walk_126 : decode cX0_walk 126 = .ok (.aload_n 0, 1) := dk_42 (dk_at dksX0_walk_5 8 rfl rfl)
theorem dX0_walk_127 : decode cX0_walk 127 = .ok (.aload 4, 2) := dk_25 4 (dk_at dksX0_walk_5 9 rfl rfl)
theorem dX0_walk_129 : decode cX0_walk 129 = .ok (.invokevirtual 151, 3) := dk_182 0 151 (dk_at dksX0_walk_5 11 rfl rfl)
theorem dX0_walk_132 : decode cX0_walk 132 = .ok (.bipush 10, 2) := dk_16 10 (dk_at dksX0_walk_5 14 rfl rfl)
theorem dX0_walk_134 : decode cX0_walk 134 = .ok (.isub, 1) := dk_100 (dk_at dksX0_walk_5 16 rfl rfl)
theorem dX0_walk_135 : decode cX0_walk 135 = .ok (.ireturn, 1) := dk_172 (dk_at dksX0_walk_5 17 rfl rfl)
abbrev cX0_stand : ByteArray := prog_1_method_35_code
def yX0_stand : MethodName := ⟨RX0, "stand", "(II)I"⟩
def dkwX0_stand_5 : List UInt8 := [42, 180, 0, 84, 29, 182, 1, 64, 172, 78, 42, 45, 182, 0, 151, 172]
abbrev dktX0_stand_5 : List UInt8 := dkwX0_stand_5 ++ []
def dkwX0_stand_4 : List UInt8 := [163, 0, 8, 21, 4, 167, 0, 4, 29, 62, 132, 4, 255, 167, 255, 209, 28, 154, 0, 7, 29, 167, 0, 11]
abbrev dktX0_stand_4 : List UInt8 := dkwX0_stand_4 ++ dktX0_stand_5
def dkwX0_stand_3 : List UInt8 := [182, 0, 186, 153, 0, 28, 42, 180, 0, 84, 21, 4, 182, 1, 64, 42, 180, 0, 84, 29, 182, 1, 64]
abbrev dktX0_stand_3 : List UInt8 := dkwX0_stand_3 ++ dktX0_stand_4
def dkwX0_stand_2 : List UInt8 := [180, 0, 88, 180, 0, 219, 27, 46, 62, 16, 35, 54, 4, 21, 4, 155, 0, 48, 42, 180, 0, 88, 21, 4]
abbrev dktX0_stand_2 : List UInt8 := dkwX0_stand_2 ++ dktX0_stand_3
def dkwX0_stand_1 : List UInt8 := [180, 0, 77, 42, 180, 0, 88, 182, 1, 9, 27, 42, 180, 0, 88, 180, 0, 219, 27, 46, 182, 1, 47, 42]
abbrev dktX0_stand_1 : List UInt8 := dkwX0_stand_1 ++ dktX0_stand_2
def dkwX0_stand_0 : List UInt8 := [42, 27, 182, 0, 171, 28, 133, 9, 10, 184, 0, 143, 16, 251, 184, 0, 105, 42, 180, 0, 84, 42]
abbrev dktX0_stand_0 : List UInt8 := dkwX0_stand_0 ++ dktX0_stand_1
theorem dksX0_stand_0 : cX0_stand.data.toList.drop 0 = dktX0_stand_0 := by decide +kernel
theorem dksX0_stand_1 : cX0_stand.data.toList.drop 22 = dktX0_stand_1 := dk_seg dksX0_stand_0 22 rfl rfl
theorem dksX0_stand_2 : cX0_stand.data.toList.drop 46 = dktX0_stand_2 := dk_seg dksX0_stand_1 24 rfl rfl
theorem dksX0_stand_3 : cX0_stand.data.toList.drop 70 = dktX0_stand_3 := dk_seg dksX0_stand_2 24 rfl rfl
theorem dksX0_stand_4 : cX0_stand.data.toList.drop 93 = dktX0_stand_4 := dk_seg dksX0_stand_3 23 rfl rfl
theorem dksX0_stand_5 : cX0_stand.data.toList.drop 117 = dktX0_stand_5 := dk_seg dksX0_stand_4 24 rfl rfl
theorem dX0_stand_0 : decode cX0_stand 0 = .ok (.aload_n 0, 1) := dk_42 (dk_at dksX0_stand_0 0 rfl rfl)
theorem dX0_stand_1 : decode cX0_stand 1 = .ok (.iload_n 1, 1) := dk_27 (dk_at dksX0_stand_0 1 rfl rfl)
theorem dX0_stand_2 : decode cX0_stand 2 = .ok (.invokevirtual 171, 3) := dk_182 0 171 (dk_at dksX0_stand_0 2 rfl rfl)
theorem dX0_stand_5 : decode cX0_stand 5 = .ok (.iload_n 2, 1) := dk_28 (dk_at dksX0_stand_0 5 rfl rfl)
theorem dX0_stand_6 : decode cX0_stand 6 = .ok (.i2l, 1) := dk_133 (dk_at dksX0_stand_0 6 rfl rfl)
theorem dX0_stand_7 : decode cX0_stand 7 = .ok (.lconst 0, 1) := dk_9 (dk_at dksX0_stand_0 7 rfl rfl)
theorem dX0_stand_8 : decode cX0_stand 8 = .ok (.lconst 1, 1) := dk_10 (dk_at dksX0_stand_0 8 rfl rfl)
theorem dX0_stand_9 : decode cX0_stand 9 = .ok (.invokestatic 143, 3) := dk_184 0 143 (dk_at dksX0_stand_0 9 rfl rfl)
theorem dX0_stand_12 : decode cX0_stand 12 = .ok (.bipush (-5), 2) := dk_16 251 (dk_at dksX0_stand_0 12 rfl rfl)
theorem dX0_stand_14 : decode cX0_stand 14 = .ok (.invokestatic 105, 3) := dk_184 0 105 (dk_at dksX0_stand_0 14 rfl rfl)
theorem dX0_stand_17 : decode cX0_stand 17 = .ok (.aload_n 0, 1) := dk_42 (dk_at dksX0_stand_0 17 rfl rfl)
theorem dX0_stand_18 : decode cX0_stand 18 = .ok (.getfield 84, 3) := dk_180 0 84 (dk_at dksX0_stand_0 18 rfl rfl)
theorem dX0_stand_21 : decode cX0_stand 21 = .ok (.aload_n 0, 1) := dk_42 (dk_at dksX0_stand_0 21 rfl rfl)
theorem dX0_stand_22 : decode cX0_stand 22 = .ok (.getfield 77, 3) := dk_180 0 77 (dk_at dksX0_stand_1 0 rfl rfl)
theorem dX0_stand_25 : decode cX0_stand 25 = .ok (.aload_n 0, 1) := dk_42 (dk_at dksX0_stand_1 3 rfl rfl)
theorem dX0_stand_26 : decode cX0_stand 26 = .ok (.getfield 88, 3) := dk_180 0 88 (dk_at dksX0_stand_1 4 rfl rfl)
theorem dX0_stand_29 : decode cX0_stand 29 = .ok (.invokevirtual 265, 3) := dk_182 1 9 (dk_at dksX0_stand_1 7 rfl rfl)
theorem dX0_stand_32 : decode cX0_stand 32 = .ok (.iload_n 1, 1) := dk_27 (dk_at dksX0_stand_1 10 rfl rfl)
theorem dX0_stand_33 : decode cX0_stand 33 = .ok (.aload_n 0, 1) := dk_42 (dk_at dksX0_stand_1 11 rfl rfl)
theorem dX0_stand_34 : decode cX0_stand 34 = .ok (.getfield 88, 3) := dk_180 0 88 (dk_at dksX0_stand_1 12 rfl rfl)
theorem dX0_stand_37 : decode cX0_stand 37 = .ok (.getfield 219, 3) := dk_180 0 219 (dk_at dksX0_stand_1 15 rfl rfl)
theorem dX0_stand_40 : decode cX0_stand 40 = .ok (.iload_n 1, 1) := dk_27 (dk_at dksX0_stand_1 18 rfl rfl)
theorem dX0_stand_41 : decode cX0_stand 41 = .ok (.iaload, 1) := dk_46 (dk_at dksX0_stand_1 19 rfl rfl)
theorem dX0_stand_42 : decode cX0_stand 42 = .ok (.invokevirtual 303, 3) := dk_182 1 47 (dk_at dksX0_stand_1 20 rfl rfl)
theorem dX0_stand_45 : decode cX0_stand 45 = .ok (.aload_n 0, 1) := dk_42 (dk_at dksX0_stand_1 23 rfl rfl)
theorem dX0_stand_46 : decode cX0_stand 46 = .ok (.getfield 88, 3) := dk_180 0 88 (dk_at dksX0_stand_2 0 rfl rfl)
theorem dX0_stand_49 : decode cX0_stand 49 = .ok (.getfield 219, 3) := dk_180 0 219 (dk_at dksX0_stand_2 3 rfl rfl)
theorem dX0_stand_52 : decode cX0_stand 52 = .ok (.iload_n 1, 1) := dk_27 (dk_at dksX0_stand_2 6 rfl rfl)
theorem dX0_stand_53 : decode cX0_stand 53 = .ok (.iaload, 1) := dk_46 (dk_at dksX0_stand_2 7 rfl rfl)
theorem dX0_stand_54 : decode cX0_stand 54 = .ok (.istore_n 3, 1) := dk_62 (dk_at dksX0_stand_2 8 rfl rfl)
theorem dX0_stand_55 : decode cX0_stand 55 = .ok (.bipush 35, 2) := dk_16 35 (dk_at dksX0_stand_2 9 rfl rfl)
theorem dX0_stand_57 : decode cX0_stand 57 = .ok (.istore 4, 2) := dk_54 4 (dk_at dksX0_stand_2 11 rfl rfl)
theorem dX0_stand_59 : decode cX0_stand 59 = .ok (.iload 4, 2) := dk_21 4 (dk_at dksX0_stand_2 13 rfl rfl)
theorem dX0_stand_61 : decode cX0_stand 61 = .ok (.ifCond .lt 48, 3) := dk_155 0 48 (dk_at dksX0_stand_2 15 rfl rfl)
theorem dX0_stand_64 : decode cX0_stand 64 = .ok (.aload_n 0, 1) := dk_42 (dk_at dksX0_stand_2 18 rfl rfl)
theorem dX0_stand_65 : decode cX0_stand 65 = .ok (.getfield 88, 3) := dk_180 0 88 (dk_at dksX0_stand_2 19 rfl rfl)
theorem dX0_stand_68 : decode cX0_stand 68 = .ok (.iload 4, 2) := dk_21 4 (dk_at dksX0_stand_2 22 rfl rfl)
theorem dX0_stand_70 : decode cX0_stand 70 = .ok (.invokevirtual 186, 3) := dk_182 0 186 (dk_at dksX0_stand_3 0 rfl rfl)
theorem dX0_stand_73 : decode cX0_stand 73 = .ok (.ifCond .eq 28, 3) := dk_153 0 28 (dk_at dksX0_stand_3 3 rfl rfl)
theorem dX0_stand_76 : decode cX0_stand 76 = .ok (.aload_n 0, 1) := dk_42 (dk_at dksX0_stand_3 6 rfl rfl)
theorem dX0_stand_77 : decode cX0_stand 77 = .ok (.getfield 84, 3) := dk_180 0 84 (dk_at dksX0_stand_3 7 rfl rfl)
theorem dX0_stand_80 : decode cX0_stand 80 = .ok (.iload 4, 2) := dk_21 4 (dk_at dksX0_stand_3 10 rfl rfl)
theorem dX0_stand_82 : decode cX0_stand 82 = .ok (.invokevirtual 320, 3) := dk_182 1 64 (dk_at dksX0_stand_3 12 rfl rfl)
theorem dX0_stand_85 : decode cX0_stand 85 = .ok (.aload_n 0, 1) := dk_42 (dk_at dksX0_stand_3 15 rfl rfl)
theorem dX0_stand_86 : decode cX0_stand 86 = .ok (.getfield 84, 3) := dk_180 0 84 (dk_at dksX0_stand_3 16 rfl rfl)
theorem dX0_stand_89 : decode cX0_stand 89 = .ok (.iload_n 3, 1) := dk_29 (dk_at dksX0_stand_3 19 rfl rfl)
theorem dX0_stand_90 : decode cX0_stand 90 = .ok (.invokevirtual 320, 3) := dk_182 1 64 (dk_at dksX0_stand_3 20 rfl rfl)
theorem dX0_stand_93 : decode cX0_stand 93 = .ok (.if_icmp .gt 8, 3) := dk_163 0 8 (dk_at dksX0_stand_4 0 rfl rfl)
theorem dX0_stand_96 : decode cX0_stand 96 = .ok (.iload 4, 2) := dk_21 4 (dk_at dksX0_stand_4 3 rfl rfl)
theorem dX0_stand_98 : decode cX0_stand 98 = .ok (.goto 4, 3) := dk_167 0 4 (dk_at dksX0_stand_4 5 rfl rfl)
theorem dX0_stand_101 : decode cX0_stand 101 = .ok (.iload_n 3, 1) := dk_29 (dk_at dksX0_stand_4 8 rfl rfl)
theorem dX0_stand_102 : decode cX0_stand 102 = .ok (.istore_n 3, 1) := dk_62 (dk_at dksX0_stand_4 9 rfl rfl)
theorem dX0_stand_103 : decode cX0_stand 103 = .ok (.iinc 4 (-1), 3) := dk_132 4 255 (dk_at dksX0_stand_4 10 rfl rfl)
theorem dX0_stand_106 : decode cX0_stand 106 = .ok (.goto (-47), 3) := dk_167 255 209 (dk_at dksX0_stand_4 13 rfl rfl)
theorem dX0_stand_109 : decode cX0_stand 109 = .ok (.iload_n 2, 1) := dk_28 (dk_at dksX0_stand_4 16 rfl rfl)
theorem dX0_stand_110 : decode cX0_stand 110 = .ok (.ifCond .ne 7, 3) := dk_154 0 7 (dk_at dksX0_stand_4 17 rfl rfl)
theorem dX0_stand_113 : decode cX0_stand 113 = .ok (.iload_n 3, 1) := dk_29 (dk_at dksX0_stand_4 20 rfl rfl)
theorem dX0_stand_114 : decode cX0_stand 114 = .ok (.goto 11, 3) := dk_167 0 11 (dk_at dksX0_stand_4 21 rfl rfl)
theorem dX0_stand_117 : decode cX0_stand 117 = .ok (.aload_n 0, 1) := dk_42 (dk_at dksX0_stand_5 0 rfl rfl)
theorem dX0_stand_118 : decode cX0_stand 118 = .ok (.getfield 84, 3) := dk_180 0 84 (dk_at dksX0_stand_5 1 rfl rfl)
theorem dX0_stand_121 : decode cX0_stand 121 = .ok (.iload_n 3, 1) := dk_29 (dk_at dksX0_stand_5 4 rfl rfl)
theorem dX0_stand_122 : decode cX0_stand 122 = .ok (.invokevirtual 320, 3) := dk_182 1 64 (dk_at dksX0_stand_5 5 rfl rfl)
theorem dX0_stand_125 : decode cX0_stand 125 = .ok (.ireturn, 1) := dk_172 (dk_at dksX0_stand_5 8 rfl rfl)
theorem dX0_stand_126 : decode cX0_stand 126 = .ok (.astore_n 3, 1) := dk_78 (dk_at dksX0_stand_5 9 rfl rfl)
theorem dX0_stand_127 : decode cX0_stand 127 = .ok (.aload_n 0, 1) := dk_42 (dk_at dksX0_stand_5 10 rfl rfl)
theorem dX0_stand_128 : decode cX0_stand 128 = .ok (.aload_n 3, 1) := dk_45 (dk_at dksX0_stand_5 11 rfl rfl)
theorem dX0_stand_129 : decode cX0_stand 129 = .ok (.invokevirtual 151, 3) := dk_182 0 151 (dk_at dksX0_stand_5 12 rfl rfl)
theorem dX0_stand_132 : decode cX0_stand 132 = .ok (.ireturn, 1) := dk_172 (dk_at dksX0_stand_5 15 rfl rfl)
abbrev cX0_sacks : ByteArray := prog_1_method_38_code
def yX0_sacks : MethodName := ⟨RX0, "sacks", "(II)I"⟩
def dkwX0_sacks_2 : List UInt8 := [182, 1, 72, 172, 78, 42, 45, 182, 0, 151, 16, 10, 100, 172]
abbrev dktX0_sacks_2 : List UInt8 := dkwX0_sacks_2 ++ []
def dkwX0_sacks_1 : List UInt8 := [184, 0, 105, 42, 27, 182, 1, 75, 62, 28, 153, 0, 8, 29, 2, 160, 0, 7, 29, 167, 0, 8, 42, 29]
abbrev dktX0_sacks_1 : List UInt8 := dkwX0_sacks_1 ++ dktX0_sacks_2
def dkwX0_sacks_0 : List UInt8 := [28, 133, 9, 10, 184, 0, 143, 16, 251, 184, 0, 105, 27, 133, 9, 20, 0, 141, 184, 0, 143, 16, 250]
abbrev dktX0_sacks_0 : List UInt8 := dkwX0_sacks_0 ++ dktX0_sacks_1
theorem dksX0_sacks_0 : cX0_sacks.data.toList.drop 0 = dktX0_sacks_0 := by decide +kernel
theorem dksX0_sacks_1 : cX0_sacks.data.toList.drop 23 = dktX0_sacks_1 := dk_seg dksX0_sacks_0 23 rfl rfl
theorem dksX0_sacks_2 : cX0_sacks.data.toList.drop 47 = dktX0_sacks_2 := dk_seg dksX0_sacks_1 24 rfl rfl
theorem dX0_sacks_0 : decode cX0_sacks 0 = .ok (.iload_n 2, 1) := dk_28 (dk_at dksX0_sacks_0 0 rfl rfl)
theorem dX0_sacks_1 : decode cX0_sacks 1 = .ok (.i2l, 1) := dk_133 (dk_at dksX0_sacks_0 1 rfl rfl)
theorem dX0_sacks_2 : decode cX0_sacks 2 = .ok (.lconst 0, 1) := dk_9 (dk_at dksX0_sacks_0 2 rfl rfl)
theorem dX0_sacks_3 : decode cX0_sacks 3 = .ok (.lconst 1, 1) := dk_10 (dk_at dksX0_sacks_0 3 rfl rfl)
theorem dX0_sacks_4 : decode cX0_sacks 4 = .ok (.invokestatic 143, 3) := dk_184 0 143 (dk_at dksX0_sacks_0 4 rfl rfl)
theorem dX0_sacks_7 : decode cX0_sacks 7 = .ok (.bipush (-5), 2) := dk_16 251 (dk_at dksX0_sacks_0 7 rfl rfl)
theorem dX0_sacks_9 : decode cX0_sacks 9 = .ok (.invokestatic 105, 3) := dk_184 0 105 (dk_at dksX0_sacks_0 9 rfl rfl)
theorem dX0_sacks_12 : decode cX0_sacks 12 = .ok (.iload_n 1, 1) := dk_27 (dk_at dksX0_sacks_0 12 rfl rfl)
theorem dX0_sacks_13 : decode cX0_sacks 13 = .ok (.i2l, 1) := dk_133 (dk_at dksX0_sacks_0 13 rfl rfl)
theorem dX0_sacks_14 : decode cX0_sacks 14 = .ok (.lconst 0, 1) := dk_9 (dk_at dksX0_sacks_0 14 rfl rfl)
theorem dX0_sacks_15 : decode cX0_sacks 15 = .ok (.ldc2_w 141, 3) := dk_20 0 141 (dk_at dksX0_sacks_0 15 rfl rfl)
theorem dX0_sacks_18 : decode cX0_sacks 18 = .ok (.invokestatic 143, 3) := dk_184 0 143 (dk_at dksX0_sacks_0 18 rfl rfl)
theorem dX0_sacks_21 : decode cX0_sacks 21 = .ok (.bipush (-6), 2) := dk_16 250 (dk_at dksX0_sacks_0 21 rfl rfl)
theorem dX0_sacks_23 : decode cX0_sacks 23 = .ok (.invokestatic 105, 3) := dk_184 0 105 (dk_at dksX0_sacks_1 0 rfl rfl)
theorem dX0_sacks_26 : decode cX0_sacks 26 = .ok (.aload_n 0, 1) := dk_42 (dk_at dksX0_sacks_1 3 rfl rfl)
theorem dX0_sacks_27 : decode cX0_sacks 27 = .ok (.iload_n 1, 1) := dk_27 (dk_at dksX0_sacks_1 4 rfl rfl)
theorem dX0_sacks_28 : decode cX0_sacks 28 = .ok (.invokevirtual 331, 3) := dk_182 1 75 (dk_at dksX0_sacks_1 5 rfl rfl)
theorem dX0_sacks_31 : decode cX0_sacks 31 = .ok (.istore_n 3, 1) := dk_62 (dk_at dksX0_sacks_1 8 rfl rfl)
theorem dX0_sacks_32 : decode cX0_sacks 32 = .ok (.iload_n 2, 1) := dk_28 (dk_at dksX0_sacks_1 9 rfl rfl)
theorem dX0_sacks_33 : decode cX0_sacks 33 = .ok (.ifCond .eq 8, 3) := dk_153 0 8 (dk_at dksX0_sacks_1 10 rfl rfl)
theorem dX0_sacks_36 : decode cX0_sacks 36 = .ok (.iload_n 3, 1) := dk_29 (dk_at dksX0_sacks_1 13 rfl rfl)
theorem dX0_sacks_37 : decode cX0_sacks 37 = .ok (.iconst (-1), 1) := dk_2 (dk_at dksX0_sacks_1 14 rfl rfl)
theorem dX0_sacks_38 : decode cX0_sacks 38 = .ok (.if_icmp .ne 7, 3) := dk_160 0 7 (dk_at dksX0_sacks_1 15 rfl rfl)
theorem dX0_sacks_41 : decode cX0_sacks 41 = .ok (.iload_n 3, 1) := dk_29 (dk_at dksX0_sacks_1 18 rfl rfl)
theorem dX0_sacks_42 : decode cX0_sacks 42 = .ok (.goto 8, 3) := dk_167 0 8 (dk_at dksX0_sacks_1 19 rfl rfl)
theorem dX0_sacks_45 : decode cX0_sacks 45 = .ok (.aload_n 0, 1) := dk_42 (dk_at dksX0_sacks_1 22 rfl rfl)
theorem dX0_sacks_46 : decode cX0_sacks 46 = .ok (.iload_n 3, 1) := dk_29 (dk_at dksX0_sacks_1 23 rfl rfl)
theorem dX0_sacks_47 : decode cX0_sacks 47 = .ok (.invokevirtual 328, 3) := dk_182 1 72 (dk_at dksX0_sacks_2 0 rfl rfl)
theorem dX0_sacks_50 : decode cX0_sacks 50 = .ok (.ireturn, 1) := dk_172 (dk_at dksX0_sacks_2 3 rfl rfl)
theorem dX0_sacks_51 : decode cX0_sacks 51 = .ok (.astore_n 3, 1) := dk_78 (dk_at dksX0_sacks_2 4 rfl rfl)
theorem dX0_sacks_52 : decode cX0_sacks 52 = .ok (.aload_n 0, 1) := dk_42 (dk_at dksX0_sacks_2 5 rfl rfl)
theorem dX0_sacks_53 : decode cX0_sacks 53 = .ok (.aload_n 3, 1) := dk_45 (dk_at dksX0_sacks_2 6 rfl rfl)
theorem dX0_sacks_54 : decode cX0_sacks 54 = .ok (.invokevirtual 151, 3) := dk_182 0 151 (dk_at dksX0_sacks_2 7 rfl rfl)
theorem dX0_sacks_57 : decode cX0_sacks 57 = .ok (.bipush 10, 2) := dk_16 10 (dk_at dksX0_sacks_2 10 rfl rfl)
theorem dX0_sacks_59 : decode cX0_sacks 59 = .ok (.isub, 1) := dk_100 (dk_at dksX0_sacks_2 12 rfl rfl)
theorem dX0_sacks_60 : decode cX0_sacks 60 = .ok (.ireturn, 1) := dk_172 (dk_at dksX0_sacks_2 13 rfl rfl)
abbrev cX0_bestSacks : ByteArray := prog_1_method_37_code
def yX0_bestSacks : MethodName := ⟨RX0, "bestSacks", "(I)I"⟩
def dkwX0_bestSacks_3 : List UInt8 := [172]
abbrev dktX0_bestSacks_3 : List UInt8 := dkwX0_bestSacks_3 ++ []
def dkwX0_bestSacks_2 : List UInt8 := [182, 1, 72, 42, 28, 182, 1, 72, 162, 0, 7, 29, 167, 0, 4, 28, 61, 132, 3, 1, 167, 255, 196, 28]
abbrev dktX0_bestSacks_2 : List UInt8 := dkwX0_bestSacks_2 ++ dktX0_bestSacks_3
def dkwX0_bestSacks_1 : List UInt8 := [160, 0, 7, 4, 167, 0, 4, 3, 54, 4, 21, 4, 153, 0, 25, 28, 2, 159, 0, 16, 42, 29]
abbrev dktX0_bestSacks_1 : List UInt8 := dkwX0_bestSacks_1 ++ dktX0_bestSacks_2
def dkwX0_bestSacks_0 : List UInt8 := [2, 61, 3, 62, 29, 4, 42, 180, 0, 88, 180, 0, 189, 120, 162, 0, 53, 29, 184, 1, 67, 27]
abbrev dktX0_bestSacks_0 : List UInt8 := dkwX0_bestSacks_0 ++ dktX0_bestSacks_1
theorem dksX0_bestSacks_0 : cX0_bestSacks.data.toList.drop 0 = dktX0_bestSacks_0 := by decide +kernel
theorem dksX0_bestSacks_1 : cX0_bestSacks.data.toList.drop 22 = dktX0_bestSacks_1 := dk_seg dksX0_bestSacks_0 22 rfl rfl
theorem dksX0_bestSacks_2 : cX0_bestSacks.data.toList.drop 44 = dktX0_bestSacks_2 := dk_seg dksX0_bestSacks_1 22 rfl rfl
theorem dksX0_bestSacks_3 : cX0_bestSacks.data.toList.drop 68 = dktX0_bestSacks_3 := dk_seg dksX0_bestSacks_2 24 rfl rfl
theorem dX0_bestSacks_0 : decode cX0_bestSacks 0 = .ok (.iconst (-1), 1) := dk_2 (dk_at dksX0_bestSacks_0 0 rfl rfl)
theorem dX0_bestSacks_1 : decode cX0_bestSacks 1 = .ok (.istore_n 2, 1) := dk_61 (dk_at dksX0_bestSacks_0 1 rfl rfl)
theorem dX0_bestSacks_2 : decode cX0_bestSacks 2 = .ok (.iconst 0, 1) := dk_3 (dk_at dksX0_bestSacks_0 2 rfl rfl)
theorem dX0_bestSacks_3 : decode cX0_bestSacks 3 = .ok (.istore_n 3, 1) := dk_62 (dk_at dksX0_bestSacks_0 3 rfl rfl)
theorem dX0_bestSacks_4 : decode cX0_bestSacks 4 = .ok (.iload_n 3, 1) := dk_29 (dk_at dksX0_bestSacks_0 4 rfl rfl)
theorem dX0_bestSacks_5 : decode cX0_bestSacks 5 = .ok (.iconst 1, 1) := dk_4 (dk_at dksX0_bestSacks_0 5 rfl rfl)
theorem dX0_bestSacks_6 : decode cX0_bestSacks 6 = .ok (.aload_n 0, 1) := dk_42 (dk_at dksX0_bestSacks_0 6 rfl rfl)
theorem dX0_bestSacks_7 : decode cX0_bestSacks 7 = .ok (.getfield 88, 3) := dk_180 0 88 (dk_at dksX0_bestSacks_0 7 rfl rfl)
theorem dX0_bestSacks_10 : decode cX0_bestSacks 10 = .ok (.getfield 189, 3) := dk_180 0 189 (dk_at dksX0_bestSacks_0 10 rfl rfl)
theorem dX0_bestSacks_13 : decode cX0_bestSacks 13 = .ok (.ishl, 1) := dk_120 (dk_at dksX0_bestSacks_0 13 rfl rfl)
theorem dX0_bestSacks_14 : decode cX0_bestSacks 14 = .ok (.if_icmp .ge 53, 3) := dk_162 0 53 (dk_at dksX0_bestSacks_0 14 rfl rfl)
theorem dX0_bestSacks_17 : decode cX0_bestSacks 17 = .ok (.iload_n 3, 1) := dk_29 (dk_at dksX0_bestSacks_0 17 rfl rfl)
theorem dX0_bestSacks_18 : decode cX0_bestSacks 18 = .ok (.invokestatic 323, 3) := dk_184 1 67 (dk_at dksX0_bestSacks_0 18 rfl rfl)
theorem dX0_bestSacks_21 : decode cX0_bestSacks 21 = .ok (.iload_n 1, 1) := dk_27 (dk_at dksX0_bestSacks_0 21 rfl rfl)
theorem dX0_bestSacks_22 : decode cX0_bestSacks 22 = .ok (.if_icmp .ne 7, 3) := dk_160 0 7 (dk_at dksX0_bestSacks_1 0 rfl rfl)
theorem dX0_bestSacks_25 : decode cX0_bestSacks 25 = .ok (.iconst 1, 1) := dk_4 (dk_at dksX0_bestSacks_1 3 rfl rfl)
theorem dX0_bestSacks_26 : decode cX0_bestSacks 26 = .ok (.goto 4, 3) := dk_167 0 4 (dk_at dksX0_bestSacks_1 4 rfl rfl)
theorem dX0_bestSacks_29 : decode cX0_bestSacks 29 = .ok (.iconst 0, 1) := dk_3 (dk_at dksX0_bestSacks_1 7 rfl rfl)
theorem dX0_bestSacks_30 : decode cX0_bestSacks 30 = .ok (.istore 4, 2) := dk_54 4 (dk_at dksX0_bestSacks_1 8 rfl rfl)
theorem dX0_bestSacks_32 : decode cX0_bestSacks 32 = .ok (.iload 4, 2) := dk_21 4 (dk_at dksX0_bestSacks_1 10 rfl rfl)
theorem dX0_bestSacks_34 : decode cX0_bestSacks 34 = .ok (.ifCond .eq 25, 3) := dk_153 0 25 (dk_at dksX0_bestSacks_1 12 rfl rfl)
theorem dX0_bestSacks_37 : decode cX0_bestSacks 37 = .ok (.iload_n 2, 1) := dk_28 (dk_at dksX0_bestSacks_1 15 rfl rfl)
theorem dX0_bestSacks_38 : decode cX0_bestSacks 38 = .ok (.iconst (-1), 1) := dk_2 (dk_at dksX0_bestSacks_1 16 rfl rfl)
theorem dX0_bestSacks_39 : decode cX0_bestSacks 39 = .ok (.if_icmp .eq 16, 3) := dk_159 0 16 (dk_at dksX0_bestSacks_1 17 rfl rfl)
theorem dX0_bestSacks_42 : decode cX0_bestSacks 42 = .ok (.aload_n 0, 1) := dk_42 (dk_at dksX0_bestSacks_1 20 rfl rfl)
theorem dX0_bestSacks_43 : decode cX0_bestSacks 43 = .ok (.iload_n 3, 1) := dk_29 (dk_at dksX0_bestSacks_1 21 rfl rfl)
theorem dX0_bestSacks_44 : decode cX0_bestSacks 44 = .ok (.invokevirtual 328, 3) := dk_182 1 72 (dk_at dksX0_bestSacks_2 0 rfl rfl)
theorem dX0_bestSacks_47 : decode cX0_bestSacks 47 = .ok (.aload_n 0, 1) := dk_42 (dk_at dksX0_bestSacks_2 3 rfl rfl)
theorem dX0_bestSacks_48 : decode cX0_bestSacks 48 = .ok (.iload_n 2, 1) := dk_28 (dk_at dksX0_bestSacks_2 4 rfl rfl)
theorem dX0_bestSacks_49 : decode cX0_bestSacks 49 = .ok (.invokevirtual 328, 3) := dk_182 1 72 (dk_at dksX0_bestSacks_2 5 rfl rfl)
theorem dX0_bestSacks_52 : decode cX0_bestSacks 52 = .ok (.if_icmp .ge 7, 3) := dk_162 0 7 (dk_at dksX0_bestSacks_2 8 rfl rfl)
theorem dX0_bestSacks_55 : decode cX0_bestSacks 55 = .ok (.iload_n 3, 1) := dk_29 (dk_at dksX0_bestSacks_2 11 rfl rfl)
theorem dX0_bestSacks_56 : decode cX0_bestSacks 56 = .ok (.goto 4, 3) := dk_167 0 4 (dk_at dksX0_bestSacks_2 12 rfl rfl)
theorem dX0_bestSacks_59 : decode cX0_bestSacks 59 = .ok (.iload_n 2, 1) := dk_28 (dk_at dksX0_bestSacks_2 15 rfl rfl)
theorem dX0_bestSacks_60 : decode cX0_bestSacks 60 = .ok (.istore_n 2, 1) := dk_61 (dk_at dksX0_bestSacks_2 16 rfl rfl)
theorem dX0_bestSacks_61 : decode cX0_bestSacks 61 = .ok (.iinc 3 1, 3) := dk_132 3 1 (dk_at dksX0_bestSacks_2 17 rfl rfl)
theorem dX0_bestSacks_64 : decode cX0_bestSacks 64 = .ok (.goto (-60), 3) := dk_167 255 196 (dk_at dksX0_bestSacks_2 20 rfl rfl)
theorem dX0_bestSacks_67 : decode cX0_bestSacks 67 = .ok (.iload_n 2, 1) := dk_28 (dk_at dksX0_bestSacks_2 23 rfl rfl)
theorem dX0_bestSacks_68 : decode cX0_bestSacks 68 = .ok (.ireturn, 1) := dk_172 (dk_at dksX0_bestSacks_3 0 rfl rfl)
abbrev cX0_dutiesWith : ByteArray := prog_1_method_36_code
def yX0_dutiesWith : MethodName := ⟨RX0, "dutiesWith", "(I)I"⟩
def dkwX0_dutiesWith_1 : List UInt8 := [181, 0, 222, 42, 180, 0, 77, 182, 1, 42, 172]
abbrev dktX0_dutiesWith_1 : List UInt8 := dkwX0_dutiesWith_1 ++ []
def dkwX0_dutiesWith_0 : List UInt8 := [42, 180, 0, 77, 42, 180, 0, 88, 182, 1, 9, 87, 42, 180, 0, 77, 89, 180, 0, 222, 27, 128]
abbrev dktX0_dutiesWith_0 : List UInt8 := dkwX0_dutiesWith_0 ++ dktX0_dutiesWith_1
theorem dksX0_dutiesWith_0 : cX0_dutiesWith.data.toList.drop 0 = dktX0_dutiesWith_0 := by decide +kernel
theorem dksX0_dutiesWith_1 : cX0_dutiesWith.data.toList.drop 22 = dktX0_dutiesWith_1 := dk_seg dksX0_dutiesWith_0 22 rfl rfl
theorem dX0_dutiesWith_0 : decode cX0_dutiesWith 0 = .ok (.aload_n 0, 1) := dk_42 (dk_at dksX0_dutiesWith_0 0 rfl rfl)
theorem dX0_dutiesWith_1 : decode cX0_dutiesWith 1 = .ok (.getfield 77, 3) := dk_180 0 77 (dk_at dksX0_dutiesWith_0 1 rfl rfl)
theorem dX0_dutiesWith_4 : decode cX0_dutiesWith 4 = .ok (.aload_n 0, 1) := dk_42 (dk_at dksX0_dutiesWith_0 4 rfl rfl)
theorem dX0_dutiesWith_5 : decode cX0_dutiesWith 5 = .ok (.getfield 88, 3) := dk_180 0 88 (dk_at dksX0_dutiesWith_0 5 rfl rfl)
theorem dX0_dutiesWith_8 : decode cX0_dutiesWith 8 = .ok (.invokevirtual 265, 3) := dk_182 1 9 (dk_at dksX0_dutiesWith_0 8 rfl rfl)
theorem dX0_dutiesWith_11 : decode cX0_dutiesWith 11 = .ok (.pop, 1) := dk_87 (dk_at dksX0_dutiesWith_0 11 rfl rfl)
theorem dX0_dutiesWith_12 : decode cX0_dutiesWith 12 = .ok (.aload_n 0, 1) := dk_42 (dk_at dksX0_dutiesWith_0 12 rfl rfl)
theorem dX0_dutiesWith_13 : decode cX0_dutiesWith 13 = .ok (.getfield 77, 3) := dk_180 0 77 (dk_at dksX0_dutiesWith_0 13 rfl rfl)
theorem dX0_dutiesWith_16 : decode cX0_dutiesWith 16 = .ok (.dup, 1) := dk_89 (dk_at dksX0_dutiesWith_0 16 rfl rfl)
theorem dX0_dutiesWith_17 : decode cX0_dutiesWith 17 = .ok (.getfield 222, 3) := dk_180 0 222 (dk_at dksX0_dutiesWith_0 17 rfl rfl)
theorem dX0_dutiesWith_20 : decode cX0_dutiesWith 20 = .ok (.iload_n 1, 1) := dk_27 (dk_at dksX0_dutiesWith_0 20 rfl rfl)
theorem dX0_dutiesWith_21 : decode cX0_dutiesWith 21 = .ok (.ior, 1) := dk_128 (dk_at dksX0_dutiesWith_0 21 rfl rfl)
theorem dX0_dutiesWith_22 : decode cX0_dutiesWith 22 = .ok (.putfield 222, 3) := dk_181 0 222 (dk_at dksX0_dutiesWith_1 0 rfl rfl)
theorem dX0_dutiesWith_25 : decode cX0_dutiesWith 25 = .ok (.aload_n 0, 1) := dk_42 (dk_at dksX0_dutiesWith_1 3 rfl rfl)
theorem dX0_dutiesWith_26 : decode cX0_dutiesWith 26 = .ok (.getfield 77, 3) := dk_180 0 77 (dk_at dksX0_dutiesWith_1 4 rfl rfl)
theorem dX0_dutiesWith_29 : decode cX0_dutiesWith 29 = .ok (.invokevirtual 298, 3) := dk_182 1 42 (dk_at dksX0_dutiesWith_1 7 rfl rfl)
theorem dX0_dutiesWith_32 : decode cX0_dutiesWith 32 = .ok (.ireturn, 1) := dk_172 (dk_at dksX0_dutiesWith_1 10 rfl rfl)
abbrev cX0_balconies : ByteArray := prog_1_method_40_code
def yX0_balconies : MethodName := ⟨RX0, "balconies", "(I)I"⟩
def dkwX0_balconies_3 : List UInt8 := [42, 44, 182, 0, 151, 172]
abbrev dktX0_balconies_3 : List UInt8 := dkwX0_balconies_3 ++ []
def dkwX0_balconies_2 : List UInt8 := [29, 21, 5, 184, 1, 84, 62, 132, 4, 1, 167, 255, 218, 27, 154, 0, 7, 28, 167, 0, 4, 29, 172, 77]
abbrev dktX0_balconies_2 : List UInt8 := dkwX0_balconies_2 ++ dktX0_balconies_3
def dkwX0_balconies_1 : List UInt8 := [162, 0, 37, 42, 21, 4, 182, 1, 81, 54, 5, 21, 5, 29, 164, 0, 8, 21, 4, 167, 0, 4, 28, 61]
abbrev dktX0_balconies_1 : List UInt8 := dkwX0_balconies_1 ++ dktX0_balconies_2
def dkwX0_balconies_0 : List UInt8 := [27, 133, 9, 10, 184, 0, 143, 16, 251, 184, 0, 105, 3, 61, 2, 62, 3, 54, 4, 21, 4, 16, 36]
abbrev dktX0_balconies_0 : List UInt8 := dkwX0_balconies_0 ++ dktX0_balconies_1
theorem dksX0_balconies_0 : cX0_balconies.data.toList.drop 0 = dktX0_balconies_0 := by decide +kernel
theorem dksX0_balconies_1 : cX0_balconies.data.toList.drop 23 = dktX0_balconies_1 := dk_seg dksX0_balconies_0 23 rfl rfl
theorem dksX0_balconies_2 : cX0_balconies.data.toList.drop 47 = dktX0_balconies_2 := dk_seg dksX0_balconies_1 24 rfl rfl
theorem dksX0_balconies_3 : cX0_balconies.data.toList.drop 71 = dktX0_balconies_3 := dk_seg dksX0_balconies_2 24 rfl rfl
theorem dX0_balconies_0 : decode cX0_balconies 0 = .ok (.iload_n 1, 1) := dk_27 (dk_at dksX0_balconies_0 0 rfl rfl)
theorem dX0_balconies_1 : decode cX0_balconies 1 = .ok (.i2l, 1) := dk_133 (dk_at dksX0_balconies_0 1 rfl rfl)
theorem dX0_balconies_2 : decode cX0_balconies 2 = .ok (.lconst 0, 1) := dk_9 (dk_at dksX0_balconies_0 2 rfl rfl)
theorem dX0_balconies_3 : decode cX0_balconies 3 = .ok (.lconst 1, 1) := dk_10 (dk_at dksX0_balconies_0 3 rfl rfl)
theorem dX0_balconies_4 : decode cX0_balconies 4 = .ok (.invokestatic 143, 3) := dk_184 0 143 (dk_at dksX0_balconies_0 4 rfl rfl)
theorem dX0_balconies_7 : decode cX0_balconies 7 = .ok (.bipush (-5), 2) := dk_16 251 (dk_at dksX0_balconies_0 7 rfl rfl)
theorem dX0_balconies_9 : decode cX0_balconies 9 = .ok (.invokestatic 105, 3) := dk_184 0 105 (dk_at dksX0_balconies_0 9 rfl rfl)
theorem dX0_balconies_12 : decode cX0_balconies 12 = .ok (.iconst 0, 1) := dk_3 (dk_at dksX0_balconies_0 12 rfl rfl)
theorem dX0_balconies_13 : decode cX0_balconies 13 = .ok (.istore_n 2, 1) := dk_61 (dk_at dksX0_balconies_0 13 rfl rfl)
theorem dX0_balconies_14 : decode cX0_balconies 14 = .ok (.iconst (-1), 1) := dk_2 (dk_at dksX0_balconies_0 14 rfl rfl)
theorem dX0_balconies_15 : decode cX0_balconies 15 = .ok (.istore_n 3, 1) := dk_62 (dk_at dksX0_balconies_0 15 rfl rfl)
theorem dX0_balconies_16 : decode cX0_balconies 16 = .ok (.iconst 0, 1) := dk_3 (dk_at dksX0_balconies_0 16 rfl rfl)
theorem dX0_balconies_17 : decode cX0_balconies 17 = .ok (.istore 4, 2) := dk_54 4 (dk_at dksX0_balconies_0 17 rfl rfl)
theorem dX0_balconies_19 : decode cX0_balconies 19 = .ok (.iload 4, 2) := dk_21 4 (dk_at dksX0_balconies_0 19 rfl rfl)
theorem dX0_balconies_21 : decode cX0_balconies 21 = .ok (.bipush 36, 2) := dk_16 36 (dk_at dksX0_balconies_0 21 rfl rfl)
theorem dX0_balconies_23 : decode cX0_balconies 23 = .ok (.if_icmp .ge 37, 3) := dk_162 0 37 (dk_at dksX0_balconies_1 0 rfl rfl)
theorem dX0_balconies_26 : decode cX0_balconies 26 = .ok (.aload_n 0, 1) := dk_42 (dk_at dksX0_balconies_1 3 rfl rfl)
theorem dX0_balconies_27 : decode cX0_balconies 27 = .ok (.iload 4, 2) := dk_21 4 (dk_at dksX0_balconies_1 4 rfl rfl)
theorem dX0_balconies_29 : decode cX0_balconies 29 = .ok (.invokevirtual 337, 3) := dk_182 1 81 (dk_at dksX0_balconies_1 6 rfl rfl)
theorem dX0_balconies_32 : decode cX0_balconies 32 = .ok (.istore 5, 2) := dk_54 5 (dk_at dksX0_balconies_1 9 rfl rfl)
theorem dX0_balconies_34 : decode cX0_balconies 34 = .ok (.iload 5, 2) := dk_21 5 (dk_at dksX0_balconies_1 11 rfl rfl)
theorem dX0_balconies_36 : decode cX0_balconies 36 = .ok (.iload_n 3, 1) := dk_29 (dk_at dksX0_balconies_1 13 rfl rfl)
theorem dX0_balconies_37 : decode cX0_balconies 37 = .ok (.if_icmp .le 8, 3) := dk_164 0 8 (dk_at dksX0_balconies_1 14 rfl rfl)
theorem dX0_balconies_40 : decode cX0_balconies 40 = .ok (.iload 4, 2) := dk_21 4 (dk_at dksX0_balconies_1 17 rfl rfl)
theorem dX0_balconies_42 : decode cX0_balconies 42 = .ok (.goto 4, 3) := dk_167 0 4 (dk_at dksX0_balconies_1 19 rfl rfl)
theorem dX0_balconies_45 : decode cX0_balconies 45 = .ok (.iload_n 2, 1) := dk_28 (dk_at dksX0_balconies_1 22 rfl rfl)
theorem dX0_balconies_46 : decode cX0_balconies 46 = .ok (.istore_n 2, 1) := dk_61 (dk_at dksX0_balconies_1 23 rfl rfl)
theorem dX0_balconies_47 : decode cX0_balconies 47 = .ok (.iload_n 3, 1) := dk_29 (dk_at dksX0_balconies_2 0 rfl rfl)
theorem dX0_balconies_48 : decode cX0_balconies 48 = .ok (.iload 5, 2) := dk_21 5 (dk_at dksX0_balconies_2 1 rfl rfl)
theorem dX0_balconies_50 : decode cX0_balconies 50 = .ok (.invokestatic 340, 3) := dk_184 1 84 (dk_at dksX0_balconies_2 3 rfl rfl)
theorem dX0_balconies_53 : decode cX0_balconies 53 = .ok (.istore_n 3, 1) := dk_62 (dk_at dksX0_balconies_2 6 rfl rfl)
theorem dX0_balconies_54 : decode cX0_balconies 54 = .ok (.iinc 4 1, 3) := dk_132 4 1 (dk_at dksX0_balconies_2 7 rfl rfl)
theorem dX0_balconies_57 : decode cX0_balconies 57 = .ok (.goto (-38), 3) := dk_167 255 218 (dk_at dksX0_balconies_2 10 rfl rfl)
theorem dX0_balconies_60 : decode cX0_balconies 60 = .ok (.iload_n 1, 1) := dk_27 (dk_at dksX0_balconies_2 13 rfl rfl)
theorem dX0_balconies_61 : decode cX0_balconies 61 = .ok (.ifCond .ne 7, 3) := dk_154 0 7 (dk_at dksX0_balconies_2 14 rfl rfl)
theorem dX0_balconies_64 : decode cX0_balconies 64 = .ok (.iload_n 2, 1) := dk_28 (dk_at dksX0_balconies_2 17 rfl rfl)
theorem dX0_balconies_65 : decode cX0_balconies 65 = .ok (.goto 4, 3) := dk_167 0 4 (dk_at dksX0_balconies_2 18 rfl rfl)
theorem dX0_balconies_68 : decode cX0_balconies 68 = .ok (.iload_n 3, 1) := dk_29 (dk_at dksX0_balconies_2 21 rfl rfl)
theorem dX0_balconies_69 : decode cX0_balconies 69 = .ok (.ireturn, 1) := dk_172 (dk_at dksX0_balconies_2 22 rfl rfl)
theorem dX0_balconies_70 : decode cX0_balconies 70 = .ok (.astore_n 2, 1) := dk_77 (dk_at dksX0_balconies_2 23 rfl rfl)
theorem dX0_balconies_71 : decode cX0_balconies 71 = .ok (.aload_n 0, 1) := dk_42 (dk_at dksX0_balconies_3 0 rfl rfl)
theorem dX0_balconies_72 : decode cX0_balconies 72 = .ok (.aload_n 2, 1) := dk_44 (dk_at dksX0_balconies_3 1 rfl rfl)
theorem dX0_balconies_73 : decode cX0_balconies 73 = .ok (.invokevirtual 151, 3) := dk_182 0 151 (dk_at dksX0_balconies_3 2 rfl rfl)
theorem dX0_balconies_76 : decode cX0_balconies 76 = .ok (.ireturn, 1) := dk_172 (dk_at dksX0_balconies_3 5 rfl rfl)
abbrev cX0_enteredWith : ByteArray := prog_1_method_39_code
def yX0_enteredWith : MethodName := ⟨RX0, "enteredWith", "(I)I"⟩
def dkwX0_enteredWith_1 : List UInt8 := [181, 0, 212, 42, 180, 0, 77, 182, 1, 78, 172]
abbrev dktX0_enteredWith_1 : List UInt8 := dkwX0_enteredWith_1 ++ []
def dkwX0_enteredWith_0 : List UInt8 := [42, 180, 0, 77, 42, 180, 0, 88, 182, 1, 9, 87, 42, 180, 0, 77, 89, 180, 0, 212, 10, 27, 121, 129]
abbrev dktX0_enteredWith_0 : List UInt8 := dkwX0_enteredWith_0 ++ dktX0_enteredWith_1
theorem dksX0_enteredWith_0 : cX0_enteredWith.data.toList.drop 0 = dktX0_enteredWith_0 := by decide +kernel
theorem dksX0_enteredWith_1 : cX0_enteredWith.data.toList.drop 24 = dktX0_enteredWith_1 := dk_seg dksX0_enteredWith_0 24 rfl rfl
theorem dX0_enteredWith_0 : decode cX0_enteredWith 0 = .ok (.aload_n 0, 1) := dk_42 (dk_at dksX0_enteredWith_0 0 rfl rfl)
theorem dX0_enteredWith_1 : decode cX0_enteredWith 1 = .ok (.getfield 77, 3) := dk_180 0 77 (dk_at dksX0_enteredWith_0 1 rfl rfl)
theorem dX0_enteredWith_4 : decode cX0_enteredWith 4 = .ok (.aload_n 0, 1) := dk_42 (dk_at dksX0_enteredWith_0 4 rfl rfl)
theorem dX0_enteredWith_5 : decode cX0_enteredWith 5 = .ok (.getfield 88, 3) := dk_180 0 88 (dk_at dksX0_enteredWith_0 5 rfl rfl)
theorem dX0_enteredWith_8 : decode cX0_enteredWith 8 = .ok (.invokevirtual 265, 3) := dk_182 1 9 (dk_at dksX0_enteredWith_0 8 rfl rfl)
theorem dX0_enteredWith_11 : decode cX0_enteredWith 11 = .ok (.pop, 1) := dk_87 (dk_at dksX0_enteredWith_0 11 rfl rfl)
theorem dX0_enteredWith_12 : decode cX0_enteredWith 12 = .ok (.aload_n 0, 1) := dk_42 (dk_at dksX0_enteredWith_0 12 rfl rfl)
theorem dX0_enteredWith_13 : decode cX0_enteredWith 13 = .ok (.getfield 77, 3) := dk_180 0 77 (dk_at dksX0_enteredWith_0 13 rfl rfl)
theorem dX0_enteredWith_16 : decode cX0_enteredWith 16 = .ok (.dup, 1) := dk_89 (dk_at dksX0_enteredWith_0 16 rfl rfl)
theorem dX0_enteredWith_17 : decode cX0_enteredWith 17 = .ok (.getfield 212, 3) := dk_180 0 212 (dk_at dksX0_enteredWith_0 17 rfl rfl)
theorem dX0_enteredWith_20 : decode cX0_enteredWith 20 = .ok (.lconst 1, 1) := dk_10 (dk_at dksX0_enteredWith_0 20 rfl rfl)
theorem dX0_enteredWith_21 : decode cX0_enteredWith 21 = .ok (.iload_n 1, 1) := dk_27 (dk_at dksX0_enteredWith_0 21 rfl rfl)
theorem dX0_enteredWith_22 : decode cX0_enteredWith 22 = .ok (.lshl, 1) := dk_121 (dk_at dksX0_enteredWith_0 22 rfl rfl)
theorem dX0_enteredWith_23 : decode cX0_enteredWith 23 = .ok (.lor, 1) := dk_129 (dk_at dksX0_enteredWith_0 23 rfl rfl)
theorem dX0_enteredWith_24 : decode cX0_enteredWith 24 = .ok (.putfield 212, 3) := dk_181 0 212 (dk_at dksX0_enteredWith_1 0 rfl rfl)
theorem dX0_enteredWith_27 : decode cX0_enteredWith 27 = .ok (.aload_n 0, 1) := dk_42 (dk_at dksX0_enteredWith_1 3 rfl rfl)
theorem dX0_enteredWith_28 : decode cX0_enteredWith 28 = .ok (.getfield 77, 3) := dk_180 0 77 (dk_at dksX0_enteredWith_1 4 rfl rfl)
theorem dX0_enteredWith_31 : decode cX0_enteredWith 31 = .ok (.invokevirtual 334, 3) := dk_182 1 78 (dk_at dksX0_enteredWith_1 7 rfl rfl)
theorem dX0_enteredWith_34 : decode cX0_enteredWith 34 = .ok (.ireturn, 1) := dk_172 (dk_at dksX0_enteredWith_1 10 rfl rfl)
abbrev cX0_fits : ByteArray := prog_1_method_42_code
def yX0_fits : MethodName := ⟨RX0, "fits", "(II)I"⟩
def dkwX0_fits_4 : List UInt8 := [167, 0, 4, 3, 128, 54, 5, 132, 6, 1, 167, 255, 213, 21, 5, 172, 78, 42, 45, 182, 0, 151, 172]
abbrev dktX0_fits_4 : List UInt8 := dkwX0_fits_4 ++ []
def dkwX0_fits_3 : List UInt8 := [180, 0, 250, 28, 21, 6, 79, 21, 5, 42, 25, 4, 182, 1, 92, 153, 0, 10, 4, 21, 6, 120]
abbrev dktX0_fits_3 : List UInt8 := dkwX0_fits_3 ++ dktX0_fits_4
def dkwX0_fits_2 : List UInt8 := [180, 0, 88, 182, 1, 9, 87, 3, 54, 5, 3, 54, 6, 21, 6, 16, 20, 163, 0, 42, 42, 180, 0, 77]
abbrev dktX0_fits_2 : List UInt8 := dkwX0_fits_2 ++ dktX0_fits_3
def dkwX0_fits_1 : List UInt8 := [180, 0, 88, 180, 0, 189, 161, 0, 7, 4, 167, 0, 4, 3, 16, 251, 184, 0, 105, 42, 180, 0, 77, 42]
abbrev dktX0_fits_1 : List UInt8 := dkwX0_fits_1 ++ dktX0_fits_2
def dkwX0_fits_0 : List UInt8 := [42, 27, 182, 0, 137, 78, 42, 28, 182, 0, 171, 45, 182, 0, 155, 58, 4, 25, 4, 182, 0, 11, 42]
abbrev dktX0_fits_0 : List UInt8 := dkwX0_fits_0 ++ dktX0_fits_1
theorem dksX0_fits_0 : cX0_fits.data.toList.drop 0 = dktX0_fits_0 := by decide +kernel
theorem dksX0_fits_1 : cX0_fits.data.toList.drop 23 = dktX0_fits_1 := dk_seg dksX0_fits_0 23 rfl rfl
theorem dksX0_fits_2 : cX0_fits.data.toList.drop 47 = dktX0_fits_2 := dk_seg dksX0_fits_1 24 rfl rfl
theorem dksX0_fits_3 : cX0_fits.data.toList.drop 71 = dktX0_fits_3 := dk_seg dksX0_fits_2 24 rfl rfl
theorem dksX0_fits_4 : cX0_fits.data.toList.drop 93 = dktX0_fits_4 := dk_seg dksX0_fits_3 22 rfl rfl
theorem dX0_fits_0 : decode cX0_fits 0 = .ok (.aload_n 0, 1) := dk_42 (dk_at dksX0_fits_0 0 rfl rfl)
theorem dX0_fits_1 : decode cX0_fits 1 = .ok (.iload_n 1, 1) := dk_27 (dk_at dksX0_fits_0 1 rfl rfl)
theorem dX0_fits_2 : decode cX0_fits 2 = .ok (.invokevirtual 137, 3) := dk_182 0 137 (dk_at dksX0_fits_0 2 rfl rfl)
theorem dX0_fits_5 : decode cX0_fits 5 = .ok (.astore_n 3, 1) := dk_78 (dk_at dksX0_fits_0 5 rfl rfl)
theorem dX0_fits_6 : decode cX0_fits 6 = .ok (.aload_n 0, 1) := dk_42 (dk_at dksX0_fits_0 6 rfl rfl)
theorem dX0_fits_7 : decode cX0_fits 7 = .ok (.iload_n 2, 1) := dk_28 (dk_at dksX0_fits_0 7 rfl rfl)
theorem dX0_fits_8 : decode cX0_fits 8 = .ok (.invokevirtual 171, 3) := dk_182 0 171 (dk_at dksX0_fits_0 8 rfl rfl)
theorem dX0_fits_11 : decode cX0_fits 11 = .ok (.aload_n 3, 1) := dk_45 (dk_at dksX0_fits_0 11 rfl rfl)
theorem dX0_fits_12 : decode cX0_fits 12 = .ok (.invokevirtual 155, 3) := dk_182 0 155 (dk_at dksX0_fits_0 12 rfl rfl)
theorem dX0_fits_15 : decode cX0_fits 15 = .ok (.astore 4, 2) := dk_58 4 (dk_at dksX0_fits_0 15 rfl rfl)
theorem dX0_fits_17 : decode cX0_fits 17 = .ok (.aload 4, 2) := dk_25 4 (dk_at dksX0_fits_0 17 rfl rfl)
theorem dX0_fits_19 : decode cX0_fits 19 = .ok (.invokevirtual 11, 3) := dk_182 0 11 (dk_at dksX0_fits_0 19 rfl rfl)
theorem dX0_fits_22 : decode cX0_fits 22 = .ok (.aload_n 0, 1) := dk_42 (dk_at dksX0_fits_0 22 rfl rfl)
theorem dX0_fits_23 : decode cX0_fits 23 = .ok (.getfield 88, 3) := dk_180 0 88 (dk_at dksX0_fits_1 0 rfl rfl)
theorem dX0_fits_26 : decode cX0_fits 26 = .ok (.getfield 189, 3) := dk_180 0 189 (dk_at dksX0_fits_1 3 rfl rfl)
theorem dX0_fits_29 : decode cX0_fits 29 = .ok (.if_icmp .lt 7, 3) := dk_161 0 7 (dk_at dksX0_fits_1 6 rfl rfl)
theorem dX0_fits_32 : decode cX0_fits 32 = .ok (.iconst 1, 1) := dk_4 (dk_at dksX0_fits_1 9 rfl rfl)
theorem dX0_fits_33 : decode cX0_fits 33 = .ok (.goto 4, 3) := dk_167 0 4 (dk_at dksX0_fits_1 10 rfl rfl)
theorem dX0_fits_36 : decode cX0_fits 36 = .ok (.iconst 0, 1) := dk_3 (dk_at dksX0_fits_1 13 rfl rfl)
theorem dX0_fits_37 : decode cX0_fits 37 = .ok (.bipush (-5), 2) := dk_16 251 (dk_at dksX0_fits_1 14 rfl rfl)
theorem dX0_fits_39 : decode cX0_fits 39 = .ok (.invokestatic 105, 3) := dk_184 0 105 (dk_at dksX0_fits_1 16 rfl rfl)
theorem dX0_fits_42 : decode cX0_fits 42 = .ok (.aload_n 0, 1) := dk_42 (dk_at dksX0_fits_1 19 rfl rfl)
theorem dX0_fits_43 : decode cX0_fits 43 = .ok (.getfield 77, 3) := dk_180 0 77 (dk_at dksX0_fits_1 20 rfl rfl)
theorem dX0_fits_46 : decode cX0_fits 46 = .ok (.aload_n 0, 1) := dk_42 (dk_at dksX0_fits_1 23 rfl rfl)
theorem dX0_fits_47 : decode cX0_fits 47 = .ok (.getfield 88, 3) := dk_180 0 88 (dk_at dksX0_fits_2 0 rfl rfl)
theorem dX0_fits_50 : decode cX0_fits 50 = .ok (.invokevirtual 265, 3) := dk_182 1 9 (dk_at dksX0_fits_2 3 rfl rfl)
theorem dX0_fits_53 : decode cX0_fits 53 = .ok (.pop, 1) := dk_87 (dk_at dksX0_fits_2 6 rfl rfl)
theorem dX0_fits_54 : decode cX0_fits 54 = .ok (.iconst 0, 1) := dk_3 (dk_at dksX0_fits_2 7 rfl rfl)
theorem dX0_fits_55 : decode cX0_fits 55 = .ok (.istore 5, 2) := dk_54 5 (dk_at dksX0_fits_2 8 rfl rfl)
theorem dX0_fits_57 : decode cX0_fits 57 = .ok (.iconst 0, 1) := dk_3 (dk_at dksX0_fits_2 10 rfl rfl)
theorem dX0_fits_58 : decode cX0_fits 58 = .ok (.istore 6, 2) := dk_54 6 (dk_at dksX0_fits_2 11 rfl rfl)
theorem dX0_fits_60 : decode cX0_fits 60 = .ok (.iload 6, 2) := dk_21 6 (dk_at dksX0_fits_2 13 rfl rfl)
theorem dX0_fits_62 : decode cX0_fits 62 = .ok (.bipush 20, 2) := dk_16 20 (dk_at dksX0_fits_2 15 rfl rfl)
theorem dX0_fits_64 : decode cX0_fits 64 = .ok (.if_icmp .gt 42, 3) := dk_163 0 42 (dk_at dksX0_fits_2 17 rfl rfl)
theorem dX0_fits_67 : decode cX0_fits 67 = .ok (.aload_n 0, 1) := dk_42 (dk_at dksX0_fits_2 20 rfl rfl)
theorem dX0_fits_68 : decode cX0_fits 68 = .ok (.getfield 77, 3) := dk_180 0 77 (dk_at dksX0_fits_2 21 rfl rfl)
theorem dX0_fits_71 : decode cX0_fits 71 = .ok (.getfield 250, 3) := dk_180 0 250 (dk_at dksX0_fits_3 0 rfl rfl)
theorem dX0_fits_74 : decode cX0_fits 74 = .ok (.iload_n 2, 1) := dk_28 (dk_at dksX0_fits_3 3 rfl rfl)
theorem dX0_fits_75 : decode cX0_fits 75 = .ok (.iload 6, 2) := dk_21 6 (dk_at dksX0_fits_3 4 rfl rfl)
theorem dX0_fits_77 : decode cX0_fits 77 = .ok (.iastore, 1) := dk_79 (dk_at dksX0_fits_3 6 rfl rfl)
theorem dX0_fits_78 : decode cX0_fits 78 = .ok (.iload 5, 2) := dk_21 5 (dk_at dksX0_fits_3 7 rfl rfl)
theorem dX0_fits_80 : decode cX0_fits 80 = .ok (.aload_n 0, 1) := dk_42 (dk_at dksX0_fits_3 9 rfl rfl)
theorem dX0_fits_81 : decode cX0_fits 81 = .ok (.aload 4, 2) := dk_25 4 (dk_at dksX0_fits_3 10 rfl rfl)
theorem dX0_fits_83 : decode cX0_fits 83 = .ok (.invokevirtual 348, 3) := dk_182 1 92 (dk_at dksX0_fits_3 12 rfl rfl)
theorem dX0_fits_86 : decode cX0_fits 86 = .ok (.ifCond .eq 10, 3) := dk_153 0 10 (dk_at dksX0_fits_3 15 rfl rfl)
theorem dX0_fits_89 : decode cX0_fits 89 = .ok (.iconst 1, 1) := dk_4 (dk_at dksX0_fits_3 18 rfl rfl)
theorem dX0_fits_90 : decode cX0_fits 90 = .ok (.iload 6, 2) := dk_21 6 (dk_at dksX0_fits_3 19 rfl rfl)
theorem dX0_fits_92 : decode cX0_fits 92 = .ok (.ishl, 1) := dk_120 (dk_at dksX0_fits_3 21 rfl rfl)
theorem dX0_fits_93 : decode cX0_fits 93 = .ok (.goto 4, 3) := dk_167 0 4 (dk_at dksX0_fits_4 0 rfl rfl)
theorem dX0_fits_96 : decode cX0_fits 96 = .ok (.iconst 0, 1) := dk_3 (dk_at dksX0_fits_4 3 rfl rfl)
theorem dX0_fits_97 : decode cX0_fits 97 = .ok (.ior, 1) := dk_128 (dk_at dksX0_fits_4 4 rfl rfl)
theorem dX0_fits_98 : decode cX0_fits 98 = .ok (.istore 5, 2) := dk_54 5 (dk_at dksX0_fits_4 5 rfl rfl)
theorem dX0_fits_100 : decode cX0_fits 100 = .ok (.iinc 6 1, 3) := dk_132 6 1 (dk_at dksX0_fits_4 7 rfl rfl)
theorem dX0_fits_103 : decode cX0_fits 103 = .ok (.goto (-43), 3) := dk_167 255 213 (dk_at dksX0_fits_4 10 rfl rfl)
theorem dX0_fits_106 : decode cX0_fits 106 = .ok (.iload 5, 2) := dk_21 5 (dk_at dksX0_fits_4 13 rfl rfl)
theorem dX0_fits_108 : decode cX0_fits 108 = .ok (.ireturn, 1) := dk_172 (dk_at dksX0_fits_4 15 rfl rfl)
theorem dX0_fits_109 : decode cX0_fits 109 = .ok (.astore_n 3, 1) := dk_78 (dk_at dksX0_fits_4 16 rfl rfl)
theorem dX0_fits_110 : decode cX0_fits 110 = .ok (.aload_n 0, 1) := dk_42 (dk_at dksX0_fits_4 17 rfl rfl)
theorem dX0_fits_111 : decode cX0_fits 111 = .ok (.aload_n 3, 1) := dk_45 (dk_at dksX0_fits_4 18 rfl rfl)
theorem dX0_fits_112 : decode cX0_fits 112 = .ok (.invokevirtual 151, 3) := dk_182 0 151 (dk_at dksX0_fits_4 19 rfl rfl)
theorem dX0_fits_115 : decode cX0_fits 115 = .ok (.ireturn, 1) := dk_172 (dk_at dksX0_fits_4 22 rfl rfl)
abbrev cX0_isRoll : ByteArray := prog_1_method_41_code
def yX0_isRoll : MethodName := ⟨RX0, "isRoll", "(LTaxOnLooks$Row;)Z"⟩
def dkwX0_isRoll_1 : List UInt8 := [182, 1, 89, 159, 0, 5, 3, 172, 132, 2, 1, 167, 255, 224, 4, 172]
abbrev dktX0_isRoll_1 : List UInt8 := dkwX0_isRoll_1 ++ []
def dkwX0_isRoll_0 : List UInt8 := [3, 61, 28, 42, 180, 0, 88, 180, 0, 189, 162, 0, 27, 42, 180, 0, 77, 28, 182, 1, 36, 43, 28]
abbrev dktX0_isRoll_0 : List UInt8 := dkwX0_isRoll_0 ++ dktX0_isRoll_1
theorem dksX0_isRoll_0 : cX0_isRoll.data.toList.drop 0 = dktX0_isRoll_0 := by decide +kernel
theorem dksX0_isRoll_1 : cX0_isRoll.data.toList.drop 23 = dktX0_isRoll_1 := dk_seg dksX0_isRoll_0 23 rfl rfl
theorem dX0_isRoll_0 : decode cX0_isRoll 0 = .ok (.iconst 0, 1) := dk_3 (dk_at dksX0_isRoll_0 0 rfl rfl)
theorem dX0_isRoll_1 : decode cX0_isRoll 1 = .ok (.istore_n 2, 1) := dk_61 (dk_at dksX0_isRoll_0 1 rfl rfl)
theorem dX0_isRoll_2 : decode cX0_isRoll 2 = .ok (.iload_n 2, 1) := dk_28 (dk_at dksX0_isRoll_0 2 rfl rfl)
theorem dX0_isRoll_3 : decode cX0_isRoll 3 = .ok (.aload_n 0, 1) := dk_42 (dk_at dksX0_isRoll_0 3 rfl rfl)
theorem dX0_isRoll_4 : decode cX0_isRoll 4 = .ok (.getfield 88, 3) := dk_180 0 88 (dk_at dksX0_isRoll_0 4 rfl rfl)
theorem dX0_isRoll_7 : decode cX0_isRoll 7 = .ok (.getfield 189, 3) := dk_180 0 189 (dk_at dksX0_isRoll_0 7 rfl rfl)
theorem dX0_isRoll_10 : decode cX0_isRoll 10 = .ok (.if_icmp .ge 27, 3) := dk_162 0 27 (dk_at dksX0_isRoll_0 10 rfl rfl)
theorem dX0_isRoll_13 : decode cX0_isRoll 13 = .ok (.aload_n 0, 1) := dk_42 (dk_at dksX0_isRoll_0 13 rfl rfl)
theorem dX0_isRoll_14 : decode cX0_isRoll 14 = .ok (.getfield 77, 3) := dk_180 0 77 (dk_at dksX0_isRoll_0 14 rfl rfl)
theorem dX0_isRoll_17 : decode cX0_isRoll 17 = .ok (.iload_n 2, 1) := dk_28 (dk_at dksX0_isRoll_0 17 rfl rfl)
theorem dX0_isRoll_18 : decode cX0_isRoll 18 = .ok (.invokevirtual 292, 3) := dk_182 1 36 (dk_at dksX0_isRoll_0 18 rfl rfl)
theorem dX0_isRoll_21 : decode cX0_isRoll 21 = .ok (.aload_n 1, 1) := dk_43 (dk_at dksX0_isRoll_0 21 rfl rfl)
theorem dX0_isRoll_22 : decode cX0_isRoll 22 = .ok (.iload_n 2, 1) := dk_28 (dk_at dksX0_isRoll_0 22 rfl rfl)
theorem dX0_isRoll_23 : decode cX0_isRoll 23 = .ok (.invokevirtual 345, 3) := dk_182 1 89 (dk_at dksX0_isRoll_1 0 rfl rfl)
theorem dX0_isRoll_26 : decode cX0_isRoll 26 = .ok (.if_icmp .eq 5, 3) := dk_159 0 5 (dk_at dksX0_isRoll_1 3 rfl rfl)
theorem dX0_isRoll_29 : decode cX0_isRoll 29 = .ok (.iconst 0, 1) := dk_3 (dk_at dksX0_isRoll_1 6 rfl rfl)
theorem dX0_isRoll_30 : decode cX0_isRoll 30 = .ok (.ireturn, 1) := dk_172 (dk_at dksX0_isRoll_1 7 rfl rfl)
theorem dX0_isRoll_31 : decode cX0_isRoll 31 = .ok (.iinc 2 1, 3) := dk_132 2 1 (dk_at dksX0_isRoll_1 8 rfl rfl)
theorem dX0_isRoll_34 : decode cX0_isRoll 34 = .ok (.goto (-32), 3) := dk_167 255 224 (dk_at dksX0_isRoll_1 11 rfl rfl)
theorem dX0_isRoll_37 : decode cX0_isRoll 37 = .ok (.iconst 1, 1) := dk_4 (dk_at dksX0_isRoll_1 14 rfl rfl)
theorem dX0_isRoll_38 : decode cX0_isRoll 38 = .ok (.ireturn, 1) := dk_172 (dk_at dksX0_isRoll_1 15 rfl rfl)
abbrev cX0_most : ByteArray := prog_1_method_44_code
def yX0_most : MethodName := ⟨RX0, "most", "(I)I"⟩
def dkwX0_most_5 : List UInt8 := [44, 182, 0, 151, 172]
abbrev dktX0_most_5 : List UInt8 := dkwX0_most_5 ++ []
def dkwX0_most_4 : List UInt8 := [3, 54, 4, 21, 4, 153, 0, 7, 29, 167, 0, 4, 28, 61, 132, 3, 1, 167, 255, 180, 28, 172, 77, 42]
abbrev dktX0_most_4 : List UInt8 := dkwX0_most_4 ++ dktX0_most_5
def dkwX0_most_3 : List UInt8 := [167, 0, 25, 3, 167, 0, 21, 42, 29, 182, 1, 99, 42, 28, 182, 1, 99, 162, 0, 7, 4, 167, 0, 4]
abbrev dktX0_most_3 : List UInt8 := dkwX0_most_3 ++ dktX0_most_4
def dkwX0_most_2 : List UInt8 := [154, 0, 30, 42, 180, 0, 88, 29, 182, 1, 36, 42, 180, 0, 88, 28, 182, 1, 36, 164, 0, 7, 4]
abbrev dktX0_most_2 : List UInt8 := dkwX0_most_2 ++ dktX0_most_3
def dkwX0_most_1 : List UInt8 := [3, 16, 251, 184, 0, 105, 3, 61, 4, 62, 29, 42, 180, 0, 88, 180, 0, 189, 162, 0, 71, 27]
abbrev dktX0_most_1 : List UInt8 := dkwX0_most_1 ++ dktX0_most_2
def dkwX0_most_0 : List UInt8 := [42, 180, 0, 88, 180, 0, 189, 158, 0, 17, 27, 133, 9, 10, 184, 0, 143, 153, 0, 7, 4, 167, 0, 4]
abbrev dktX0_most_0 : List UInt8 := dkwX0_most_0 ++ dktX0_most_1
theorem dksX0_most_0 : cX0_most.data.toList.drop 0 = dktX0_most_0 := by decide +kernel
theorem dksX0_most_1 : cX0_most.data.toList.drop 24 = dktX0_most_1 := dk_seg dksX0_most_0 24 rfl rfl
theorem dksX0_most_2 : cX0_most.data.toList.drop 46 = dktX0_most_2 := dk_seg dksX0_most_1 22 rfl rfl
theorem dksX0_most_3 : cX0_most.data.toList.drop 69 = dktX0_most_3 := dk_seg dksX0_most_2 23 rfl rfl
theorem dksX0_most_4 : cX0_most.data.toList.drop 93 = dktX0_most_4 := dk_seg dksX0_most_3 24 rfl rfl
theorem dksX0_most_5 : cX0_most.data.toList.drop 117 = dktX0_most_5 := dk_seg dksX0_most_4 24 rfl rfl
theorem dX0_most_0 : decode cX0_most 0 = .ok (.aload_n 0, 1) := dk_42 (dk_at dksX0_most_0 0 rfl rfl)
theorem dX0_most_1 : decode cX0_most 1 = .ok (.getfield 88, 3) := dk_180 0 88 (dk_at dksX0_most_0 1 rfl rfl)
theorem dX0_most_4 : decode cX0_most 4 = .ok (.getfield 189, 3) := dk_180 0 189 (dk_at dksX0_most_0 4 rfl rfl)
theorem dX0_most_7 : decode cX0_most 7 = .ok (.ifCond .le 17, 3) := dk_158 0 17 (dk_at dksX0_most_0 7 rfl rfl)
theorem dX0_most_10 : decode cX0_most 10 = .ok (.iload_n 1, 1) := dk_27 (dk_at dksX0_most_0 10 rfl rfl)
theorem dX0_most_11 : decode cX0_most 11 = .ok (.i2l, 1) := dk_133 (dk_at dksX0_most_0 11 rfl rfl)
theorem dX0_most_12 : decode cX0_most 12 = .ok (.lconst 0, 1) := dk_9 (dk_at dksX0_most_0 12 rfl rfl)
theorem dX0_most_13 : decode cX0_most 13 = .ok (.lconst 1, 1) := dk_10 (dk_at dksX0_most_0 13 rfl rfl)
theorem dX0_most_14 : decode cX0_most 14 = .ok (.invokestatic 143, 3) := dk_184 0 143 (dk_at dksX0_most_0 14 rfl rfl)
theorem dX0_most_17 : decode cX0_most 17 = .ok (.ifCond .eq 7, 3) := dk_153 0 7 (dk_at dksX0_most_0 17 rfl rfl)
theorem dX0_most_20 : decode cX0_most 20 = .ok (.iconst 1, 1) := dk_4 (dk_at dksX0_most_0 20 rfl rfl)
theorem dX0_most_21 : decode cX0_most 21 = .ok (.goto 4, 3) := dk_167 0 4 (dk_at dksX0_most_0 21 rfl rfl)
theorem dX0_most_24 : decode cX0_most 24 = .ok (.iconst 0, 1) := dk_3 (dk_at dksX0_most_1 0 rfl rfl)
theorem dX0_most_25 : decode cX0_most 25 = .ok (.bipush (-5), 2) := dk_16 251 (dk_at dksX0_most_1 1 rfl rfl)
theorem dX0_most_27 : decode cX0_most 27 = .ok (.invokestatic 105, 3) := dk_184 0 105 (dk_at dksX0_most_1 3 rfl rfl)
theorem dX0_most_30 : decode cX0_most 30 = .ok (.iconst 0, 1) := dk_3 (dk_at dksX0_most_1 6 rfl rfl)
theorem dX0_most_31 : decode cX0_most 31 = .ok (.istore_n 2, 1) := dk_61 (dk_at dksX0_most_1 7 rfl rfl)
theorem dX0_most_32 : decode cX0_most 32 = .ok (.iconst 1, 1) := dk_4 (dk_at dksX0_most_1 8 rfl rfl)
theorem dX0_most_33 : decode cX0_most 33 = .ok (.istore_n 3, 1) := dk_62 (dk_at dksX0_most_1 9 rfl rfl)
theorem dX0_most_34 : decode cX0_most 34 = .ok (.iload_n 3, 1) := dk_29 (dk_at dksX0_most_1 10 rfl rfl)
theorem dX0_most_35 : decode cX0_most 35 = .ok (.aload_n 0, 1) := dk_42 (dk_at dksX0_most_1 11 rfl rfl)
theorem dX0_most_36 : decode cX0_most 36 = .ok (.getfield 88, 3) := dk_180 0 88 (dk_at dksX0_most_1 12 rfl rfl)
theorem dX0_most_39 : decode cX0_most 39 = .ok (.getfield 189, 3) := dk_180 0 189 (dk_at dksX0_most_1 15 rfl rfl)
theorem dX0_most_42 : decode cX0_most 42 = .ok (.if_icmp .ge 71, 3) := dk_162 0 71 (dk_at dksX0_most_1 18 rfl rfl)
theorem dX0_most_45 : decode cX0_most 45 = .ok (.iload_n 1, 1) := dk_27 (dk_at dksX0_most_1 21 rfl rfl)
theorem dX0_most_46 : decode cX0_most 46 = .ok (.ifCond .ne 30, 3) := dk_154 0 30 (dk_at dksX0_most_2 0 rfl rfl)
theorem dX0_most_49 : decode cX0_most 49 = .ok (.aload_n 0, 1) := dk_42 (dk_at dksX0_most_2 3 rfl rfl)
theorem dX0_most_50 : decode cX0_most 50 = .ok (.getfield 88, 3) := dk_180 0 88 (dk_at dksX0_most_2 4 rfl rfl)
theorem dX0_most_53 : decode cX0_most 53 = .ok (.iload_n 3, 1) := dk_29 (dk_at dksX0_most_2 7 rfl rfl)
theorem dX0_most_54 : decode cX0_most 54 = .ok (.invokevirtual 292, 3) := dk_182 1 36 (dk_at dksX0_most_2 8 rfl rfl)
theorem dX0_most_57 : decode cX0_most 57 = .ok (.aload_n 0, 1) := dk_42 (dk_at dksX0_most_2 11 rfl rfl)
theorem dX0_most_58 : decode cX0_most 58 = .ok (.getfield 88, 3) := dk_180 0 88 (dk_at dksX0_most_2 12 rfl rfl)
theorem dX0_most_61 : decode cX0_most 61 = .ok (.iload_n 2, 1) := dk_28 (dk_at dksX0_most_2 15 rfl rfl)
theorem dX0_most_62 : decode cX0_most 62 = .ok (.invokevirtual 292, 3) := dk_182 1 36 (dk_at dksX0_most_2 16 rfl rfl)
theorem dX0_most_65 : decode cX0_most 65 = .ok (.if_icmp .le 7, 3) := dk_164 0 7 (dk_at dksX0_most_2 19 rfl rfl)
theorem dX0_most_68 : decode cX0_most 68 = .ok (.iconst 1, 1) := dk_4 (dk_at dksX0_most_2 22 rfl rfl)
theorem dX0_most_69 : decode cX0_most 69 = .ok (.goto 25, 3) := dk_167 0 25 (dk_at dksX0_most_3 0 rfl rfl)
theorem dX0_most_72 : decode cX0_most 72 = .ok (.iconst 0, 1) := dk_3 (dk_at dksX0_most_3 3 rfl rfl)
theorem dX0_most_73 : decode cX0_most 73 = .ok (.goto 21, 3) := dk_167 0 21 (dk_at dksX0_most_3 4 rfl rfl)
theorem dX0_most_76 : decode cX0_most 76 = .ok (.aload_n 0, 1) := dk_42 (dk_at dksX0_most_3 7 rfl rfl)
theorem dX0_most_77 : decode cX0_most 77 = .ok (.iload_n 3, 1) := dk_29 (dk_at dksX0_most_3 8 rfl rfl)
theorem dX0_most_78 : decode cX0_most 78 = .ok (.invokevirtual 355, 3) := dk_182 1 99 (dk_at dksX0_most_3 9 rfl rfl)
theorem dX0_most_81 : decode cX0_most 81 = .ok (.aload_n 0, 1) := dk_42 (dk_at dksX0_most_3 12 rfl rfl)
theorem dX0_most_82 : decode cX0_most 82 = .ok (.iload_n 2, 1) := dk_28 (dk_at dksX0_most_3 13 rfl rfl)
theorem dX0_most_83 : decode cX0_most 83 = .ok (.invokevirtual 355, 3) := dk_182 1 99 (dk_at dksX0_most_3 14 rfl rfl)
theorem dX0_most_86 : decode cX0_most 86 = .ok (.if_icmp .ge 7, 3) := dk_162 0 7 (dk_at dksX0_most_3 17 rfl rfl)
theorem dX0_most_89 : decode cX0_most 89 = .ok (.iconst 1, 1) := dk_4 (dk_at dksX0_most_3 20 rfl rfl)
theorem dX0_most_90 : decode cX0_most 90 = .ok (.goto 4, 3) := dk_167 0 4 (dk_at dksX0_most_3 21 rfl rfl)
theorem dX0_most_93 : decode cX0_most 93 = .ok (.iconst 0, 1) := dk_3 (dk_at dksX0_most_4 0 rfl rfl)
theorem dX0_most_94 : decode cX0_most 94 = .ok (.istore 4, 2) := dk_54 4 (dk_at dksX0_most_4 1 rfl rfl)
theorem dX0_most_96 : decode cX0_most 96 = .ok (.iload 4, 2) := dk_21 4 (dk_at dksX0_most_4 3 rfl rfl)
theorem dX0_most_98 : decode cX0_most 98 = .ok (.ifCond .eq 7, 3) := dk_153 0 7 (dk_at dksX0_most_4 5 rfl rfl)
theorem dX0_most_101 : decode cX0_most 101 = .ok (.iload_n 3, 1) := dk_29 (dk_at dksX0_most_4 8 rfl rfl)
theorem dX0_most_102 : decode cX0_most 102 = .ok (.goto 4, 3) := dk_167 0 4 (dk_at dksX0_most_4 9 rfl rfl)
theorem dX0_most_105 : decode cX0_most 105 = .ok (.iload_n 2, 1) := dk_28 (dk_at dksX0_most_4 12 rfl rfl)
theorem dX0_most_106 : decode cX0_most 106 = .ok (.istore_n 2, 1) := dk_61 (dk_at dksX0_most_4 13 rfl rfl)
theorem dX0_most_107 : decode cX0_most 107 = .ok (.iinc 3 1, 3) := dk_132 3 1 (dk_at dksX0_most_4 14 rfl rfl)
theorem dX0_most_110 : decode cX0_most 110 = .ok (.goto (-76), 3) := dk_167 255 180 (dk_at dksX0_most_4 17 rfl rfl)
theorem dX0_most_113 : decode cX0_most 113 = .ok (.iload_n 2, 1) := dk_28 (dk_at dksX0_most_4 20 rfl rfl)
theorem dX0_most_114 : decode cX0_most 114 = .ok (.ireturn, 1) := dk_172 (dk_at dksX0_most_4 21 rfl rfl)
theorem dX0_most_115 : decode cX0_most 115 = .ok (.astore_n 2, 1) := dk_77 (dk_at dksX0_most_4 22 rfl rfl)
theorem dX0_most_116 : decode cX0_most 116 = .ok (.aload_n 0, 1) := dk_42 (dk_at dksX0_most_4 23 rfl rfl)
theorem dX0_most_117 : decode cX0_most 117 = .ok (.aload_n 2, 1) := dk_44 (dk_at dksX0_most_5 0 rfl rfl)
theorem dX0_most_118 : decode cX0_most 118 = .ok (.invokevirtual 151, 3) := dk_182 0 151 (dk_at dksX0_most_5 1 rfl rfl)
theorem dX0_most_121 : decode cX0_most 121 = .ok (.ireturn, 1) := dk_172 (dk_at dksX0_most_5 4 rfl rfl)
abbrev cX0_dutiesWithout : ByteArray := prog_1_method_43_code
def yX0_dutiesWithout : MethodName := ⟨RX0, "dutiesWithout", "(I)I"⟩
def dkwX0_dutiesWithout_1 : List UInt8 := [182, 1, 42, 172]
abbrev dktX0_dutiesWithout_1 : List UInt8 := dkwX0_dutiesWithout_1 ++ []
def dkwX0_dutiesWithout_0 : List UInt8 := [42, 180, 0, 77, 42, 180, 0, 88, 182, 1, 9, 87, 42, 180, 0, 77, 27, 181, 1, 96, 42, 180, 0, 77]
abbrev dktX0_dutiesWithout_0 : List UInt8 := dkwX0_dutiesWithout_0 ++ dktX0_dutiesWithout_1
theorem dksX0_dutiesWithout_0 : cX0_dutiesWithout.data.toList.drop 0 = dktX0_dutiesWithout_0 := by decide +kernel
theorem dksX0_dutiesWithout_1 : cX0_dutiesWithout.data.toList.drop 24 = dktX0_dutiesWithout_1 := dk_seg dksX0_dutiesWithout_0 24 rfl rfl
theorem dX0_dutiesWithout_0 : decode cX0_dutiesWithout 0 = .ok (.aload_n 0, 1) := dk_42 (dk_at dksX0_dutiesWithout_0 0 rfl rfl)
theorem dX0_dutiesWithout_1 : decode cX0_dutiesWithout 1 = .ok (.getfield 77, 3) := dk_180 0 77 (dk_at dksX0_dutiesWithout_0 1 rfl rfl)
theorem dX0_dutiesWithout_4 : decode cX0_dutiesWithout 4 = .ok (.aload_n 0, 1) := dk_42 (dk_at dksX0_dutiesWithout_0 4 rfl rfl)
theorem dX0_dutiesWithout_5 : decode cX0_dutiesWithout 5 = .ok (.getfield 88, 3) := dk_180 0 88 (dk_at dksX0_dutiesWithout_0 5 rfl rfl)
theorem dX0_dutiesWithout_8 : decode cX0_dutiesWithout 8 = .ok (.invokevirtual 265, 3) := dk_182 1 9 (dk_at dksX0_dutiesWithout_0 8 rfl rfl)
theorem dX0_dutiesWithout_11 : decode cX0_dutiesWithout 11 = .ok (.pop, 1) := dk_87 (dk_at dksX0_dutiesWithout_0 11 rfl rfl)
theorem dX0_dutiesWithout_12 : decode cX0_dutiesWithout 12 = .ok (.aload_n 0, 1) := dk_42 (dk_at dksX0_dutiesWithout_0 12 rfl rfl)
theorem dX0_dutiesWithout_13 : decode cX0_dutiesWithout 13 = .ok (.getfield 77, 3) := dk_180 0 77 (dk_at dksX0_dutiesWithout_0 13 rfl rfl)
theorem dX0_dutiesWithout_16 : decode cX0_dutiesWithout 16 = .ok (.iload_n 1, 1) := dk_27 (dk_at dksX0_dutiesWithout_0 16 rfl rfl)
theorem dX0_dutiesWithout_17 : decode cX0_dutiesWithout 17 = .ok (.putfield 352, 3) := dk_181 1 96 (dk_at dksX0_dutiesWithout_0 17 rfl rfl)
theorem dX0_dutiesWithout_20 : decode cX0_dutiesWithout 20 = .ok (.aload_n 0, 1) := dk_42 (dk_at dksX0_dutiesWithout_0 20 rfl rfl)
theorem dX0_dutiesWithout_21 : decode cX0_dutiesWithout 21 = .ok (.getfield 77, 3) := dk_180 0 77 (dk_at dksX0_dutiesWithout_0 21 rfl rfl)
theorem dX0_dutiesWithout_24 : decode cX0_dutiesWithout 24 = .ok (.invokevirtual 298, 3) := dk_182 1 42 (dk_at dksX0_dutiesWithout_1 0 rfl rfl)
theorem dX0_dutiesWithout_27 : decode cX0_dutiesWithout 27 = .ok (.ireturn, 1) := dk_172 (dk_at dksX0_dutiesWithout_1 3 rfl rfl)
abbrev cX0_crowd : ByteArray := prog_1_method_46_code
def yX0_crowd : MethodName := ⟨RX0, "crowd", "(I)I"⟩
def dkwX0_crowd_3 : List UInt8 := [167, 255, 205, 27, 154, 0, 7, 28, 167, 0, 4, 29, 172, 77, 42, 44, 182, 0, 151, 172]
abbrev dktX0_crowd_3 : List UInt8 := dkwX0_crowd_3 ++ []
def dkwX0_crowd_2 : List UInt8 := [29, 42, 180, 0, 88, 21, 4, 182, 1, 108, 153, 0, 7, 4, 167, 0, 4, 3, 96, 62, 132, 4, 1]
abbrev dktX0_crowd_2 : List UInt8 := dkwX0_crowd_2 ++ dktX0_crowd_3
def dkwX0_crowd_1 : List UInt8 := [162, 0, 50, 42, 21, 4, 182, 1, 105, 42, 28, 182, 1, 105, 164, 0, 8, 21, 4, 167, 0, 4, 28, 61]
abbrev dktX0_crowd_1 : List UInt8 := dkwX0_crowd_1 ++ dktX0_crowd_2
def dkwX0_crowd_0 : List UInt8 := [27, 133, 9, 10, 184, 0, 143, 16, 251, 184, 0, 105, 3, 61, 3, 62, 3, 54, 4, 21, 4, 16, 36]
abbrev dktX0_crowd_0 : List UInt8 := dkwX0_crowd_0 ++ dktX0_crowd_1
theorem dksX0_crowd_0 : cX0_crowd.data.toList.drop 0 = dktX0_crowd_0 := by decide +kernel
theorem dksX0_crowd_1 : cX0_crowd.data.toList.drop 23 = dktX0_crowd_1 := dk_seg dksX0_crowd_0 23 rfl rfl
theorem dksX0_crowd_2 : cX0_crowd.data.toList.drop 47 = dktX0_crowd_2 := dk_seg dksX0_crowd_1 24 rfl rfl
theorem dksX0_crowd_3 : cX0_crowd.data.toList.drop 70 = dktX0_crowd_3 := dk_seg dksX0_crowd_2 23 rfl rfl
theorem dX0_crowd_0 : decode cX0_crowd 0 = .ok (.iload_n 1, 1) := dk_27 (dk_at dksX0_crowd_0 0 rfl rfl)
theorem dX0_crowd_1 : decode cX0_crowd 1 = .ok (.i2l, 1) := dk_133 (dk_at dksX0_crowd_0 1 rfl rfl)
theorem dX0_crowd_2 : decode cX0_crowd 2 = .ok (.lconst 0, 1) := dk_9 (dk_at dksX0_crowd_0 2 rfl rfl)
theorem dX0_crowd_3 : decode cX0_crowd 3 = .ok (.lconst 1, 1) := dk_10 (dk_at dksX0_crowd_0 3 rfl rfl)
theorem dX0_crowd_4 : decode cX0_crowd 4 = .ok (.invokestatic 143, 3) := dk_184 0 143 (dk_at dksX0_crowd_0 4 rfl rfl)
theorem dX0_crowd_7 : decode cX0_crowd 7 = .ok (.bipush (-5), 2) := dk_16 251 (dk_at dksX0_crowd_0 7 rfl rfl)
theorem dX0_crowd_9 : decode cX0_crowd 9 = .ok (.invokestatic 105, 3) := dk_184 0 105 (dk_at dksX0_crowd_0 9 rfl rfl)
theorem dX0_crowd_12 : decode cX0_crowd 12 = .ok (.iconst 0, 1) := dk_3 (dk_at dksX0_crowd_0 12 rfl rfl)
theorem dX0_crowd_13 : decode cX0_crowd 13 = .ok (.istore_n 2, 1) := dk_61 (dk_at dksX0_crowd_0 13 rfl rfl)
theorem dX0_crowd_14 : decode cX0_crowd 14 = .ok (.iconst 0, 1) := dk_3 (dk_at dksX0_crowd_0 14 rfl rfl)
theorem dX0_crowd_15 : decode cX0_crowd 15 = .ok (.istore_n 3, 1) := dk_62 (dk_at dksX0_crowd_0 15 rfl rfl)
theorem dX0_crowd_16 : decode cX0_crowd 16 = .ok (.iconst 0, 1) := dk_3 (dk_at dksX0_crowd_0 16 rfl rfl)
theorem dX0_crowd_17 : decode cX0_crowd 17 = .ok (.istore 4, 2) := dk_54 4 (dk_at dksX0_crowd_0 17 rfl rfl)
theorem dX0_crowd_19 : decode cX0_crowd 19 = .ok (.iload 4, 2) := dk_21 4 (dk_at dksX0_crowd_0 19 rfl rfl)
theorem dX0_crowd_21 : decode cX0_crowd 21 = .ok (.bipush 36, 2) := dk_16 36 (dk_at dksX0_crowd_0 21 rfl rfl)
theorem dX0_crowd_23 : decode cX0_crowd 23 = .ok (.if_icmp .ge 50, 3) := dk_162 0 50 (dk_at dksX0_crowd_1 0 rfl rfl)
theorem dX0_crowd_26 : decode cX0_crowd 26 = .ok (.aload_n 0, 1) := dk_42 (dk_at dksX0_crowd_1 3 rfl rfl)
theorem dX0_crowd_27 : decode cX0_crowd 27 = .ok (.iload 4, 2) := dk_21 4 (dk_at dksX0_crowd_1 4 rfl rfl)
theorem dX0_crowd_29 : decode cX0_crowd 29 = .ok (.invokevirtual 361, 3) := dk_182 1 105 (dk_at dksX0_crowd_1 6 rfl rfl)
theorem dX0_crowd_32 : decode cX0_crowd 32 = .ok (.aload_n 0, 1) := dk_42 (dk_at dksX0_crowd_1 9 rfl rfl)
theorem dX0_crowd_33 : decode cX0_crowd 33 = .ok (.iload_n 2, 1) := dk_28 (dk_at dksX0_crowd_1 10 rfl rfl)
theorem dX0_crowd_34 : decode cX0_crowd 34 = .ok (.invokevirtual 361, 3) := dk_182 1 105 (dk_at dksX0_crowd_1 11 rfl rfl)
theorem dX0_crowd_37 : decode cX0_crowd 37 = .ok (.if_icmp .le 8, 3) := dk_164 0 8 (dk_at dksX0_crowd_1 14 rfl rfl)
theorem dX0_crowd_40 : decode cX0_crowd 40 = .ok (.iload 4, 2) := dk_21 4 (dk_at dksX0_crowd_1 17 rfl rfl)
theorem dX0_crowd_42 : decode cX0_crowd 42 = .ok (.goto 4, 3) := dk_167 0 4 (dk_at dksX0_crowd_1 19 rfl rfl)
theorem dX0_crowd_45 : decode cX0_crowd 45 = .ok (.iload_n 2, 1) := dk_28 (dk_at dksX0_crowd_1 22 rfl rfl)
theorem dX0_crowd_46 : decode cX0_crowd 46 = .ok (.istore_n 2, 1) := dk_61 (dk_at dksX0_crowd_1 23 rfl rfl)
theorem dX0_crowd_47 : decode cX0_crowd 47 = .ok (.iload_n 3, 1) := dk_29 (dk_at dksX0_crowd_2 0 rfl rfl)
theorem dX0_crowd_48 : decode cX0_crowd 48 = .ok (.aload_n 0, 1) := dk_42 (dk_at dksX0_crowd_2 1 rfl rfl)
theorem dX0_crowd_49 : decode cX0_crowd 49 = .ok (.getfield 88, 3) := dk_180 0 88 (dk_at dksX0_crowd_2 2 rfl rfl)
theorem dX0_crowd_52 : decode cX0_crowd 52 = .ok (.iload 4, 2) := dk_21 4 (dk_at dksX0_crowd_2 5 rfl rfl)
theorem dX0_crowd_54 : decode cX0_crowd 54 = .ok (.invokevirtual 364, 3) := dk_182 1 108 (dk_at dksX0_crowd_2 7 rfl rfl)
theorem dX0_crowd_57 : decode cX0_crowd 57 = .ok (.ifCond .eq 7, 3) := dk_153 0 7 (dk_at dksX0_crowd_2 10 rfl rfl)
theorem dX0_crowd_60 : decode cX0_crowd 60 = .ok (.iconst 1, 1) := dk_4 (dk_at dksX0_crowd_2 13 rfl rfl)
theorem dX0_crowd_61 : decode cX0_crowd 61 = .ok (.goto 4, 3) := dk_167 0 4 (dk_at dksX0_crowd_2 14 rfl rfl)
theorem dX0_crowd_64 : decode cX0_crowd 64 = .ok (.iconst 0, 1) := dk_3 (dk_at dksX0_crowd_2 17 rfl rfl)
theorem dX0_crowd_65 : decode cX0_crowd 65 = .ok (.iadd, 1) := dk_96 (dk_at dksX0_crowd_2 18 rfl rfl)
theorem dX0_crowd_66 : decode cX0_crowd 66 = .ok (.istore_n 3, 1) := dk_62 (dk_at dksX0_crowd_2 19 rfl rfl)
theorem dX0_crowd_67 : decode cX0_crowd 67 = .ok (.iinc 4 1, 3) := dk_132 4 1 (dk_at dksX0_crowd_2 20 rfl rfl)
theorem dX0_crowd_70 : decode cX0_crowd 70 = .ok (.goto (-51), 3) := dk_167 255 205 (dk_at dksX0_crowd_3 0 rfl rfl)
theorem dX0_crowd_73 : decode cX0_crowd 73 = .ok (.iload_n 1, 1) := dk_27 (dk_at dksX0_crowd_3 3 rfl rfl)
theorem dX0_crowd_74 : decode cX0_crowd 74 = .ok (.ifCond .ne 7, 3) := dk_154 0 7 (dk_at dksX0_crowd_3 4 rfl rfl)
theorem dX0_crowd_77 : decode cX0_crowd 77 = .ok (.iload_n 2, 1) := dk_28 (dk_at dksX0_crowd_3 7 rfl rfl)
theorem dX0_crowd_78 : decode cX0_crowd 78 = .ok (.goto 4, 3) := dk_167 0 4 (dk_at dksX0_crowd_3 8 rfl rfl)
theorem dX0_crowd_81 : decode cX0_crowd 81 = .ok (.iload_n 3, 1) := dk_29 (dk_at dksX0_crowd_3 11 rfl rfl)
theorem dX0_crowd_82 : decode cX0_crowd 82 = .ok (.ireturn, 1) := dk_172 (dk_at dksX0_crowd_3 12 rfl rfl)
theorem dX0_crowd_83 : decode cX0_crowd 83 = .ok (.astore_n 2, 1) := dk_77 (dk_at dksX0_crowd_3 13 rfl rfl)
theorem dX0_crowd_84 : decode cX0_crowd 84 = .ok (.aload_n 0, 1) := dk_42 (dk_at dksX0_crowd_3 14 rfl rfl)
theorem dX0_crowd_85 : decode cX0_crowd 85 = .ok (.aload_n 2, 1) := dk_44 (dk_at dksX0_crowd_3 15 rfl rfl)
theorem dX0_crowd_86 : decode cX0_crowd 86 = .ok (.invokevirtual 151, 3) := dk_182 0 151 (dk_at dksX0_crowd_3 16 rfl rfl)
theorem dX0_crowd_89 : decode cX0_crowd 89 = .ok (.ireturn, 1) := dk_172 (dk_at dksX0_crowd_3 19 rfl rfl)
abbrev cX0_lookersAt : ByteArray := prog_1_method_45_code
def yX0_lookersAt : MethodName := ⟨RX0, "lookersAt", "(I)I"⟩
def dkwX0_lookersAt_2 : List UInt8 := [153, 0, 7, 4, 167, 0, 4, 3, 96, 61, 132, 3, 1, 167, 255, 199, 28, 172]
abbrev dktX0_lookersAt_2 : List UInt8 := dkwX0_lookersAt_2 ++ []
def dkwX0_lookersAt_1 : List UInt8 := [50, 182, 1, 102, 153, 0, 27, 42, 180, 0, 88, 42, 180, 0, 88, 180, 0, 219, 29, 46, 27, 182, 1, 26]
abbrev dktX0_lookersAt_1 : List UInt8 := dkwX0_lookersAt_1 ++ dktX0_lookersAt_2
def dkwX0_lookersAt_0 : List UInt8 := [3, 61, 3, 62, 29, 42, 180, 0, 88, 180, 0, 189, 162, 0, 52, 28, 42, 180, 0, 88, 180, 0, 119, 29]
abbrev dktX0_lookersAt_0 : List UInt8 := dkwX0_lookersAt_0 ++ dktX0_lookersAt_1
theorem dksX0_lookersAt_0 : cX0_lookersAt.data.toList.drop 0 = dktX0_lookersAt_0 := by decide +kernel
theorem dksX0_lookersAt_1 : cX0_lookersAt.data.toList.drop 24 = dktX0_lookersAt_1 := dk_seg dksX0_lookersAt_0 24 rfl rfl
theorem dksX0_lookersAt_2 : cX0_lookersAt.data.toList.drop 48 = dktX0_lookersAt_2 := dk_seg dksX0_lookersAt_1 24 rfl rfl
theorem dX0_lookersAt_0 : decode cX0_lookersAt 0 = .ok (.iconst 0, 1) := dk_3 (dk_at dksX0_lookersAt_0 0 rfl rfl)
theorem dX0_lookersAt_1 : decode cX0_lookersAt 1 = .ok (.istore_n 2, 1) := dk_61 (dk_at dksX0_lookersAt_0 1 rfl rfl)
theorem dX0_lookersAt_2 : decode cX0_lookersAt 2 = .ok (.iconst 0, 1) := dk_3 (dk_at dksX0_lookersAt_0 2 rfl rfl)
theorem dX0_lookersAt_3 : decode cX0_lookersAt 3 = .ok (.istore_n 3, 1) := dk_62 (dk_at dksX0_lookersAt_0 3 rfl rfl)
theorem dX0_lookersAt_4 : decode cX0_lookersAt 4 = .ok (.iload_n 3, 1) := dk_29 (dk_at dksX0_lookersAt_0 4 rfl rfl)
theorem dX0_lookersAt_5 : decode cX0_lookersAt 5 = .ok (.aload_n 0, 1) := dk_42 (dk_at dksX0_lookersAt_0 5 rfl rfl)
theorem dX0_lookersAt_6 : decode cX0_lookersAt 6 = .ok (.getfield 88, 3) := dk_180 0 88 (dk_at dksX0_lookersAt_0 6 rfl rfl)
theorem dX0_lookersAt_9 : decode cX0_lookersAt 9 = .ok (.getfield 189, 3) := dk_180 0 189 (dk_at dksX0_lookersAt_0 9 rfl rfl)
theorem dX0_lookersAt_12 : decode cX0_lookersAt 12 = .ok (.if_icmp .ge 52, 3) := dk_162 0 52 (dk_at dksX0_lookersAt_0 12 rfl rfl)
theorem dX0_lookersAt_15 : decode cX0_lookersAt 15 = .ok (.iload_n 2, 1) := dk_28 (dk_at dksX0_lookersAt_0 15 rfl rfl)
theorem dX0_lookersAt_16 : decode cX0_lookersAt 16 = .ok (.aload_n 0, 1) := dk_42 (dk_at dksX0_lookersAt_0 16 rfl rfl)
theorem dX0_lookersAt_17 : decode cX0_lookersAt 17 = .ok (.getfield 88, 3) := dk_180 0 88 (dk_at dksX0_lookersAt_0 17 rfl rfl)
theorem dX0_lookersAt_20 : decode cX0_lookersAt 20 = .ok (.getfield 119, 3) := dk_180 0 119 (dk_at dksX0_lookersAt_0 20 rfl rfl)
theorem dX0_lookersAt_23 : decode cX0_lookersAt 23 = .ok (.iload_n 3, 1) := dk_29 (dk_at dksX0_lookersAt_0 23 rfl rfl)
theorem dX0_lookersAt_24 : decode cX0_lookersAt 24 = .ok (.aaload, 1) := dk_50 (dk_at dksX0_lookersAt_1 0 rfl rfl)
theorem dX0_lookersAt_25 : decode cX0_lookersAt 25 = .ok (.invokevirtual 358, 3) := dk_182 1 102 (dk_at dksX0_lookersAt_1 1 rfl rfl)
theorem dX0_lookersAt_28 : decode cX0_lookersAt 28 = .ok (.ifCond .eq 27, 3) := dk_153 0 27 (dk_at dksX0_lookersAt_1 4 rfl rfl)
theorem dX0_lookersAt_31 : decode cX0_lookersAt 31 = .ok (.aload_n 0, 1) := dk_42 (dk_at dksX0_lookersAt_1 7 rfl rfl)
theorem dX0_lookersAt_32 : decode cX0_lookersAt 32 = .ok (.getfield 88, 3) := dk_180 0 88 (dk_at dksX0_lookersAt_1 8 rfl rfl)
theorem dX0_lookersAt_35 : decode cX0_lookersAt 35 = .ok (.aload_n 0, 1) := dk_42 (dk_at dksX0_lookersAt_1 11 rfl rfl)
theorem dX0_lookersAt_36 : decode cX0_lookersAt 36 = .ok (.getfield 88, 3) := dk_180 0 88 (dk_at dksX0_lookersAt_1 12 rfl rfl)
theorem dX0_lookersAt_39 : decode cX0_lookersAt 39 = .ok (.getfield 219, 3) := dk_180 0 219 (dk_at dksX0_lookersAt_1 15 rfl rfl)
theorem dX0_lookersAt_42 : decode cX0_lookersAt 42 = .ok (.iload_n 3, 1) := dk_29 (dk_at dksX0_lookersAt_1 18 rfl rfl)
theorem dX0_lookersAt_43 : decode cX0_lookersAt 43 = .ok (.iaload, 1) := dk_46 (dk_at dksX0_lookersAt_1 19 rfl rfl)
theorem dX0_lookersAt_44 : decode cX0_lookersAt 44 = .ok (.iload_n 1, 1) := dk_27 (dk_at dksX0_lookersAt_1 20 rfl rfl)
theorem dX0_lookersAt_45 : decode cX0_lookersAt 45 = .ok (.invokevirtual 282, 3) := dk_182 1 26 (dk_at dksX0_lookersAt_1 21 rfl rfl)
theorem dX0_lookersAt_48 : decode cX0_lookersAt 48 = .ok (.ifCond .eq 7, 3) := dk_153 0 7 (dk_at dksX0_lookersAt_2 0 rfl rfl)
theorem dX0_lookersAt_51 : decode cX0_lookersAt 51 = .ok (.iconst 1, 1) := dk_4 (dk_at dksX0_lookersAt_2 3 rfl rfl)
theorem dX0_lookersAt_52 : decode cX0_lookersAt 52 = .ok (.goto 4, 3) := dk_167 0 4 (dk_at dksX0_lookersAt_2 4 rfl rfl)
theorem dX0_lookersAt_55 : decode cX0_lookersAt 55 = .ok (.iconst 0, 1) := dk_3 (dk_at dksX0_lookersAt_2 7 rfl rfl)
theorem dX0_lookersAt_56 : decode cX0_lookersAt 56 = .ok (.iadd, 1) := dk_96 (dk_at dksX0_lookersAt_2 8 rfl rfl)
theorem dX0_lookersAt_57 : decode cX0_lookersAt 57 = .ok (.istore_n 2, 1) := dk_61 (dk_at dksX0_lookersAt_2 9 rfl rfl)
theorem dX0_lookersAt_58 : decode cX0_lookersAt 58 = .ok (.iinc 3 1, 3) := dk_132 3 1 (dk_at dksX0_lookersAt_2 10 rfl rfl)
theorem dX0_lookersAt_61 : decode cX0_lookersAt 61 = .ok (.goto (-57), 3) := dk_167 255 199 (dk_at dksX0_lookersAt_2 13 rfl rfl)
theorem dX0_lookersAt_64 : decode cX0_lookersAt 64 = .ok (.iload_n 2, 1) := dk_28 (dk_at dksX0_lookersAt_2 16 rfl rfl)
theorem dX0_lookersAt_65 : decode cX0_lookersAt 65 = .ok (.ireturn, 1) := dk_172 (dk_at dksX0_lookersAt_2 17 rfl rfl)
abbrev cX0_judge : ByteArray := prog_1_method_49_code
def yX0_judge : MethodName := ⟨RX0, "judge", "(II)I"⟩
def dkwX0_judge_1 : List UInt8 := [45, 28, 182, 1, 123, 172, 78, 42, 45, 182, 0, 151, 16, 10, 100, 172]
abbrev dktX0_judge_1 : List UInt8 := dkwX0_judge_1 ++ []
def dkwX0_judge_0 : List UInt8 := [42, 27, 28, 182, 1, 120, 78, 28, 16, 40, 163, 0, 7, 4, 167, 0, 4, 3, 16, 250, 184, 0, 105, 42]
abbrev dktX0_judge_0 : List UInt8 := dkwX0_judge_0 ++ dktX0_judge_1
theorem dksX0_judge_0 : cX0_judge.data.toList.drop 0 = dktX0_judge_0 := by decide +kernel
theorem dksX0_judge_1 : cX0_judge.data.toList.drop 24 = dktX0_judge_1 := dk_seg dksX0_judge_0 24 rfl rfl
theorem dX0_judge_0 : decode cX0_judge 0 = .ok (.aload_n 0, 1) := dk_42 (dk_at dksX0_judge_0 0 rfl rfl)
theorem dX0_judge_1 : decode cX0_judge 1 = .ok (.iload_n 1, 1) := dk_27 (dk_at dksX0_judge_0 1 rfl rfl)
theorem dX0_judge_2 : decode cX0_judge 2 = .ok (.iload_n 2, 1) := dk_28 (dk_at dksX0_judge_0 2 rfl rfl)
theorem dX0_judge_3 : decode cX0_judge 3 = .ok (.invokevirtual 376, 3) := dk_182 1 120 (dk_at dksX0_judge_0 3 rfl rfl)
theorem dX0_judge_6 : decode cX0_judge 6 = .ok (.astore_n 3, 1) := dk_78 (dk_at dksX0_judge_0 6 rfl rfl)
theorem dX0_judge_7 : decode cX0_judge 7 = .ok (.iload_n 2, 1) := dk_28 (dk_at dksX0_judge_0 7 rfl rfl)
theorem dX0_judge_8 : decode cX0_judge 8 = .ok (.bipush 40, 2) := dk_16 40 (dk_at dksX0_judge_0 8 rfl rfl)
theorem dX0_judge_10 : decode cX0_judge 10 = .ok (.if_icmp .gt 7, 3) := dk_163 0 7 (dk_at dksX0_judge_0 10 rfl rfl)
theorem dX0_judge_13 : decode cX0_judge 13 = .ok (.iconst 1, 1) := dk_4 (dk_at dksX0_judge_0 13 rfl rfl)
theorem dX0_judge_14 : decode cX0_judge 14 = .ok (.goto 4, 3) := dk_167 0 4 (dk_at dksX0_judge_0 14 rfl rfl)
theorem dX0_judge_17 : decode cX0_judge 17 = .ok (.iconst 0, 1) := dk_3 (dk_at dksX0_judge_0 17 rfl rfl)
theorem dX0_judge_18 : decode cX0_judge 18 = .ok (.bipush (-6), 2) := dk_16 250 (dk_at dksX0_judge_0 18 rfl rfl)
theorem dX0_judge_20 : decode cX0_judge 20 = .ok (.invokestatic 105, 3) := dk_184 0 105 (dk_at dksX0_judge_0 20 rfl rfl)
theorem dX0_judge_23 : decode cX0_judge 23 = .ok (.aload_n 0, 1) := dk_42 (dk_at dksX0_judge_0 23 rfl rfl)
theorem dX0_judge_24 : decode cX0_judge 24 = .ok (.aload_n 3, 1) := dk_45 (dk_at dksX0_judge_1 0 rfl rfl)
theorem dX0_judge_25 : decode cX0_judge 25 = .ok (.iload_n 2, 1) := dk_28 (dk_at dksX0_judge_1 1 rfl rfl)
theorem dX0_judge_26 : decode cX0_judge 26 = .ok (.invokevirtual 379, 3) := dk_182 1 123 (dk_at dksX0_judge_1 2 rfl rfl)
theorem dX0_judge_29 : decode cX0_judge 29 = .ok (.ireturn, 1) := dk_172 (dk_at dksX0_judge_1 5 rfl rfl)
theorem dX0_judge_30 : decode cX0_judge 30 = .ok (.astore_n 3, 1) := dk_78 (dk_at dksX0_judge_1 6 rfl rfl)
theorem dX0_judge_31 : decode cX0_judge 31 = .ok (.aload_n 0, 1) := dk_42 (dk_at dksX0_judge_1 7 rfl rfl)
theorem dX0_judge_32 : decode cX0_judge 32 = .ok (.aload_n 3, 1) := dk_45 (dk_at dksX0_judge_1 8 rfl rfl)
theorem dX0_judge_33 : decode cX0_judge 33 = .ok (.invokevirtual 151, 3) := dk_182 0 151 (dk_at dksX0_judge_1 9 rfl rfl)
theorem dX0_judge_36 : decode cX0_judge 36 = .ok (.bipush 10, 2) := dk_16 10 (dk_at dksX0_judge_1 12 rfl rfl)
theorem dX0_judge_38 : decode cX0_judge 38 = .ok (.isub, 1) := dk_100 (dk_at dksX0_judge_1 14 rfl rfl)
theorem dX0_judge_39 : decode cX0_judge 39 = .ok (.ireturn, 1) := dk_172 (dk_at dksX0_judge_1 15 rfl rfl)
abbrev cX0_toldAt : ByteArray := prog_1_method_47_code
def yX0_toldAt : MethodName := ⟨RX0, "toldAt", "(II)LTaxOnLooks$Row;"⟩
def dkwX0_toldAt_1 : List UInt8 := [45, 182, 0, 11, 163, 0, 7, 4, 167, 0, 4, 3, 16, 251, 184, 0, 105, 45, 176]
abbrev dktX0_toldAt_1 : List UInt8 := dkwX0_toldAt_1 ++ []
def dkwX0_toldAt_0 : List UInt8 := [42, 27, 182, 0, 137, 182, 0, 155, 78, 28, 155, 0, 7, 4, 167, 0, 4, 3, 16, 252, 184, 0, 105, 28]
abbrev dktX0_toldAt_0 : List UInt8 := dkwX0_toldAt_0 ++ dktX0_toldAt_1
theorem dksX0_toldAt_0 : cX0_toldAt.data.toList.drop 0 = dktX0_toldAt_0 := by decide +kernel
theorem dksX0_toldAt_1 : cX0_toldAt.data.toList.drop 24 = dktX0_toldAt_1 := dk_seg dksX0_toldAt_0 24 rfl rfl
theorem dX0_toldAt_0 : decode cX0_toldAt 0 = .ok (.aload_n 0, 1) := dk_42 (dk_at dksX0_toldAt_0 0 rfl rfl)
theorem dX0_toldAt_1 : decode cX0_toldAt 1 = .ok (.iload_n 1, 1) := dk_27 (dk_at dksX0_toldAt_0 1 rfl rfl)
theorem dX0_toldAt_2 : decode cX0_toldAt 2 = .ok (.invokevirtual 137, 3) := dk_182 0 137 (dk_at dksX0_toldAt_0 2 rfl rfl)
theorem dX0_toldAt_5 : decode cX0_toldAt 5 = .ok (.invokevirtual 155, 3) := dk_182 0 155 (dk_at dksX0_toldAt_0 5 rfl rfl)
theorem dX0_toldAt_8 : decode cX0_toldAt 8 = .ok (.astore_n 3, 1) := dk_78 (dk_at dksX0_toldAt_0 8 rfl rfl)
theorem dX0_toldAt_9 : decode cX0_toldAt 9 = .ok (.iload_n 2, 1) := dk_28 (dk_at dksX0_toldAt_0 9 rfl rfl)
theorem dX0_toldAt_10 : decode cX0_toldAt 10 = .ok (.ifCond .lt 7, 3) := dk_155 0 7 (dk_at dksX0_toldAt_0 10 rfl rfl)
theorem dX0_toldAt_13 : decode cX0_toldAt 13 = .ok (.iconst 1, 1) := dk_4 (dk_at dksX0_toldAt_0 13 rfl rfl)
theorem dX0_toldAt_14 : decode cX0_toldAt 14 = .ok (.goto 4, 3) := dk_167 0 4 (dk_at dksX0_toldAt_0 14 rfl rfl)
theorem dX0_toldAt_17 : decode cX0_toldAt 17 = .ok (.iconst 0, 1) := dk_3 (dk_at dksX0_toldAt_0 17 rfl rfl)
theorem dX0_toldAt_18 : decode cX0_toldAt 18 = .ok (.bipush (-4), 2) := dk_16 252 (dk_at dksX0_toldAt_0 18 rfl rfl)
theorem dX0_toldAt_20 : decode cX0_toldAt 20 = .ok (.invokestatic 105, 3) := dk_184 0 105 (dk_at dksX0_toldAt_0 20 rfl rfl)
theorem dX0_toldAt_23 : decode cX0_toldAt 23 = .ok (.iload_n 2, 1) := dk_28 (dk_at dksX0_toldAt_0 23 rfl rfl)
theorem dX0_toldAt_24 : decode cX0_toldAt 24 = .ok (.aload_n 3, 1) := dk_45 (dk_at dksX0_toldAt_1 0 rfl rfl)
theorem dX0_toldAt_25 : decode cX0_toldAt 25 = .ok (.invokevirtual 11, 3) := dk_182 0 11 (dk_at dksX0_toldAt_1 1 rfl rfl)
theorem dX0_toldAt_28 : decode cX0_toldAt 28 = .ok (.if_icmp .gt 7, 3) := dk_163 0 7 (dk_at dksX0_toldAt_1 4 rfl rfl)
theorem dX0_toldAt_31 : decode cX0_toldAt 31 = .ok (.iconst 1, 1) := dk_4 (dk_at dksX0_toldAt_1 7 rfl rfl)
theorem dX0_toldAt_32 : decode cX0_toldAt 32 = .ok (.goto 4, 3) := dk_167 0 4 (dk_at dksX0_toldAt_1 8 rfl rfl)
theorem dX0_toldAt_35 : decode cX0_toldAt 35 = .ok (.iconst 0, 1) := dk_3 (dk_at dksX0_toldAt_1 11 rfl rfl)
theorem dX0_toldAt_36 : decode cX0_toldAt 36 = .ok (.bipush (-5), 2) := dk_16 251 (dk_at dksX0_toldAt_1 12 rfl rfl)
theorem dX0_toldAt_38 : decode cX0_toldAt 38 = .ok (.invokestatic 105, 3) := dk_184 0 105 (dk_at dksX0_toldAt_1 14 rfl rfl)
theorem dX0_toldAt_41 : decode cX0_toldAt 41 = .ok (.aload_n 3, 1) := dk_45 (dk_at dksX0_toldAt_1 17 rfl rfl)
theorem dX0_toldAt_42 : decode cX0_toldAt 42 = .ok (.areturn, 1) := dk_176 (dk_at dksX0_toldAt_1 18 rfl rfl)
abbrev cX0_wrongIn : ByteArray := prog_1_method_48_code
def yX0_wrongIn : MethodName := ⟨RX0, "wrongIn", "(LTaxOnLooks$Row;I)I"⟩
def dkwX0_wrongIn_6 : List UInt8 := [182, 1, 117, 96, 181, 1, 111, 132, 3, 1, 167, 255, 125, 2, 172]
abbrev dktX0_wrongIn_6 : List UInt8 := dkwX0_wrongIn_6 ++ []
def dkwX0_wrongIn_5 : List UInt8 := [21, 4, 16, 10, 108, 21, 6, 79, 42, 89, 180, 1, 111, 42, 180, 0, 77, 21, 4, 16, 10, 108]
abbrev dktX0_wrongIn_5 : List UInt8 := dkwX0_wrongIn_5 ++ dktX0_wrongIn_6
def dkwX0_wrongIn_4 : List UInt8 := [182, 1, 114, 167, 0, 4, 2, 54, 6, 21, 6, 2, 160, 0, 5, 29, 172, 42, 180, 0, 77, 180, 0, 219]
abbrev dktX0_wrongIn_4 : List UInt8 := dkwX0_wrongIn_4 ++ dktX0_wrongIn_5
def dkwX0_wrongIn_3 : List UInt8 := [42, 180, 0, 77, 42, 180, 0, 77, 180, 0, 219, 21, 4, 16, 10, 108, 46, 21, 4, 16, 10, 112]
abbrev dktX0_wrongIn_3 : List UInt8 := dkwX0_wrongIn_3 ++ dktX0_wrongIn_4
def dkwX0_wrongIn_2 : List UInt8 := [153, 0, 16, 21, 4, 16, 10, 112, 7, 162, 0, 7, 4, 167, 0, 4, 3, 54, 5, 21, 5, 153, 0, 31]
abbrev dktX0_wrongIn_2 : List UInt8 := dkwX0_wrongIn_2 ++ dktX0_wrongIn_3
def dkwX0_wrongIn_1 : List UInt8 := [43, 29, 182, 1, 89, 54, 4, 21, 4, 155, 0, 31, 42, 180, 0, 88, 21, 4, 16, 10, 108, 182, 0, 101]
abbrev dktX0_wrongIn_1 : List UInt8 := dkwX0_wrongIn_1 ++ dktX0_wrongIn_2
def dkwX0_wrongIn_0 : List UInt8 := [42, 180, 0, 77, 42, 180, 0, 88, 182, 1, 9, 87, 42, 3, 181, 1, 111, 3, 62, 29, 28, 162, 0, 132]
abbrev dktX0_wrongIn_0 : List UInt8 := dkwX0_wrongIn_0 ++ dktX0_wrongIn_1
theorem dksX0_wrongIn_0 : cX0_wrongIn.data.toList.drop 0 = dktX0_wrongIn_0 := by decide +kernel
theorem dksX0_wrongIn_1 : cX0_wrongIn.data.toList.drop 24 = dktX0_wrongIn_1 := dk_seg dksX0_wrongIn_0 24 rfl rfl
theorem dksX0_wrongIn_2 : cX0_wrongIn.data.toList.drop 48 = dktX0_wrongIn_2 := dk_seg dksX0_wrongIn_1 24 rfl rfl
theorem dksX0_wrongIn_3 : cX0_wrongIn.data.toList.drop 72 = dktX0_wrongIn_3 := dk_seg dksX0_wrongIn_2 24 rfl rfl
theorem dksX0_wrongIn_4 : cX0_wrongIn.data.toList.drop 94 = dktX0_wrongIn_4 := dk_seg dksX0_wrongIn_3 22 rfl rfl
theorem dksX0_wrongIn_5 : cX0_wrongIn.data.toList.drop 118 = dktX0_wrongIn_5 := dk_seg dksX0_wrongIn_4 24 rfl rfl
theorem dksX0_wrongIn_6 : cX0_wrongIn.data.toList.drop 140 = dktX0_wrongIn_6 := dk_seg dksX0_wrongIn_5 22 rfl rfl
theorem dX0_wrongIn_0 : decode cX0_wrongIn 0 = .ok (.aload_n 0, 1) := dk_42 (dk_at dksX0_wrongIn_0 0 rfl rfl)
theorem dX0_wrongIn_1 : decode cX0_wrongIn 1 = .ok (.getfield 77, 3) := dk_180 0 77 (dk_at dksX0_wrongIn_0 1 rfl rfl)
theorem dX0_wrongIn_4 : decode cX0_wrongIn 4 = .ok (.aload_n 0, 1) := dk_42 (dk_at dksX0_wrongIn_0 4 rfl rfl)
theorem dX0_wrongIn_5 : decode cX0_wrongIn 5 = .ok (.getfield 88, 3) := dk_180 0 88 (dk_at dksX0_wrongIn_0 5 rfl rfl)
theorem dX0_wrongIn_8 : decode cX0_wrongIn 8 = .ok (.invokevirtual 265, 3) := dk_182 1 9 (dk_at dksX0_wrongIn_0 8 rfl rfl)
theorem dX0_wrongIn_11 : decode cX0_wrongIn 11 = .ok (.pop, 1) := dk_87 (dk_at dksX0_wrongIn_0 11 rfl rfl)
theorem dX0_wrongIn_12 : decode cX0_wrongIn 12 = .ok (.aload_n 0, 1) := dk_42 (dk_at dksX0_wrongIn_0 12 rfl rfl)
theorem dX0_wrongIn_13 : decode cX0_wrongIn 13 = .ok (.iconst 0, 1) := dk_3 (dk_at dksX0_wrongIn_0 13 rfl rfl)
theorem dX0_wrongIn_14 : decode cX0_wrongIn 14 = .ok (.putfield 367, 3) := dk_181 1 111 (dk_at dksX0_wrongIn_0 14 rfl rfl)
theorem dX0_wrongIn_17 : decode cX0_wrongIn 17 = .ok (.iconst 0, 1) := dk_3 (dk_at dksX0_wrongIn_0 17 rfl rfl)
theorem dX0_wrongIn_18 : decode cX0_wrongIn 18 = .ok (.istore_n 3, 1) := dk_62 (dk_at dksX0_wrongIn_0 18 rfl rfl)
theorem dX0_wrongIn_19 : decode cX0_wrongIn 19 = .ok (.iload_n 3, 1) := dk_29 (dk_at dksX0_wrongIn_0 19 rfl rfl)
theorem dX0_wrongIn_20 : decode cX0_wrongIn 20 = .ok (.iload_n 2, 1) := dk_28 (dk_at dksX0_wrongIn_0 20 rfl rfl)
theorem dX0_wrongIn_21 : decode cX0_wrongIn 21 = .ok (.if_icmp .ge 132, 3) := dk_162 0 132 (dk_at dksX0_wrongIn_0 21 rfl rfl)
theorem dX0_wrongIn_24 : decode cX0_wrongIn 24 = .ok (.aload_n 1, 1) := dk_43 (dk_at dksX0_wrongIn_1 0 rfl rfl)
theorem dX0_wrongIn_25 : decode cX0_wrongIn 25 = .ok (.iload_n 3, 1) := dk_29 (dk_at dksX0_wrongIn_1 1 rfl rfl)
theorem dX0_wrongIn_26 : decode cX0_wrongIn 26 = .ok (.invokevirtual 345, 3) := dk_182 1 89 (dk_at dksX0_wrongIn_1 2 rfl rfl)
theorem dX0_wrongIn_29 : decode cX0_wrongIn 29 = .ok (.istore 4, 2) := dk_54 4 (dk_at dksX0_wrongIn_1 5 rfl rfl)
theorem dX0_wrongIn_31 : decode cX0_wrongIn 31 = .ok (.iload 4, 2) := dk_21 4 (dk_at dksX0_wrongIn_1 7 rfl rfl)
theorem dX0_wrongIn_33 : decode cX0_wrongIn 33 = .ok (.ifCond .lt 31, 3) := dk_155 0 31 (dk_at dksX0_wrongIn_1 9 rfl rfl)
theorem dX0_wrongIn_36 : decode cX0_wrongIn 36 = .ok (.aload_n 0, 1) := dk_42 (dk_at dksX0_wrongIn_1 12 rfl rfl)
theorem dX0_wrongIn_37 : decode cX0_wrongIn 37 = .ok (.getfield 88, 3) := dk_180 0 88 (dk_at dksX0_wrongIn_1 13 rfl rfl)
theorem dX0_wrongIn_40 : decode cX0_wrongIn 40 = .ok (.iload 4, 2) := dk_21 4 (dk_at dksX0_wrongIn_1 16 rfl rfl)
theorem dX0_wrongIn_42 : decode cX0_wrongIn 42 = .ok (.bipush 10, 2) := dk_16 10 (dk_at dksX0_wrongIn_1 18 rfl rfl)
theorem dX0_wrongIn_44 : decode cX0_wrongIn 44 = .ok (.idiv, 1) := dk_108 (dk_at dksX0_wrongIn_1 20 rfl rfl)
theorem dX0_wrongIn_45 : decode cX0_wrongIn 45 = .ok (.invokevirtual 101, 3) := dk_182 0 101 (dk_at dksX0_wrongIn_1 21 rfl rfl)
theorem dX0_wrongIn_48 : decode cX0_wrongIn 48 = .ok (.ifCond .eq 16, 3) := dk_153 0 16 (dk_at dksX0_wrongIn_2 0 rfl rfl)
theorem dX0_wrongIn_51 : decode cX0_wrongIn 51 = .ok (.iload 4, 2) := dk_21 4 (dk_at dksX0_wrongIn_2 3 rfl rfl)
theorem dX0_wrongIn_53 : decode cX0_wrongIn 53 = .ok (.bipush 10, 2) := dk_16 10 (dk_at dksX0_wrongIn_2 5 rfl rfl)
theorem dX0_wrongIn_55 : decode cX0_wrongIn 55 = .ok (.irem, 1) := dk_112 (dk_at dksX0_wrongIn_2 7 rfl rfl)
theorem dX0_wrongIn_56 : decode cX0_wrongIn 56 = .ok (.iconst 4, 1) := dk_7 (dk_at dksX0_wrongIn_2 8 rfl rfl)
theorem dX0_wrongIn_57 : decode cX0_wrongIn 57 = .ok (.if_icmp .ge 7, 3) := dk_162 0 7 (dk_at dksX0_wrongIn_2 9 rfl rfl)
theorem dX0_wrongIn_60 : decode cX0_wrongIn 60 = .ok (.iconst 1, 1) := dk_4 (dk_at dksX0_wrongIn_2 12 rfl rfl)
theorem dX0_wrongIn_61 : decode cX0_wrongIn 61 = .ok (.goto 4, 3) := dk_167 0 4 (dk_at dksX0_wrongIn_2 13 rfl rfl)
theorem dX0_wrongIn_64 : decode cX0_wrongIn 64 = .ok (.iconst 0, 1) := dk_3 (dk_at dksX0_wrongIn_2 16 rfl rfl)
theorem dX0_wrongIn_65 : decode cX0_wrongIn 65 = .ok (.istore 5, 2) := dk_54 5 (dk_at dksX0_wrongIn_2 17 rfl rfl)
theorem dX0_wrongIn_67 : decode cX0_wrongIn 67 = .ok (.iload 5, 2) := dk_21 5 (dk_at dksX0_wrongIn_2 19 rfl rfl)
theorem dX0_wrongIn_69 : decode cX0_wrongIn 69 = .ok (.ifCond .eq 31, 3) := dk_153 0 31 (dk_at dksX0_wrongIn_2 21 rfl rfl)
theorem dX0_wrongIn_72 : decode cX0_wrongIn 72 = .ok (.aload_n 0, 1) := dk_42 (dk_at dksX0_wrongIn_3 0 rfl rfl)
theorem dX0_wrongIn_73 : decode cX0_wrongIn 73 = .ok (.getfield 77, 3) := dk_180 0 77 (dk_at dksX0_wrongIn_3 1 rfl rfl)
theorem dX0_wrongIn_76 : decode cX0_wrongIn 76 = .ok (.aload_n 0, 1) := dk_42 (dk_at dksX0_wrongIn_3 4 rfl rfl)
theorem dX0_wrongIn_77 : decode cX0_wrongIn 77 = .ok (.getfield 77, 3) := dk_180 0 77 (dk_at dksX0_wrongIn_3 5 rfl rfl)
theorem dX0_wrongIn_80 : decode cX0_wrongIn 80 = .ok (.getfield 219, 3) := dk_180 0 219 (dk_at dksX0_wrongIn_3 8 rfl rfl)
theorem dX0_wrongIn_83 : decode cX0_wrongIn 83 = .ok (.iload 4, 2) := dk_21 4 (dk_at dksX0_wrongIn_3 11 rfl rfl)
theorem dX0_wrongIn_85 : decode cX0_wrongIn 85 = .ok (.bipush 10, 2) := dk_16 10 (dk_at dksX0_wrongIn_3 13 rfl rfl)
theorem dX0_wrongIn_87 : decode cX0_wrongIn 87 = .ok (.idiv, 1) := dk_108 (dk_at dksX0_wrongIn_3 15 rfl rfl)
theorem dX0_wrongIn_88 : decode cX0_wrongIn 88 = .ok (.iaload, 1) := dk_46 (dk_at dksX0_wrongIn_3 16 rfl rfl)
theorem dX0_wrongIn_89 : decode cX0_wrongIn 89 = .ok (.iload 4, 2) := dk_21 4 (dk_at dksX0_wrongIn_3 17 rfl rfl)
theorem dX0_wrongIn_91 : decode cX0_wrongIn 91 = .ok (.bipush 10, 2) := dk_16 10 (dk_at dksX0_wrongIn_3 19 rfl rfl)
theorem dX0_wrongIn_93 : decode cX0_wrongIn 93 = .ok (.irem, 1) := dk_112 (dk_at dksX0_wrongIn_3 21 rfl rfl)
theorem dX0_wrongIn_94 : decode cX0_wrongIn 94 = .ok (.invokevirtual 370, 3) := dk_182 1 114 (dk_at dksX0_wrongIn_4 0 rfl rfl)
theorem dX0_wrongIn_97 : decode cX0_wrongIn 97 = .ok (.goto 4, 3) := dk_167 0 4 (dk_at dksX0_wrongIn_4 3 rfl rfl)
theorem dX0_wrongIn_100 : decode cX0_wrongIn 100 = .ok (.iconst (-1), 1) := dk_2 (dk_at dksX0_wrongIn_4 6 rfl rfl)
theorem dX0_wrongIn_101 : decode cX0_wrongIn 101 = .ok (.istore 6, 2) := dk_54 6 (dk_at dksX0_wrongIn_4 7 rfl rfl)
theorem dX0_wrongIn_103 : decode cX0_wrongIn 103 = .ok (.iload 6, 2) := dk_21 6 (dk_at dksX0_wrongIn_4 9 rfl rfl)
theorem dX0_wrongIn_105 : decode cX0_wrongIn 105 = .ok (.iconst (-1), 1) := dk_2 (dk_at dksX0_wrongIn_4 11 rfl rfl)
theorem dX0_wrongIn_106 : decode cX0_wrongIn 106 = .ok (.if_icmp .ne 5, 3) := dk_160 0 5 (dk_at dksX0_wrongIn_4 12 rfl rfl)
theorem dX0_wrongIn_109 : decode cX0_wrongIn 109 = .ok (.iload_n 3, 1) := dk_29 (dk_at dksX0_wrongIn_4 15 rfl rfl)
theorem dX0_wrongIn_110 : decode cX0_wrongIn 110 = .ok (.ireturn, 1) := dk_172 (dk_at dksX0_wrongIn_4 16 rfl rfl)
theorem dX0_wrongIn_111 : decode cX0_wrongIn 111 = .ok (.aload_n 0, 1) := dk_42 (dk_at dksX0_wrongIn_4 17 rfl rfl)
theorem dX0_wrongIn_112 : decode cX0_wrongIn 112 = .ok (.getfield 77, 3) := dk_180 0 77 (dk_at dksX0_wrongIn_4 18 rfl rfl)
theorem dX0_wrongIn_115 : decode cX0_wrongIn 115 = .ok (.getfield 219, 3) := dk_180 0 219 (dk_at dksX0_wrongIn_4 21 rfl rfl)
theorem dX0_wrongIn_118 : decode cX0_wrongIn 118 = .ok (.iload 4, 2) := dk_21 4 (dk_at dksX0_wrongIn_5 0 rfl rfl)
theorem dX0_wrongIn_120 : decode cX0_wrongIn 120 = .ok (.bipush 10, 2) := dk_16 10 (dk_at dksX0_wrongIn_5 2 rfl rfl)
theorem dX0_wrongIn_122 : decode cX0_wrongIn 122 = .ok (.idiv, 1) := dk_108 (dk_at dksX0_wrongIn_5 4 rfl rfl)
theorem dX0_wrongIn_123 : decode cX0_wrongIn 123 = .ok (.iload 6, 2) := dk_21 6 (dk_at dksX0_wrongIn_5 5 rfl rfl)
theorem dX0_wrongIn_125 : decode cX0_wrongIn 125 = .ok (.iastore, 1) := dk_79 (dk_at dksX0_wrongIn_5 7 rfl rfl)
theorem dX0_wrongIn_126 : decode cX0_wrongIn 126 = .ok (.aload_n 0, 1) := dk_42 (dk_at dksX0_wrongIn_5 8 rfl rfl)
theorem dX0_wrongIn_127 : decode cX0_wrongIn 127 = .ok (.dup, 1) := dk_89 (dk_at dksX0_wrongIn_5 9 rfl rfl)
theorem dX0_wrongIn_128 : decode cX0_wrongIn 128 = .ok (.getfield 367, 3) := dk_180 1 111 (dk_at dksX0_wrongIn_5 10 rfl rfl)
theorem dX0_wrongIn_131 : decode cX0_wrongIn 131 = .ok (.aload_n 0, 1) := dk_42 (dk_at dksX0_wrongIn_5 13 rfl rfl)
theorem dX0_wrongIn_132 : decode cX0_wrongIn 132 = .ok (.getfield 77, 3) := dk_180 0 77 (dk_at dksX0_wrongIn_5 14 rfl rfl)
theorem dX0_wrongIn_135 : decode cX0_wrongIn 135 = .ok (.iload 4, 2) := dk_21 4 (dk_at dksX0_wrongIn_5 17 rfl rfl)
theorem dX0_wrongIn_137 : decode cX0_wrongIn 137 = .ok (.bipush 10, 2) := dk_16 10 (dk_at dksX0_wrongIn_5 19 rfl rfl)
theorem dX0_wrongIn_139 : decode cX0_wrongIn 139 = .ok (.idiv, 1) := dk_108 (dk_at dksX0_wrongIn_5 21 rfl rfl)
theorem dX0_wrongIn_140 : decode cX0_wrongIn 140 = .ok (.invokevirtual 373, 3) := dk_182 1 117 (dk_at dksX0_wrongIn_6 0 rfl rfl)
theorem dX0_wrongIn_143 : decode cX0_wrongIn 143 = .ok (.iadd, 1) := dk_96 (dk_at dksX0_wrongIn_6 3 rfl rfl)
theorem dX0_wrongIn_144 : decode cX0_wrongIn 144 = .ok (.putfield 367, 3) := dk_181 1 111 (dk_at dksX0_wrongIn_6 4 rfl rfl)
theorem dX0_wrongIn_147 : decode cX0_wrongIn 147 = .ok (.iinc 3 1, 3) := dk_132 3 1 (dk_at dksX0_wrongIn_6 7 rfl rfl)
theorem dX0_wrongIn_150 : decode cX0_wrongIn 150 = .ok (.goto (-131), 3) := dk_167 255 125 (dk_at dksX0_wrongIn_6 10 rfl rfl)
theorem dX0_wrongIn_153 : decode cX0_wrongIn 153 = .ok (.iconst (-1), 1) := dk_2 (dk_at dksX0_wrongIn_6 13 rfl rfl)
theorem dX0_wrongIn_154 : decode cX0_wrongIn 154 = .ok (.ireturn, 1) := dk_172 (dk_at dksX0_wrongIn_6 14 rfl rfl)
abbrev cX0_behind : ByteArray := prog_1_method_51_code
def yX0_behind : MethodName := ⟨RX0, "behind", "(III)I"⟩
def dkwX0_behind_5 : List UInt8 := [180, 0, 219, 3, 46, 167, 0, 7, 42, 182, 1, 127, 172, 58, 4, 42, 25, 4, 182, 0, 151, 172]
abbrev dktX0_behind_5 : List UInt8 := dkwX0_behind_5 ++ []
def dkwX0_behind_4 : List UInt8 := [184, 0, 105, 29, 154, 0, 10, 42, 180, 1, 111, 167, 0, 24, 29, 4, 160, 0, 15, 42, 180, 0, 77]
abbrev dktX0_behind_4 : List UInt8 := dkwX0_behind_4 ++ dktX0_behind_5
def dkwX0_behind_3 : List UInt8 := [16, 40, 163, 0, 18, 42, 25, 4, 28, 182, 1, 123, 2, 160, 0, 7, 4, 167, 0, 4, 3, 16, 250]
abbrev dktX0_behind_3 : List UInt8 := dkwX0_behind_3 ++ dktX0_behind_4
def dkwX0_behind_2 : List UInt8 := [160, 0, 13, 42, 180, 0, 88, 180, 0, 189, 158, 0, 7, 4, 167, 0, 4, 3, 16, 251, 184, 0, 105, 28]
abbrev dktX0_behind_2 : List UInt8 := dkwX0_behind_2 ++ dktX0_behind_3
def dkwX0_behind_1 : List UInt8 := [28, 25, 4, 182, 0, 11, 163, 0, 34, 29, 133, 9, 20, 1, 45, 184, 0, 143, 153, 0, 22, 29, 4]
abbrev dktX0_behind_1 : List UInt8 := dkwX0_behind_1 ++ dktX0_behind_2
def dkwX0_behind_0 : List UInt8 := [42, 27, 182, 0, 137, 182, 0, 155, 58, 4, 28, 155, 0, 7, 4, 167, 0, 4, 3, 16, 252, 184, 0, 105]
abbrev dktX0_behind_0 : List UInt8 := dkwX0_behind_0 ++ dktX0_behind_1
theorem dksX0_behind_0 : cX0_behind.data.toList.drop 0 = dktX0_behind_0 := by decide +kernel
theorem dksX0_behind_1 : cX0_behind.data.toList.drop 24 = dktX0_behind_1 := dk_seg dksX0_behind_0 24 rfl rfl
theorem dksX0_behind_2 : cX0_behind.data.toList.drop 47 = dktX0_behind_2 := dk_seg dksX0_behind_1 23 rfl rfl
theorem dksX0_behind_3 : cX0_behind.data.toList.drop 71 = dktX0_behind_3 := dk_seg dksX0_behind_2 24 rfl rfl
theorem dksX0_behind_4 : cX0_behind.data.toList.drop 94 = dktX0_behind_4 := dk_seg dksX0_behind_3 23 rfl rfl
theorem dksX0_behind_5 : cX0_behind.data.toList.drop 117 = dktX0_behind_5 := dk_seg dksX0_behind_4 23 rfl rfl
theorem dX0_behind_0 : decode cX0_behind 0 = .ok (.aload_n 0, 1) := dk_42 (dk_at dksX0_behind_0 0 rfl rfl)
theorem dX0_behind_1 : decode cX0_behind 1 = .ok (.iload_n 1, 1) := dk_27 (dk_at dksX0_behind_0 1 rfl rfl)
theorem dX0_behind_2 : decode cX0_behind 2 = .ok (.invokevirtual 137, 3) := dk_182 0 137 (dk_at dksX0_behind_0 2 rfl rfl)
theorem dX0_behind_5 : decode cX0_behind 5 = .ok (.invokevirtual 155, 3) := dk_182 0 155 (dk_at dksX0_behind_0 5 rfl rfl)
theorem dX0_behind_8 : decode cX0_behind 8 = .ok (.astore 4, 2) := dk_58 4 (dk_at dksX0_behind_0 8 rfl rfl)
theorem dX0_behind_10 : decode cX0_behind 10 = .ok (.iload_n 2, 1) := dk_28 (dk_at dksX0_behind_0 10 rfl rfl)
theorem dX0_behind_11 : decode cX0_behind 11 = .ok (.ifCond .lt 7, 3) := dk_155 0 7 (dk_at dksX0_behind_0 11 rfl rfl)
theorem dX0_behind_14 : decode cX0_behind 14 = .ok (.iconst 1, 1) := dk_4 (dk_at dksX0_behind_0 14 rfl rfl)
theorem dX0_behind_15 : decode cX0_behind 15 = .ok (.goto 4, 3) := dk_167 0 4 (dk_at dksX0_behind_0 15 rfl rfl)
theorem dX0_behind_18 : decode cX0_behind 18 = .ok (.iconst 0, 1) := dk_3 (dk_at dksX0_behind_0 18 rfl rfl)
theorem dX0_behind_19 : decode cX0_behind 19 = .ok (.bipush (-4), 2) := dk_16 252 (dk_at dksX0_behind_0 19 rfl rfl)
theorem dX0_behind_21 : decode cX0_behind 21 = .ok (.invokestatic 105, 3) := dk_184 0 105 (dk_at dksX0_behind_0 21 rfl rfl)
theorem dX0_behind_24 : decode cX0_behind 24 = .ok (.iload_n 2, 1) := dk_28 (dk_at dksX0_behind_1 0 rfl rfl)
theorem dX0_behind_25 : decode cX0_behind 25 = .ok (.aload 4, 2) := dk_25 4 (dk_at dksX0_behind_1 1 rfl rfl)
theorem dX0_behind_27 : decode cX0_behind 27 = .ok (.invokevirtual 11, 3) := dk_182 0 11 (dk_at dksX0_behind_1 3 rfl rfl)
theorem dX0_behind_30 : decode cX0_behind 30 = .ok (.if_icmp .gt 34, 3) := dk_163 0 34 (dk_at dksX0_behind_1 6 rfl rfl)
theorem dX0_behind_33 : decode cX0_behind 33 = .ok (.iload_n 3, 1) := dk_29 (dk_at dksX0_behind_1 9 rfl rfl)
theorem dX0_behind_34 : decode cX0_behind 34 = .ok (.i2l, 1) := dk_133 (dk_at dksX0_behind_1 10 rfl rfl)
theorem dX0_behind_35 : decode cX0_behind 35 = .ok (.lconst 0, 1) := dk_9 (dk_at dksX0_behind_1 11 rfl rfl)
theorem dX0_behind_36 : decode cX0_behind 36 = .ok (.ldc2_w 301, 3) := dk_20 1 45 (dk_at dksX0_behind_1 12 rfl rfl)
theorem dX0_behind_39 : decode cX0_behind 39 = .ok (.invokestatic 143, 3) := dk_184 0 143 (dk_at dksX0_behind_1 15 rfl rfl)
theorem dX0_behind_42 : decode cX0_behind 42 = .ok (.ifCond .eq 22, 3) := dk_153 0 22 (dk_at dksX0_behind_1 18 rfl rfl)
theorem dX0_behind_45 : decode cX0_behind 45 = .ok (.iload_n 3, 1) := dk_29 (dk_at dksX0_behind_1 21 rfl rfl)
theorem dX0_behind_46 : decode cX0_behind 46 = .ok (.iconst 1, 1) := dk_4 (dk_at dksX0_behind_1 22 rfl rfl)
theorem dX0_behind_47 : decode cX0_behind 47 = .ok (.if_icmp .ne 13, 3) := dk_160 0 13 (dk_at dksX0_behind_2 0 rfl rfl)
theorem dX0_behind_50 : decode cX0_behind 50 = .ok (.aload_n 0, 1) := dk_42 (dk_at dksX0_behind_2 3 rfl rfl)
theorem dX0_behind_51 : decode cX0_behind 51 = .ok (.getfield 88, 3) := dk_180 0 88 (dk_at dksX0_behind_2 4 rfl rfl)
theorem dX0_behind_54 : decode cX0_behind 54 = .ok (.getfield 189, 3) := dk_180 0 189 (dk_at dksX0_behind_2 7 rfl rfl)
theorem dX0_behind_57 : decode cX0_behind 57 = .ok (.ifCond .le 7, 3) := dk_158 0 7 (dk_at dksX0_behind_2 10 rfl rfl)
theorem dX0_behind_60 : decode cX0_behind 60 = .ok (.iconst 1, 1) := dk_4 (dk_at dksX0_behind_2 13 rfl rfl)
theorem dX0_behind_61 : decode cX0_behind 61 = .ok (.goto 4, 3) := dk_167 0 4 (dk_at dksX0_behind_2 14 rfl rfl)
theorem dX0_behind_64 : decode cX0_behind 64 = .ok (.iconst 0, 1) := dk_3 (dk_at dksX0_behind_2 17 rfl rfl)
theorem dX0_behind_65 : decode cX0_behind 65 = .ok (.bipush (-5), 2) := dk_16 251 (dk_at dksX0_behind_2 18 rfl rfl)
theorem dX0_behind_67 : decode cX0_behind 67 = .ok (.invokestatic 105, 3) := dk_184 0 105 (dk_at dksX0_behind_2 20 rfl rfl)
theorem dX0_behind_70 : decode cX0_behind 70 = .ok (.iload_n 2, 1) := dk_28 (dk_at dksX0_behind_2 23 rfl rfl)
theorem dX0_behind_71 : decode cX0_behind 71 = .ok (.bipush 40, 2) := dk_16 40 (dk_at dksX0_behind_3 0 rfl rfl)
theorem dX0_behind_73 : decode cX0_behind 73 = .ok (.if_icmp .gt 18, 3) := dk_163 0 18 (dk_at dksX0_behind_3 2 rfl rfl)
theorem dX0_behind_76 : decode cX0_behind 76 = .ok (.aload_n 0, 1) := dk_42 (dk_at dksX0_behind_3 5 rfl rfl)
theorem dX0_behind_77 : decode cX0_behind 77 = .ok (.aload 4, 2) := dk_25 4 (dk_at dksX0_behind_3 6 rfl rfl)
theorem dX0_behind_79 : decode cX0_behind 79 = .ok (.iload_n 2, 1) := dk_28 (dk_at dksX0_behind_3 8 rfl rfl)
theorem dX0_behind_80 : decode cX0_behind 80 = .ok (.invokevirtual 379, 3) := dk_182 1 123 (dk_at dksX0_behind_3 9 rfl rfl)
theorem dX0_behind_83 : decode cX0_behind 83 = .ok (.iconst (-1), 1) := dk_2 (dk_at dksX0_behind_3 12 rfl rfl)
theorem dX0_behind_84 : decode cX0_behind 84 = .ok (.if_icmp .ne 7, 3) := dk_160 0 7 (dk_at dksX0_behind_3 13 rfl rfl)
theorem dX0_behind_87 : decode cX0_behind 87 = .ok (.iconst 1, 1) := dk_4 (dk_at dksX0_behind_3 16 rfl rfl)
theorem dX0_behind_88 : decode cX0_behind 88 = .ok (.goto 4, 3) := dk_167 0 4 (dk_at dksX0_behind_3 17 rfl rfl)
theorem dX0_behind_91 : decode cX0_behind 91 = .ok (.iconst 0, 1) := dk_3 (dk_at dksX0_behind_3 20 rfl rfl)
theorem dX0_behind_92 : decode cX0_behind 92 = .ok (.bipush (-6), 2) := dk_16 250 (dk_at dksX0_behind_3 21 rfl rfl)
theorem dX0_behind_94 : decode cX0_behind 94 = .ok (.invokestatic 105, 3) := dk_184 0 105 (dk_at dksX0_behind_4 0 rfl rfl)
theorem dX0_behind_97 : decode cX0_behind 97 = .ok (.iload_n 3, 1) := dk_29 (dk_at dksX0_behind_4 3 rfl rfl)
theorem dX0_behind_98 : decode cX0_behind 98 = .ok (.ifCond .ne 10, 3) := dk_154 0 10 (dk_at dksX0_behind_4 4 rfl rfl)
theorem dX0_behind_101 : decode cX0_behind 101 = .ok (.aload_n 0, 1) := dk_42 (dk_at dksX0_behind_4 7 rfl rfl)
theorem dX0_behind_102 : decode cX0_behind 102 = .ok (.getfield 367, 3) := dk_180 1 111 (dk_at dksX0_behind_4 8 rfl rfl)
theorem dX0_behind_105 : decode cX0_behind 105 = .ok (.goto 24, 3) := dk_167 0 24 (dk_at dksX0_behind_4 11 rfl rfl)
theorem dX0_behind_108 : decode cX0_behind 108 = .ok (.iload_n 3, 1) := dk_29 (dk_at dksX0_behind_4 14 rfl rfl)
theorem dX0_behind_109 : decode cX0_behind 109 = .ok (.iconst 1, 1) := dk_4 (dk_at dksX0_behind_4 15 rfl rfl)
theorem dX0_behind_110 : decode cX0_behind 110 = .ok (.if_icmp .ne 15, 3) := dk_160 0 15 (dk_at dksX0_behind_4 16 rfl rfl)
theorem dX0_behind_113 : decode cX0_behind 113 = .ok (.aload_n 0, 1) := dk_42 (dk_at dksX0_behind_4 19 rfl rfl)
theorem dX0_behind_114 : decode cX0_behind 114 = .ok (.getfield 77, 3) := dk_180 0 77 (dk_at dksX0_behind_4 20 rfl rfl)
theorem dX0_behind_117 : decode cX0_behind 117 = .ok (.getfield 219, 3) := dk_180 0 219 (dk_at dksX0_behind_5 0 rfl rfl)
theorem dX0_behind_120 : decode cX0_behind 120 = .ok (.iconst 0, 1) := dk_3 (dk_at dksX0_behind_5 3 rfl rfl)
theorem dX0_behind_121 : decode cX0_behind 121 = .ok (.iaload, 1) := dk_46 (dk_at dksX0_behind_5 4 rfl rfl)
theorem dX0_behind_122 : decode cX0_behind 122 = .ok (.goto 7, 3) := dk_167 0 7 (dk_at dksX0_behind_5 5 rfl rfl)
theorem dX0_behind_125 : decode cX0_behind 125 = .ok (.aload_n 0, 1) := dk_42 (dk_at dksX0_behind_5 8 rfl rfl)
theorem dX0_behind_126 : decode cX0_behind 126 = .ok (.invokevirtual 383, 3) := dk_182 1 127 (dk_at dksX0_behind_5 9 rfl rfl)
theorem dX0_behind_129 : decode cX0_behind 129 = .ok (.ireturn, 1) := dk_172 (dk_at dksX0_behind_5 12 rfl rfl)
theorem dX0_behind_130 : decode cX0_behind 130 = .ok (.astore 4, 2) := dk_58 4 (dk_at dksX0_behind_5 13 rfl rfl)
theorem dX0_behind_132 : decode cX0_behind 132 = .ok (.aload_n 0, 1) := dk_42 (dk_at dksX0_behind_5 15 rfl rfl)
theorem dX0_behind_133 : decode cX0_behind 133 = .ok (.aload 4, 2) := dk_25 4 (dk_at dksX0_behind_5 16 rfl rfl)
theorem dX0_behind_135 : decode cX0_behind 135 = .ok (.invokevirtual 151, 3) := dk_182 0 151 (dk_at dksX0_behind_5 18 rfl rfl)
theorem dX0_behind_138 : decode cX0_behind 138 = .ok (.ireturn, 1) := dk_172 (dk_at dksX0_behind_5 21 rfl rfl)
abbrev cX0_emptyPurses : ByteArray := prog_1_method_50_code
def yX0_emptyPurses : MethodName := ⟨RX0, "emptyPurses", "()I"⟩
def dkwX0_emptyPurses_1 : List UInt8 := [46, 154, 0, 7, 4, 167, 0, 4, 3, 96, 60, 132, 2, 1, 167, 255, 222, 27, 172]
abbrev dktX0_emptyPurses_1 : List UInt8 := dkwX0_emptyPurses_1 ++ []
def dkwX0_emptyPurses_0 : List UInt8 := [3, 60, 3, 61, 28, 42, 180, 0, 77, 180, 0, 189, 162, 0, 29, 27, 42, 180, 0, 77, 180, 1, 0, 28]
abbrev dktX0_emptyPurses_0 : List UInt8 := dkwX0_emptyPurses_0 ++ dktX0_emptyPurses_1
theorem dksX0_emptyPurses_0 : cX0_emptyPurses.data.toList.drop 0 = dktX0_emptyPurses_0 := by decide +kernel
theorem dksX0_emptyPurses_1 : cX0_emptyPurses.data.toList.drop 24 = dktX0_emptyPurses_1 := dk_seg dksX0_emptyPurses_0 24 rfl rfl
theorem dX0_emptyPurses_0 : decode cX0_emptyPurses 0 = .ok (.iconst 0, 1) := dk_3 (dk_at dksX0_emptyPurses_0 0 rfl rfl)
theorem dX0_emptyPurses_1 : decode cX0_emptyPurses 1 = .ok (.istore_n 1, 1) := dk_60 (dk_at dksX0_emptyPurses_0 1 rfl rfl)
theorem dX0_emptyPurses_2 : decode cX0_emptyPurses 2 = .ok (.iconst 0, 1) := dk_3 (dk_at dksX0_emptyPurses_0 2 rfl rfl)
theorem dX0_emptyPurses_3 : decode cX0_emptyPurses 3 = .ok (.istore_n 2, 1) := dk_61 (dk_at dksX0_emptyPurses_0 3 rfl rfl)
theorem dX0_emptyPurses_4 : decode cX0_emptyPurses 4 = .ok (.iload_n 2, 1) := dk_28 (dk_at dksX0_emptyPurses_0 4 rfl rfl)
theorem dX0_emptyPurses_5 : decode cX0_emptyPurses 5 = .ok (.aload_n 0, 1) := dk_42 (dk_at dksX0_emptyPurses_0 5 rfl rfl)
theorem dX0_emptyPurses_6 : decode cX0_emptyPurses 6 = .ok (.getfield 77, 3) := dk_180 0 77 (dk_at dksX0_emptyPurses_0 6 rfl rfl)
theorem dX0_emptyPurses_9 : decode cX0_emptyPurses 9 = .ok (.getfield 189, 3) := dk_180 0 189 (dk_at dksX0_emptyPurses_0 9 rfl rfl)
theorem dX0_emptyPurses_12 : decode cX0_emptyPurses 12 = .ok (.if_icmp .ge 29, 3) := dk_162 0 29 (dk_at dksX0_emptyPurses_0 12 rfl rfl)
theorem dX0_emptyPurses_15 : decode cX0_emptyPurses 15 = .ok (.iload_n 1, 1) := dk_27 (dk_at dksX0_emptyPurses_0 15 rfl rfl)
theorem dX0_emptyPurses_16 : decode cX0_emptyPurses 16 = .ok (.aload_n 0, 1) := dk_42 (dk_at dksX0_emptyPurses_0 16 rfl rfl)
theorem dX0_emptyPurses_17 : decode cX0_emptyPurses 17 = .ok (.getfield 77, 3) := dk_180 0 77 (dk_at dksX0_emptyPurses_0 17 rfl rfl)
theorem dX0_emptyPurses_20 : decode cX0_emptyPurses 20 = .ok (.getfield 256, 3) := dk_180 1 0 (dk_at dksX0_emptyPurses_0 20 rfl rfl)
theorem dX0_emptyPurses_23 : decode cX0_emptyPurses 23 = .ok (.iload_n 2, 1) := dk_28 (dk_at dksX0_emptyPurses_0 23 rfl rfl)
theorem dX0_emptyPurses_24 : decode cX0_emptyPurses 24 = .ok (.iaload, 1) := dk_46 (dk_at dksX0_emptyPurses_1 0 rfl rfl)
theorem dX0_emptyPurses_25 : decode cX0_emptyPurses 25 = .ok (.ifCond .ne 7, 3) := dk_154 0 7 (dk_at dksX0_emptyPurses_1 1 rfl rfl)
theorem dX0_emptyPurses_28 : decode cX0_emptyPurses 28 = .ok (.iconst 1, 1) := dk_4 (dk_at dksX0_emptyPurses_1 4 rfl rfl)
theorem dX0_emptyPurses_29 : decode cX0_emptyPurses 29 = .ok (.goto 4, 3) := dk_167 0 4 (dk_at dksX0_emptyPurses_1 5 rfl rfl)
theorem dX0_emptyPurses_32 : decode cX0_emptyPurses 32 = .ok (.iconst 0, 1) := dk_3 (dk_at dksX0_emptyPurses_1 8 rfl rfl)
theorem dX0_emptyPurses_33 : decode cX0_emptyPurses 33 = .ok (.iadd, 1) := dk_96 (dk_at dksX0_emptyPurses_1 9 rfl rfl)
theorem dX0_emptyPurses_34 : decode cX0_emptyPurses 34 = .ok (.istore_n 1, 1) := dk_60 (dk_at dksX0_emptyPurses_1 10 rfl rfl)
theorem dX0_emptyPurses_35 : decode cX0_emptyPurses 35 = .ok (.iinc 2 1, 3) := dk_132 2 1 (dk_at dksX0_emptyPurses_1 11 rfl rfl)
theorem dX0_emptyPurses_38 : decode cX0_emptyPurses 38 = .ok (.goto (-34), 3) := dk_167 255 222 (dk_at dksX0_emptyPurses_1 14 rfl rfl)
theorem dX0_emptyPurses_41 : decode cX0_emptyPurses 41 = .ok (.iload_n 1, 1) := dk_27 (dk_at dksX0_emptyPurses_1 17 rfl rfl)
theorem dX0_emptyPurses_42 : decode cX0_emptyPurses 42 = .ok (.ireturn, 1) := dk_172 (dk_at dksX0_emptyPurses_1 18 rfl rfl)
abbrev cX0_done : ByteArray := prog_1_method_52_code
def yX0_done : MethodName := ⟨RX0, "done", "(II)I"⟩
def dkwX0_done_3 : List UInt8 := [96, 181, 1, 133, 42, 180, 0, 88, 180, 1, 130, 172, 78, 42, 45, 182, 0, 151, 172]
abbrev dktX0_done_3 : List UInt8 := dkwX0_done_3 ++ []
def dkwX0_done_2 : List UInt8 := [180, 0, 88, 89, 180, 1, 130, 42, 180, 1, 111, 96, 181, 1, 130, 42, 180, 0, 88, 89, 180, 1, 133, 4]
abbrev dktX0_done_2 : List UInt8 := dkwX0_done_2 ++ dktX0_done_3
def dkwX0_done_1 : List UInt8 := [167, 0, 4, 3, 16, 250, 184, 0, 105, 42, 180, 0, 88, 42, 180, 0, 77, 182, 1, 9, 87, 42]
abbrev dktX0_done_1 : List UInt8 := dkwX0_done_1 ++ dktX0_done_2
def dkwX0_done_0 : List UInt8 := [42, 27, 28, 182, 1, 120, 78, 28, 16, 40, 163, 0, 17, 42, 45, 28, 182, 1, 123, 2, 160, 0, 7, 4]
abbrev dktX0_done_0 : List UInt8 := dkwX0_done_0 ++ dktX0_done_1
theorem dksX0_done_0 : cX0_done.data.toList.drop 0 = dktX0_done_0 := by decide +kernel
theorem dksX0_done_1 : cX0_done.data.toList.drop 24 = dktX0_done_1 := dk_seg dksX0_done_0 24 rfl rfl
theorem dksX0_done_2 : cX0_done.data.toList.drop 46 = dktX0_done_2 := dk_seg dksX0_done_1 22 rfl rfl
theorem dksX0_done_3 : cX0_done.data.toList.drop 70 = dktX0_done_3 := dk_seg dksX0_done_2 24 rfl rfl
theorem dX0_done_0 : decode cX0_done 0 = .ok (.aload_n 0, 1) := dk_42 (dk_at dksX0_done_0 0 rfl rfl)
theorem dX0_done_1 : decode cX0_done 1 = .ok (.iload_n 1, 1) := dk_27 (dk_at dksX0_done_0 1 rfl rfl)
theorem dX0_done_2 : decode cX0_done 2 = .ok (.iload_n 2, 1) := dk_28 (dk_at dksX0_done_0 2 rfl rfl)
theorem dX0_done_3 : decode cX0_done 3 = .ok (.invokevirtual 376, 3) := dk_182 1 120 (dk_at dksX0_done_0 3 rfl rfl)
theorem dX0_done_6 : decode cX0_done 6 = .ok (.astore_n 3, 1) := dk_78 (dk_at dksX0_done_0 6 rfl rfl)
theorem dX0_done_7 : decode cX0_done 7 = .ok (.iload_n 2, 1) := dk_28 (dk_at dksX0_done_0 7 rfl rfl)
theorem dX0_done_8 : decode cX0_done 8 = .ok (.bipush 40, 2) := dk_16 40 (dk_at dksX0_done_0 8 rfl rfl)
theorem dX0_done_10 : decode cX0_done 10 = .ok (.if_icmp .gt 17, 3) := dk_163 0 17 (dk_at dksX0_done_0 10 rfl rfl)
theorem dX0_done_13 : decode cX0_done 13 = .ok (.aload_n 0, 1) := dk_42 (dk_at dksX0_done_0 13 rfl rfl)
theorem dX0_done_14 : decode cX0_done 14 = .ok (.aload_n 3, 1) := dk_45 (dk_at dksX0_done_0 14 rfl rfl)
theorem dX0_done_15 : decode cX0_done 15 = .ok (.iload_n 2, 1) := dk_28 (dk_at dksX0_done_0 15 rfl rfl)
theorem dX0_done_16 : decode cX0_done 16 = .ok (.invokevirtual 379, 3) := dk_182 1 123 (dk_at dksX0_done_0 16 rfl rfl)
theorem dX0_done_19 : decode cX0_done 19 = .ok (.iconst (-1), 1) := dk_2 (dk_at dksX0_done_0 19 rfl rfl)
theorem dX0_done_20 : decode cX0_done 20 = .ok (.if_icmp .ne 7, 3) := dk_160 0 7 (dk_at dksX0_done_0 20 rfl rfl)
theorem dX0_done_23 : decode cX0_done 23 = .ok (.iconst 1, 1) := dk_4 (dk_at dksX0_done_0 23 rfl rfl)
theorem dX0_done_24 : decode cX0_done 24 = .ok (.goto 4, 3) := dk_167 0 4 (dk_at dksX0_done_1 0 rfl rfl)
theorem dX0_done_27 : decode cX0_done 27 = .ok (.iconst 0, 1) := dk_3 (dk_at dksX0_done_1 3 rfl rfl)
theorem dX0_done_28 : decode cX0_done 28 = .ok (.bipush (-6), 2) := dk_16 250 (dk_at dksX0_done_1 4 rfl rfl)
theorem dX0_done_30 : decode cX0_done 30 = .ok (.invokestatic 105, 3) := dk_184 0 105 (dk_at dksX0_done_1 6 rfl rfl)
theorem dX0_done_33 : decode cX0_done 33 = .ok (.aload_n 0, 1) := dk_42 (dk_at dksX0_done_1 9 rfl rfl)
theorem dX0_done_34 : decode cX0_done 34 = .ok (.getfield 88, 3) := dk_180 0 88 (dk_at dksX0_done_1 10 rfl rfl)
theorem dX0_done_37 : decode cX0_done 37 = .ok (.aload_n 0, 1) := dk_42 (dk_at dksX0_done_1 13 rfl rfl)
theorem dX0_done_38 : decode cX0_done 38 = .ok (.getfield 77, 3) := dk_180 0 77 (dk_at dksX0_done_1 14 rfl rfl)
theorem dX0_done_41 : decode cX0_done 41 = .ok (.invokevirtual 265, 3) := dk_182 1 9 (dk_at dksX0_done_1 17 rfl rfl)
theorem dX0_done_44 : decode cX0_done 44 = .ok (.pop, 1) := dk_87 (dk_at dksX0_done_1 20 rfl rfl)
theorem dX0_done_45 : decode cX0_done 45 = .ok (.aload_n 0, 1) := dk_42 (dk_at dksX0_done_1 21 rfl rfl)
theorem dX0_done_46 : decode cX0_done 46 = .ok (.getfield 88, 3) := dk_180 0 88 (dk_at dksX0_done_2 0 rfl rfl)
theorem dX0_done_49 : decode cX0_done 49 = .ok (.dup, 1) := dk_89 (dk_at dksX0_done_2 3 rfl rfl)
theorem dX0_done_50 : decode cX0_done 50 = .ok (.getfield 386, 3) := dk_180 1 130 (dk_at dksX0_done_2 4 rfl rfl)
theorem dX0_done_53 : decode cX0_done 53 = .ok (.aload_n 0, 1) := dk_42 (dk_at dksX0_done_2 7 rfl rfl)
theorem dX0_done_54 : decode cX0_done 54 = .ok (.getfield 367, 3) := dk_180 1 111 (dk_at dksX0_done_2 8 rfl rfl)
theorem dX0_done_57 : decode cX0_done 57 = .ok (.iadd, 1) := dk_96 (dk_at dksX0_done_2 11 rfl rfl)
theorem dX0_done_58 : decode cX0_done 58 = .ok (.putfield 386, 3) := dk_181 1 130 (dk_at dksX0_done_2 12 rfl rfl)
theorem dX0_done_61 : decode cX0_done 61 = .ok (.aload_n 0, 1) := dk_42 (dk_at dksX0_done_2 15 rfl rfl)
theorem dX0_done_62 : decode cX0_done 62 = .ok (.getfield 88, 3) := dk_180 0 88 (dk_at dksX0_done_2 16 rfl rfl)
theorem dX0_done_65 : decode cX0_done 65 = .ok (.dup, 1) := dk_89 (dk_at dksX0_done_2 19 rfl rfl)
theorem dX0_done_66 : decode cX0_done 66 = .ok (.getfield 389, 3) := dk_180 1 133 (dk_at dksX0_done_2 20 rfl rfl)
theorem dX0_done_69 : decode cX0_done 69 = .ok (.iconst 1, 1) := dk_4 (dk_at dksX0_done_2 23 rfl rfl)
theorem dX0_done_70 : decode cX0_done 70 = .ok (.iadd, 1) := dk_96 (dk_at dksX0_done_3 0 rfl rfl)
theorem dX0_done_71 : decode cX0_done 71 = .ok (.putfield 389, 3) := dk_181 1 133 (dk_at dksX0_done_3 1 rfl rfl)
theorem dX0_done_74 : decode cX0_done 74 = .ok (.aload_n 0, 1) := dk_42 (dk_at dksX0_done_3 4 rfl rfl)
theorem dX0_done_75 : decode cX0_done 75 = .ok (.getfield 88, 3) := dk_180 0 88 (dk_at dksX0_done_3 5 rfl rfl)
theorem dX0_done_78 : decode cX0_done 78 = .ok (.getfield 386, 3) := dk_180 1 130 (dk_at dksX0_done_3 8 rfl rfl)
theorem dX0_done_81 : decode cX0_done 81 = .ok (.ireturn, 1) := dk_172 (dk_at dksX0_done_3 11 rfl rfl)
theorem dX0_done_82 : decode cX0_done 82 = .ok (.astore_n 3, 1) := dk_78 (dk_at dksX0_done_3 12 rfl rfl)
theorem dX0_done_83 : decode cX0_done 83 = .ok (.aload_n 0, 1) := dk_42 (dk_at dksX0_done_3 13 rfl rfl)
theorem dX0_done_84 : decode cX0_done 84 = .ok (.aload_n 3, 1) := dk_45 (dk_at dksX0_done_3 14 rfl rfl)
theorem dX0_done_85 : decode cX0_done 85 = .ok (.invokevirtual 151, 3) := dk_182 0 151 (dk_at dksX0_done_3 15 rfl rfl)
theorem dX0_done_88 : decode cX0_done 88 = .ok (.ireturn, 1) := dk_172 (dk_at dksX0_done_3 18 rfl rfl)
abbrev cX0_hours : ByteArray := prog_1_method_54_code
def yX0_hours : MethodName := ⟨RX0, "hours", "(I)I"⟩
def dkwX0_hours_1 : List UInt8 := [182, 1, 141, 132, 2, 1, 167, 255, 244, 42, 180, 0, 88, 180, 1, 130, 172, 77, 42, 44, 182, 0, 151, 172]
abbrev dktX0_hours_1 : List UInt8 := dkwX0_hours_1 ++ []
def dkwX0_hours_0 : List UInt8 := [27, 133, 10, 20, 1, 139, 184, 0, 143, 16, 250, 184, 0, 105, 3, 61, 28, 27, 162, 0, 13, 42]
abbrev dktX0_hours_0 : List UInt8 := dkwX0_hours_0 ++ dktX0_hours_1
theorem dksX0_hours_0 : cX0_hours.data.toList.drop 0 = dktX0_hours_0 := by decide +kernel
theorem dksX0_hours_1 : cX0_hours.data.toList.drop 22 = dktX0_hours_1 := dk_seg dksX0_hours_0 22 rfl rfl
theorem dX0_hours_0 : decode cX0_hours 0 = .ok (.iload_n 1, 1) := dk_27 (dk_at dksX0_hours_0 0 rfl rfl)
theorem dX0_hours_1 : decode cX0_hours 1 = .ok (.i2l, 1) := dk_133 (dk_at dksX0_hours_0 1 rfl rfl)
theorem dX0_hours_2 : decode cX0_hours 2 = .ok (.lconst 1, 1) := dk_10 (dk_at dksX0_hours_0 2 rfl rfl)
theorem dX0_hours_3 : decode cX0_hours 3 = .ok (.ldc2_w 395, 3) := dk_20 1 139 (dk_at dksX0_hours_0 3 rfl rfl)
theorem dX0_hours_6 : decode cX0_hours 6 = .ok (.invokestatic 143, 3) := dk_184 0 143 (dk_at dksX0_hours_0 6 rfl rfl)
theorem dX0_hours_9 : decode cX0_hours 9 = .ok (.bipush (-6), 2) := dk_16 250 (dk_at dksX0_hours_0 9 rfl rfl)
theorem dX0_hours_11 : decode cX0_hours 11 = .ok (.invokestatic 105, 3) := dk_184 0 105 (dk_at dksX0_hours_0 11 rfl rfl)
theorem dX0_hours_14 : decode cX0_hours 14 = .ok (.iconst 0, 1) := dk_3 (dk_at dksX0_hours_0 14 rfl rfl)
theorem dX0_hours_15 : decode cX0_hours 15 = .ok (.istore_n 2, 1) := dk_61 (dk_at dksX0_hours_0 15 rfl rfl)
theorem dX0_hours_16 : decode cX0_hours 16 = .ok (.iload_n 2, 1) := dk_28 (dk_at dksX0_hours_0 16 rfl rfl)
theorem dX0_hours_17 : decode cX0_hours 17 = .ok (.iload_n 1, 1) := dk_27 (dk_at dksX0_hours_0 17 rfl rfl)
theorem dX0_hours_18 : decode cX0_hours 18 = .ok (.if_icmp .ge 13, 3) := dk_162 0 13 (dk_at dksX0_hours_0 18 rfl rfl)
theorem dX0_hours_21 : decode cX0_hours 21 = .ok (.aload_n 0, 1) := dk_42 (dk_at dksX0_hours_0 21 rfl rfl)
theorem dX0_hours_22 : decode cX0_hours 22 = .ok (.invokevirtual 397, 3) := dk_182 1 141 (dk_at dksX0_hours_1 0 rfl rfl)
theorem dX0_hours_25 : decode cX0_hours 25 = .ok (.iinc 2 1, 3) := dk_132 2 1 (dk_at dksX0_hours_1 3 rfl rfl)
theorem dX0_hours_28 : decode cX0_hours 28 = .ok (.goto (-12), 3) := dk_167 255 244 (dk_at dksX0_hours_1 6 rfl rfl)
theorem dX0_hours_31 : decode cX0_hours 31 = .ok (.aload_n 0, 1) := dk_42 (dk_at dksX0_hours_1 9 rfl rfl)
theorem dX0_hours_32 : decode cX0_hours 32 = .ok (.getfield 88, 3) := dk_180 0 88 (dk_at dksX0_hours_1 10 rfl rfl)
theorem dX0_hours_35 : decode cX0_hours 35 = .ok (.getfield 386, 3) := dk_180 1 130 (dk_at dksX0_hours_1 13 rfl rfl)
theorem dX0_hours_38 : decode cX0_hours 38 = .ok (.ireturn, 1) := dk_172 (dk_at dksX0_hours_1 16 rfl rfl)
theorem dX0_hours_39 : decode cX0_hours 39 = .ok (.astore_n 2, 1) := dk_77 (dk_at dksX0_hours_1 17 rfl rfl)
theorem dX0_hours_40 : decode cX0_hours 40 = .ok (.aload_n 0, 1) := dk_42 (dk_at dksX0_hours_1 18 rfl rfl)
theorem dX0_hours_41 : decode cX0_hours 41 = .ok (.aload_n 2, 1) := dk_44 (dk_at dksX0_hours_1 19 rfl rfl)
theorem dX0_hours_42 : decode cX0_hours 42 = .ok (.invokevirtual 151, 3) := dk_182 0 151 (dk_at dksX0_hours_1 20 rfl rfl)
theorem dX0_hours_45 : decode cX0_hours 45 = .ok (.ireturn, 1) := dk_172 (dk_at dksX0_hours_1 23 rfl rfl)
abbrev cX0_goesHour : ByteArray := prog_1_method_53_code
def yX0_goesHour : MethodName := ⟨RX0, "goesHour", "()V"⟩
def dkwX0_goesHour_6 : List UInt8 := [167, 255, 222, 42, 180, 0, 88, 89, 180, 1, 133, 4, 96, 181, 1, 133, 177]
abbrev dktX0_goesHour_6 : List UInt8 := dkwX0_goesHour_6 ++ []
def dkwX0_goesHour_5 : List UInt8 := [42, 180, 0, 88, 89, 180, 1, 130, 42, 180, 0, 88, 27, 182, 1, 117, 96, 181, 1, 130, 132, 1, 1]
abbrev dktX0_goesHour_5 : List UInt8 := dkwX0_goesHour_5 ++ dktX0_goesHour_6
def dkwX0_goesHour_4 : List UInt8 := [167, 0, 4, 29, 79, 132, 1, 1, 167, 255, 179, 3, 60, 27, 42, 180, 0, 88, 180, 0, 189, 162, 0, 29]
abbrev dktX0_goesHour_4 : List UInt8 := dkwX0_goesHour_4 ++ dktX0_goesHour_5
def dkwX0_goesHour_3 : List UInt8 := [62, 42, 180, 0, 88, 180, 0, 219, 27, 29, 2, 160, 0, 15, 42, 180, 0, 88, 180, 0, 219, 27, 46]
abbrev dktX0_goesHour_3 : List UInt8 := dkwX0_goesHour_3 ++ dktX0_goesHour_4
def dkwX0_goesHour_2 : List UInt8 := [162, 0, 23, 42, 180, 0, 88, 42, 180, 0, 88, 180, 0, 219, 27, 46, 28, 182, 1, 114, 167, 0, 4, 2]
abbrev dktX0_goesHour_2 : List UInt8 := dkwX0_goesHour_2 ++ dktX0_goesHour_3
def dkwX0_goesHour_1 : List UInt8 := [60, 27, 42, 180, 0, 88, 180, 0, 189, 162, 0, 72, 42, 180, 0, 88, 8, 182, 1, 136, 61, 28, 7]
abbrev dktX0_goesHour_1 : List UInt8 := dkwX0_goesHour_1 ++ dktX0_goesHour_2
def dkwX0_goesHour_0 : List UInt8 := [42, 180, 0, 88, 42, 180, 0, 88, 7, 182, 1, 136, 154, 0, 7, 4, 167, 0, 4, 3, 181, 0, 233, 3]
abbrev dktX0_goesHour_0 : List UInt8 := dkwX0_goesHour_0 ++ dktX0_goesHour_1
theorem dksX0_goesHour_0 : cX0_goesHour.data.toList.drop 0 = dktX0_goesHour_0 := by decide +kernel
theorem dksX0_goesHour_1 : cX0_goesHour.data.toList.drop 24 = dktX0_goesHour_1 := dk_seg dksX0_goesHour_0 24 rfl rfl
theorem dksX0_goesHour_2 : cX0_goesHour.data.toList.drop 47 = dktX0_goesHour_2 := dk_seg dksX0_goesHour_1 23 rfl rfl
theorem dksX0_goesHour_3 : cX0_goesHour.data.toList.drop 71 = dktX0_goesHour_3 := dk_seg dksX0_goesHour_2 24 rfl rfl
theorem dksX0_goesHour_4 : cX0_goesHour.data.toList.drop 94 = dktX0_goesHour_4 := dk_seg dksX0_goesHour_3 23 rfl rfl
theorem dksX0_goesHour_5 : cX0_goesHour.data.toList.drop 118 = dktX0_goesHour_5 := dk_seg dksX0_goesHour_4 24 rfl rfl
theorem dksX0_goesHour_6 : cX0_goesHour.data.toList.drop 141 = dktX0_goesHour_6 := dk_seg dksX0_goesHour_5 23 rfl rfl
theorem dX0_goesHour_0 : decode cX0_goesHour 0 = .ok (.aload_n 0, 1) := dk_42 (dk_at dksX0_goesHour_0 0 rfl rfl)
theorem dX0_goesHour_1 : decode cX0_goesHour 1 = .ok (.getfield 88, 3) := dk_180 0 88 (dk_at dksX0_goesHour_0 1 rfl rfl)
theorem dX0_goesHour_4 : decode cX0_goesHour 4 = .ok (.aload_n 0, 1) := dk_42 (dk_at dksX0_goesHour_0 4 rfl rfl)
theorem dX0_goesHour_5 : decode cX0_goesHour 5 = .ok (.getfield 88, 3) := dk_180 0 88 (dk_at dksX0_goesHour_0 5 rfl rfl)
theorem dX0_goesHour_8 : decode cX0_goesHour 8 = .ok (.iconst 4, 1) := dk_7 (dk_at dksX0_goesHour_0 8 rfl rfl)
theorem dX0_goesHour_9 : decode cX0_goesHour 9 = .ok (.invokevirtual 392, 3) := dk_182 1 136 (dk_at dksX0_goesHour_0 9 rfl rfl)
theorem dX0_goesHour_12 : decode cX0_goesHour 12 = .ok (.ifCond .ne 7, 3) := dk_154 0 7 (dk_at dksX0_goesHour_0 12 rfl rfl)
theorem dX0_goesHour_15 : decode cX0_goesHour 15 = .ok (.iconst 1, 1) := dk_4 (dk_at dksX0_goesHour_0 15 rfl rfl)
theorem dX0_goesHour_16 : decode cX0_goesHour 16 = .ok (.goto 4, 3) := dk_167 0 4 (dk_at dksX0_goesHour_0 16 rfl rfl)
theorem dX0_goesHour_19 : decode cX0_goesHour 19 = .ok (.iconst 0, 1) := dk_3 (dk_at dksX0_goesHour_0 19 rfl rfl)
theorem dX0_goesHour_20 : decode cX0_goesHour 20 = .ok (.putfield 233, 3) := dk_181 0 233 (dk_at dksX0_goesHour_0 20 rfl rfl)
theorem dX0_goesHour_23 : decode cX0_goesHour 23 = .ok (.iconst 0, 1) := dk_3 (dk_at dksX0_goesHour_0 23 rfl rfl)
theorem dX0_goesHour_24 : decode cX0_goesHour 24 = .ok (.istore_n 1, 1) := dk_60 (dk_at dksX0_goesHour_1 0 rfl rfl)
theorem dX0_goesHour_25 : decode cX0_goesHour 25 = .ok (.iload_n 1, 1) := dk_27 (dk_at dksX0_goesHour_1 1 rfl rfl)
theorem dX0_goesHour_26 : decode cX0_goesHour 26 = .ok (.aload_n 0, 1) := dk_42 (dk_at dksX0_goesHour_1 2 rfl rfl)
theorem dX0_goesHour_27 : decode cX0_goesHour 27 = .ok (.getfield 88, 3) := dk_180 0 88 (dk_at dksX0_goesHour_1 3 rfl rfl)
theorem dX0_goesHour_30 : decode cX0_goesHour 30 = .ok (.getfield 189, 3) := dk_180 0 189 (dk_at dksX0_goesHour_1 6 rfl rfl)
theorem dX0_goesHour_33 : decode cX0_goesHour 33 = .ok (.if_icmp .ge 72, 3) := dk_162 0 72 (dk_at dksX0_goesHour_1 9 rfl rfl)
theorem dX0_goesHour_36 : decode cX0_goesHour 36 = .ok (.aload_n 0, 1) := dk_42 (dk_at dksX0_goesHour_1 12 rfl rfl)
theorem dX0_goesHour_37 : decode cX0_goesHour 37 = .ok (.getfield 88, 3) := dk_180 0 88 (dk_at dksX0_goesHour_1 13 rfl rfl)
theorem dX0_goesHour_40 : decode cX0_goesHour 40 = .ok (.iconst 5, 1) := dk_8 (dk_at dksX0_goesHour_1 16 rfl rfl)
theorem dX0_goesHour_41 : decode cX0_goesHour 41 = .ok (.invokevirtual 392, 3) := dk_182 1 136 (dk_at dksX0_goesHour_1 17 rfl rfl)
theorem dX0_goesHour_44 : decode cX0_goesHour 44 = .ok (.istore_n 2, 1) := dk_61 (dk_at dksX0_goesHour_1 20 rfl rfl)
theorem dX0_goesHour_45 : decode cX0_goesHour 45 = .ok (.iload_n 2, 1) := dk_28 (dk_at dksX0_goesHour_1 21 rfl rfl)
theorem dX0_goesHour_46 : decode cX0_goesHour 46 = .ok (.iconst 4, 1) := dk_7 (dk_at dksX0_goesHour_1 22 rfl rfl)
theorem dX0_goesHour_47 : decode cX0_goesHour 47 = .ok (.if_icmp .ge 23, 3) := dk_162 0 23 (dk_at dksX0_goesHour_2 0 rfl rfl)
theorem dX0_goesHour_50 : decode cX0_goesHour 50 = .ok (.aload_n 0, 1) := dk_42 (dk_at dksX0_goesHour_2 3 rfl rfl)
theorem dX0_goesHour_51 : decode cX0_goesHour 51 = .ok (.getfield 88, 3) := dk_180 0 88 (dk_at dksX0_goesHour_2 4 rfl rfl)
theorem dX0_goesHour_54 : decode cX0_goesHour 54 = .ok (.aload_n 0, 1) := dk_42 (dk_at dksX0_goesHour_2 7 rfl rfl)
theorem dX0_goesHour_55 : decode cX0_goesHour 55 = .ok (.getfield 88, 3) := dk_180 0 88 (dk_at dksX0_goesHour_2 8 rfl rfl)
theorem dX0_goesHour_58 : decode cX0_goesHour 58 = .ok (.getfield 219, 3) := dk_180 0 219 (dk_at dksX0_goesHour_2 11 rfl rfl)
theorem dX0_goesHour_61 : decode cX0_goesHour 61 = .ok (.iload_n 1, 1) := dk_27 (dk_at dksX0_goesHour_2 14 rfl rfl)
theorem dX0_goesHour_62 : decode cX0_goesHour 62 = .ok (.iaload, 1) := dk_46 (dk_at dksX0_goesHour_2 15 rfl rfl)
theorem dX0_goesHour_63 : decode cX0_goesHour 63 = .ok (.iload_n 2, 1) := dk_28 (dk_at dksX0_goesHour_2 16 rfl rfl)
theorem dX0_goesHour_64 : decode cX0_goesHour 64 = .ok (.invokevirtual 370, 3) := dk_182 1 114 (dk_at dksX0_goesHour_2 17 rfl rfl)
theorem dX0_goesHour_67 : decode cX0_goesHour 67 = .ok (.goto 4, 3) := dk_167 0 4 (dk_at dksX0_goesHour_2 20 rfl rfl)
theorem dX0_goesHour_70 : decode cX0_goesHour 70 = .ok (.iconst (-1), 1) := dk_2 (dk_at dksX0_goesHour_2 23 rfl rfl)
theorem dX0_goesHour_71 : decode cX0_goesHour 71 = .ok (.istore_n 3, 1) := dk_62 (dk_at dksX0_goesHour_3 0 rfl rfl)
theorem dX0_goesHour_72 : decode cX0_goesHour 72 = .ok (.aload_n 0, 1) := dk_42 (dk_at dksX0_goesHour_3 1 rfl rfl)
theorem dX0_goesHour_73 : decode cX0_goesHour 73 = .ok (.getfield 88, 3) := dk_180 0 88 (dk_at dksX0_goesHour_3 2 rfl rfl)
theorem dX0_goesHour_76 : decode cX0_goesHour 76 = .ok (.getfield 219, 3) := dk_180 0 219 (dk_at dksX0_goesHour_3 5 rfl rfl)
theorem dX0_goesHour_79 : decode cX0_goesHour 79 = .ok (.iload_n 1, 1) := dk_27 (dk_at dksX0_goesHour_3 8 rfl rfl)
theorem dX0_goesHour_80 : decode cX0_goesHour 80 = .ok (.iload_n 3, 1) := dk_29 (dk_at dksX0_goesHour_3 9 rfl rfl)
theorem dX0_goesHour_81 : decode cX0_goesHour 81 = .ok (.iconst (-1), 1) := dk_2 (dk_at dksX0_goesHour_3 10 rfl rfl)
theorem dX0_goesHour_82 : decode cX0_goesHour 82 = .ok (.if_icmp .ne 15, 3) := dk_160 0 15 (dk_at dksX0_goesHour_3 11 rfl rfl)
theorem dX0_goesHour_85 : decode cX0_goesHour 85 = .ok (.aload_n 0, 1) := dk_42 (dk_at dksX0_goesHour_3 14 rfl rfl)
theorem dX0_goesHour_86 : decode cX0_goesHour 86 = .ok (.getfield 88, 3) := dk_180 0 88 (dk_at dksX0_goesHour_3 15 rfl rfl)
theorem dX0_goesHour_89 : decode cX0_goesHour 89 = .ok (.getfield 219, 3) := dk_180 0 219 (dk_at dksX0_goesHour_3 18 rfl rfl)
theorem dX0_goesHour_92 : decode cX0_goesHour 92 = .ok (.iload_n 1, 1) := dk_27 (dk_at dksX0_goesHour_3 21 rfl rfl)
theorem dX0_goesHour_93 : decode cX0_goesHour 93 = .ok (.iaload, 1) := dk_46 (dk_at dksX0_goesHour_3 22 rfl rfl)
theorem dX0_goesHour_94 : decode cX0_goesHour 94 = .ok (.goto 4, 3) := dk_167 0 4 (dk_at dksX0_goesHour_4 0 rfl rfl)
theorem dX0_goesHour_97 : decode cX0_goesHour 97 = .ok (.iload_n 3, 1) := dk_29 (dk_at dksX0_goesHour_4 3 rfl rfl)
theorem dX0_goesHour_98 : decode cX0_goesHour 98 = .ok (.iastore, 1) := dk_79 (dk_at dksX0_goesHour_4 4 rfl rfl)
theorem dX0_goesHour_99 : decode cX0_goesHour 99 = .ok (.iinc 1 1, 3) := dk_132 1 1 (dk_at dksX0_goesHour_4 5 rfl rfl)
theorem dX0_goesHour_102 : decode cX0_goesHour 102 = .ok (.goto (-77), 3) := dk_167 255 179 (dk_at dksX0_goesHour_4 8 rfl rfl)
theorem dX0_goesHour_105 : decode cX0_goesHour 105 = .ok (.iconst 0, 1) := dk_3 (dk_at dksX0_goesHour_4 11 rfl rfl)
theorem dX0_goesHour_106 : decode cX0_goesHour 106 = .ok (.istore_n 1, 1) := dk_60 (dk_at dksX0_goesHour_4 12 rfl rfl)
theorem dX0_goesHour_107 : decode cX0_goesHour 107 = .ok (.iload_n 1, 1) := dk_27 (dk_at dksX0_goesHour_4 13 rfl rfl)
theorem dX0_goesHour_108 : decode cX0_goesHour 108 = .ok (.aload_n 0, 1) := dk_42 (dk_at dksX0_goesHour_4 14 rfl rfl)
theorem dX0_goesHour_109 : decode cX0_goesHour 109 = .ok (.getfield 88, 3) := dk_180 0 88 (dk_at dksX0_goesHour_4 15 rfl rfl)
theorem dX0_goesHour_112 : decode cX0_goesHour 112 = .ok (.getfield 189, 3) := dk_180 0 189 (dk_at dksX0_goesHour_4 18 rfl rfl)
theorem dX0_goesHour_115 : decode cX0_goesHour 115 = .ok (.if_icmp .ge 29, 3) := dk_162 0 29 (dk_at dksX0_goesHour_4 21 rfl rfl)
theorem dX0_goesHour_118 : decode cX0_goesHour 118 = .ok (.aload_n 0, 1) := dk_42 (dk_at dksX0_goesHour_5 0 rfl rfl)
theorem dX0_goesHour_119 : decode cX0_goesHour 119 = .ok (.getfield 88, 3) := dk_180 0 88 (dk_at dksX0_goesHour_5 1 rfl rfl)
theorem dX0_goesHour_122 : decode cX0_goesHour 122 = .ok (.dup, 1) := dk_89 (dk_at dksX0_goesHour_5 4 rfl rfl)
theorem dX0_goesHour_123 : decode cX0_goesHour 123 = .ok (.getfield 386, 3) := dk_180 1 130 (dk_at dksX0_goesHour_5 5 rfl rfl)
theorem dX0_goesHour_126 : decode cX0_goesHour 126 = .ok (.aload_n 0, 1) := dk_42 (dk_at dksX0_goesHour_5 8 rfl rfl)
theorem dX0_goesHour_127 : decode cX0_goesHour 127 = .ok (.getfield 88, 3) := dk_180 0 88 (dk_at dksX0_goesHour_5 9 rfl rfl)
theorem dX0_goesHour_130 : decode cX0_goesHour 130 = .ok (.iload_n 1, 1) := dk_27 (dk_at dksX0_goesHour_5 12 rfl rfl)
theorem dX0_goesHour_131 : decode cX0_goesHour 131 = .ok (.invokevirtual 373, 3) := dk_182 1 117 (dk_at dksX0_goesHour_5 13 rfl rfl)
theorem dX0_goesHour_134 : decode cX0_goesHour 134 = .ok (.iadd, 1) := dk_96 (dk_at dksX0_goesHour_5 16 rfl rfl)
theorem dX0_goesHour_135 : decode cX0_goesHour 135 = .ok (.putfield 386, 3) := dk_181 1 130 (dk_at dksX0_goesHour_5 17 rfl rfl)
theorem dX0_goesHour_138 : decode cX0_goesHour 138 = .ok (.iinc 1 1, 3) := dk_132 1 1 (dk_at dksX0_goesHour_5 20 rfl rfl)
theorem dX0_goesHour_141 : decode cX0_goesHour 141 = .ok (.goto (-34), 3) := dk_167 255 222 (dk_at dksX0_goesHour_6 0 rfl rfl)
theorem dX0_goesHour_144 : decode cX0_goesHour 144 = .ok (.aload_n 0, 1) := dk_42 (dk_at dksX0_goesHour_6 3 rfl rfl)
theorem dX0_goesHour_145 : decode cX0_goesHour 145 = .ok (.getfield 88, 3) := dk_180 0 88 (dk_at dksX0_goesHour_6 4 rfl rfl)
theorem dX0_goesHour_148 : decode cX0_goesHour 148 = .ok (.dup, 1) := dk_89 (dk_at dksX0_goesHour_6 7 rfl rfl)
theorem dX0_goesHour_149 : decode cX0_goesHour 149 = .ok (.getfield 389, 3) := dk_180 1 133 (dk_at dksX0_goesHour_6 8 rfl rfl)
theorem dX0_goesHour_152 : decode cX0_goesHour 152 = .ok (.iconst 1, 1) := dk_4 (dk_at dksX0_goesHour_6 11 rfl rfl)
theorem dX0_goesHour_153 : decode cX0_goesHour 153 = .ok (.iadd, 1) := dk_96 (dk_at dksX0_goesHour_6 12 rfl rfl)
theorem dX0_goesHour_154 : decode cX0_goesHour 154 = .ok (.putfield 389, 3) := dk_181 1 133 (dk_at dksX0_goesHour_6 13 rfl rfl)
theorem dX0_goesHour_157 : decode cX0_goesHour 157 = .ok (.return_, 1) := dk_177 (dk_at dksX0_goesHour_6 16 rfl rfl)
abbrev cX0_seed : ByteArray := prog_1_method_55_code
def yX0_seed : MethodName := ⟨RX0, "seed", "(I)I"⟩
def dkwX0_seed_0 : List UInt8 := [42, 180, 0, 88, 180, 1, 144, 61, 42, 180, 0, 88, 27, 181, 1, 144, 28, 172]
abbrev dktX0_seed_0 : List UInt8 := dkwX0_seed_0 ++ []
theorem dksX0_seed_0 : cX0_seed.data.toList.drop 0 = dktX0_seed_0 := by decide +kernel
theorem dX0_seed_0 : decode cX0_seed 0 = .ok (.aload_n 0, 1) := dk_42 (dk_at dksX0_seed_0 0 rfl rfl)
theorem dX0_seed_1 : decode cX0_seed 1 = .ok (.getfield 88, 3) := dk_180 0 88 (dk_at dksX0_seed_0 1 rfl rfl)
theorem dX0_seed_4 : decode cX0_seed 4 = .ok (.getfield 400, 3) := dk_180 1 144 (dk_at dksX0_seed_0 4 rfl rfl)
theorem dX0_seed_7 : decode cX0_seed 7 = .ok (.istore_n 2, 1) := dk_61 (dk_at dksX0_seed_0 7 rfl rfl)
theorem dX0_seed_8 : decode cX0_seed 8 = .ok (.aload_n 0, 1) := dk_42 (dk_at dksX0_seed_0 8 rfl rfl)
theorem dX0_seed_9 : decode cX0_seed 9 = .ok (.getfield 88, 3) := dk_180 0 88 (dk_at dksX0_seed_0 9 rfl rfl)
theorem dX0_seed_12 : decode cX0_seed 12 = .ok (.iload_n 1, 1) := dk_27 (dk_at dksX0_seed_0 12 rfl rfl)
theorem dX0_seed_13 : decode cX0_seed 13 = .ok (.putfield 400, 3) := dk_181 1 144 (dk_at dksX0_seed_0 13 rfl rfl)
theorem dX0_seed_16 : decode cX0_seed 16 = .ok (.iload_n 2, 1) := dk_28 (dk_at dksX0_seed_0 16 rfl rfl)
theorem dX0_seed_17 : decode cX0_seed 17 = .ok (.ireturn, 1) := dk_172 (dk_at dksX0_seed_0 17 rfl rfl)
abbrev cX0_act : ByteArray := prog_1_method_56_code
def yX0_act : MethodName := ⟨RX0, "act", "(III)I"⟩
def dkwX0_act_4 : List UInt8 := [29, 42, 180, 0, 70, 182, 1, 155, 172, 3, 172]
abbrev dktX0_act_4 : List UInt8 := dkwX0_act_4 ++ []
def dkwX0_act_3 : List UInt8 := [25, 4, 29, 42, 180, 0, 70, 182, 1, 148, 172, 25, 4, 29, 42, 180, 0, 70, 182, 1, 152, 172, 25, 4]
abbrev dktX0_act_3 : List UInt8 := dkwX0_act_3 ++ dktX0_act_4
def dkwX0_act_2 : List UInt8 := [170, 0, 0, 0, 0, 0, 60, 0, 0, 0, 0, 0, 0, 0, 2, 0, 0, 0, 27, 0, 0, 0, 38, 0, 0, 0, 49]
abbrev dktX0_act_2 : List UInt8 := dkwX0_act_2 ++ dktX0_act_3
def dkwX0_act_1 : List UInt8 := [180, 0, 88, 180, 0, 119, 27, 50, 58, 4, 28]
abbrev dktX0_act_1 : List UInt8 := dkwX0_act_1 ++ dktX0_act_2
def dkwX0_act_0 : List UInt8 := [42, 180, 0, 70, 3, 181, 1, 147, 42, 180, 0, 88, 27, 182, 0, 101, 154, 0, 5, 3, 172, 42]
abbrev dktX0_act_0 : List UInt8 := dkwX0_act_0 ++ dktX0_act_1
theorem dksX0_act_0 : cX0_act.data.toList.drop 0 = dktX0_act_0 := by decide +kernel
theorem dksX0_act_1 : cX0_act.data.toList.drop 22 = dktX0_act_1 := dk_seg dksX0_act_0 22 rfl rfl
theorem dksX0_act_2 : cX0_act.data.toList.drop 33 = dktX0_act_2 := dk_seg dksX0_act_1 11 rfl rfl
theorem dksX0_act_3 : cX0_act.data.toList.drop 60 = dktX0_act_3 := dk_seg dksX0_act_2 27 rfl rfl
theorem dksX0_act_4 : cX0_act.data.toList.drop 84 = dktX0_act_4 := dk_seg dksX0_act_3 24 rfl rfl
theorem dX0_act_0 : decode cX0_act 0 = .ok (.aload_n 0, 1) := dk_42 (dk_at dksX0_act_0 0 rfl rfl)
theorem dX0_act_1 : decode cX0_act 1 = .ok (.getfield 70, 3) := dk_180 0 70 (dk_at dksX0_act_0 1 rfl rfl)
theorem dX0_act_4 : decode cX0_act 4 = .ok (.iconst 0, 1) := dk_3 (dk_at dksX0_act_0 4 rfl rfl)
theorem dX0_act_5 : decode cX0_act 5 = .ok (.putfield 403, 3) := dk_181 1 147 (dk_at dksX0_act_0 5 rfl rfl)
theorem dX0_act_8 : decode cX0_act 8 = .ok (.aload_n 0, 1) := dk_42 (dk_at dksX0_act_0 8 rfl rfl)
theorem dX0_act_9 : decode cX0_act 9 = .ok (.getfield 88, 3) := dk_180 0 88 (dk_at dksX0_act_0 9 rfl rfl)
theorem dX0_act_12 : decode cX0_act 12 = .ok (.iload_n 1, 1) := dk_27 (dk_at dksX0_act_0 12 rfl rfl)
theorem dX0_act_13 : decode cX0_act 13 = .ok (.invokevirtual 101, 3) := dk_182 0 101 (dk_at dksX0_act_0 13 rfl rfl)
theorem dX0_act_16 : decode cX0_act 16 = .ok (.ifCond .ne 5, 3) := dk_154 0 5 (dk_at dksX0_act_0 16 rfl rfl)
theorem dX0_act_19 : decode cX0_act 19 = .ok (.iconst 0, 1) := dk_3 (dk_at dksX0_act_0 19 rfl rfl)
theorem dX0_act_20 : decode cX0_act 20 = .ok (.ireturn, 1) := dk_172 (dk_at dksX0_act_0 20 rfl rfl)
theorem dX0_act_21 : decode cX0_act 21 = .ok (.aload_n 0, 1) := dk_42 (dk_at dksX0_act_0 21 rfl rfl)
theorem dX0_act_22 : decode cX0_act 22 = .ok (.getfield 88, 3) := dk_180 0 88 (dk_at dksX0_act_1 0 rfl rfl)
theorem dX0_act_25 : decode cX0_act 25 = .ok (.getfield 119, 3) := dk_180 0 119 (dk_at dksX0_act_1 3 rfl rfl)
theorem dX0_act_28 : decode cX0_act 28 = .ok (.iload_n 1, 1) := dk_27 (dk_at dksX0_act_1 6 rfl rfl)
theorem dX0_act_29 : decode cX0_act 29 = .ok (.aaload, 1) := dk_50 (dk_at dksX0_act_1 7 rfl rfl)
theorem dX0_act_30 : decode cX0_act 30 = .ok (.astore 4, 2) := dk_58 4 (dk_at dksX0_act_1 8 rfl rfl)
theorem dX0_act_32 : decode cX0_act 32 = .ok (.iload_n 2, 1) := dk_28 (dk_at dksX0_act_1 10 rfl rfl)
theorem dX0_act_33 : decode cX0_act 33 = .ok (.tableswitch 60 0 2 #[27, 38, 49], 27) := by decide +kernel
theorem dX0_act_60 : decode cX0_act 60 = .ok (.aload 4, 2) := dk_25 4 (dk_at dksX0_act_3 0 rfl rfl)
theorem dX0_act_62 : decode cX0_act 62 = .ok (.iload_n 3, 1) := dk_29 (dk_at dksX0_act_3 2 rfl rfl)
theorem dX0_act_63 : decode cX0_act 63 = .ok (.aload_n 0, 1) := dk_42 (dk_at dksX0_act_3 3 rfl rfl)
theorem dX0_act_64 : decode cX0_act 64 = .ok (.getfield 70, 3) := dk_180 0 70 (dk_at dksX0_act_3 4 rfl rfl)
theorem dX0_act_67 : decode cX0_act 67 = .ok (.invokevirtual 404, 3) := dk_182 1 148 (dk_at dksX0_act_3 7 rfl rfl)
theorem dX0_act_70 : decode cX0_act 70 = .ok (.ireturn, 1) := dk_172 (dk_at dksX0_act_3 10 rfl rfl)
theorem dX0_act_71 : decode cX0_act 71 = .ok (.aload 4, 2) := dk_25 4 (dk_at dksX0_act_3 11 rfl rfl)
theorem dX0_act_73 : decode cX0_act 73 = .ok (.iload_n 3, 1) := dk_29 (dk_at dksX0_act_3 13 rfl rfl)
theorem dX0_act_74 : decode cX0_act 74 = .ok (.aload_n 0, 1) := dk_42 (dk_at dksX0_act_3 14 rfl rfl)
theorem dX0_act_75 : decode cX0_act 75 = .ok (.getfield 70, 3) := dk_180 0 70 (dk_at dksX0_act_3 15 rfl rfl)
theorem dX0_act_78 : decode cX0_act 78 = .ok (.invokevirtual 408, 3) := dk_182 1 152 (dk_at dksX0_act_3 18 rfl rfl)
theorem dX0_act_81 : decode cX0_act 81 = .ok (.ireturn, 1) := dk_172 (dk_at dksX0_act_3 21 rfl rfl)
theorem dX0_act_82 : decode cX0_act 82 = .ok (.aload 4, 2) := dk_25 4 (dk_at dksX0_act_3 22 rfl rfl)
theorem dX0_act_84 : decode cX0_act 84 = .ok (.iload_n 3, 1) := dk_29 (dk_at dksX0_act_4 0 rfl rfl)
theorem dX0_act_85 : decode cX0_act 85 = .ok (.aload_n 0, 1) := dk_42 (dk_at dksX0_act_4 1 rfl rfl)
theorem dX0_act_86 : decode cX0_act 86 = .ok (.getfield 70, 3) := dk_180 0 70 (dk_at dksX0_act_4 2 rfl rfl)
theorem dX0_act_89 : decode cX0_act 89 = .ok (.invokevirtual 411, 3) := dk_182 1 155 (dk_at dksX0_act_4 5 rfl rfl)
theorem dX0_act_92 : decode cX0_act 92 = .ok (.ireturn, 1) := dk_172 (dk_at dksX0_act_4 8 rfl rfl)
theorem dX0_act_93 : decode cX0_act 93 = .ok (.iconst 0, 1) := dk_3 (dk_at dksX0_act_4 9 rfl rfl)
theorem dX0_act_94 : decode cX0_act 94 = .ok (.ireturn, 1) := dk_172 (dk_at dksX0_act_4 10 rfl rfl)
abbrev cX0_trace : ByteArray := prog_1_method_57_code
def yX0_trace : MethodName := ⟨RX0, "trace", "(I)I"⟩
def dkwX0_trace_1 : List UInt8 := [42, 180, 0, 70, 180, 1, 161, 27, 46, 167, 0, 4, 2, 172]
abbrev dktX0_trace_1 : List UInt8 := dkwX0_trace_1 ++ []
def dkwX0_trace_0 : List UInt8 := [27, 133, 9, 42, 180, 0, 70, 180, 1, 147, 16, 20, 184, 1, 158, 4, 100, 133, 184, 0, 143, 153, 0, 15]
abbrev dktX0_trace_0 : List UInt8 := dkwX0_trace_0 ++ dktX0_trace_1
theorem dksX0_trace_0 : cX0_trace.data.toList.drop 0 = dktX0_trace_0 := by decide +kernel
theorem dksX0_trace_1 : cX0_trace.data.toList.drop 24 = dktX0_trace_1 := dk_seg dksX0_trace_0 24 rfl rfl
theorem dX0_trace_0 : decode cX0_trace 0 = .ok (.iload_n 1, 1) := dk_27 (dk_at dksX0_trace_0 0 rfl rfl)
theorem dX0_trace_1 : decode cX0_trace 1 = .ok (.i2l, 1) := dk_133 (dk_at dksX0_trace_0 1 rfl rfl)
theorem dX0_trace_2 : decode cX0_trace 2 = .ok (.lconst 0, 1) := dk_9 (dk_at dksX0_trace_0 2 rfl rfl)
theorem dX0_trace_3 : decode cX0_trace 3 = .ok (.aload_n 0, 1) := dk_42 (dk_at dksX0_trace_0 3 rfl rfl)
theorem dX0_trace_4 : decode cX0_trace 4 = .ok (.getfield 70, 3) := dk_180 0 70 (dk_at dksX0_trace_0 4 rfl rfl)
theorem dX0_trace_7 : decode cX0_trace 7 = .ok (.getfield 403, 3) := dk_180 1 147 (dk_at dksX0_trace_0 7 rfl rfl)
theorem dX0_trace_10 : decode cX0_trace 10 = .ok (.bipush 20, 2) := dk_16 20 (dk_at dksX0_trace_0 10 rfl rfl)
theorem dX0_trace_12 : decode cX0_trace 12 = .ok (.invokestatic 414, 3) := dk_184 1 158 (dk_at dksX0_trace_0 12 rfl rfl)
theorem dX0_trace_15 : decode cX0_trace 15 = .ok (.iconst 1, 1) := dk_4 (dk_at dksX0_trace_0 15 rfl rfl)
theorem dX0_trace_16 : decode cX0_trace 16 = .ok (.isub, 1) := dk_100 (dk_at dksX0_trace_0 16 rfl rfl)
theorem dX0_trace_17 : decode cX0_trace 17 = .ok (.i2l, 1) := dk_133 (dk_at dksX0_trace_0 17 rfl rfl)
theorem dX0_trace_18 : decode cX0_trace 18 = .ok (.invokestatic 143, 3) := dk_184 0 143 (dk_at dksX0_trace_0 18 rfl rfl)
theorem dX0_trace_21 : decode cX0_trace 21 = .ok (.ifCond .eq 15, 3) := dk_153 0 15 (dk_at dksX0_trace_0 21 rfl rfl)
theorem dX0_trace_24 : decode cX0_trace 24 = .ok (.aload_n 0, 1) := dk_42 (dk_at dksX0_trace_1 0 rfl rfl)
theorem dX0_trace_25 : decode cX0_trace 25 = .ok (.getfield 70, 3) := dk_180 0 70 (dk_at dksX0_trace_1 1 rfl rfl)
theorem dX0_trace_28 : decode cX0_trace 28 = .ok (.getfield 417, 3) := dk_180 1 161 (dk_at dksX0_trace_1 4 rfl rfl)
theorem dX0_trace_31 : decode cX0_trace 31 = .ok (.iload_n 1, 1) := dk_27 (dk_at dksX0_trace_1 7 rfl rfl)
theorem dX0_trace_32 : decode cX0_trace 32 = .ok (.iaload, 1) := dk_46 (dk_at dksX0_trace_1 8 rfl rfl)
theorem dX0_trace_33 : decode cX0_trace 33 = .ok (.goto 4, 3) := dk_167 0 4 (dk_at dksX0_trace_1 9 rfl rfl)
theorem dX0_trace_36 : decode cX0_trace 36 = .ok (.iconst (-1), 1) := dk_2 (dk_at dksX0_trace_1 12 rfl rfl)
theorem dX0_trace_37 : decode cX0_trace 37 = .ok (.ireturn, 1) := dk_172 (dk_at dksX0_trace_1 13 rfl rfl)
abbrev cX0_image : ByteArray := prog_1_method_58_code
def yX0_image : MethodName := ⟨RX0, "image", "()I"⟩
def dkwX0_image_1 : List UInt8 := [180, 0, 189, 172]
abbrev dktX0_image_1 : List UInt8 := dkwX0_image_1 ++ []
def dkwX0_image_0 : List UInt8 := [42, 187, 0, 74, 89, 183, 0, 76, 42, 180, 0, 88, 182, 1, 9, 181, 1, 164, 42, 180, 0, 88]
abbrev dktX0_image_0 : List UInt8 := dkwX0_image_0 ++ dktX0_image_1
theorem dksX0_image_0 : cX0_image.data.toList.drop 0 = dktX0_image_0 := by decide +kernel
theorem dksX0_image_1 : cX0_image.data.toList.drop 22 = dktX0_image_1 := dk_seg dksX0_image_0 22 rfl rfl
theorem dX0_image_0 : decode cX0_image 0 = .ok (.aload_n 0, 1) := dk_42 (dk_at dksX0_image_0 0 rfl rfl)
theorem dX0_image_1 : decode cX0_image 1 = .ok (.new 74, 3) := dk_187 0 74 (dk_at dksX0_image_0 1 rfl rfl)
theorem dX0_image_4 : decode cX0_image 4 = .ok (.dup, 1) := dk_89 (dk_at dksX0_image_0 4 rfl rfl)
theorem dX0_image_5 : decode cX0_image 5 = .ok (.invokespecial 76, 3) := dk_183 0 76 (dk_at dksX0_image_0 5 rfl rfl)
theorem dX0_image_8 : decode cX0_image 8 = .ok (.aload_n 0, 1) := dk_42 (dk_at dksX0_image_0 8 rfl rfl)
theorem dX0_image_9 : decode cX0_image 9 = .ok (.getfield 88, 3) := dk_180 0 88 (dk_at dksX0_image_0 9 rfl rfl)
theorem dX0_image_12 : decode cX0_image 12 = .ok (.invokevirtual 265, 3) := dk_182 1 9 (dk_at dksX0_image_0 12 rfl rfl)
theorem dX0_image_15 : decode cX0_image 15 = .ok (.putfield 420, 3) := dk_181 1 164 (dk_at dksX0_image_0 15 rfl rfl)
theorem dX0_image_18 : decode cX0_image 18 = .ok (.aload_n 0, 1) := dk_42 (dk_at dksX0_image_0 18 rfl rfl)
theorem dX0_image_19 : decode cX0_image 19 = .ok (.getfield 88, 3) := dk_180 0 88 (dk_at dksX0_image_0 19 rfl rfl)
theorem dX0_image_22 : decode cX0_image 22 = .ok (.getfield 189, 3) := dk_180 0 189 (dk_at dksX0_image_1 0 rfl rfl)
theorem dX0_image_25 : decode cX0_image 25 = .ok (.ireturn, 1) := dk_172 (dk_at dksX0_image_1 3 rfl rfl)
abbrev cX0_restore : ByteArray := prog_1_method_59_code
def yX0_restore : MethodName := ⟨RX0, "restore", "()I"⟩
def dkwX0_restore_2 : List UInt8 := [172, 76, 42, 43, 182, 0, 151, 172]
abbrev dktX0_restore_2 : List UInt8 := dkwX0_restore_2 ++ []
def dkwX0_restore_1 : List UInt8 := [183, 0, 76, 42, 180, 1, 164, 182, 1, 9, 181, 0, 88, 42, 182, 1, 167, 42, 180, 0, 88, 180, 0, 189]
abbrev dktX0_restore_1 : List UInt8 := dkwX0_restore_1 ++ dktX0_restore_2
def dkwX0_restore_0 : List UInt8 := [42, 180, 1, 164, 198, 0, 7, 4, 167, 0, 4, 3, 16, 250, 184, 0, 105, 42, 187, 0, 74, 89]
abbrev dktX0_restore_0 : List UInt8 := dkwX0_restore_0 ++ dktX0_restore_1
theorem dksX0_restore_0 : cX0_restore.data.toList.drop 0 = dktX0_restore_0 := by decide +kernel
theorem dksX0_restore_1 : cX0_restore.data.toList.drop 22 = dktX0_restore_1 := dk_seg dksX0_restore_0 22 rfl rfl
theorem dksX0_restore_2 : cX0_restore.data.toList.drop 46 = dktX0_restore_2 := dk_seg dksX0_restore_1 24 rfl rfl
theorem dX0_restore_0 : decode cX0_restore 0 = .ok (.aload_n 0, 1) := dk_42 (dk_at dksX0_restore_0 0 rfl rfl)
theorem dX0_restore_1 : decode cX0_restore 1 = .ok (.getfield 420, 3) := dk_180 1 164 (dk_at dksX0_restore_0 1 rfl rfl)
theorem dX0_restore_4 : decode cX0_restore 4 = .ok (.ifnull 7, 3) := dk_198 0 7 (dk_at dksX0_restore_0 4 rfl rfl)
theorem dX0_restore_7 : decode cX0_restore 7 = .ok (.iconst 1, 1) := dk_4 (dk_at dksX0_restore_0 7 rfl rfl)
theorem dX0_restore_8 : decode cX0_restore 8 = .ok (.goto 4, 3) := dk_167 0 4 (dk_at dksX0_restore_0 8 rfl rfl)
theorem dX0_restore_11 : decode cX0_restore 11 = .ok (.iconst 0, 1) := dk_3 (dk_at dksX0_restore_0 11 rfl rfl)
theorem dX0_restore_12 : decode cX0_restore 12 = .ok (.bipush (-6), 2) := dk_16 250 (dk_at dksX0_restore_0 12 rfl rfl)
theorem dX0_restore_14 : decode cX0_restore 14 = .ok (.invokestatic 105, 3) := dk_184 0 105 (dk_at dksX0_restore_0 14 rfl rfl)
theorem dX0_restore_17 : decode cX0_restore 17 = .ok (.aload_n 0, 1) := dk_42 (dk_at dksX0_restore_0 17 rfl rfl)
theorem dX0_restore_18 : decode cX0_restore 18 = .ok (.new 74, 3) := dk_187 0 74 (dk_at dksX0_restore_0 18 rfl rfl)
theorem dX0_restore_21 : decode cX0_restore 21 = .ok (.dup, 1) := dk_89 (dk_at dksX0_restore_0 21 rfl rfl)
theorem dX0_restore_22 : decode cX0_restore 22 = .ok (.invokespecial 76, 3) := dk_183 0 76 (dk_at dksX0_restore_1 0 rfl rfl)
theorem dX0_restore_25 : decode cX0_restore 25 = .ok (.aload_n 0, 1) := dk_42 (dk_at dksX0_restore_1 3 rfl rfl)
theorem dX0_restore_26 : decode cX0_restore 26 = .ok (.getfield 420, 3) := dk_180 1 164 (dk_at dksX0_restore_1 4 rfl rfl)
theorem dX0_restore_29 : decode cX0_restore 29 = .ok (.invokevirtual 265, 3) := dk_182 1 9 (dk_at dksX0_restore_1 7 rfl rfl)
theorem dX0_restore_32 : decode cX0_restore 32 = .ok (.putfield 88, 3) := dk_181 0 88 (dk_at dksX0_restore_1 10 rfl rfl)
theorem dX0_restore_35 : decode cX0_restore 35 = .ok (.aload_n 0, 1) := dk_42 (dk_at dksX0_restore_1 13 rfl rfl)
theorem dX0_restore_36 : decode cX0_restore 36 = .ok (.invokevirtual 423, 3) := dk_182 1 167 (dk_at dksX0_restore_1 14 rfl rfl)
theorem dX0_restore_39 : decode cX0_restore 39 = .ok (.aload_n 0, 1) := dk_42 (dk_at dksX0_restore_1 17 rfl rfl)
theorem dX0_restore_40 : decode cX0_restore 40 = .ok (.getfield 88, 3) := dk_180 0 88 (dk_at dksX0_restore_1 18 rfl rfl)
theorem dX0_restore_43 : decode cX0_restore 43 = .ok (.getfield 189, 3) := dk_180 0 189 (dk_at dksX0_restore_1 21 rfl rfl)
theorem dX0_restore_46 : decode cX0_restore 46 = .ok (.ireturn, 1) := dk_172 (dk_at dksX0_restore_2 0 rfl rfl)
theorem dX0_restore_47 : decode cX0_restore 47 = .ok (.astore_n 1, 1) := dk_76 (dk_at dksX0_restore_2 1 rfl rfl)
theorem dX0_restore_48 : decode cX0_restore 48 = .ok (.aload_n 0, 1) := dk_42 (dk_at dksX0_restore_2 2 rfl rfl)
theorem dX0_restore_49 : decode cX0_restore 49 = .ok (.aload_n 1, 1) := dk_43 (dk_at dksX0_restore_2 3 rfl rfl)
theorem dX0_restore_50 : decode cX0_restore 50 = .ok (.invokevirtual 151, 3) := dk_182 0 151 (dk_at dksX0_restore_2 4 rfl rfl)
theorem dX0_restore_53 : decode cX0_restore 53 = .ok (.ireturn, 1) := dk_172 (dk_at dksX0_restore_2 7 rfl rfl)
abbrev cX0_shelvesFollow : ByteArray := prog_1_method_10_code
def yX0_shelvesFollow : MethodName := ⟨RX0, "shelvesFollow", "()V"⟩
def dkwX0_shelvesFollow_3 : List UInt8 := [1, 181, 0, 113, 132, 3, 1, 167, 255, 191, 177]
abbrev dktX0_shelvesFollow_3 : List UInt8 := dkwX0_shelvesFollow_3 ++ []
def dkwX0_shelvesFollow_2 : List UInt8 := [180, 0, 88, 21, 5, 182, 0, 101, 153, 0, 16, 42, 180, 0, 88, 180, 0, 119, 21, 5, 50, 167, 0, 4]
abbrev dktX0_shelvesFollow_2 : List UInt8 := dkwX0_shelvesFollow_2 ++ dktX0_shelvesFollow_3
def dkwX0_shelvesFollow_1 : List UInt8 := [182, 0, 109, 153, 0, 47, 25, 4, 180, 0, 113, 192, 0, 47, 180, 0, 116, 54, 5, 25, 4, 42]
abbrev dktX0_shelvesFollow_1 : List UInt8 := dkwX0_shelvesFollow_1 ++ dktX0_shelvesFollow_2
def dkwX0_shelvesFollow_0 : List UInt8 := [42, 180, 0, 59, 76, 43, 190, 61, 3, 62, 29, 28, 162, 0, 66, 43, 29, 50, 58, 4, 25, 4]
abbrev dktX0_shelvesFollow_0 : List UInt8 := dkwX0_shelvesFollow_0 ++ dktX0_shelvesFollow_1
theorem dksX0_shelvesFollow_0 : cX0_shelvesFollow.data.toList.drop 0 = dktX0_shelvesFollow_0 := by decide +kernel
theorem dksX0_shelvesFollow_1 : cX0_shelvesFollow.data.toList.drop 22 = dktX0_shelvesFollow_1 := dk_seg dksX0_shelvesFollow_0 22 rfl rfl
theorem dksX0_shelvesFollow_2 : cX0_shelvesFollow.data.toList.drop 44 = dktX0_shelvesFollow_2 := dk_seg dksX0_shelvesFollow_1 22 rfl rfl
theorem dksX0_shelvesFollow_3 : cX0_shelvesFollow.data.toList.drop 68 = dktX0_shelvesFollow_3 := dk_seg dksX0_shelvesFollow_2 24 rfl rfl
theorem dX0_shelvesFollow_0 : decode cX0_shelvesFollow 0 = .ok (.aload_n 0, 1) := dk_42 (dk_at dksX0_shelvesFollow_0 0 rfl rfl)
theorem dX0_shelvesFollow_1 : decode cX0_shelvesFollow 1 = .ok (.getfield 59, 3) := dk_180 0 59 (dk_at dksX0_shelvesFollow_0 1 rfl rfl)
theorem dX0_shelvesFollow_4 : decode cX0_shelvesFollow 4 = .ok (.astore_n 1, 1) := dk_76 (dk_at dksX0_shelvesFollow_0 4 rfl rfl)
theorem dX0_shelvesFollow_5 : decode cX0_shelvesFollow 5 = .ok (.aload_n 1, 1) := dk_43 (dk_at dksX0_shelvesFollow_0 5 rfl rfl)
theorem dX0_shelvesFollow_6 : decode cX0_shelvesFollow 6 = .ok (.arraylength, 1) := dk_190 (dk_at dksX0_shelvesFollow_0 6 rfl rfl)
theorem dX0_shelvesFollow_7 : decode cX0_shelvesFollow 7 = .ok (.istore_n 2, 1) := dk_61 (dk_at dksX0_shelvesFollow_0 7 rfl rfl)
theorem dX0_shelvesFollow_8 : decode cX0_shelvesFollow 8 = .ok (.iconst 0, 1) := dk_3 (dk_at dksX0_shelvesFollow_0 8 rfl rfl)
theorem dX0_shelvesFollow_9 : decode cX0_shelvesFollow 9 = .ok (.istore_n 3, 1) := dk_62 (dk_at dksX0_shelvesFollow_0 9 rfl rfl)
theorem dX0_shelvesFollow_10 : decode cX0_shelvesFollow 10 = .ok (.iload_n 3, 1) := dk_29 (dk_at dksX0_shelvesFollow_0 10 rfl rfl)
theorem dX0_shelvesFollow_11 : decode cX0_shelvesFollow 11 = .ok (.iload_n 2, 1) := dk_28 (dk_at dksX0_shelvesFollow_0 11 rfl rfl)
theorem dX0_shelvesFollow_12 : decode cX0_shelvesFollow 12 = .ok (.if_icmp .ge 66, 3) := dk_162 0 66 (dk_at dksX0_shelvesFollow_0 12 rfl rfl)
theorem dX0_shelvesFollow_15 : decode cX0_shelvesFollow 15 = .ok (.aload_n 1, 1) := dk_43 (dk_at dksX0_shelvesFollow_0 15 rfl rfl)
theorem dX0_shelvesFollow_16 : decode cX0_shelvesFollow 16 = .ok (.iload_n 3, 1) := dk_29 (dk_at dksX0_shelvesFollow_0 16 rfl rfl)
theorem dX0_shelvesFollow_17 : decode cX0_shelvesFollow 17 = .ok (.aaload, 1) := dk_50 (dk_at dksX0_shelvesFollow_0 17 rfl rfl)
theorem dX0_shelvesFollow_18 : decode cX0_shelvesFollow 18 = .ok (.astore 4, 2) := dk_58 4 (dk_at dksX0_shelvesFollow_0 18 rfl rfl)
theorem dX0_shelvesFollow_20 : decode cX0_shelvesFollow 20 = .ok (.aload 4, 2) := dk_25 4 (dk_at dksX0_shelvesFollow_0 20 rfl rfl)
theorem dX0_shelvesFollow_22 : decode cX0_shelvesFollow 22 = .ok (.invokevirtual 109, 3) := dk_182 0 109 (dk_at dksX0_shelvesFollow_1 0 rfl rfl)
theorem dX0_shelvesFollow_25 : decode cX0_shelvesFollow 25 = .ok (.ifCond .eq 47, 3) := dk_153 0 47 (dk_at dksX0_shelvesFollow_1 3 rfl rfl)
theorem dX0_shelvesFollow_28 : decode cX0_shelvesFollow 28 = .ok (.aload 4, 2) := dk_25 4 (dk_at dksX0_shelvesFollow_1 6 rfl rfl)
theorem dX0_shelvesFollow_30 : decode cX0_shelvesFollow 30 = .ok (.getfield 113, 3) := dk_180 0 113 (dk_at dksX0_shelvesFollow_1 8 rfl rfl)
theorem dX0_shelvesFollow_33 : decode cX0_shelvesFollow 33 = .ok (.checkcast 47, 3) := dk_192 0 47 (dk_at dksX0_shelvesFollow_1 11 rfl rfl)
theorem dX0_shelvesFollow_36 : decode cX0_shelvesFollow 36 = .ok (.getfield 116, 3) := dk_180 0 116 (dk_at dksX0_shelvesFollow_1 14 rfl rfl)
theorem dX0_shelvesFollow_39 : decode cX0_shelvesFollow 39 = .ok (.istore 5, 2) := dk_54 5 (dk_at dksX0_shelvesFollow_1 17 rfl rfl)
theorem dX0_shelvesFollow_41 : decode cX0_shelvesFollow 41 = .ok (.aload 4, 2) := dk_25 4 (dk_at dksX0_shelvesFollow_1 19 rfl rfl)
theorem dX0_shelvesFollow_43 : decode cX0_shelvesFollow 43 = .ok (.aload_n 0, 1) := dk_42 (dk_at dksX0_shelvesFollow_1 21 rfl rfl)
theorem dX0_shelvesFollow_44 : decode cX0_shelvesFollow 44 = .ok (.getfield 88, 3) := dk_180 0 88 (dk_at dksX0_shelvesFollow_2 0 rfl rfl)
theorem dX0_shelvesFollow_47 : decode cX0_shelvesFollow 47 = .ok (.iload 5, 2) := dk_21 5 (dk_at dksX0_shelvesFollow_2 3 rfl rfl)
theorem dX0_shelvesFollow_49 : decode cX0_shelvesFollow 49 = .ok (.invokevirtual 101, 3) := dk_182 0 101 (dk_at dksX0_shelvesFollow_2 5 rfl rfl)
theorem dX0_shelvesFollow_52 : decode cX0_shelvesFollow 52 = .ok (.ifCond .eq 16, 3) := dk_153 0 16 (dk_at dksX0_shelvesFollow_2 8 rfl rfl)
theorem dX0_shelvesFollow_55 : decode cX0_shelvesFollow 55 = .ok (.aload_n 0, 1) := dk_42 (dk_at dksX0_shelvesFollow_2 11 rfl rfl)
theorem dX0_shelvesFollow_56 : decode cX0_shelvesFollow 56 = .ok (.getfield 88, 3) := dk_180 0 88 (dk_at dksX0_shelvesFollow_2 12 rfl rfl)
theorem dX0_shelvesFollow_59 : decode cX0_shelvesFollow 59 = .ok (.getfield 119, 3) := dk_180 0 119 (dk_at dksX0_shelvesFollow_2 15 rfl rfl)
theorem dX0_shelvesFollow_62 : decode cX0_shelvesFollow 62 = .ok (.iload 5, 2) := dk_21 5 (dk_at dksX0_shelvesFollow_2 18 rfl rfl)
theorem dX0_shelvesFollow_64 : decode cX0_shelvesFollow 64 = .ok (.aaload, 1) := dk_50 (dk_at dksX0_shelvesFollow_2 20 rfl rfl)
theorem dX0_shelvesFollow_65 : decode cX0_shelvesFollow 65 = .ok (.goto 4, 3) := dk_167 0 4 (dk_at dksX0_shelvesFollow_2 21 rfl rfl)
theorem dX0_shelvesFollow_68 : decode cX0_shelvesFollow 68 = .ok (.aconst_null, 1) := dk_1 (dk_at dksX0_shelvesFollow_3 0 rfl rfl)
theorem dX0_shelvesFollow_69 : decode cX0_shelvesFollow 69 = .ok (.putfield 113, 3) := dk_181 0 113 (dk_at dksX0_shelvesFollow_3 1 rfl rfl)
theorem dX0_shelvesFollow_72 : decode cX0_shelvesFollow 72 = .ok (.iinc 3 1, 3) := dk_132 3 1 (dk_at dksX0_shelvesFollow_3 4 rfl rfl)
theorem dX0_shelvesFollow_75 : decode cX0_shelvesFollow 75 = .ok (.goto (-65), 3) := dk_167 255 191 (dk_at dksX0_shelvesFollow_3 7 rfl rfl)
theorem dX0_shelvesFollow_78 : decode cX0_shelvesFollow 78 = .ok (.return_, 1) := dk_177 (dk_at dksX0_shelvesFollow_3 10 rfl rfl)
abbrev cX0_status : ByteArray := prog_1_method_60_code
def yX0_status : MethodName := ⟨RX0, "status", "(I)I"⟩
def dkwX0_status_7 : List UInt8 := [180, 0, 63, 27, 16, 10, 100, 46, 167, 0, 4, 2, 172]
abbrev dktX0_status_7 : List UInt8 := dkwX0_status_7 ++ []
def dkwX0_status_6 : List UInt8 := [180, 0, 70, 180, 1, 147, 172, 27, 133, 20, 1, 178, 20, 1, 180, 184, 0, 143, 153, 0, 15, 42]
abbrev dktX0_status_6 : List UInt8 := dkwX0_status_6 ++ dktX0_status_7
def dkwX0_status_5 : List UInt8 := [180, 0, 88, 180, 1, 130, 172, 42, 180, 0, 88, 182, 1, 175, 172, 42, 180, 0, 88, 180, 1, 144, 172, 42]
abbrev dktX0_status_5 : List UInt8 := dkwX0_status_5 ++ dktX0_status_6
def dkwX0_status_4 : List UInt8 := [180, 0, 88, 180, 0, 233, 153, 0, 7, 4, 167, 0, 4, 3, 172, 42, 180, 0, 88, 180, 1, 133, 172, 42]
abbrev dktX0_status_4 : List UInt8 := dkwX0_status_4 ++ dktX0_status_5
def dkwX0_status_3 : List UInt8 := [180, 0, 212, 184, 1, 170, 172, 42, 180, 0, 88, 180, 0, 225, 172, 42, 180, 0, 88, 180, 0, 230, 172, 42]
abbrev dktX0_status_3 : List UInt8 := dkwX0_status_3 ++ dktX0_status_4
def dkwX0_status_2 : List UInt8 := [42, 180, 0, 88, 180, 0, 189, 172, 42, 180, 0, 88, 180, 0, 208, 184, 1, 170, 172, 42, 180, 0, 88]
abbrev dktX0_status_2 : List UInt8 := dkwX0_status_2 ++ dktX0_status_3
def dkwX0_status_1 : List UInt8 := [170, 0, 0, 0, 0, 0, 161, 0, 0, 0, 0, 0, 0, 0, 10, 0, 0, 0, 59, 0, 0, 0, 67, 0, 0, 0, 78, 0, 0, 0, 89, 0, 0, 0, 97, 0, 0, 0, 105, 0, 0, 0, 121, 0, 0, 0, 129, 0, 0, 0, 137, 0, 0, 0, 145, 0, 0, 0, 153]
abbrev dktX0_status_1 : List UInt8 := dkwX0_status_1 ++ dktX0_status_2
def dkwX0_status_0 : List UInt8 := [27]
abbrev dktX0_status_0 : List UInt8 := dkwX0_status_0 ++ dktX0_status_1
theorem dksX0_status_0 : cX0_status.data.toList.drop 0 = dktX0_status_0 := by decide +kernel
theorem dksX0_status_1 : cX0_status.data.toList.drop 1 = dktX0_status_1 := dk_seg dksX0_status_0 1 rfl rfl
theorem dksX0_status_2 : cX0_status.data.toList.drop 60 = dktX0_status_2 := dk_seg dksX0_status_1 59 rfl rfl
theorem dksX0_status_3 : cX0_status.data.toList.drop 83 = dktX0_status_3 := dk_seg dksX0_status_2 23 rfl rfl
theorem dksX0_status_4 : cX0_status.data.toList.drop 107 = dktX0_status_4 := dk_seg dksX0_status_3 24 rfl rfl
theorem dksX0_status_5 : cX0_status.data.toList.drop 131 = dktX0_status_5 := dk_seg dksX0_status_4 24 rfl rfl
theorem dksX0_status_6 : cX0_status.data.toList.drop 155 = dktX0_status_6 := dk_seg dksX0_status_5 24 rfl rfl
theorem dksX0_status_7 : cX0_status.data.toList.drop 177 = dktX0_status_7 := dk_seg dksX0_status_6 22 rfl rfl
theorem dX0_status_0 : decode cX0_status 0 = .ok (.iload_n 1, 1) := dk_27 (dk_at dksX0_status_0 0 rfl rfl)
theorem dX0_status_1 : decode cX0_status 1 = .ok (.tableswitch 161 0 10 #[59, 67, 78, 89, 97, 105, 121, 129, 137, 145, 153], 59) := by decide +kernel
theorem dX0_status_60 : decode cX0_status 60 = .ok (.aload_n 0, 1) := dk_42 (dk_at dksX0_status_2 0 rfl rfl)
theorem dX0_status_61 : decode cX0_status 61 = .ok (.getfield 88, 3) := dk_180 0 88 (dk_at dksX0_status_2 1 rfl rfl)
theorem dX0_status_64 : decode cX0_status 64 = .ok (.getfield 189, 3) := dk_180 0 189 (dk_at dksX0_status_2 4 rfl rfl)
theorem dX0_status_67 : decode cX0_status 67 = .ok (.ireturn, 1) := dk_172 (dk_at dksX0_status_2 7 rfl rfl)
theorem dX0_status_68 : decode cX0_status 68 = .ok (.aload_n 0, 1) := dk_42 (dk_at dksX0_status_2 8 rfl rfl)
theorem dX0_status_69 : decode cX0_status 69 = .ok (.getfield 88, 3) := dk_180 0 88 (dk_at dksX0_status_2 9 rfl rfl)
theorem dX0_status_72 : decode cX0_status 72 = .ok (.getfield 208, 3) := dk_180 0 208 (dk_at dksX0_status_2 12 rfl rfl)
theorem dX0_status_75 : decode cX0_status 75 = .ok (.invokestatic 426, 3) := dk_184 1 170 (dk_at dksX0_status_2 15 rfl rfl)
theorem dX0_status_78 : decode cX0_status 78 = .ok (.ireturn, 1) := dk_172 (dk_at dksX0_status_2 18 rfl rfl)
theorem dX0_status_79 : decode cX0_status 79 = .ok (.aload_n 0, 1) := dk_42 (dk_at dksX0_status_2 19 rfl rfl)
theorem dX0_status_80 : decode cX0_status 80 = .ok (.getfield 88, 3) := dk_180 0 88 (dk_at dksX0_status_2 20 rfl rfl)
theorem dX0_status_83 : decode cX0_status 83 = .ok (.getfield 212, 3) := dk_180 0 212 (dk_at dksX0_status_3 0 rfl rfl)
theorem dX0_status_86 : decode cX0_status 86 = .ok (.invokestatic 426, 3) := dk_184 1 170 (dk_at dksX0_status_3 3 rfl rfl)
theorem dX0_status_89 : decode cX0_status 89 = .ok (.ireturn, 1) := dk_172 (dk_at dksX0_status_3 6 rfl rfl)
theorem dX0_status_90 : decode cX0_status 90 = .ok (.aload_n 0, 1) := dk_42 (dk_at dksX0_status_3 7 rfl rfl)
theorem dX0_status_91 : decode cX0_status 91 = .ok (.getfield 88, 3) := dk_180 0 88 (dk_at dksX0_status_3 8 rfl rfl)
theorem dX0_status_94 : decode cX0_status 94 = .ok (.getfield 225, 3) := dk_180 0 225 (dk_at dksX0_status_3 11 rfl rfl)
theorem dX0_status_97 : decode cX0_status 97 = .ok (.ireturn, 1) := dk_172 (dk_at dksX0_status_3 14 rfl rfl)
theorem dX0_status_98 : decode cX0_status 98 = .ok (.aload_n 0, 1) := dk_42 (dk_at dksX0_status_3 15 rfl rfl)
theorem dX0_status_99 : decode cX0_status 99 = .ok (.getfield 88, 3) := dk_180 0 88 (dk_at dksX0_status_3 16 rfl rfl)
theorem dX0_status_102 : decode cX0_status 102 = .ok (.getfield 230, 3) := dk_180 0 230 (dk_at dksX0_status_3 19 rfl rfl)
theorem dX0_status_105 : decode cX0_status 105 = .ok (.ireturn, 1) := dk_172 (dk_at dksX0_status_3 22 rfl rfl)
theorem dX0_status_106 : decode cX0_status 106 = .ok (.aload_n 0, 1) := dk_42 (dk_at dksX0_status_3 23 rfl rfl)
theorem dX0_status_107 : decode cX0_status 107 = .ok (.getfield 88, 3) := dk_180 0 88 (dk_at dksX0_status_4 0 rfl rfl)
theorem dX0_status_110 : decode cX0_status 110 = .ok (.getfield 233, 3) := dk_180 0 233 (dk_at dksX0_status_4 3 rfl rfl)
theorem dX0_status_113 : decode cX0_status 113 = .ok (.ifCond .eq 7, 3) := dk_153 0 7 (dk_at dksX0_status_4 6 rfl rfl)
theorem dX0_status_116 : decode cX0_status 116 = .ok (.iconst 1, 1) := dk_4 (dk_at dksX0_status_4 9 rfl rfl)
theorem dX0_status_117 : decode cX0_status 117 = .ok (.goto 4, 3) := dk_167 0 4 (dk_at dksX0_status_4 10 rfl rfl)
theorem dX0_status_120 : decode cX0_status 120 = .ok (.iconst 0, 1) := dk_3 (dk_at dksX0_status_4 13 rfl rfl)
theorem dX0_status_121 : decode cX0_status 121 = .ok (.ireturn, 1) := dk_172 (dk_at dksX0_status_4 14 rfl rfl)
theorem dX0_status_122 : decode cX0_status 122 = .ok (.aload_n 0, 1) := dk_42 (dk_at dksX0_status_4 15 rfl rfl)
theorem dX0_status_123 : decode cX0_status 123 = .ok (.getfield 88, 3) := dk_180 0 88 (dk_at dksX0_status_4 16 rfl rfl)
theorem dX0_status_126 : decode cX0_status 126 = .ok (.getfield 389, 3) := dk_180 1 133 (dk_at dksX0_status_4 19 rfl rfl)
theorem dX0_status_129 : decode cX0_status 129 = .ok (.ireturn, 1) := dk_172 (dk_at dksX0_status_4 22 rfl rfl)
theorem dX0_status_130 : decode cX0_status 130 = .ok (.aload_n 0, 1) := dk_42 (dk_at dksX0_status_4 23 rfl rfl)
theorem dX0_status_131 : decode cX0_status 131 = .ok (.getfield 88, 3) := dk_180 0 88 (dk_at dksX0_status_5 0 rfl rfl)
theorem dX0_status_134 : decode cX0_status 134 = .ok (.getfield 386, 3) := dk_180 1 130 (dk_at dksX0_status_5 3 rfl rfl)
theorem dX0_status_137 : decode cX0_status 137 = .ok (.ireturn, 1) := dk_172 (dk_at dksX0_status_5 6 rfl rfl)
theorem dX0_status_138 : decode cX0_status 138 = .ok (.aload_n 0, 1) := dk_42 (dk_at dksX0_status_5 7 rfl rfl)
theorem dX0_status_139 : decode cX0_status 139 = .ok (.getfield 88, 3) := dk_180 0 88 (dk_at dksX0_status_5 8 rfl rfl)
theorem dX0_status_142 : decode cX0_status 142 = .ok (.invokevirtual 431, 3) := dk_182 1 175 (dk_at dksX0_status_5 11 rfl rfl)
theorem dX0_status_145 : decode cX0_status 145 = .ok (.ireturn, 1) := dk_172 (dk_at dksX0_status_5 14 rfl rfl)
theorem dX0_status_146 : decode cX0_status 146 = .ok (.aload_n 0, 1) := dk_42 (dk_at dksX0_status_5 15 rfl rfl)
theorem dX0_status_147 : decode cX0_status 147 = .ok (.getfield 88, 3) := dk_180 0 88 (dk_at dksX0_status_5 16 rfl rfl)
theorem dX0_status_150 : decode cX0_status 150 = .ok (.getfield 400, 3) := dk_180 1 144 (dk_at dksX0_status_5 19 rfl rfl)
theorem dX0_status_153 : decode cX0_status 153 = .ok (.ireturn, 1) := dk_172 (dk_at dksX0_status_5 22 rfl rfl)
theorem dX0_status_154 : decode cX0_status 154 = .ok (.aload_n 0, 1) := dk_42 (dk_at dksX0_status_5 23 rfl rfl)
theorem dX0_status_155 : decode cX0_status 155 = .ok (.getfield 70, 3) := dk_180 0 70 (dk_at dksX0_status_6 0 rfl rfl)
theorem dX0_status_158 : decode cX0_status 158 = .ok (.getfield 403, 3) := dk_180 1 147 (dk_at dksX0_status_6 3 rfl rfl)
theorem dX0_status_161 : decode cX0_status 161 = .ok (.ireturn, 1) := dk_172 (dk_at dksX0_status_6 6 rfl rfl)
theorem dX0_status_162 : decode cX0_status 162 = .ok (.iload_n 1, 1) := dk_27 (dk_at dksX0_status_6 7 rfl rfl)
theorem dX0_status_163 : decode cX0_status 163 = .ok (.i2l, 1) := dk_133 (dk_at dksX0_status_6 8 rfl rfl)
theorem dX0_status_164 : decode cX0_status 164 = .ok (.ldc2_w 434, 3) := dk_20 1 178 (dk_at dksX0_status_6 9 rfl rfl)
theorem dX0_status_167 : decode cX0_status 167 = .ok (.ldc2_w 436, 3) := dk_20 1 180 (dk_at dksX0_status_6 12 rfl rfl)
theorem dX0_status_170 : decode cX0_status 170 = .ok (.invokestatic 143, 3) := dk_184 0 143 (dk_at dksX0_status_6 15 rfl rfl)
theorem dX0_status_173 : decode cX0_status 173 = .ok (.ifCond .eq 15, 3) := dk_153 0 15 (dk_at dksX0_status_6 18 rfl rfl)
theorem dX0_status_176 : decode cX0_status 176 = .ok (.aload_n 0, 1) := dk_42 (dk_at dksX0_status_6 21 rfl rfl)
theorem dX0_status_177 : decode cX0_status 177 = .ok (.getfield 63, 3) := dk_180 0 63 (dk_at dksX0_status_7 0 rfl rfl)
theorem dX0_status_180 : decode cX0_status 180 = .ok (.iload_n 1, 1) := dk_27 (dk_at dksX0_status_7 3 rfl rfl)
theorem dX0_status_181 : decode cX0_status 181 = .ok (.bipush 10, 2) := dk_16 10 (dk_at dksX0_status_7 4 rfl rfl)
theorem dX0_status_183 : decode cX0_status 183 = .ok (.isub, 1) := dk_100 (dk_at dksX0_status_7 6 rfl rfl)
theorem dX0_status_184 : decode cX0_status 184 = .ok (.iaload, 1) := dk_46 (dk_at dksX0_status_7 7 rfl rfl)
theorem dX0_status_185 : decode cX0_status 185 = .ok (.goto 4, 3) := dk_167 0 4 (dk_at dksX0_status_7 8 rfl rfl)
theorem dX0_status_188 : decode cX0_status 188 = .ok (.iconst (-1), 1) := dk_2 (dk_at dksX0_status_7 11 rfl rfl)
theorem dX0_status_189 : decode cX0_status 189 = .ok (.ireturn, 1) := dk_172 (dk_at dksX0_status_7 12 rfl rfl)
theorem q82 : (Jvm.Cond.initialized "TaxOnLooks") ∈ lw_all := lw_g (lw_at lw_m1 1 rfl) rfl
theorem q119 : (Jvm.Cond.instantiable "TaxOnLooks" (9 : Nat)) ∈ lw_all := lw_g (lw_at lw_m1 38 rfl) rfl
theorem q121 : (Jvm.Cond.instanceMethod ({ cls := "TaxOnLooks", name := "<init>", desc := "()V" } : Jvm.MethodName)) ∈ lw_all := lw_g (lw_at lw_m1 40 rfl) rfl
theorem q122 : (Jvm.Cond.code ({ cls := "TaxOnLooks", name := "<init>", desc := "()V" } : Jvm.MethodName) prog_1_method_5_code (2 : Nat) (Option.none : Option Jvm.ClassFile.FieldType)) ∈ lw_all := lw_g (lw_at lw_m1 41 rfl) rfl
theorem q123 : (Jvm.Cond.methodLink "TaxOnLooks" (50 : Nat) ({ cls := "java/lang/Object", name := "<init>", desc := "()V" } : Jvm.MethodName)) ∈ lw_all := lw_g (lw_at lw_m1 42 rfl) rfl
theorem q126 : (Jvm.Cond.classLink "TaxOnLooks" (57 : Nat) "TaxOnLooks$Shelf") ∈ lw_all := lw_g (lw_at lw_m1 45 rfl) rfl
theorem q128 : (Jvm.Cond.classLink "TaxOnLooks" (67 : Nat) "TaxOnLooks$Trace") ∈ lw_all := lw_g (lw_at lw_m1 47 rfl) rfl
theorem q130 : (Jvm.Cond.methodLink "TaxOnLooks" (69 : Nat) ({ cls := "TaxOnLooks$Trace", name := "<init>", desc := "()V" } : Jvm.MethodName)) ∈ lw_all := lw_g (lw_at lw_m1 49 rfl) rfl
theorem q135 : (Jvm.Cond.fieldLink "TaxOnLooks" (417 : Nat) "TaxOnLooks$Trace" "bodies" "[I") ∈ lw_all := lw_g (lw_at lw_m1 54 rfl) rfl
theorem q137 : (Jvm.Cond.fieldLink "TaxOnLooks" (403 : Nat) "TaxOnLooks$Trace" "many" "I") ∈ lw_all := lw_g (lw_at lw_m1 56 rfl) rfl
theorem q144 : (Jvm.Cond.classLink "TaxOnLooks" (74 : Nat) "TaxOnLooks$Town") ∈ lw_all := lw_g (lw_at lw_m1 63 rfl) rfl
theorem q146 : (Jvm.Cond.methodLink "TaxOnLooks" (76 : Nat) ({ cls := "TaxOnLooks$Town", name := "<init>", desc := "()V" } : Jvm.MethodName)) ∈ lw_all := lw_g (lw_at lw_m1 65 rfl) rfl
theorem q154 : (Jvm.Cond.fieldLink "TaxOnLooks" (189 : Nat) "TaxOnLooks$Town" "many" "I") ∈ lw_all := lw_g (lw_at lw_m1 73 rfl) rfl
theorem q157 : (Jvm.Cond.fieldLink "TaxOnLooks" (225 : Nat) "TaxOnLooks$Town" "mite" "I") ∈ lw_all := lw_g (lw_at lw_m1 76 rfl) rfl
theorem q160 : (Jvm.Cond.fieldLink "TaxOnLooks" (230 : Nat) "TaxOnLooks$Town" "reach" "I") ∈ lw_all := lw_g (lw_at lw_m1 79 rfl) rfl
theorem q162 : (Jvm.Cond.fieldLink "TaxOnLooks" (233 : Nat) "TaxOnLooks$Town" "rain" "Z") ∈ lw_all := lw_g (lw_at lw_m1 81 rfl) rfl
theorem q164 : (Jvm.Cond.fieldLink "TaxOnLooks" (389 : Nat) "TaxOnLooks$Town" "hours" "I") ∈ lw_all := lw_g (lw_at lw_m1 83 rfl) rfl
theorem q166 : (Jvm.Cond.fieldLink "TaxOnLooks" (386 : Nat) "TaxOnLooks$Town" "taken" "I") ∈ lw_all := lw_g (lw_at lw_m1 85 rfl) rfl
theorem q168 : (Jvm.Cond.fieldLink "TaxOnLooks" (400 : Nat) "TaxOnLooks$Town" "seed" "I") ∈ lw_all := lw_g (lw_at lw_m1 87 rfl) rfl
theorem q171 : (Jvm.Cond.fieldLink "TaxOnLooks" (208 : Nat) "TaxOnLooks$Town" "walls" "J") ∈ lw_all := lw_g (lw_at lw_m1 90 rfl) rfl
theorem q174 : (Jvm.Cond.fieldLink "TaxOnLooks" (212 : Nat) "TaxOnLooks$Town" "balconies" "J") ∈ lw_all := lw_g (lw_at lw_m1 93 rfl) rfl
theorem q177 : (Jvm.Cond.fieldLink "TaxOnLooks" (222 : Nat) "TaxOnLooks$Town" "sacks" "I") ∈ lw_all := lw_g (lw_at lw_m1 96 rfl) rfl
theorem q179 : (Jvm.Cond.fieldLink "TaxOnLooks" (352 : Nat) "TaxOnLooks$Town" "absent" "I") ∈ lw_all := lw_g (lw_at lw_m1 98 rfl) rfl
theorem q181 : (Jvm.Cond.fieldLink "TaxOnLooks" (119 : Nat) "TaxOnLooks$Town" "people" "[LTaxOnLooks$Person;") ∈ lw_all := lw_g (lw_at lw_m1 100 rfl) rfl
theorem q183 : (Jvm.Cond.fieldLink "TaxOnLooks" (250 : Nat) "TaxOnLooks$Town" "looks" "[I") ∈ lw_all := lw_g (lw_at lw_m1 102 rfl) rfl
theorem q186 : (Jvm.Cond.fieldLink "TaxOnLooks" (256 : Nat) "TaxOnLooks$Town" "purse" "[I") ∈ lw_all := lw_g (lw_at lw_m1 105 rfl) rfl
theorem q190 : (Jvm.Cond.fieldLink "TaxOnLooks" (219 : Nat) "TaxOnLooks$Town" "at" "[I") ∈ lw_all := lw_g (lw_at lw_m1 109 rfl) rfl
theorem q222 : (Jvm.Cond.classLink "TaxOnLooks" (81 : Nat) "TaxOnLooks$Walks") ∈ lw_all := lw_g (lw_at lw_m1 141 rfl) rfl
theorem q224 : (Jvm.Cond.methodLink "TaxOnLooks" (83 : Nat) ({ cls := "TaxOnLooks$Walks", name := "<init>", desc := "()V" } : Jvm.MethodName)) ∈ lw_all := lw_g (lw_at lw_m1 143 rfl) rfl
theorem q236 : (Jvm.Cond.methodLink "TaxOnLooks" (95 : Nat) ({ cls := "TaxOnLooks$Shelf", name := "<init>", desc := "()V" } : Jvm.MethodName)) ∈ lw_all := lw_g (lw_at lw_m1 155 rfl) rfl
theorem q241 : (Jvm.Cond.fieldLink "TaxOnLooks" (113 : Nat) "TaxOnLooks$Shelf" "held" "Ljava/lang/Object;") ∈ lw_all := lw_g (lw_at lw_m1 160 rfl) rfl
theorem q245 : (Jvm.Cond.fieldLink "TaxOnLooks" (59 : Nat) "TaxOnLooks" "shelves" "[LTaxOnLooks$Shelf;") ∈ lw_all := lw_g (lw_at lw_m1 164 rfl) rfl
theorem q246 : (Jvm.Cond.fieldLink "TaxOnLooks" (63 : Nat) "TaxOnLooks" "refusals" "[I") ∈ lw_all := lw_g (lw_at lw_m1 165 rfl) rfl
theorem q247 : (Jvm.Cond.fieldLink "TaxOnLooks" (70 : Nat) "TaxOnLooks" "ran" "LTaxOnLooks$Trace;") ∈ lw_all := lw_g (lw_at lw_m1 166 rfl) rfl
theorem q248 : (Jvm.Cond.fieldLink "TaxOnLooks" (77 : Nat) "TaxOnLooks" "tried" "LTaxOnLooks$Town;") ∈ lw_all := lw_g (lw_at lw_m1 167 rfl) rfl
theorem q249 : (Jvm.Cond.fieldLink "TaxOnLooks" (84 : Nat) "TaxOnLooks" "walks" "LTaxOnLooks$Walks;") ∈ lw_all := lw_g (lw_at lw_m1 168 rfl) rfl
theorem q250 : (Jvm.Cond.fieldLink "TaxOnLooks" (88 : Nat) "TaxOnLooks" "w" "LTaxOnLooks$Town;") ∈ lw_all := lw_g (lw_at lw_m1 169 rfl) rfl
theorem q251 : (Jvm.Cond.fieldLink "TaxOnLooks" (420 : Nat) "TaxOnLooks" "imaged" "LTaxOnLooks$Town;") ∈ lw_all := lw_g (lw_at lw_m1 170 rfl) rfl
theorem q252 : (Jvm.Cond.fieldLink "TaxOnLooks" (91 : Nat) "TaxOnLooks" "latestFault" "I") ∈ lw_all := lw_g (lw_at lw_m1 171 rfl) rfl
theorem q253 : (Jvm.Cond.fieldLink "TaxOnLooks" (367 : Nat) "TaxOnLooks" "paid" "I") ∈ lw_all := lw_g (lw_at lw_m1 172 rfl) rfl
theorem q254 : (Jvm.Cond.laysFinal "TaxOnLooks" "TaxOnLooks" "shelves" "[LTaxOnLooks$Shelf;") ∈ lw_all := lw_g (lw_at lw_m1 173 rfl) rfl
theorem q255 : (Jvm.Cond.soleField "TaxOnLooks" "shelves") ∈ lw_all := lw_g (lw_at lw_m1 174 rfl) rfl
theorem q256 : (Jvm.Cond.laysFinal "TaxOnLooks" "TaxOnLooks" "refusals" "[I") ∈ lw_all := lw_g (lw_at lw_m1 175 rfl) rfl
theorem q257 : (Jvm.Cond.soleField "TaxOnLooks" "refusals") ∈ lw_all := lw_g (lw_at lw_m1 176 rfl) rfl
theorem q258 : (Jvm.Cond.laysFinal "TaxOnLooks" "TaxOnLooks" "ran" "LTaxOnLooks$Trace;") ∈ lw_all := lw_g (lw_at lw_m1 177 rfl) rfl
theorem q259 : (Jvm.Cond.soleField "TaxOnLooks" "ran") ∈ lw_all := lw_g (lw_at lw_m1 178 rfl) rfl
theorem q260 : (Jvm.Cond.laysFinal "TaxOnLooks" "TaxOnLooks" "tried" "LTaxOnLooks$Town;") ∈ lw_all := lw_g (lw_at lw_m1 179 rfl) rfl
theorem q261 : (Jvm.Cond.soleField "TaxOnLooks" "tried") ∈ lw_all := lw_g (lw_at lw_m1 180 rfl) rfl
theorem q262 : (Jvm.Cond.laysFinal "TaxOnLooks" "TaxOnLooks" "walks" "LTaxOnLooks$Walks;") ∈ lw_all := lw_g (lw_at lw_m1 181 rfl) rfl
theorem q263 : (Jvm.Cond.soleField "TaxOnLooks" "walks") ∈ lw_all := lw_g (lw_at lw_m1 182 rfl) rfl
theorem q264 : (Jvm.Cond.lays "TaxOnLooks" "TaxOnLooks" "w" "LTaxOnLooks$Town;") ∈ lw_all := lw_g (lw_at lw_m1 183 rfl) rfl
theorem q265 : (Jvm.Cond.soleField "TaxOnLooks" "w") ∈ lw_all := lw_g (lw_at lw_m1 184 rfl) rfl
theorem q266 : (Jvm.Cond.lays "TaxOnLooks" "TaxOnLooks" "imaged" "LTaxOnLooks$Town;") ∈ lw_all := lw_g (lw_at lw_m1 185 rfl) rfl
theorem q267 : (Jvm.Cond.soleField "TaxOnLooks" "imaged") ∈ lw_all := lw_g (lw_at lw_m1 186 rfl) rfl
theorem q268 : (Jvm.Cond.lays "TaxOnLooks" "TaxOnLooks" "latestFault" "I") ∈ lw_all := lw_g (lw_at lw_m1 187 rfl) rfl
theorem q269 : (Jvm.Cond.soleField "TaxOnLooks" "latestFault") ∈ lw_all := lw_g (lw_at lw_m1 188 rfl) rfl
theorem q270 : (Jvm.Cond.lays "TaxOnLooks" "TaxOnLooks" "paid" "I") ∈ lw_all := lw_g (lw_at lw_m1 189 rfl) rfl
theorem q271 : (Jvm.Cond.soleField "TaxOnLooks" "paid") ∈ lw_all := lw_g (lw_at lw_m1 190 rfl) rfl
theorem q272 : (Jvm.Cond.superclass "TaxOnLooks" "java/lang/Object") ∈ lw_all := lw_g (lw_at lw_m1 191 rfl) rfl
theorem q274 : (Jvm.Cond.instanceMethod ({ cls := "TaxOnLooks", name := "row", desc := "(III)I" } : Jvm.MethodName)) ∈ lw_all := lw_g (lw_at lw_m1 193 rfl) rfl
theorem q275 : (Jvm.Cond.selects "TaxOnLooks" ({ cls := "TaxOnLooks", name := "row", desc := "(III)I" } : Jvm.MethodName) ({ cls := "TaxOnLooks", name := "row", desc := "(III)I" } : Jvm.MethodName)) ∈ lw_all := lw_g (lw_at lw_m1 194 rfl) rfl
theorem q276 : (Jvm.Cond.codeWith ({ cls := "TaxOnLooks", name := "row", desc := "(III)I" } : Jvm.MethodName) prog_1_method_12_code (5 : Nat) (Option.some Jvm.ClassFile.FieldType.int) [((0 : Nat), (63 : Nat), (64 : Nat), (21 : Nat))]) ∈ lw_all := lw_g (lw_at lw_m1 195 rfl) rfl
theorem q277 : (Jvm.Cond.classLink "TaxOnLooks" (21 : Nat) "TaxOnLooks$Refused") ∈ lw_all := lw_g (lw_at lw_m1 196 rfl) rfl
theorem q278 : (Jvm.Cond.methodLink "TaxOnLooks" (137 : Nat) ({ cls := "TaxOnLooks", name := "shelf", desc := "(I)LTaxOnLooks$Shelf;" } : Jvm.MethodName)) ∈ lw_all := lw_g (lw_at lw_m1 197 rfl) rfl
theorem q279 : (Jvm.Cond.privateMethod ({ cls := "TaxOnLooks", name := "shelf", desc := "(I)LTaxOnLooks$Shelf;" } : Jvm.MethodName)) ∈ lw_tbl := lw_at lw_m1 198 rfl
theorem q280 : (Jvm.Cond.instanceMethod ({ cls := "TaxOnLooks", name := "shelf", desc := "(I)LTaxOnLooks$Shelf;" } : Jvm.MethodName)) ∈ lw_all := lw_g (lw_at lw_m1 199 rfl) rfl
theorem q281 : (Jvm.Cond.codeWith ({ cls := "TaxOnLooks", name := "shelf", desc := "(I)LTaxOnLooks$Shelf;" } : Jvm.MethodName) prog_1_method_8_code (3 : Nat) (Option.some (Jvm.ClassFile.FieldType.object "TaxOnLooks$Shelf")) [((0 : Nat), (6 : Nat), (7 : Nat), (99 : Nat))]) ∈ lw_all := lw_g (lw_at lw_m1 200 rfl) rfl
theorem q282 : (Jvm.Cond.classLink "TaxOnLooks" (99 : Nat) "java/lang/ArrayIndexOutOfBoundsException") ∈ lw_all := lw_g (lw_at lw_m1 201 rfl) rfl
theorem q368 : (Jvm.Cond.methodLink "TaxOnLooks" (23 : Nat) ({ cls := "TaxOnLooks$Refused", name := "<init>", desc := "(I)V" } : Jvm.MethodName)) ∈ lw_all := lw_g (lw_at lw_m2 47 rfl) rfl
theorem q378 : (Jvm.Cond.fieldLink "TaxOnLooks" (96 : Nat) "TaxOnLooks$Refused" "why" "I") ∈ lw_all := lw_g (lw_at lw_m2 57 rfl) rfl
theorem q383 : (Jvm.Cond.methodLink "TaxOnLooks" (105 : Nat) ({ cls := "TaxOnLooks", name := "need", desc := "(ZI)V" } : Jvm.MethodName)) ∈ lw_all := lw_g (lw_at lw_m2 62 rfl) rfl
theorem q384 : (Jvm.Cond.static ({ cls := "TaxOnLooks", name := "need", desc := "(ZI)V" } : Jvm.MethodName)) ∈ lw_all := lw_g (lw_at lw_m2 63 rfl) rfl
theorem q385 : (Jvm.Cond.code ({ cls := "TaxOnLooks", name := "need", desc := "(ZI)V" } : Jvm.MethodName) prog_1_method_2_code (2 : Nat) (Option.none : Option Jvm.ClassFile.FieldType)) ∈ lw_all := lw_g (lw_at lw_m2 64 rfl) rfl
theorem q386 : (Jvm.Cond.constantLong "TaxOnLooks" (141 : Nat) (3 : Int64)) ∈ lw_all := lw_g (lw_at lw_m2 65 rfl) rfl
theorem q387 : (Jvm.Cond.methodLink "TaxOnLooks" (143 : Nat) ({ cls := "TaxOnLooks", name := "in", desc := "(JJJ)Z" } : Jvm.MethodName)) ∈ lw_all := lw_g (lw_at lw_m2 66 rfl) rfl
theorem q388 : (Jvm.Cond.static ({ cls := "TaxOnLooks", name := "in", desc := "(JJJ)Z" } : Jvm.MethodName)) ∈ lw_all := lw_g (lw_at lw_m2 67 rfl) rfl
theorem q389 : (Jvm.Cond.code ({ cls := "TaxOnLooks", name := "in", desc := "(JJJ)Z" } : Jvm.MethodName) prog_1_method_3_code (6 : Nat) (Option.some Jvm.ClassFile.FieldType.boolean)) ∈ lw_all := lw_g (lw_at lw_m2 68 rfl) rfl
theorem q390 : (Jvm.Cond.methodLink "TaxOnLooks" (147 : Nat) ({ cls := "TaxOnLooks", name := "newRow", desc := "(II)LTaxOnLooks$Row;" } : Jvm.MethodName)) ∈ lw_all := lw_g (lw_at lw_m2 69 rfl) rfl
theorem q391 : (Jvm.Cond.static ({ cls := "TaxOnLooks", name := "newRow", desc := "(II)LTaxOnLooks$Row;" } : Jvm.MethodName)) ∈ lw_all := lw_g (lw_at lw_m2 70 rfl) rfl
theorem q392 : (Jvm.Cond.codeWith ({ cls := "TaxOnLooks", name := "newRow", desc := "(II)LTaxOnLooks$Row;" } : Jvm.MethodName) prog_1_method_11_code (3 : Nat) (Option.some (Jvm.ClassFile.FieldType.object "TaxOnLooks$Row")) [((0 : Nat), (40 : Nat), (78 : Nat), (135 : Nat)), ((41 : Nat), (49 : Nat), (78 : Nat), (135 : Nat)), ((50 : Nat), (58 : Nat), (78 : Nat), (135 : Nat)), ((59 : Nat), (67 : Nat), (78 : Nat), (135 : Nat)), ((68 : Nat), (78 : Nat), (78 : Nat), (135 : Nat))]) ∈ lw_all := lw_g (lw_at lw_m2 71 rfl) rfl
theorem q393 : (Jvm.Cond.classLink "TaxOnLooks" (135 : Nat) "java/lang/NegativeArraySizeException") ∈ lw_all := lw_g (lw_at lw_m2 72 rfl) rfl
theorem q407 : (Jvm.Cond.classLink "TaxOnLooks" (123 : Nat) "TaxOnLooks$Bytes") ∈ lw_all := lw_g (lw_at lw_m2 86 rfl) rfl
theorem q409 : (Jvm.Cond.methodLink "TaxOnLooks" (125 : Nat) ({ cls := "TaxOnLooks$Bytes", name := "<init>", desc := "(I)V" } : Jvm.MethodName)) ∈ lw_all := lw_g (lw_at lw_m2 88 rfl) rfl
theorem q420 : (Jvm.Cond.classLink "TaxOnLooks" (126 : Nat) "TaxOnLooks$Shorts") ∈ lw_all := lw_g (lw_at lw_m2 99 rfl) rfl
theorem q422 : (Jvm.Cond.methodLink "TaxOnLooks" (128 : Nat) ({ cls := "TaxOnLooks$Shorts", name := "<init>", desc := "(I)V" } : Jvm.MethodName)) ∈ lw_all := lw_g (lw_at lw_m2 101 rfl) rfl
theorem q431 : (Jvm.Cond.classLink "TaxOnLooks" (129 : Nat) "TaxOnLooks$Ints") ∈ lw_all := lw_g (lw_at lw_m2 110 rfl) rfl
theorem q433 : (Jvm.Cond.methodLink "TaxOnLooks" (131 : Nat) ({ cls := "TaxOnLooks$Ints", name := "<init>", desc := "(I)V" } : Jvm.MethodName)) ∈ lw_all := lw_g (lw_at lw_m2 112 rfl) rfl
theorem q441 : (Jvm.Cond.classLink "TaxOnLooks" (132 : Nat) "TaxOnLooks$Longs") ∈ lw_all := lw_g (lw_at lw_m2 120 rfl) rfl
theorem q443 : (Jvm.Cond.methodLink "TaxOnLooks" (134 : Nat) ({ cls := "TaxOnLooks$Longs", name := "<init>", desc := "(I)V" } : Jvm.MethodName)) ∈ lw_all := lw_g (lw_at lw_m2 122 rfl) rfl
theorem q452 : (Jvm.Cond.methodLink "TaxOnLooks" (151 : Nat) ({ cls := "TaxOnLooks", name := "refused", desc := "(LTaxOnLooks$Refused;)I" } : Jvm.MethodName)) ∈ lw_all := lw_g (lw_at lw_m2 131 rfl) rfl
theorem q453 : (Jvm.Cond.privateMethod ({ cls := "TaxOnLooks", name := "refused", desc := "(LTaxOnLooks$Refused;)I" } : Jvm.MethodName)) ∈ lw_tbl := lw_at lw_m2 132 rfl
theorem q454 : (Jvm.Cond.instanceMethod ({ cls := "TaxOnLooks", name := "refused", desc := "(LTaxOnLooks$Refused;)I" } : Jvm.MethodName)) ∈ lw_all := lw_g (lw_at lw_m2 133 rfl) rfl
theorem q455 : (Jvm.Cond.code ({ cls := "TaxOnLooks", name := "refused", desc := "(LTaxOnLooks$Refused;)I" } : Jvm.MethodName) prog_1_method_6_code (2 : Nat) (Option.some Jvm.ClassFile.FieldType.int)) ∈ lw_all := lw_g (lw_at lw_m2 134 rfl) rfl
theorem q457 : (Jvm.Cond.instanceMethod ({ cls := "TaxOnLooks", name := "set", desc := "(IIJ)I" } : Jvm.MethodName)) ∈ lw_all := lw_g (lw_at lw_m2 136 rfl) rfl
theorem q458 : (Jvm.Cond.selects "TaxOnLooks" ({ cls := "TaxOnLooks", name := "set", desc := "(IIJ)I" } : Jvm.MethodName) ({ cls := "TaxOnLooks", name := "set", desc := "(IIJ)I" } : Jvm.MethodName)) ∈ lw_all := lw_g (lw_at lw_m2 137 rfl) rfl
theorem q459 : (Jvm.Cond.codeWith ({ cls := "TaxOnLooks", name := "set", desc := "(IIJ)I" } : Jvm.MethodName) prog_1_method_13_code (7 : Nat) (Option.some Jvm.ClassFile.FieldType.int) [((10 : Nat), (17 : Nat), (20 : Nat), (99 : Nat)), ((0 : Nat), (33 : Nat), (34 : Nat), (21 : Nat))]) ∈ lw_all := lw_g (lw_at lw_m2 138 rfl) rfl
theorem q460 : (Jvm.Cond.methodLink "TaxOnLooks" (155 : Nat) ({ cls := "TaxOnLooks$Shelf", name := "row", desc := "()LTaxOnLooks$Row;" } : Jvm.MethodName)) ∈ lw_all := lw_g (lw_at lw_m2 139 rfl) rfl
theorem q482 : (Jvm.Cond.methodLink "TaxOnLooks" (158 : Nat) ({ cls := "TaxOnLooks$Row", name := "put", desc := "(IJ)V" } : Jvm.MethodName)) ∈ lw_all := lw_g (lw_at lw_m2 161 rfl) rfl
theorem q498 : (Jvm.Cond.instanceMethod ({ cls := "TaxOnLooks", name := "copy", desc := "(IIIII)I" } : Jvm.MethodName)) ∈ lw_all := lw_g (lw_at lw_m2 177 rfl) rfl
theorem q499 : (Jvm.Cond.selects "TaxOnLooks" ({ cls := "TaxOnLooks", name := "copy", desc := "(IIIII)I" } : Jvm.MethodName) ({ cls := "TaxOnLooks", name := "copy", desc := "(IIIII)I" } : Jvm.MethodName)) ∈ lw_all := lw_g (lw_at lw_m2 178 rfl) rfl
theorem q500 : (Jvm.Cond.codeWith ({ cls := "TaxOnLooks", name := "copy", desc := "(IIIII)I" } : Jvm.MethodName) prog_1_method_14_code (11 : Nat) (Option.some Jvm.ClassFile.FieldType.int) [((114 : Nat), (132 : Nat), (135 : Nat), (165 : Nat)), ((0 : Nat), (148 : Nat), (149 : Nat), (21 : Nat))]) ∈ lw_all := lw_g (lw_at lw_m2 179 rfl) rfl
theorem q501 : (Jvm.Cond.classLink "TaxOnLooks" (165 : Nat) "java/lang/IndexOutOfBoundsException") ∈ lw_all := lw_g (lw_at lw_m2 180 rfl) rfl
theorem q502 : (Jvm.Cond.methodLink "TaxOnLooks" (109 : Nat) ({ cls := "TaxOnLooks$Shelf", name := "holdsPerson", desc := "()Z" } : Jvm.MethodName)) ∈ lw_all := lw_g (lw_at lw_m2 181 rfl) rfl
theorem q507 : (Jvm.Cond.methodLink "TaxOnLooks" (162 : Nat) ({ cls := "TaxOnLooks$Row", name := "sort", desc := "()I" } : Jvm.MethodName)) ∈ lw_all := lw_g (lw_at lw_m2 186 rfl) rfl
theorem q522 : (Jvm.Cond.methodLink "TaxOnLooks" (7 : Nat) ({ cls := "TaxOnLooks$Row", name := "held", desc := "()Ljava/lang/Object;" } : Jvm.MethodName)) ∈ lw_all := lw_g (lw_at lw_m2 201 rfl) rfl
theorem q537 : (Jvm.Cond.methodLink "TaxOnLooks" (15 : Nat) ({ cls := "java/lang/System", name := "arraycopy", desc := "(Ljava/lang/Object;ILjava/lang/Object;II)V" } : Jvm.MethodName)) ∈ lw_all := lw_g (lw_at lw_m2 216 rfl) rfl
theorem q541 : (Jvm.Cond.instanceMethod ({ cls := "TaxOnLooks", name := "element", desc := "(II)J" } : Jvm.MethodName)) ∈ lw_all := lw_g (lw_at lw_m2 220 rfl) rfl
theorem q542 : (Jvm.Cond.selects "TaxOnLooks" ({ cls := "TaxOnLooks", name := "element", desc := "(II)J" } : Jvm.MethodName) ({ cls := "TaxOnLooks", name := "element", desc := "(II)J" } : Jvm.MethodName)) ∈ lw_all := lw_g (lw_at lw_m2 221 rfl) rfl
theorem q543 : (Jvm.Cond.codeWith ({ cls := "TaxOnLooks", name := "element", desc := "(II)J" } : Jvm.MethodName) prog_1_method_15_code (4 : Nat) (Option.some Jvm.ClassFile.FieldType.long) [((0 : Nat), (12 : Nat), (13 : Nat), (21 : Nat)), ((0 : Nat), (12 : Nat), (16 : Nat), (99 : Nat))]) ∈ lw_all := lw_g (lw_at lw_m2 222 rfl) rfl
theorem q544 : (Jvm.Cond.methodLink "TaxOnLooks" (167 : Nat) ({ cls := "TaxOnLooks$Row", name := "get", desc := "(I)J" } : Jvm.MethodName)) ∈ lw_all := lw_g (lw_at lw_m2 223 rfl) rfl
theorem q560 : (Jvm.Cond.instanceMethod ({ cls := "TaxOnLooks", name := "show", desc := "(II)I" } : Jvm.MethodName)) ∈ lw_all := lw_g (lw_at lw_m2 239 rfl) rfl
theorem q561 : (Jvm.Cond.selects "TaxOnLooks" ({ cls := "TaxOnLooks", name := "show", desc := "(II)I" } : Jvm.MethodName) ({ cls := "TaxOnLooks", name := "show", desc := "(II)I" } : Jvm.MethodName)) ∈ lw_all := lw_g (lw_at lw_m3 0 rfl) rfl
theorem q562 : (Jvm.Cond.codeWith ({ cls := "TaxOnLooks", name := "show", desc := "(II)I" } : Jvm.MethodName) prog_1_method_16_code (4 : Nat) (Option.some Jvm.ClassFile.FieldType.int) [((0 : Nat), (17 : Nat), (38 : Nat), (21 : Nat)), ((18 : Nat), (37 : Nat), (38 : Nat), (21 : Nat))]) ∈ lw_all := lw_g (lw_at lw_m3 1 rfl) rfl
theorem q563 : (Jvm.Cond.methodLink "TaxOnLooks" (171 : Nat) ({ cls := "TaxOnLooks", name := "mustPerson", desc := "(I)V" } : Jvm.MethodName)) ∈ lw_all := lw_g (lw_at lw_m3 2 rfl) rfl
theorem q564 : (Jvm.Cond.privateMethod ({ cls := "TaxOnLooks", name := "mustPerson", desc := "(I)V" } : Jvm.MethodName)) ∈ lw_tbl := lw_at lw_m3 3 rfl
theorem q565 : (Jvm.Cond.instanceMethod ({ cls := "TaxOnLooks", name := "mustPerson", desc := "(I)V" } : Jvm.MethodName)) ∈ lw_all := lw_g (lw_at lw_m3 4 rfl) rfl
theorem q566 : (Jvm.Cond.code ({ cls := "TaxOnLooks", name := "mustPerson", desc := "(I)V" } : Jvm.MethodName) prog_1_method_9_code (2 : Nat) (Option.none : Option Jvm.ClassFile.FieldType)) ∈ lw_all := lw_g (lw_at lw_m3 5 rfl) rfl
theorem q567 : (Jvm.Cond.methodLink "TaxOnLooks" (101 : Nat) ({ cls := "TaxOnLooks$Town", name := "isPerson", desc := "(I)Z" } : Jvm.MethodName)) ∈ lw_all := lw_g (lw_at lw_m3 6 rfl) rfl
theorem q572 : (Jvm.Cond.instanceMethod ({ cls := "TaxOnLooks", name := "holds", desc := "(I)I" } : Jvm.MethodName)) ∈ lw_all := lw_g (lw_at lw_m3 11 rfl) rfl
theorem q573 : (Jvm.Cond.selects "TaxOnLooks" ({ cls := "TaxOnLooks", name := "holds", desc := "(I)I" } : Jvm.MethodName) ({ cls := "TaxOnLooks", name := "holds", desc := "(I)I" } : Jvm.MethodName)) ∈ lw_all := lw_g (lw_at lw_m3 12 rfl) rfl
theorem q574 : (Jvm.Cond.code ({ cls := "TaxOnLooks", name := "holds", desc := "(I)I" } : Jvm.MethodName) prog_1_method_17_code (3 : Nat) (Option.some Jvm.ClassFile.FieldType.int)) ∈ lw_all := lw_g (lw_at lw_m3 13 rfl) rfl
theorem q575 : (Jvm.Cond.classLink "TaxOnLooks" (47 : Nat) "TaxOnLooks$Person") ∈ lw_all := lw_g (lw_at lw_m3 14 rfl) rfl
theorem q576 : (Jvm.Cond.classLink "TaxOnLooks" (2 : Nat) "TaxOnLooks$Row") ∈ lw_all := lw_g (lw_at lw_m3 15 rfl) rfl
theorem q578 : (Jvm.Cond.instanceMethod ({ cls := "TaxOnLooks", name := "says", desc := "(II)I" } : Jvm.MethodName)) ∈ lw_all := lw_g (lw_at lw_m3 17 rfl) rfl
theorem q579 : (Jvm.Cond.selects "TaxOnLooks" ({ cls := "TaxOnLooks", name := "says", desc := "(II)I" } : Jvm.MethodName) ({ cls := "TaxOnLooks", name := "says", desc := "(II)I" } : Jvm.MethodName)) ∈ lw_all := lw_g (lw_at lw_m3 18 rfl) rfl
theorem q580 : (Jvm.Cond.codeWith ({ cls := "TaxOnLooks", name := "says", desc := "(II)I" } : Jvm.MethodName) prog_1_method_18_code (4 : Nat) (Option.some Jvm.ClassFile.FieldType.int) [((0 : Nat), (28 : Nat), (29 : Nat), (21 : Nat))]) ∈ lw_all := lw_g (lw_at lw_m3 19 rfl) rfl
theorem q581 : (Jvm.Cond.constantLong "TaxOnLooks" (174 : Nat) (6 : Int64)) ∈ lw_all := lw_g (lw_at lw_m3 20 rfl) rfl
theorem q582 : (Jvm.Cond.methodLink "TaxOnLooks" (176 : Nat) ({ cls := "TaxOnLooks$Shelf", name := "says", desc := "(ILTaxOnLooks$Town;)I" } : Jvm.MethodName)) ∈ lw_all := lw_g (lw_at lw_m3 21 rfl) rfl
theorem q626 : (Jvm.Cond.instanceMethod ({ cls := "TaxOnLooks", name := "person", desc := "(IIIIII)I" } : Jvm.MethodName)) ∈ lw_all := lw_g (lw_at lw_m3 65 rfl) rfl
theorem q627 : (Jvm.Cond.selects "TaxOnLooks" ({ cls := "TaxOnLooks", name := "person", desc := "(IIIIII)I" } : Jvm.MethodName) ({ cls := "TaxOnLooks", name := "person", desc := "(IIIIII)I" } : Jvm.MethodName)) ∈ lw_all := lw_g (lw_at lw_m3 66 rfl) rfl
theorem q628 : (Jvm.Cond.codeWith ({ cls := "TaxOnLooks", name := "person", desc := "(IIIIII)I" } : Jvm.MethodName) prog_1_method_19_code (8 : Nat) (Option.some Jvm.ClassFile.FieldType.int) [((0 : Nat), (152 : Nat), (153 : Nat), (21 : Nat))]) ∈ lw_all := lw_g (lw_at lw_m3 67 rfl) rfl
theorem q629 : (Jvm.Cond.constantLong "TaxOnLooks" (180 : Nat) (9 : Int64)) ∈ lw_all := lw_g (lw_at lw_m3 68 rfl) rfl
theorem q630 : (Jvm.Cond.constantLong "TaxOnLooks" (182 : Nat) (20 : Int64)) ∈ lw_all := lw_g (lw_at lw_m3 69 rfl) rfl
theorem q631 : (Jvm.Cond.constantLong "TaxOnLooks" (184 : Nat) (9999 : Int64)) ∈ lw_all := lw_g (lw_at lw_m3 70 rfl) rfl
theorem q632 : (Jvm.Cond.methodLink "TaxOnLooks" (186 : Nat) ({ cls := "TaxOnLooks$Town", name := "isFree", desc := "(I)Z" } : Jvm.MethodName)) ∈ lw_all := lw_g (lw_at lw_m3 71 rfl) rfl
theorem q640 : (Jvm.Cond.methodLink "TaxOnLooks" (192 : Nat) ({ cls := "TaxOnLooks", name := "personOfKind", desc := "(IIII)LTaxOnLooks$Person;" } : Jvm.MethodName)) ∈ lw_all := lw_g (lw_at lw_m3 79 rfl) rfl
theorem q641 : (Jvm.Cond.static ({ cls := "TaxOnLooks", name := "personOfKind", desc := "(IIII)LTaxOnLooks$Person;" } : Jvm.MethodName)) ∈ lw_all := lw_g (lw_at lw_m3 80 rfl) rfl
theorem q642 : (Jvm.Cond.code ({ cls := "TaxOnLooks", name := "personOfKind", desc := "(IIII)LTaxOnLooks$Person;" } : Jvm.MethodName) prog_1_method_4_code (4 : Nat) (Option.some (Jvm.ClassFile.FieldType.object "TaxOnLooks$Person"))) ∈ lw_all := lw_g (lw_at lw_m3 81 rfl) rfl
theorem q643 : (Jvm.Cond.classLink "TaxOnLooks" (27 : Nat) "TaxOnLooks$Beauty") ∈ lw_all := lw_g (lw_at lw_m3 82 rfl) rfl
theorem q645 : (Jvm.Cond.methodLink "TaxOnLooks" (29 : Nat) ({ cls := "TaxOnLooks$Beauty", name := "<init>", desc := "(III)V" } : Jvm.MethodName)) ∈ lw_all := lw_g (lw_at lw_m3 84 rfl) rfl
theorem q664 : (Jvm.Cond.fieldLink "TaxOnLooks" (116 : Nat) "TaxOnLooks$Person" "index" "I") ∈ lw_all := lw_g (lw_at lw_m3 103 rfl) rfl
theorem q672 : (Jvm.Cond.fieldLink "TaxOnLooks" (247 : Nat) "TaxOnLooks$Person" "by" "I") ∈ lw_all := lw_g (lw_at lw_m3 111 rfl) rfl
theorem q680 : (Jvm.Cond.fieldLink "TaxOnLooks" (253 : Nat) "TaxOnLooks$Person" "shame" "I") ∈ lw_all := lw_g (lw_at lw_m3 119 rfl) rfl
theorem q687 : (Jvm.Cond.classLink "TaxOnLooks" (32 : Nat) "TaxOnLooks$Actress") ∈ lw_all := lw_g (lw_at lw_m3 126 rfl) rfl
theorem q689 : (Jvm.Cond.methodLink "TaxOnLooks" (34 : Nat) ({ cls := "TaxOnLooks$Actress", name := "<init>", desc := "(III)V" } : Jvm.MethodName)) ∈ lw_all := lw_g (lw_at lw_m3 128 rfl) rfl
theorem q696 : (Jvm.Cond.classLink "TaxOnLooks" (35 : Nat) "TaxOnLooks$Blind") ∈ lw_all := lw_g (lw_at lw_m3 135 rfl) rfl
theorem q698 : (Jvm.Cond.methodLink "TaxOnLooks" (37 : Nat) ({ cls := "TaxOnLooks$Blind", name := "<init>", desc := "(III)V" } : Jvm.MethodName)) ∈ lw_all := lw_g (lw_at lw_m3 137 rfl) rfl
theorem q706 : (Jvm.Cond.classLink "TaxOnLooks" (38 : Nat) "TaxOnLooks$Lover") ∈ lw_all := lw_g (lw_at lw_m3 145 rfl) rfl
theorem q708 : (Jvm.Cond.methodLink "TaxOnLooks" (40 : Nat) ({ cls := "TaxOnLooks$Lover", name := "<init>", desc := "(III)V" } : Jvm.MethodName)) ∈ lw_all := lw_g (lw_at lw_m3 147 rfl) rfl
theorem q715 : (Jvm.Cond.classLink "TaxOnLooks" (41 : Nat) "TaxOnLooks$Child") ∈ lw_all := lw_g (lw_at lw_m3 154 rfl) rfl
theorem q717 : (Jvm.Cond.methodLink "TaxOnLooks" (43 : Nat) ({ cls := "TaxOnLooks$Child", name := "<init>", desc := "(III)V" } : Jvm.MethodName)) ∈ lw_all := lw_g (lw_at lw_m3 156 rfl) rfl
theorem q725 : (Jvm.Cond.classLink "TaxOnLooks" (44 : Nat) "TaxOnLooks$Shamed") ∈ lw_all := lw_g (lw_at lw_m3 164 rfl) rfl
theorem q727 : (Jvm.Cond.methodLink "TaxOnLooks" (46 : Nat) ({ cls := "TaxOnLooks$Shamed", name := "<init>", desc := "(III)V" } : Jvm.MethodName)) ∈ lw_all := lw_g (lw_at lw_m3 166 rfl) rfl
theorem q735 : (Jvm.Cond.methodLink "TaxOnLooks" (49 : Nat) ({ cls := "TaxOnLooks$Person", name := "<init>", desc := "(III)V" } : Jvm.MethodName)) ∈ lw_all := lw_g (lw_at lw_m3 174 rfl) rfl
theorem q740 : (Jvm.Cond.methodLink "TaxOnLooks" (196 : Nat) ({ cls := "TaxOnLooks$Town", name := "addPerson", desc := "(LTaxOnLooks$Person;III)V" } : Jvm.MethodName)) ∈ lw_all := lw_g (lw_at lw_m3 179 rfl) rfl
theorem q745 : (Jvm.Cond.instanceMethod ({ cls := "TaxOnLooks", name := "build", desc := "(IIZ)I" } : Jvm.MethodName)) ∈ lw_all := lw_g (lw_at lw_m3 184 rfl) rfl
theorem q746 : (Jvm.Cond.selects "TaxOnLooks" ({ cls := "TaxOnLooks", name := "build", desc := "(IIZ)I" } : Jvm.MethodName) ({ cls := "TaxOnLooks", name := "build", desc := "(IIZ)I" } : Jvm.MethodName)) ∈ lw_all := lw_g (lw_at lw_m3 185 rfl) rfl
theorem q747 : (Jvm.Cond.codeWith ({ cls := "TaxOnLooks", name := "build", desc := "(IIZ)I" } : Jvm.MethodName) prog_1_method_21_code (6 : Nat) (Option.some Jvm.ClassFile.FieldType.int) [((0 : Nat), (159 : Nat), (160 : Nat), (21 : Nat))]) ∈ lw_all := lw_g (lw_at lw_m3 186 rfl) rfl
theorem q748 : (Jvm.Cond.constantLong "TaxOnLooks" (202 : Nat) (35 : Int64)) ∈ lw_all := lw_g (lw_at lw_m3 187 rfl) rfl
theorem q749 : (Jvm.Cond.methodLink "TaxOnLooks" (204 : Nat) ({ cls := "TaxOnLooks$Town", name := "standAt", desc := "(I)I" } : Jvm.MethodName)) ∈ lw_all := lw_g (lw_at lw_m3 188 rfl) rfl
theorem q753 : (Jvm.Cond.methodLink "TaxOnLooks" (215 : Nat) ({ cls := "TaxOnLooks", name := "changed", desc := "(JIZ)J" } : Jvm.MethodName)) ∈ lw_all := lw_g (lw_at lw_m3 192 rfl) rfl
theorem q754 : (Jvm.Cond.static ({ cls := "TaxOnLooks", name := "changed", desc := "(JIZ)J" } : Jvm.MethodName)) ∈ lw_all := lw_g (lw_at lw_m3 193 rfl) rfl
theorem q755 : (Jvm.Cond.code ({ cls := "TaxOnLooks", name := "changed", desc := "(JIZ)J" } : Jvm.MethodName) prog_1_method_20_code (4 : Nat) (Option.some Jvm.ClassFile.FieldType.long)) ∈ lw_all := lw_g (lw_at lw_m3 194 rfl) rfl
theorem q756 : (Jvm.Cond.constantLong "TaxOnLooks" (200 : Nat) (-1 : Int64)) ∈ lw_all := lw_g (lw_at lw_m3 195 rfl) rfl
theorem q758 : (Jvm.Cond.instanceMethod ({ cls := "TaxOnLooks", name := "put", desc := "(II)I" } : Jvm.MethodName)) ∈ lw_all := lw_g (lw_at lw_m3 197 rfl) rfl
theorem q759 : (Jvm.Cond.selects "TaxOnLooks" ({ cls := "TaxOnLooks", name := "put", desc := "(II)I" } : Jvm.MethodName) ({ cls := "TaxOnLooks", name := "put", desc := "(II)I" } : Jvm.MethodName)) ∈ lw_all := lw_g (lw_at lw_m3 198 rfl) rfl
theorem q760 : (Jvm.Cond.codeWith ({ cls := "TaxOnLooks", name := "put", desc := "(II)I" } : Jvm.MethodName) prog_1_method_22_code (4 : Nat) (Option.some Jvm.ClassFile.FieldType.int) [((0 : Nat), (39 : Nat), (40 : Nat), (21 : Nat))]) ∈ lw_all := lw_g (lw_at lw_m3 199 rfl) rfl
theorem q762 : (Jvm.Cond.instanceMethod ({ cls := "TaxOnLooks", name := "sack", desc := "(IZ)I" } : Jvm.MethodName)) ∈ lw_all := lw_g (lw_at lw_m3 201 rfl) rfl
theorem q763 : (Jvm.Cond.selects "TaxOnLooks" ({ cls := "TaxOnLooks", name := "sack", desc := "(IZ)I" } : Jvm.MethodName) ({ cls := "TaxOnLooks", name := "sack", desc := "(IZ)I" } : Jvm.MethodName)) ∈ lw_all := lw_g (lw_at lw_m3 202 rfl) rfl
theorem q764 : (Jvm.Cond.codeWith ({ cls := "TaxOnLooks", name := "sack", desc := "(IZ)I" } : Jvm.MethodName) prog_1_method_23_code (4 : Nat) (Option.some Jvm.ClassFile.FieldType.int) [((0 : Nat), (56 : Nat), (57 : Nat), (21 : Nat))]) ∈ lw_all := lw_g (lw_at lw_m3 203 rfl) rfl
theorem q766 : (Jvm.Cond.instanceMethod ({ cls := "TaxOnLooks", name := "ask", desc := "(II)I" } : Jvm.MethodName)) ∈ lw_all := lw_g (lw_at lw_m3 205 rfl) rfl
theorem q767 : (Jvm.Cond.selects "TaxOnLooks" ({ cls := "TaxOnLooks", name := "ask", desc := "(II)I" } : Jvm.MethodName) ({ cls := "TaxOnLooks", name := "ask", desc := "(II)I" } : Jvm.MethodName)) ∈ lw_all := lw_g (lw_at lw_m3 206 rfl) rfl
theorem q768 : (Jvm.Cond.codeWith ({ cls := "TaxOnLooks", name := "ask", desc := "(II)I" } : Jvm.MethodName) prog_1_method_25_code (4 : Nat) (Option.some Jvm.ClassFile.FieldType.int) [((0 : Nat), (6 : Nat), (7 : Nat), (21 : Nat))]) ∈ lw_all := lw_g (lw_at lw_m3 207 rfl) rfl
theorem q769 : (Jvm.Cond.methodLink "TaxOnLooks" (237 : Nat) ({ cls := "TaxOnLooks", name := "asked", desc := "(II)I" } : Jvm.MethodName)) ∈ lw_all := lw_g (lw_at lw_m3 208 rfl) rfl
theorem q770 : (Jvm.Cond.privateMethod ({ cls := "TaxOnLooks", name := "asked", desc := "(II)I" } : Jvm.MethodName)) ∈ lw_tbl := lw_at lw_m3 209 rfl
theorem q771 : (Jvm.Cond.instanceMethod ({ cls := "TaxOnLooks", name := "asked", desc := "(II)I" } : Jvm.MethodName)) ∈ lw_all := lw_g (lw_at lw_m3 210 rfl) rfl
theorem q772 : (Jvm.Cond.code ({ cls := "TaxOnLooks", name := "asked", desc := "(II)I" } : Jvm.MethodName) prog_1_method_24_code (4 : Nat) (Option.some Jvm.ClassFile.FieldType.int)) ∈ lw_all := lw_g (lw_at lw_m3 211 rfl) rfl
theorem q773 : (Jvm.Cond.constantLong "TaxOnLooks" (228 : Nat) (5 : Int64)) ∈ lw_all := lw_g (lw_at lw_m3 212 rfl) rfl
theorem q775 : (Jvm.Cond.instanceMethod ({ cls := "TaxOnLooks", name := "personOf", desc := "(II)I" } : Jvm.MethodName)) ∈ lw_all := lw_g (lw_at lw_m3 214 rfl) rfl
theorem q776 : (Jvm.Cond.selects "TaxOnLooks" ({ cls := "TaxOnLooks", name := "personOf", desc := "(II)I" } : Jvm.MethodName) ({ cls := "TaxOnLooks", name := "personOf", desc := "(II)I" } : Jvm.MethodName)) ∈ lw_all := lw_g (lw_at lw_m3 215 rfl) rfl
theorem q777 : (Jvm.Cond.code ({ cls := "TaxOnLooks", name := "personOf", desc := "(II)I" } : Jvm.MethodName) prog_1_method_26_code (3 : Nat) (Option.some Jvm.ClassFile.FieldType.int)) ∈ lw_all := lw_g (lw_at lw_m3 216 rfl) rfl
theorem q778 : (Jvm.Cond.methodLink "TaxOnLooks" (241 : Nat) ({ cls := "TaxOnLooks", name := "beyond", desc := "()I" } : Jvm.MethodName)) ∈ lw_all := lw_g (lw_at lw_m3 217 rfl) rfl
theorem q779 : (Jvm.Cond.privateMethod ({ cls := "TaxOnLooks", name := "beyond", desc := "()I" } : Jvm.MethodName)) ∈ lw_tbl := lw_at lw_m3 218 rfl
theorem q780 : (Jvm.Cond.instanceMethod ({ cls := "TaxOnLooks", name := "beyond", desc := "()I" } : Jvm.MethodName)) ∈ lw_all := lw_g (lw_at lw_m3 219 rfl) rfl
theorem q781 : (Jvm.Cond.code ({ cls := "TaxOnLooks", name := "beyond", desc := "()I" } : Jvm.MethodName) prog_1_method_7_code (1 : Nat) (Option.some Jvm.ClassFile.FieldType.int)) ∈ lw_all := lw_g (lw_at lw_m3 220 rfl) rfl
theorem q782 : (Jvm.Cond.methodLink "TaxOnLooks" (244 : Nat) ({ cls := "TaxOnLooks$Person", name := "kind", desc := "()I" } : Jvm.MethodName)) ∈ lw_all := lw_g (lw_at lw_m3 221 rfl) rfl
theorem q805 : (Jvm.Cond.methodLink "TaxOnLooks" (259 : Nat) ({ cls := "TaxOnLooks$Town", name := "show", desc := "(I)I" } : Jvm.MethodName)) ∈ lw_all := lw_g (lw_at lw_m4 4 rfl) rfl
theorem q807 : (Jvm.Cond.instanceMethod ({ cls := "TaxOnLooks", name := "squareOf", desc := "(II)I" } : Jvm.MethodName)) ∈ lw_all := lw_g (lw_at lw_m4 6 rfl) rfl
theorem q808 : (Jvm.Cond.selects "TaxOnLooks" ({ cls := "TaxOnLooks", name := "squareOf", desc := "(II)I" } : Jvm.MethodName) ({ cls := "TaxOnLooks", name := "squareOf", desc := "(II)I" } : Jvm.MethodName)) ∈ lw_all := lw_g (lw_at lw_m4 7 rfl) rfl
theorem q809 : (Jvm.Cond.code ({ cls := "TaxOnLooks", name := "squareOf", desc := "(II)I" } : Jvm.MethodName) prog_1_method_27_code (3 : Nat) (Option.some Jvm.ClassFile.FieldType.int)) ∈ lw_all := lw_g (lw_at lw_m4 8 rfl) rfl
theorem q810 : (Jvm.Cond.methodLink "TaxOnLooks" (262 : Nat) ({ cls := "TaxOnLooks$Town", name := "isWall", desc := "(I)Z" } : Jvm.MethodName)) ∈ lw_all := lw_g (lw_at lw_m4 9 rfl) rfl
theorem q812 : (Jvm.Cond.instanceMethod ({ cls := "TaxOnLooks", name := "town", desc := "(I)I" } : Jvm.MethodName)) ∈ lw_all := lw_g (lw_at lw_m4 11 rfl) rfl
theorem q813 : (Jvm.Cond.selects "TaxOnLooks" ({ cls := "TaxOnLooks", name := "town", desc := "(I)I" } : Jvm.MethodName) ({ cls := "TaxOnLooks", name := "town", desc := "(I)I" } : Jvm.MethodName)) ∈ lw_all := lw_g (lw_at lw_m4 12 rfl) rfl
theorem q814 : (Jvm.Cond.codeWith ({ cls := "TaxOnLooks", name := "town", desc := "(I)I" } : Jvm.MethodName) prog_1_method_28_code (5 : Nat) (Option.some Jvm.ClassFile.FieldType.int) [((29 : Nat), (50 : Nat), (51 : Nat), (277 : Nat)), ((0 : Nat), (50 : Nat), (72 : Nat), (21 : Nat)), ((51 : Nat), (72 : Nat), (72 : Nat), (21 : Nat))]) ∈ lw_all := lw_g (lw_at lw_m4 13 rfl) rfl
theorem q815 : (Jvm.Cond.classLink "TaxOnLooks" (277 : Nat) "TaxOnLooks$Faulty") ∈ lw_all := lw_g (lw_at lw_m4 14 rfl) rfl
theorem q816 : (Jvm.Cond.methodLink "TaxOnLooks" (265 : Nat) ({ cls := "TaxOnLooks$Town", name := "take", desc := "(LTaxOnLooks$Town;)LTaxOnLooks$Town;" } : Jvm.MethodName)) ∈ lw_all := lw_g (lw_at lw_m4 15 rfl) rfl
theorem q821 : (Jvm.Cond.classLink "TaxOnLooks" (269 : Nat) "TaxOnLooks$Reader") ∈ lw_all := lw_g (lw_at lw_m4 20 rfl) rfl
theorem q823 : (Jvm.Cond.methodLink "TaxOnLooks" (271 : Nat) ({ cls := "TaxOnLooks$Reader", name := "<init>", desc := "(LTaxOnLooks$Row;LTaxOnLooks$Town;)V" } : Jvm.MethodName)) ∈ lw_all := lw_g (lw_at lw_m4 22 rfl) rfl
theorem q840 : (Jvm.Cond.methodLink "TaxOnLooks" (274 : Nat) ({ cls := "TaxOnLooks$Reader", name := "items", desc := "()I" } : Jvm.MethodName)) ∈ lw_all := lw_g (lw_at lw_m4 39 rfl) rfl
theorem q955 : (Jvm.Cond.fieldLink "TaxOnLooks" (279 : Nat) "TaxOnLooks$Faulty" "place" "I") ∈ lw_all := lw_g (lw_at lw_m4 154 rfl) rfl
theorem q993 : (Jvm.Cond.instanceMethod ({ cls := "TaxOnLooks", name := "fault", desc := "()I" } : Jvm.MethodName)) ∈ lw_all := lw_g (lw_at lw_m4 192 rfl) rfl
theorem q994 : (Jvm.Cond.selects "TaxOnLooks" ({ cls := "TaxOnLooks", name := "fault", desc := "()I" } : Jvm.MethodName) ({ cls := "TaxOnLooks", name := "fault", desc := "()I" } : Jvm.MethodName)) ∈ lw_all := lw_g (lw_at lw_m4 193 rfl) rfl
theorem q995 : (Jvm.Cond.code ({ cls := "TaxOnLooks", name := "fault", desc := "()I" } : Jvm.MethodName) prog_1_method_29_code (1 : Nat) (Option.some Jvm.ClassFile.FieldType.int)) ∈ lw_all := lw_g (lw_at lw_m4 194 rfl) rfl
theorem q997 : (Jvm.Cond.instanceMethod ({ cls := "TaxOnLooks", name := "view", desc := "(II)I" } : Jvm.MethodName)) ∈ lw_all := lw_g (lw_at lw_m4 196 rfl) rfl
theorem q998 : (Jvm.Cond.selects "TaxOnLooks" ({ cls := "TaxOnLooks", name := "view", desc := "(II)I" } : Jvm.MethodName) ({ cls := "TaxOnLooks", name := "view", desc := "(II)I" } : Jvm.MethodName)) ∈ lw_all := lw_g (lw_at lw_m4 197 rfl) rfl
theorem q999 : (Jvm.Cond.codeWith ({ cls := "TaxOnLooks", name := "view", desc := "(II)I" } : Jvm.MethodName) prog_1_method_30_code (4 : Nat) (Option.some Jvm.ClassFile.FieldType.int) [((0 : Nat), (51 : Nat), (52 : Nat), (21 : Nat))]) ∈ lw_all := lw_g (lw_at lw_m4 198 rfl) rfl
theorem q1000 : (Jvm.Cond.methodLink "TaxOnLooks" (282 : Nat) ({ cls := "TaxOnLooks$Town", name := "isInView", desc := "(II)Z" } : Jvm.MethodName)) ∈ lw_all := lw_g (lw_at lw_m4 199 rfl) rfl
theorem q1015 : (Jvm.Cond.instanceMethod ({ cls := "TaxOnLooks", name := "glances", desc := "(II)I" } : Jvm.MethodName)) ∈ lw_all := lw_g (lw_at lw_m4 214 rfl) rfl
theorem q1016 : (Jvm.Cond.selects "TaxOnLooks" ({ cls := "TaxOnLooks", name := "glances", desc := "(II)I" } : Jvm.MethodName) ({ cls := "TaxOnLooks", name := "glances", desc := "(II)I" } : Jvm.MethodName)) ∈ lw_all := lw_g (lw_at lw_m4 215 rfl) rfl
theorem q1017 : (Jvm.Cond.codeWith ({ cls := "TaxOnLooks", name := "glances", desc := "(II)I" } : Jvm.MethodName) prog_1_method_31_code (4 : Nat) (Option.some Jvm.ClassFile.FieldType.int) [((0 : Nat), (40 : Nat), (41 : Nat), (21 : Nat))]) ∈ lw_all := lw_g (lw_at lw_m4 216 rfl) rfl
theorem q1018 : (Jvm.Cond.methodLink "TaxOnLooks" (286 : Nat) ({ cls := "TaxOnLooks$Town", name := "glancers", desc := "(I)I" } : Jvm.MethodName)) ∈ lw_all := lw_g (lw_at lw_m4 217 rfl) rfl
theorem q1062 : (Jvm.Cond.methodLink "TaxOnLooks" (289 : Nat) ({ cls := "TaxOnLooks$Town", name := "glances", desc := "(I)I" } : Jvm.MethodName)) ∈ lw_all := lw_g (lw_at lw_m5 21 rfl) rfl
theorem q1064 : (Jvm.Cond.instanceMethod ({ cls := "TaxOnLooks", name := "duty", desc := "(II)I" } : Jvm.MethodName)) ∈ lw_all := lw_g (lw_at lw_m5 23 rfl) rfl
theorem q1065 : (Jvm.Cond.selects "TaxOnLooks" ({ cls := "TaxOnLooks", name := "duty", desc := "(II)I" } : Jvm.MethodName) ({ cls := "TaxOnLooks", name := "duty", desc := "(II)I" } : Jvm.MethodName)) ∈ lw_all := lw_g (lw_at lw_m5 24 rfl) rfl
theorem q1066 : (Jvm.Cond.codeWith ({ cls := "TaxOnLooks", name := "duty", desc := "(II)I" } : Jvm.MethodName) prog_1_method_32_code (4 : Nat) (Option.some Jvm.ClassFile.FieldType.int) [((0 : Nat), (40 : Nat), (41 : Nat), (21 : Nat))]) ∈ lw_all := lw_g (lw_at lw_m5 25 rfl) rfl
theorem q1067 : (Jvm.Cond.methodLink "TaxOnLooks" (292 : Nat) ({ cls := "TaxOnLooks$Town", name := "duty", desc := "(I)I" } : Jvm.MethodName)) ∈ lw_all := lw_g (lw_at lw_m5 26 rfl) rfl
theorem q1101 : (Jvm.Cond.methodLink "TaxOnLooks" (295 : Nat) ({ cls := "TaxOnLooks$Town", name := "fine", desc := "(I)I" } : Jvm.MethodName)) ∈ lw_all := lw_g (lw_at lw_m5 60 rfl) rfl
theorem q1106 : (Jvm.Cond.instanceMethod ({ cls := "TaxOnLooks", name := "all", desc := "(I)I" } : Jvm.MethodName)) ∈ lw_all := lw_g (lw_at lw_m5 65 rfl) rfl
theorem q1107 : (Jvm.Cond.selects "TaxOnLooks" ({ cls := "TaxOnLooks", name := "all", desc := "(I)I" } : Jvm.MethodName) ({ cls := "TaxOnLooks", name := "all", desc := "(I)I" } : Jvm.MethodName)) ∈ lw_all := lw_g (lw_at lw_m5 66 rfl) rfl
theorem q1108 : (Jvm.Cond.codeWith ({ cls := "TaxOnLooks", name := "all", desc := "(I)I" } : Jvm.MethodName) prog_1_method_33_code (6 : Nat) (Option.some Jvm.ClassFile.FieldType.int) [((0 : Nat), (143 : Nat), (144 : Nat), (21 : Nat))]) ∈ lw_all := lw_g (lw_at lw_m5 67 rfl) rfl
theorem q1109 : (Jvm.Cond.methodLink "TaxOnLooks" (298 : Nat) ({ cls := "TaxOnLooks$Town", name := "duties", desc := "()I" } : Jvm.MethodName)) ∈ lw_all := lw_g (lw_at lw_m5 68 rfl) rfl
theorem q1115 : (Jvm.Cond.instanceMethod ({ cls := "TaxOnLooks", name := "walk", desc := "(III)I" } : Jvm.MethodName)) ∈ lw_all := lw_g (lw_at lw_m5 74 rfl) rfl
theorem q1116 : (Jvm.Cond.selects "TaxOnLooks" ({ cls := "TaxOnLooks", name := "walk", desc := "(III)I" } : Jvm.MethodName) ({ cls := "TaxOnLooks", name := "walk", desc := "(III)I" } : Jvm.MethodName)) ∈ lw_all := lw_g (lw_at lw_m5 75 rfl) rfl
theorem q1117 : (Jvm.Cond.codeWith ({ cls := "TaxOnLooks", name := "walk", desc := "(III)I" } : Jvm.MethodName) prog_1_method_34_code (5 : Nat) (Option.some Jvm.ClassFile.FieldType.int) [((0 : Nat), (76 : Nat), (124 : Nat), (21 : Nat)), ((77 : Nat), (123 : Nat), (124 : Nat), (21 : Nat))]) ∈ lw_all := lw_g (lw_at lw_m5 76 rfl) rfl
theorem q1118 : (Jvm.Cond.constantLong "TaxOnLooks" (301 : Nat) (2 : Int64)) ∈ lw_all := lw_g (lw_at lw_m5 77 rfl) rfl
theorem q1119 : (Jvm.Cond.methodLink "TaxOnLooks" (303 : Nat) ({ cls := "TaxOnLooks$Walks", name := "find", desc := "(LTaxOnLooks$Town;II)V" } : Jvm.MethodName)) ∈ lw_all := lw_g (lw_at lw_m5 78 rfl) rfl
theorem q1141 : (Jvm.Cond.methodLink "TaxOnLooks" (307 : Nat) ({ cls := "TaxOnLooks$Walks", name := "comes", desc := "(I)Z" } : Jvm.MethodName)) ∈ lw_all := lw_g (lw_at lw_m5 100 rfl) rfl
theorem q1145 : (Jvm.Cond.methodLink "TaxOnLooks" (310 : Nat) ({ cls := "TaxOnLooks$Walks", name := "cost", desc := "(I)I" } : Jvm.MethodName)) ∈ lw_all := lw_g (lw_at lw_m5 104 rfl) rfl
theorem q1149 : (Jvm.Cond.methodLink "TaxOnLooks" (313 : Nat) ({ cls := "TaxOnLooks$Walks", name := "steps", desc := "(I)I" } : Jvm.MethodName)) ∈ lw_all := lw_g (lw_at lw_m5 108 rfl) rfl
theorem q1153 : (Jvm.Cond.methodLink "TaxOnLooks" (316 : Nat) ({ cls := "TaxOnLooks$Walks", name := "first", desc := "(LTaxOnLooks$Town;I)I" } : Jvm.MethodName)) ∈ lw_all := lw_g (lw_at lw_m5 112 rfl) rfl
theorem q1158 : (Jvm.Cond.instanceMethod ({ cls := "TaxOnLooks", name := "stand", desc := "(II)I" } : Jvm.MethodName)) ∈ lw_all := lw_g (lw_at lw_m5 117 rfl) rfl
theorem q1159 : (Jvm.Cond.selects "TaxOnLooks" ({ cls := "TaxOnLooks", name := "stand", desc := "(II)I" } : Jvm.MethodName) ({ cls := "TaxOnLooks", name := "stand", desc := "(II)I" } : Jvm.MethodName)) ∈ lw_all := lw_g (lw_at lw_m5 118 rfl) rfl
theorem q1160 : (Jvm.Cond.codeWith ({ cls := "TaxOnLooks", name := "stand", desc := "(II)I" } : Jvm.MethodName) prog_1_method_35_code (5 : Nat) (Option.some Jvm.ClassFile.FieldType.int) [((0 : Nat), (125 : Nat), (126 : Nat), (21 : Nat))]) ∈ lw_all := lw_g (lw_at lw_m5 119 rfl) rfl
theorem q1161 : (Jvm.Cond.methodLink "TaxOnLooks" (320 : Nat) ({ cls := "TaxOnLooks$Walks", name := "owes", desc := "(I)I" } : Jvm.MethodName)) ∈ lw_all := lw_g (lw_at lw_m5 120 rfl) rfl
theorem q1166 : (Jvm.Cond.instanceMethod ({ cls := "TaxOnLooks", name := "sacks", desc := "(II)I" } : Jvm.MethodName)) ∈ lw_all := lw_g (lw_at lw_m5 125 rfl) rfl
theorem q1167 : (Jvm.Cond.selects "TaxOnLooks" ({ cls := "TaxOnLooks", name := "sacks", desc := "(II)I" } : Jvm.MethodName) ({ cls := "TaxOnLooks", name := "sacks", desc := "(II)I" } : Jvm.MethodName)) ∈ lw_all := lw_g (lw_at lw_m5 126 rfl) rfl
theorem q1168 : (Jvm.Cond.codeWith ({ cls := "TaxOnLooks", name := "sacks", desc := "(II)I" } : Jvm.MethodName) prog_1_method_38_code (4 : Nat) (Option.some Jvm.ClassFile.FieldType.int) [((0 : Nat), (50 : Nat), (51 : Nat), (21 : Nat))]) ∈ lw_all := lw_g (lw_at lw_m5 127 rfl) rfl
theorem q1169 : (Jvm.Cond.methodLink "TaxOnLooks" (331 : Nat) ({ cls := "TaxOnLooks", name := "bestSacks", desc := "(I)I" } : Jvm.MethodName)) ∈ lw_all := lw_g (lw_at lw_m5 128 rfl) rfl
theorem q1170 : (Jvm.Cond.privateMethod ({ cls := "TaxOnLooks", name := "bestSacks", desc := "(I)I" } : Jvm.MethodName)) ∈ lw_tbl := lw_at lw_m5 129 rfl
theorem q1171 : (Jvm.Cond.instanceMethod ({ cls := "TaxOnLooks", name := "bestSacks", desc := "(I)I" } : Jvm.MethodName)) ∈ lw_all := lw_g (lw_at lw_m5 130 rfl) rfl
theorem q1172 : (Jvm.Cond.code ({ cls := "TaxOnLooks", name := "bestSacks", desc := "(I)I" } : Jvm.MethodName) prog_1_method_37_code (5 : Nat) (Option.some Jvm.ClassFile.FieldType.int)) ∈ lw_all := lw_g (lw_at lw_m5 131 rfl) rfl
theorem q1173 : (Jvm.Cond.methodLink "TaxOnLooks" (323 : Nat) ({ cls := "java/lang/Integer", name := "bitCount", desc := "(I)I" } : Jvm.MethodName)) ∈ lw_all := lw_g (lw_at lw_m5 132 rfl) rfl
theorem q1174 : (Jvm.Cond.methodLink "TaxOnLooks" (328 : Nat) ({ cls := "TaxOnLooks", name := "dutiesWith", desc := "(I)I" } : Jvm.MethodName)) ∈ lw_all := lw_g (lw_at lw_m5 133 rfl) rfl
theorem q1175 : (Jvm.Cond.privateMethod ({ cls := "TaxOnLooks", name := "dutiesWith", desc := "(I)I" } : Jvm.MethodName)) ∈ lw_tbl := lw_at lw_m5 134 rfl
theorem q1176 : (Jvm.Cond.instanceMethod ({ cls := "TaxOnLooks", name := "dutiesWith", desc := "(I)I" } : Jvm.MethodName)) ∈ lw_all := lw_g (lw_at lw_m5 135 rfl) rfl
theorem q1177 : (Jvm.Cond.code ({ cls := "TaxOnLooks", name := "dutiesWith", desc := "(I)I" } : Jvm.MethodName) prog_1_method_36_code (2 : Nat) (Option.some Jvm.ClassFile.FieldType.int)) ∈ lw_all := lw_g (lw_at lw_m5 136 rfl) rfl
theorem q1179 : (Jvm.Cond.instanceMethod ({ cls := "TaxOnLooks", name := "balconies", desc := "(I)I" } : Jvm.MethodName)) ∈ lw_all := lw_g (lw_at lw_m5 138 rfl) rfl
theorem q1180 : (Jvm.Cond.selects "TaxOnLooks" ({ cls := "TaxOnLooks", name := "balconies", desc := "(I)I" } : Jvm.MethodName) ({ cls := "TaxOnLooks", name := "balconies", desc := "(I)I" } : Jvm.MethodName)) ∈ lw_all := lw_g (lw_at lw_m5 139 rfl) rfl
theorem q1181 : (Jvm.Cond.codeWith ({ cls := "TaxOnLooks", name := "balconies", desc := "(I)I" } : Jvm.MethodName) prog_1_method_40_code (6 : Nat) (Option.some Jvm.ClassFile.FieldType.int) [((0 : Nat), (69 : Nat), (70 : Nat), (21 : Nat))]) ∈ lw_all := lw_g (lw_at lw_m5 140 rfl) rfl
theorem q1182 : (Jvm.Cond.methodLink "TaxOnLooks" (337 : Nat) ({ cls := "TaxOnLooks", name := "enteredWith", desc := "(I)I" } : Jvm.MethodName)) ∈ lw_all := lw_g (lw_at lw_m5 141 rfl) rfl
theorem q1183 : (Jvm.Cond.privateMethod ({ cls := "TaxOnLooks", name := "enteredWith", desc := "(I)I" } : Jvm.MethodName)) ∈ lw_tbl := lw_at lw_m5 142 rfl
theorem q1184 : (Jvm.Cond.instanceMethod ({ cls := "TaxOnLooks", name := "enteredWith", desc := "(I)I" } : Jvm.MethodName)) ∈ lw_all := lw_g (lw_at lw_m5 143 rfl) rfl
theorem q1185 : (Jvm.Cond.code ({ cls := "TaxOnLooks", name := "enteredWith", desc := "(I)I" } : Jvm.MethodName) prog_1_method_39_code (2 : Nat) (Option.some Jvm.ClassFile.FieldType.int)) ∈ lw_all := lw_g (lw_at lw_m5 144 rfl) rfl
theorem q1186 : (Jvm.Cond.methodLink "TaxOnLooks" (334 : Nat) ({ cls := "TaxOnLooks$Town", name := "enteredTogether", desc := "()I" } : Jvm.MethodName)) ∈ lw_all := lw_g (lw_at lw_m5 145 rfl) rfl
theorem q1190 : (Jvm.Cond.methodLink "TaxOnLooks" (340 : Nat) ({ cls := "java/lang/Math", name := "max", desc := "(II)I" } : Jvm.MethodName)) ∈ lw_all := lw_g (lw_at lw_m5 149 rfl) rfl
theorem q1192 : (Jvm.Cond.instanceMethod ({ cls := "TaxOnLooks", name := "fits", desc := "(II)I" } : Jvm.MethodName)) ∈ lw_all := lw_g (lw_at lw_m5 151 rfl) rfl
theorem q1193 : (Jvm.Cond.selects "TaxOnLooks" ({ cls := "TaxOnLooks", name := "fits", desc := "(II)I" } : Jvm.MethodName) ({ cls := "TaxOnLooks", name := "fits", desc := "(II)I" } : Jvm.MethodName)) ∈ lw_all := lw_g (lw_at lw_m5 152 rfl) rfl
theorem q1194 : (Jvm.Cond.codeWith ({ cls := "TaxOnLooks", name := "fits", desc := "(II)I" } : Jvm.MethodName) prog_1_method_42_code (7 : Nat) (Option.some Jvm.ClassFile.FieldType.int) [((0 : Nat), (108 : Nat), (109 : Nat), (21 : Nat))]) ∈ lw_all := lw_g (lw_at lw_m5 153 rfl) rfl
theorem q1195 : (Jvm.Cond.methodLink "TaxOnLooks" (11 : Nat) ({ cls := "TaxOnLooks$Row", name := "length", desc := "()I" } : Jvm.MethodName)) ∈ lw_all := lw_g (lw_at lw_m5 154 rfl) rfl
theorem q1196 : (Jvm.Cond.methodLink "TaxOnLooks" (348 : Nat) ({ cls := "TaxOnLooks", name := "isRoll", desc := "(LTaxOnLooks$Row;)Z" } : Jvm.MethodName)) ∈ lw_all := lw_g (lw_at lw_m5 155 rfl) rfl
theorem q1197 : (Jvm.Cond.privateMethod ({ cls := "TaxOnLooks", name := "isRoll", desc := "(LTaxOnLooks$Row;)Z" } : Jvm.MethodName)) ∈ lw_tbl := lw_at lw_m5 156 rfl
theorem q1198 : (Jvm.Cond.instanceMethod ({ cls := "TaxOnLooks", name := "isRoll", desc := "(LTaxOnLooks$Row;)Z" } : Jvm.MethodName)) ∈ lw_all := lw_g (lw_at lw_m5 157 rfl) rfl
theorem q1199 : (Jvm.Cond.code ({ cls := "TaxOnLooks", name := "isRoll", desc := "(LTaxOnLooks$Row;)Z" } : Jvm.MethodName) prog_1_method_41_code (3 : Nat) (Option.some Jvm.ClassFile.FieldType.boolean)) ∈ lw_all := lw_g (lw_at lw_m5 158 rfl) rfl
theorem q1200 : (Jvm.Cond.methodLink "TaxOnLooks" (345 : Nat) ({ cls := "TaxOnLooks$Row", name := "asInt", desc := "(I)I" } : Jvm.MethodName)) ∈ lw_all := lw_g (lw_at lw_m5 159 rfl) rfl
theorem q1202 : (Jvm.Cond.instanceMethod ({ cls := "TaxOnLooks", name := "most", desc := "(I)I" } : Jvm.MethodName)) ∈ lw_all := lw_g (lw_at lw_m5 161 rfl) rfl
theorem q1203 : (Jvm.Cond.selects "TaxOnLooks" ({ cls := "TaxOnLooks", name := "most", desc := "(I)I" } : Jvm.MethodName) ({ cls := "TaxOnLooks", name := "most", desc := "(I)I" } : Jvm.MethodName)) ∈ lw_all := lw_g (lw_at lw_m5 162 rfl) rfl
theorem q1204 : (Jvm.Cond.codeWith ({ cls := "TaxOnLooks", name := "most", desc := "(I)I" } : Jvm.MethodName) prog_1_method_44_code (5 : Nat) (Option.some Jvm.ClassFile.FieldType.int) [((0 : Nat), (114 : Nat), (115 : Nat), (21 : Nat))]) ∈ lw_all := lw_g (lw_at lw_m5 163 rfl) rfl
theorem q1205 : (Jvm.Cond.methodLink "TaxOnLooks" (355 : Nat) ({ cls := "TaxOnLooks", name := "dutiesWithout", desc := "(I)I" } : Jvm.MethodName)) ∈ lw_all := lw_g (lw_at lw_m5 164 rfl) rfl
theorem q1206 : (Jvm.Cond.privateMethod ({ cls := "TaxOnLooks", name := "dutiesWithout", desc := "(I)I" } : Jvm.MethodName)) ∈ lw_tbl := lw_at lw_m5 165 rfl
theorem q1207 : (Jvm.Cond.instanceMethod ({ cls := "TaxOnLooks", name := "dutiesWithout", desc := "(I)I" } : Jvm.MethodName)) ∈ lw_all := lw_g (lw_at lw_m5 166 rfl) rfl
theorem q1208 : (Jvm.Cond.code ({ cls := "TaxOnLooks", name := "dutiesWithout", desc := "(I)I" } : Jvm.MethodName) prog_1_method_43_code (2 : Nat) (Option.some Jvm.ClassFile.FieldType.int)) ∈ lw_all := lw_g (lw_at lw_m5 167 rfl) rfl
theorem q1210 : (Jvm.Cond.instanceMethod ({ cls := "TaxOnLooks", name := "crowd", desc := "(I)I" } : Jvm.MethodName)) ∈ lw_all := lw_g (lw_at lw_m5 169 rfl) rfl
theorem q1211 : (Jvm.Cond.selects "TaxOnLooks" ({ cls := "TaxOnLooks", name := "crowd", desc := "(I)I" } : Jvm.MethodName) ({ cls := "TaxOnLooks", name := "crowd", desc := "(I)I" } : Jvm.MethodName)) ∈ lw_all := lw_g (lw_at lw_m5 170 rfl) rfl
theorem q1212 : (Jvm.Cond.codeWith ({ cls := "TaxOnLooks", name := "crowd", desc := "(I)I" } : Jvm.MethodName) prog_1_method_46_code (5 : Nat) (Option.some Jvm.ClassFile.FieldType.int) [((0 : Nat), (82 : Nat), (83 : Nat), (21 : Nat))]) ∈ lw_all := lw_g (lw_at lw_m5 171 rfl) rfl
theorem q1213 : (Jvm.Cond.methodLink "TaxOnLooks" (361 : Nat) ({ cls := "TaxOnLooks", name := "lookersAt", desc := "(I)I" } : Jvm.MethodName)) ∈ lw_all := lw_g (lw_at lw_m5 172 rfl) rfl
theorem q1214 : (Jvm.Cond.privateMethod ({ cls := "TaxOnLooks", name := "lookersAt", desc := "(I)I" } : Jvm.MethodName)) ∈ lw_tbl := lw_at lw_m5 173 rfl
theorem q1215 : (Jvm.Cond.instanceMethod ({ cls := "TaxOnLooks", name := "lookersAt", desc := "(I)I" } : Jvm.MethodName)) ∈ lw_all := lw_g (lw_at lw_m5 174 rfl) rfl
theorem q1216 : (Jvm.Cond.code ({ cls := "TaxOnLooks", name := "lookersAt", desc := "(I)I" } : Jvm.MethodName) prog_1_method_45_code (4 : Nat) (Option.some Jvm.ClassFile.FieldType.int)) ∈ lw_all := lw_g (lw_at lw_m5 175 rfl) rfl
theorem q1217 : (Jvm.Cond.methodLink "TaxOnLooks" (358 : Nat) ({ cls := "TaxOnLooks$Person", name := "looksAtAll", desc := "()Z" } : Jvm.MethodName)) ∈ lw_all := lw_g (lw_at lw_m5 176 rfl) rfl
theorem q1218 : (Jvm.Cond.methodLink "TaxOnLooks" (364 : Nat) ({ cls := "TaxOnLooks$Town", name := "isLit", desc := "(I)Z" } : Jvm.MethodName)) ∈ lw_all := lw_g (lw_at lw_m5 177 rfl) rfl
theorem q1220 : (Jvm.Cond.instanceMethod ({ cls := "TaxOnLooks", name := "judge", desc := "(II)I" } : Jvm.MethodName)) ∈ lw_all := lw_g (lw_at lw_m5 179 rfl) rfl
theorem q1221 : (Jvm.Cond.selects "TaxOnLooks" ({ cls := "TaxOnLooks", name := "judge", desc := "(II)I" } : Jvm.MethodName) ({ cls := "TaxOnLooks", name := "judge", desc := "(II)I" } : Jvm.MethodName)) ∈ lw_all := lw_g (lw_at lw_m5 180 rfl) rfl
theorem q1222 : (Jvm.Cond.codeWith ({ cls := "TaxOnLooks", name := "judge", desc := "(II)I" } : Jvm.MethodName) prog_1_method_49_code (4 : Nat) (Option.some Jvm.ClassFile.FieldType.int) [((0 : Nat), (29 : Nat), (30 : Nat), (21 : Nat))]) ∈ lw_all := lw_g (lw_at lw_m5 181 rfl) rfl
theorem q1223 : (Jvm.Cond.methodLink "TaxOnLooks" (376 : Nat) ({ cls := "TaxOnLooks", name := "toldAt", desc := "(II)LTaxOnLooks$Row;" } : Jvm.MethodName)) ∈ lw_all := lw_g (lw_at lw_m5 182 rfl) rfl
theorem q1224 : (Jvm.Cond.privateMethod ({ cls := "TaxOnLooks", name := "toldAt", desc := "(II)LTaxOnLooks$Row;" } : Jvm.MethodName)) ∈ lw_tbl := lw_at lw_m5 183 rfl
theorem q1225 : (Jvm.Cond.instanceMethod ({ cls := "TaxOnLooks", name := "toldAt", desc := "(II)LTaxOnLooks$Row;" } : Jvm.MethodName)) ∈ lw_all := lw_g (lw_at lw_m5 184 rfl) rfl
theorem q1226 : (Jvm.Cond.code ({ cls := "TaxOnLooks", name := "toldAt", desc := "(II)LTaxOnLooks$Row;" } : Jvm.MethodName) prog_1_method_47_code (4 : Nat) (Option.some (Jvm.ClassFile.FieldType.object "TaxOnLooks$Row"))) ∈ lw_all := lw_g (lw_at lw_m5 185 rfl) rfl
theorem q1227 : (Jvm.Cond.methodLink "TaxOnLooks" (379 : Nat) ({ cls := "TaxOnLooks", name := "wrongIn", desc := "(LTaxOnLooks$Row;I)I" } : Jvm.MethodName)) ∈ lw_all := lw_g (lw_at lw_m5 186 rfl) rfl
theorem q1228 : (Jvm.Cond.privateMethod ({ cls := "TaxOnLooks", name := "wrongIn", desc := "(LTaxOnLooks$Row;I)I" } : Jvm.MethodName)) ∈ lw_tbl := lw_at lw_m5 187 rfl
theorem q1229 : (Jvm.Cond.instanceMethod ({ cls := "TaxOnLooks", name := "wrongIn", desc := "(LTaxOnLooks$Row;I)I" } : Jvm.MethodName)) ∈ lw_all := lw_g (lw_at lw_m5 188 rfl) rfl
theorem q1230 : (Jvm.Cond.code ({ cls := "TaxOnLooks", name := "wrongIn", desc := "(LTaxOnLooks$Row;I)I" } : Jvm.MethodName) prog_1_method_48_code (7 : Nat) (Option.some Jvm.ClassFile.FieldType.int)) ∈ lw_all := lw_g (lw_at lw_m5 189 rfl) rfl
theorem q1231 : (Jvm.Cond.methodLink "TaxOnLooks" (370 : Nat) ({ cls := "TaxOnLooks$Town", name := "beside", desc := "(II)I" } : Jvm.MethodName)) ∈ lw_all := lw_g (lw_at lw_m5 190 rfl) rfl
theorem q1232 : (Jvm.Cond.methodLink "TaxOnLooks" (373 : Nat) ({ cls := "TaxOnLooks$Town", name := "pays", desc := "(I)I" } : Jvm.MethodName)) ∈ lw_all := lw_g (lw_at lw_m5 191 rfl) rfl
theorem q1237 : (Jvm.Cond.instanceMethod ({ cls := "TaxOnLooks", name := "behind", desc := "(III)I" } : Jvm.MethodName)) ∈ lw_all := lw_g (lw_at lw_m5 196 rfl) rfl
theorem q1238 : (Jvm.Cond.selects "TaxOnLooks" ({ cls := "TaxOnLooks", name := "behind", desc := "(III)I" } : Jvm.MethodName) ({ cls := "TaxOnLooks", name := "behind", desc := "(III)I" } : Jvm.MethodName)) ∈ lw_all := lw_g (lw_at lw_m5 197 rfl) rfl
theorem q1239 : (Jvm.Cond.codeWith ({ cls := "TaxOnLooks", name := "behind", desc := "(III)I" } : Jvm.MethodName) prog_1_method_51_code (5 : Nat) (Option.some Jvm.ClassFile.FieldType.int) [((0 : Nat), (129 : Nat), (130 : Nat), (21 : Nat))]) ∈ lw_all := lw_g (lw_at lw_m5 198 rfl) rfl
theorem q1240 : (Jvm.Cond.methodLink "TaxOnLooks" (383 : Nat) ({ cls := "TaxOnLooks", name := "emptyPurses", desc := "()I" } : Jvm.MethodName)) ∈ lw_all := lw_g (lw_at lw_m5 199 rfl) rfl
theorem q1241 : (Jvm.Cond.privateMethod ({ cls := "TaxOnLooks", name := "emptyPurses", desc := "()I" } : Jvm.MethodName)) ∈ lw_tbl := lw_at lw_m5 200 rfl
theorem q1242 : (Jvm.Cond.instanceMethod ({ cls := "TaxOnLooks", name := "emptyPurses", desc := "()I" } : Jvm.MethodName)) ∈ lw_all := lw_g (lw_at lw_m5 201 rfl) rfl
theorem q1243 : (Jvm.Cond.code ({ cls := "TaxOnLooks", name := "emptyPurses", desc := "()I" } : Jvm.MethodName) prog_1_method_50_code (3 : Nat) (Option.some Jvm.ClassFile.FieldType.int)) ∈ lw_all := lw_g (lw_at lw_m5 202 rfl) rfl
theorem q1245 : (Jvm.Cond.instanceMethod ({ cls := "TaxOnLooks", name := "done", desc := "(II)I" } : Jvm.MethodName)) ∈ lw_all := lw_g (lw_at lw_m5 204 rfl) rfl
theorem q1246 : (Jvm.Cond.selects "TaxOnLooks" ({ cls := "TaxOnLooks", name := "done", desc := "(II)I" } : Jvm.MethodName) ({ cls := "TaxOnLooks", name := "done", desc := "(II)I" } : Jvm.MethodName)) ∈ lw_all := lw_g (lw_at lw_m5 205 rfl) rfl
theorem q1247 : (Jvm.Cond.codeWith ({ cls := "TaxOnLooks", name := "done", desc := "(II)I" } : Jvm.MethodName) prog_1_method_52_code (4 : Nat) (Option.some Jvm.ClassFile.FieldType.int) [((0 : Nat), (81 : Nat), (82 : Nat), (21 : Nat))]) ∈ lw_all := lw_g (lw_at lw_m5 206 rfl) rfl
theorem q1249 : (Jvm.Cond.instanceMethod ({ cls := "TaxOnLooks", name := "hours", desc := "(I)I" } : Jvm.MethodName)) ∈ lw_all := lw_g (lw_at lw_m5 208 rfl) rfl
theorem q1250 : (Jvm.Cond.selects "TaxOnLooks" ({ cls := "TaxOnLooks", name := "hours", desc := "(I)I" } : Jvm.MethodName) ({ cls := "TaxOnLooks", name := "hours", desc := "(I)I" } : Jvm.MethodName)) ∈ lw_all := lw_g (lw_at lw_m5 209 rfl) rfl
theorem q1251 : (Jvm.Cond.codeWith ({ cls := "TaxOnLooks", name := "hours", desc := "(I)I" } : Jvm.MethodName) prog_1_method_54_code (3 : Nat) (Option.some Jvm.ClassFile.FieldType.int) [((0 : Nat), (38 : Nat), (39 : Nat), (21 : Nat))]) ∈ lw_all := lw_g (lw_at lw_m5 210 rfl) rfl
theorem q1252 : (Jvm.Cond.constantLong "TaxOnLooks" (395 : Nat) (40 : Int64)) ∈ lw_all := lw_g (lw_at lw_m5 211 rfl) rfl
theorem q1253 : (Jvm.Cond.methodLink "TaxOnLooks" (397 : Nat) ({ cls := "TaxOnLooks", name := "goesHour", desc := "()V" } : Jvm.MethodName)) ∈ lw_all := lw_g (lw_at lw_m5 212 rfl) rfl
theorem q1254 : (Jvm.Cond.privateMethod ({ cls := "TaxOnLooks", name := "goesHour", desc := "()V" } : Jvm.MethodName)) ∈ lw_tbl := lw_at lw_m5 213 rfl
theorem q1255 : (Jvm.Cond.instanceMethod ({ cls := "TaxOnLooks", name := "goesHour", desc := "()V" } : Jvm.MethodName)) ∈ lw_all := lw_g (lw_at lw_m5 214 rfl) rfl
theorem q1256 : (Jvm.Cond.code ({ cls := "TaxOnLooks", name := "goesHour", desc := "()V" } : Jvm.MethodName) prog_1_method_53_code (4 : Nat) (Option.none : Option Jvm.ClassFile.FieldType)) ∈ lw_all := lw_g (lw_at lw_m5 215 rfl) rfl
theorem q1257 : (Jvm.Cond.methodLink "TaxOnLooks" (392 : Nat) ({ cls := "TaxOnLooks$Town", name := "draw", desc := "(I)I" } : Jvm.MethodName)) ∈ lw_all := lw_g (lw_at lw_m5 216 rfl) rfl
theorem q1263 : (Jvm.Cond.instanceMethod ({ cls := "TaxOnLooks", name := "seed", desc := "(I)I" } : Jvm.MethodName)) ∈ lw_all := lw_g (lw_at lw_m5 222 rfl) rfl
theorem q1264 : (Jvm.Cond.selects "TaxOnLooks" ({ cls := "TaxOnLooks", name := "seed", desc := "(I)I" } : Jvm.MethodName) ({ cls := "TaxOnLooks", name := "seed", desc := "(I)I" } : Jvm.MethodName)) ∈ lw_all := lw_g (lw_at lw_m5 223 rfl) rfl
theorem q1265 : (Jvm.Cond.code ({ cls := "TaxOnLooks", name := "seed", desc := "(I)I" } : Jvm.MethodName) prog_1_method_55_code (3 : Nat) (Option.some Jvm.ClassFile.FieldType.int)) ∈ lw_all := lw_g (lw_at lw_m5 224 rfl) rfl
theorem q1267 : (Jvm.Cond.instanceMethod ({ cls := "TaxOnLooks", name := "act", desc := "(III)I" } : Jvm.MethodName)) ∈ lw_all := lw_g (lw_at lw_m5 226 rfl) rfl
theorem q1268 : (Jvm.Cond.selects "TaxOnLooks" ({ cls := "TaxOnLooks", name := "act", desc := "(III)I" } : Jvm.MethodName) ({ cls := "TaxOnLooks", name := "act", desc := "(III)I" } : Jvm.MethodName)) ∈ lw_all := lw_g (lw_at lw_m5 227 rfl) rfl
theorem q1269 : (Jvm.Cond.code ({ cls := "TaxOnLooks", name := "act", desc := "(III)I" } : Jvm.MethodName) prog_1_method_56_code (5 : Nat) (Option.some Jvm.ClassFile.FieldType.int)) ∈ lw_all := lw_g (lw_at lw_m5 228 rfl) rfl
theorem q1270 : (Jvm.Cond.methodLink "TaxOnLooks" (404 : Nat) ({ cls := "TaxOnLooks$Person", name := "looking", desc := "(ILTaxOnLooks$Trace;)I" } : Jvm.MethodName)) ∈ lw_all := lw_g (lw_at lw_m5 229 rfl) rfl
theorem q1301 : (Jvm.Cond.methodLink "TaxOnLooks" (408 : Nat) ({ cls := "TaxOnLooks$Person", name := "walking", desc := "(ILTaxOnLooks$Trace;)I" } : Jvm.MethodName)) ∈ lw_all := lw_g (lw_at lw_m6 20 rfl) rfl
theorem q1322 : (Jvm.Cond.methodLink "TaxOnLooks" (411 : Nat) ({ cls := "TaxOnLooks$Person", name := "paying", desc := "(ILTaxOnLooks$Trace;)I" } : Jvm.MethodName)) ∈ lw_all := lw_g (lw_at lw_m6 41 rfl) rfl
theorem q1344 : (Jvm.Cond.instanceMethod ({ cls := "TaxOnLooks", name := "trace", desc := "(I)I" } : Jvm.MethodName)) ∈ lw_all := lw_g (lw_at lw_m6 63 rfl) rfl
theorem q1345 : (Jvm.Cond.selects "TaxOnLooks" ({ cls := "TaxOnLooks", name := "trace", desc := "(I)I" } : Jvm.MethodName) ({ cls := "TaxOnLooks", name := "trace", desc := "(I)I" } : Jvm.MethodName)) ∈ lw_all := lw_g (lw_at lw_m6 64 rfl) rfl
theorem q1346 : (Jvm.Cond.code ({ cls := "TaxOnLooks", name := "trace", desc := "(I)I" } : Jvm.MethodName) prog_1_method_57_code (2 : Nat) (Option.some Jvm.ClassFile.FieldType.int)) ∈ lw_all := lw_g (lw_at lw_m6 65 rfl) rfl
theorem q1347 : (Jvm.Cond.methodLink "TaxOnLooks" (414 : Nat) ({ cls := "java/lang/Math", name := "min", desc := "(II)I" } : Jvm.MethodName)) ∈ lw_all := lw_g (lw_at lw_m6 66 rfl) rfl
theorem q1349 : (Jvm.Cond.instanceMethod ({ cls := "TaxOnLooks", name := "image", desc := "()I" } : Jvm.MethodName)) ∈ lw_all := lw_g (lw_at lw_m6 68 rfl) rfl
theorem q1350 : (Jvm.Cond.selects "TaxOnLooks" ({ cls := "TaxOnLooks", name := "image", desc := "()I" } : Jvm.MethodName) ({ cls := "TaxOnLooks", name := "image", desc := "()I" } : Jvm.MethodName)) ∈ lw_all := lw_g (lw_at lw_m6 69 rfl) rfl
theorem q1351 : (Jvm.Cond.code ({ cls := "TaxOnLooks", name := "image", desc := "()I" } : Jvm.MethodName) prog_1_method_58_code (1 : Nat) (Option.some Jvm.ClassFile.FieldType.int)) ∈ lw_all := lw_g (lw_at lw_m6 70 rfl) rfl
theorem q1353 : (Jvm.Cond.instanceMethod ({ cls := "TaxOnLooks", name := "restore", desc := "()I" } : Jvm.MethodName)) ∈ lw_all := lw_g (lw_at lw_m6 72 rfl) rfl
theorem q1354 : (Jvm.Cond.selects "TaxOnLooks" ({ cls := "TaxOnLooks", name := "restore", desc := "()I" } : Jvm.MethodName) ({ cls := "TaxOnLooks", name := "restore", desc := "()I" } : Jvm.MethodName)) ∈ lw_all := lw_g (lw_at lw_m6 73 rfl) rfl
theorem q1355 : (Jvm.Cond.codeWith ({ cls := "TaxOnLooks", name := "restore", desc := "()I" } : Jvm.MethodName) prog_1_method_59_code (2 : Nat) (Option.some Jvm.ClassFile.FieldType.int) [((0 : Nat), (46 : Nat), (47 : Nat), (21 : Nat))]) ∈ lw_all := lw_g (lw_at lw_m6 74 rfl) rfl
theorem q1356 : (Jvm.Cond.methodLink "TaxOnLooks" (423 : Nat) ({ cls := "TaxOnLooks", name := "shelvesFollow", desc := "()V" } : Jvm.MethodName)) ∈ lw_all := lw_g (lw_at lw_m6 75 rfl) rfl
theorem q1357 : (Jvm.Cond.privateMethod ({ cls := "TaxOnLooks", name := "shelvesFollow", desc := "()V" } : Jvm.MethodName)) ∈ lw_tbl := lw_at lw_m6 76 rfl
theorem q1358 : (Jvm.Cond.instanceMethod ({ cls := "TaxOnLooks", name := "shelvesFollow", desc := "()V" } : Jvm.MethodName)) ∈ lw_all := lw_g (lw_at lw_m6 77 rfl) rfl
theorem q1359 : (Jvm.Cond.code ({ cls := "TaxOnLooks", name := "shelvesFollow", desc := "()V" } : Jvm.MethodName) prog_1_method_10_code (6 : Nat) (Option.none : Option Jvm.ClassFile.FieldType)) ∈ lw_all := lw_g (lw_at lw_m6 78 rfl) rfl
theorem q1361 : (Jvm.Cond.instanceMethod ({ cls := "TaxOnLooks", name := "status", desc := "(I)I" } : Jvm.MethodName)) ∈ lw_all := lw_g (lw_at lw_m6 80 rfl) rfl
theorem q1362 : (Jvm.Cond.selects "TaxOnLooks" ({ cls := "TaxOnLooks", name := "status", desc := "(I)I" } : Jvm.MethodName) ({ cls := "TaxOnLooks", name := "status", desc := "(I)I" } : Jvm.MethodName)) ∈ lw_all := lw_g (lw_at lw_m6 81 rfl) rfl
theorem q1363 : (Jvm.Cond.code ({ cls := "TaxOnLooks", name := "status", desc := "(I)I" } : Jvm.MethodName) prog_1_method_60_code (2 : Nat) (Option.some Jvm.ClassFile.FieldType.int)) ∈ lw_all := lw_g (lw_at lw_m6 82 rfl) rfl
theorem q1364 : (Jvm.Cond.methodLink "TaxOnLooks" (426 : Nat) ({ cls := "java/lang/Long", name := "bitCount", desc := "(J)I" } : Jvm.MethodName)) ∈ lw_all := lw_g (lw_at lw_m6 83 rfl) rfl
theorem q1370 : (Jvm.Cond.methodLink "TaxOnLooks" (431 : Nat) ({ cls := "TaxOnLooks$Town", name := "pursesTogether", desc := "()I" } : Jvm.MethodName)) ∈ lw_all := lw_g (lw_at lw_m6 89 rfl) rfl
theorem q1374 : (Jvm.Cond.constantLong "TaxOnLooks" (434 : Nat) (11 : Int64)) ∈ lw_all := lw_g (lw_at lw_m6 93 rfl) rfl
theorem q1375 : (Jvm.Cond.constantLong "TaxOnLooks" (436 : Nat) (17 : Int64)) ∈ lw_all := lw_g (lw_at lw_m6 94 rfl) rfl
theorem in_X0 : ∀ w ∈ wsX00, w ∈ lw_all := lw_in wsX00 [254, 256, 258, 260, 262, 264, 266, 268, 270] (by decide +kernel) (by decide +kernel)
