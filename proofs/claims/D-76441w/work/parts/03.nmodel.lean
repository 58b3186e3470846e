/-! TaxOnLooksModel -/
set_option maxRecDepth 100000
def RX5 : String := "TaxOnLooksModel"
def TX5 : u_T := fun k => match k with
  | 0 => ("TaxOnLooksModel", "people", "I", false)
  | 1 => ("TaxOnLooksModel", "mite", "I", false)
  | 2 => ("TaxOnLooksModel", "reach", "I", false)
  | 3 => ("TaxOnLooksModel", "rain", "I", false)
  | 4 => ("TaxOnLooksModel", "gone", "I", false)
  | 5 => ("TaxOnLooksModel", "taken", "I", false)
  | 6 => ("TaxOnLooksModel", "seed", "I", false)
  | 7 => ("TaxOnLooksModel", "fault", "I", false)
  | 8 => ("TaxOnLooksModel", "refused", "[I", true)
  | 9 => ("TaxOnLooksModel", "kind", "[I", true)
  | 10 => ("TaxOnLooksModel", "part", "[I", true)
  | 11 => ("TaxOnLooksModel", "looks", "[I", true)
  | 12 => ("TaxOnLooksModel", "shame", "[I", true)
  | 13 => ("TaxOnLooksModel", "purse", "[I", true)
  | 14 => ("TaxOnLooksModel", "at", "[I", true)
  | 15 => ("TaxOnLooksModel", "sacked", "[I", true)
  | 16 => ("TaxOnLooksModel", "wall", "[I", true)
  | 17 => ("TaxOnLooksModel", "balcony", "[I", true)
  | 18 => ("TaxOnLooksModel", "held", "[I", true)
  | 19 => ("TaxOnLooksModel", "sort", "[I", true)
  | 20 => ("TaxOnLooksModel", "size", "[I", true)
  | 21 => ("TaxOnLooksModel", "shown", "[I", true)
  | 22 => ("TaxOnLooksModel", "cells", "[J", true)
  | 23 => ("TaxOnLooksModel", "carried", "[J", true)
  | 24 => ("TaxOnLooksModel", "words", "[I", true)
  | 25 => ("TaxOnLooksModel", "numbers", "[I", true)
  | 26 => ("TaxOnLooksModel", "mosts", "[I", true)
  | 27 => ("TaxOnLooksModel", "told", "[I", true)
  | 28 => ("TaxOnLooksModel", "base", "I", false)
  | 29 => ("TaxOnLooksModel", "place", "I", false)
  | 30 => ("TaxOnLooksModel", "end", "I", false)
  | 31 => ("TaxOnLooksModel", "number", "I", false)
  | 32 => ("TaxOnLooksModel", "wrongAt", "I", false)
  | 33 => ("TaxOnLooksModel", "was", "[I", true)
  | 34 => ("TaxOnLooksModel", "kept", "[I", true)
  | 35 => ("TaxOnLooksModel", "later", "[I", true)
  | 36 => ("TaxOnLooksModel", "missing", "I", false)
  | 37 => ("TaxOnLooksModel", "dutyAt", "[I", true)
  | 38 => ("TaxOnLooksModel", "wayOn", "[I", true)
  | 39 => ("TaxOnLooksModel", "wasSo", "[I", true)
  | 40 => ("TaxOnLooksModel", "paidThen", "I", false)
  | 41 => ("TaxOnLooksModel", "trace", "[I", true)
  | 42 => ("TaxOnLooksModel", "ran", "I", false)
  | _ => ("TaxOnLooksModel", "isThere", "Z", false)
def tyX5 : Nat → FieldType := fun k => match k with
  | 0 => .int
  | 1 => .int
  | 2 => .int
  | 3 => .int
  | 4 => .int
  | 5 => .int
  | 6 => .int
  | 7 => .int
  | 8 => .array .int
  | 9 => .array .int
  | 10 => .array .int
  | 11 => .array .int
  | 12 => .array .int
  | 13 => .array .int
  | 14 => .array .int
  | 15 => .array .int
  | 16 => .array .int
  | 17 => .array .int
  | 18 => .array .int
  | 19 => .array .int
  | 20 => .array .int
  | 21 => .array .int
  | 22 => .array .long
  | 23 => .array .long
  | 24 => .array .int
  | 25 => .array .int
  | 26 => .array .int
  | 27 => .array .int
  | 28 => .int
  | 29 => .int
  | 30 => .int
  | 31 => .int
  | 32 => .int
  | 33 => .array .int
  | 34 => .array .int
  | 35 => .array .int
  | 36 => .int
  | 37 => .array .int
  | 38 => .array .int
  | 39 => .array .int
  | 40 => .int
  | 41 => .array .int
  | 42 => .int
  | _ => .boolean
abbrev wsX50 : List Cond := u_ws RX5 TX5 44
set_option maxRecDepth 100000 in
theorem nmX5 : ∀ a, a < 44 → ∀ b, b < 44 → a ≠ b → (TX5 a).2.1 ≠ (TX5 b).2.1 := by decide +kernel
set_option maxRecDepth 100000 in
theorem tyX5_ok : ∀ k, k < 44 → parseFieldDescriptor (TX5 k).2.2.1 = some (tyX5 k) := by decide +kernel
abbrev cX5_init : ByteArray := prog_22_method_1_code
def yX5_init : MethodName := ⟨RX5, "<init>", "()V"⟩
def dkwX5_init_24 : List UInt8 := [188, 10, 181, 0, 102, 42, 16, 20, 188, 10, 181, 0, 105, 177]
abbrev dktX5_init_24 : List UInt8 := dkwX5_init_24 ++ []
def dkwX5_init_23 : List UInt8 := [2, 181, 0, 93, 42, 16, 36, 188, 10, 181, 0, 96, 42, 16, 36, 188, 10, 181, 0, 99, 42, 16, 7]
abbrev dktX5_init_23 : List UInt8 := dkwX5_init_23 ++ dktX5_init_24
def dkwX5_init_22 : List UInt8 := [188, 10, 181, 0, 84, 42, 17, 0, 130, 188, 10, 181, 0, 87, 42, 17, 0, 130, 188, 10, 181, 0, 90, 42]
abbrev dktX5_init_22 : List UInt8 := dkwX5_init_22 ++ dktX5_init_23
def dkwX5_init_21 : List UInt8 := [16, 99, 79, 89, 8, 16, 35, 79, 181, 0, 78, 42, 16, 6, 188, 10, 181, 0, 81, 42, 17, 0, 130]
abbrev dktX5_init_21 : List UInt8 := dkwX5_init_21 ++ dktX5_init_22
def dkwX5_init_20 : List UInt8 := [188, 10, 89, 3, 16, 6, 79, 89, 4, 16, 9, 79, 89, 5, 16, 20, 79, 89, 6, 16, 9, 79, 89, 7]
abbrev dktX5_init_20 : List UInt8 := dkwX5_init_20 ++ dktX5_init_21
def dkwX5_init_19 : List UInt8 := [89, 6, 16, 6, 79, 89, 7, 4, 79, 89, 8, 4, 79, 89, 16, 6, 4, 79, 181, 0, 75, 42, 16, 6]
abbrev dktX5_init_19 : List UInt8 := dkwX5_init_19 ++ dktX5_init_20
def dkwX5_init_18 : List UInt8 := [16, 46, 3, 79, 181, 0, 72, 42, 16, 7, 188, 10, 89, 3, 4, 79, 89, 4, 4, 79, 89, 5, 4, 79]
abbrev dktX5_init_18 : List UInt8 := dkwX5_init_18 ++ dktX5_init_19
def dkwX5_init_17 : List UInt8 := [16, 42, 16, 97, 79, 89, 16, 43, 16, 99, 79, 89, 16, 44, 16, 104, 79, 89, 16, 45, 16, 32, 79, 89]
abbrev dktX5_init_17 : List UInt8 := dkwX5_init_17 ++ dktX5_init_18
def dkwX5_init_16 : List UInt8 := [16, 38, 16, 32, 79, 89, 16, 39, 3, 79, 89, 16, 40, 16, 114, 79, 89, 16, 41, 16, 101, 79, 89]
abbrev dktX5_init_16 : List UInt8 := dkwX5_init_16 ++ dktX5_init_17
def dkwX5_init_15 : List UInt8 := [16, 34, 16, 109, 79, 89, 16, 35, 16, 105, 79, 89, 16, 36, 16, 116, 79, 89, 16, 37, 16, 101, 79, 89]
abbrev dktX5_init_15 : List UInt8 := dkwX5_init_15 ++ dktX5_init_16
def dkwX5_init_14 : List UInt8 := [16, 30, 16, 99, 79, 89, 16, 31, 16, 107, 79, 89, 16, 32, 16, 32, 79, 89, 16, 33, 3, 79, 89]
abbrev dktX5_init_14 : List UInt8 := dkwX5_init_14 ++ dktX5_init_15
def dkwX5_init_13 : List UInt8 := [16, 26, 16, 32, 79, 89, 16, 27, 3, 79, 89, 16, 28, 16, 115, 79, 89, 16, 29, 16, 97, 79, 89]
abbrev dktX5_init_13 : List UInt8 := dkwX5_init_13 ++ dktX5_init_14
def dkwX5_init_12 : List UInt8 := [16, 22, 16, 114, 79, 89, 16, 23, 16, 115, 79, 89, 16, 24, 16, 111, 79, 89, 16, 25, 16, 110, 79, 89]
abbrev dktX5_init_12 : List UInt8 := dkwX5_init_12 ++ dktX5_init_13
def dkwX5_init_11 : List UInt8 := [16, 18, 16, 32, 79, 89, 16, 19, 3, 79, 89, 16, 20, 16, 112, 79, 89, 16, 21, 16, 101, 79, 89]
abbrev dktX5_init_11 : List UInt8 := dkwX5_init_11 ++ dktX5_init_12
def dkwX5_init_10 : List UInt8 := [16, 14, 16, 99, 79, 89, 16, 15, 16, 111, 79, 89, 16, 16, 16, 110, 79, 89, 16, 17, 16, 121, 79, 89]
abbrev dktX5_init_10 : List UInt8 := dkwX5_init_10 ++ dktX5_init_11
def dkwX5_init_9 : List UInt8 := [16, 10, 3, 79, 89, 16, 11, 16, 98, 79, 89, 16, 12, 16, 97, 79, 89, 16, 13, 16, 108, 79, 89]
abbrev dktX5_init_9 : List UInt8 := dkwX5_init_9 ++ dktX5_init_10
def dkwX5_init_8 : List UInt8 := [16, 6, 16, 103, 79, 89, 16, 7, 16, 97, 79, 89, 16, 8, 16, 112, 79, 89, 16, 9, 16, 32, 79, 89]
abbrev dktX5_init_8 : List UInt8 := dkwX5_init_8 ++ dktX5_init_9
def dkwX5_init_7 : List UInt8 := [16, 97, 79, 89, 5, 16, 108, 79, 89, 6, 16, 108, 79, 89, 7, 16, 32, 79, 89, 8, 3, 79, 89]
abbrev dktX5_init_7 : List UInt8 := dkwX5_init_7 ++ dktX5_init_8
def dkwX5_init_6 : List UInt8 := [181, 0, 65, 42, 17, 0, 160, 188, 11, 181, 0, 69, 42, 16, 47, 188, 10, 89, 3, 16, 119, 79, 89, 4]
abbrev dktX5_init_6 : List UInt8 := dkwX5_init_6 ++ dktX5_init_7
def dkwX5_init_5 : List UInt8 := [42, 16, 8, 188, 10, 181, 0, 59, 42, 16, 8, 188, 10, 181, 0, 62, 42, 17, 5, 0, 188, 11]
abbrev dktX5_init_5 : List UInt8 := dkwX5_init_5 ++ dktX5_init_6
def dkwX5_init_4 : List UInt8 := [42, 16, 36, 188, 10, 181, 0, 50, 42, 16, 8, 188, 10, 181, 0, 53, 42, 16, 8, 188, 10, 181, 0, 56]
abbrev dktX5_init_4 : List UInt8 := dkwX5_init_4 ++ dktX5_init_5
def dkwX5_init_3 : List UInt8 := [42, 16, 7, 188, 10, 181, 0, 41, 42, 16, 7, 188, 10, 181, 0, 44, 42, 16, 36, 188, 10, 181, 0, 47]
abbrev dktX5_init_3 : List UInt8 := dkwX5_init_3 ++ dktX5_init_4
def dkwX5_init_2 : List UInt8 := [42, 16, 7, 188, 10, 181, 0, 32, 42, 16, 7, 188, 10, 181, 0, 35, 42, 16, 7, 188, 10, 181, 0, 38]
abbrev dktX5_init_2 : List UInt8 := dkwX5_init_2 ++ dktX5_init_3
def dkwX5_init_1 : List UInt8 := [42, 16, 8, 188, 10, 181, 0, 22, 42, 16, 7, 188, 10, 181, 0, 26, 42, 16, 7, 188, 10, 181, 0, 29]
abbrev dktX5_init_1 : List UInt8 := dkwX5_init_1 ++ dktX5_init_2
def dkwX5_init_0 : List UInt8 := [42, 183, 0, 1, 42, 4, 181, 0, 7, 42, 8, 181, 0, 13, 42, 4, 181, 0, 16, 42, 2, 181, 0, 19]
abbrev dktX5_init_0 : List UInt8 := dkwX5_init_0 ++ dktX5_init_1
theorem dksX5_init_0 : cX5_init.data.toList.drop 0 = dktX5_init_0 := by decide +kernel
theorem dksX5_init_1 : cX5_init.data.toList.drop 24 = dktX5_init_1 := dk_seg dksX5_init_0 24 rfl rfl
theorem dksX5_init_2 : cX5_init.data.toList.drop 48 = dktX5_init_2 := dk_seg dksX5_init_1 24 rfl rfl
theorem dksX5_init_3 : cX5_init.data.toList.drop 72 = dktX5_init_3 := dk_seg dksX5_init_2 24 rfl rfl
theorem dksX5_init_4 : cX5_init.data.toList.drop 96 = dktX5_init_4 := dk_seg dksX5_init_3 24 rfl rfl
theorem dksX5_init_5 : cX5_init.data.toList.drop 120 = dktX5_init_5 := dk_seg dksX5_init_4 24 rfl rfl
theorem dksX5_init_6 : cX5_init.data.toList.drop 142 = dktX5_init_6 := dk_seg dksX5_init_5 22 rfl rfl
theorem dksX5_init_7 : cX5_init.data.toList.drop 166 = dktX5_init_7 := dk_seg dksX5_init_6 24 rfl rfl
theorem dksX5_init_8 : cX5_init.data.toList.drop 189 = dktX5_init_8 := dk_seg dksX5_init_7 23 rfl rfl
theorem dksX5_init_9 : cX5_init.data.toList.drop 213 = dktX5_init_9 := dk_seg dksX5_init_8 24 rfl rfl
theorem dksX5_init_10 : cX5_init.data.toList.drop 236 = dktX5_init_10 := dk_seg dksX5_init_9 23 rfl rfl
theorem dksX5_init_11 : cX5_init.data.toList.drop 260 = dktX5_init_11 := dk_seg dksX5_init_10 24 rfl rfl
theorem dksX5_init_12 : cX5_init.data.toList.drop 283 = dktX5_init_12 := dk_seg dksX5_init_11 23 rfl rfl
theorem dksX5_init_13 : cX5_init.data.toList.drop 307 = dktX5_init_13 := dk_seg dksX5_init_12 24 rfl rfl
theorem dksX5_init_14 : cX5_init.data.toList.drop 330 = dktX5_init_14 := dk_seg dksX5_init_13 23 rfl rfl
theorem dksX5_init_15 : cX5_init.data.toList.drop 353 = dktX5_init_15 := dk_seg dksX5_init_14 23 rfl rfl
theorem dksX5_init_16 : cX5_init.data.toList.drop 377 = dktX5_init_16 := dk_seg dksX5_init_15 24 rfl rfl
theorem dksX5_init_17 : cX5_init.data.toList.drop 400 = dktX5_init_17 := dk_seg dksX5_init_16 23 rfl rfl
theorem dksX5_init_18 : cX5_init.data.toList.drop 424 = dktX5_init_18 := dk_seg dksX5_init_17 24 rfl rfl
theorem dksX5_init_19 : cX5_init.data.toList.drop 448 = dktX5_init_19 := dk_seg dksX5_init_18 24 rfl rfl
theorem dksX5_init_20 : cX5_init.data.toList.drop 472 = dktX5_init_20 := dk_seg dksX5_init_19 24 rfl rfl
theorem dksX5_init_21 : cX5_init.data.toList.drop 496 = dktX5_init_21 := dk_seg dksX5_init_20 24 rfl rfl
theorem dksX5_init_22 : cX5_init.data.toList.drop 519 = dktX5_init_22 := dk_seg dksX5_init_21 23 rfl rfl
theorem dksX5_init_23 : cX5_init.data.toList.drop 543 = dktX5_init_23 := dk_seg dksX5_init_22 24 rfl rfl
theorem dksX5_init_24 : cX5_init.data.toList.drop 566 = dktX5_init_24 := dk_seg dksX5_init_23 23 rfl rfl
theorem dX5_init_0 : decode cX5_init 0 = .ok (.aload_n 0, 1) := dk_42 (dk_at dksX5_init_0 0 rfl rfl)
theorem dX5_init_1 : decode cX5_init 1 = .ok (.invokespecial 1, 3) := dk_183 0 1 (dk_at dksX5_init_0 1 rfl rfl)
theorem dX5_init_4 : decode cX5_init 4 = .ok (.aload_n 0, 1) := dk_42 (dk_at dksX5_init_0 4 rfl rfl)
theorem dX5_init_5 : decode cX5_init 5 = .ok (.iconst 1, 1) := dk_4 (dk_at dksX5_init_0 5 rfl rfl)
theorem dX5_init_6 : decode cX5_init 6 = .ok (.putfield 7, 3) := dk_181 0 7 (dk_at dksX5_init_0 6 rfl rfl)
theorem dX5_init_9 : decode cX5_init 9 = .ok (.aload_n 0, 1) := dk_42 (dk_at dksX5_init_0 9 rfl rfl)
theorem dX5_init_10 : decode cX5_init 10 = .ok (.iconst 5, 1) := dk_8 (dk_at dksX5_init_0 10 rfl rfl)
theorem dX5_init_11 : decode cX5_init 11 = .ok (.putfield 13, 3) := dk_181 0 13 (dk_at dksX5_init_0 11 rfl rfl)
theorem dX5_init_14 : decode cX5_init 14 = .ok (.aload_n 0, 1) := dk_42 (dk_at dksX5_init_0 14 rfl rfl)
theorem dX5_init_15 : decode cX5_init 15 = .ok (.iconst 1, 1) := dk_4 (dk_at dksX5_init_0 15 rfl rfl)
theorem dX5_init_16 : decode cX5_init 16 = .ok (.putfield 16, 3) := dk_181 0 16 (dk_at dksX5_init_0 16 rfl rfl)
theorem dX5_init_19 : decode cX5_init 19 = .ok (.aload_n 0, 1) := dk_42 (dk_at dksX5_init_0 19 rfl rfl)
theorem dX5_init_20 : decode cX5_init 20 = .ok (.iconst (-1), 1) := dk_2 (dk_at dksX5_init_0 20 rfl rfl)
theorem dX5_init_21 : decode cX5_init 21 = .ok (.putfield 19, 3) := dk_181 0 19 (dk_at dksX5_init_0 21 rfl rfl)
theorem dX5_init_24 : decode cX5_init 24 = .ok (.aload_n 0, 1) := dk_42 (dk_at dksX5_init_1 0 rfl rfl)
theorem dX5_init_25 : decode cX5_init 25 = .ok (.bipush 8, 2) := dk_16 8 (dk_at dksX5_init_1 1 rfl rfl)
theorem dX5_init_27 : decode cX5_init 27 = .ok (.newarray .int, 2) := dk_188_10 (dk_at dksX5_init_1 3 rfl rfl)
theorem dX5_init_29 : decode cX5_init 29 = .ok (.putfield 22, 3) := dk_181 0 22 (dk_at dksX5_init_1 5 rfl rfl)
theorem dX5_init_32 : decode cX5_init 32 = .ok (.aload_n 0, 1) := dk_42 (dk_at dksX5_init_1 8 rfl rfl)
theorem dX5_init_33 : decode cX5_init 33 = .ok (.bipush 7, 2) := dk_16 7 (dk_at dksX5_init_1 9 rfl rfl)
theorem dX5_init_35 : decode cX5_init 35 = .ok (.newarray .int, 2) := dk_188_10 (dk_at dksX5_init_1 11 rfl rfl)
theorem dX5_init_37 : decode cX5_init 37 = .ok (.putfield 26, 3) := dk_181 0 26 (dk_at dksX5_init_1 13 rfl rfl)
theorem dX5_init_40 : decode cX5_init 40 = .ok (.aload_n 0, 1) := dk_42 (dk_at dksX5_init_1 16 rfl rfl)
theorem dX5_init_41 : decode cX5_init 41 = .ok (.bipush 7, 2) := dk_16 7 (dk_at dksX5_init_1 17 rfl rfl)
theorem dX5_init_43 : decode cX5_init 43 = .ok (.newarray .int, 2) := dk_188_10 (dk_at dksX5_init_1 19 rfl rfl)
theorem dX5_init_45 : decode cX5_init 45 = .ok (.putfield 29, 3) := dk_181 0 29 (dk_at dksX5_init_1 21 rfl rfl)
theorem dX5_init_48 : decode cX5_init 48 = .ok (.aload_n 0, 1) := dk_42 (dk_at dksX5_init_2 0 rfl rfl)
theorem dX5_init_49 : decode cX5_init 49 = .ok (.bipush 7, 2) := dk_16 7 (dk_at dksX5_init_2 1 rfl rfl)
theorem dX5_init_51 : decode cX5_init 51 = .ok (.newarray .int, 2) := dk_188_10 (dk_at dksX5_init_2 3 rfl rfl)
theorem dX5_init_53 : decode cX5_init 53 = .ok (.putfield 32, 3) := dk_181 0 32 (dk_at dksX5_init_2 5 rfl rfl)
theorem dX5_init_56 : decode cX5_init 56 = .ok (.aload_n 0, 1) := dk_42 (dk_at dksX5_init_2 8 rfl rfl)
theorem dX5_init_57 : decode cX5_init 57 = .ok (.bipush 7, 2) := dk_16 7 (dk_at dksX5_init_2 9 rfl rfl)
theorem dX5_init_59 : decode cX5_init 59 = .ok (.newarray .int, 2) := dk_188_10 (dk_at dksX5_init_2 11 rfl rfl)
theorem dX5_init_61 : decode cX5_init 61 = .ok (.putfield 35, 3) := dk_181 0 35 (dk_at dksX5_init_2 13 rfl rfl)
theorem dX5_init_64 : decode cX5_init 64 = .ok (.aload_n 0, 1) := dk_42 (dk_at dksX5_init_2 16 rfl rfl)
theorem dX5_init_65 : decode cX5_init 65 = .ok (.bipush 7, 2) := dk_16 7 (dk_at dksX5_init_2 17 rfl rfl)
theorem dX5_init_67 : decode cX5_init 67 = .ok (.newarray .int, 2) := dk_188_10 (dk_at dksX5_init_2 19 rfl rfl)
theorem dX5_init_69 : decode cX5_init 69 = .ok (.putfield 38, 3) := dk_181 0 38 (dk_at dksX5_init_2 21 rfl rfl)
theorem dX5_init_72 : decode cX5_init 72 = .ok (.aload_n 0, 1) := dk_42 (dk_at dksX5_init_3 0 rfl rfl)
theorem dX5_init_73 : decode cX5_init 73 = .ok (.bipush 7, 2) := dk_16 7 (dk_at dksX5_init_3 1 rfl rfl)
theorem dX5_init_75 : decode cX5_init 75 = .ok (.newarray .int, 2) := dk_188_10 (dk_at dksX5_init_3 3 rfl rfl)
theorem dX5_init_77 : decode cX5_init 77 = .ok (.putfield 41, 3) := dk_181 0 41 (dk_at dksX5_init_3 5 rfl rfl)
theorem dX5_init_80 : decode cX5_init 80 = .ok (.aload_n 0, 1) := dk_42 (dk_at dksX5_init_3 8 rfl rfl)
theorem dX5_init_81 : decode cX5_init 81 = .ok (.bipush 7, 2) := dk_16 7 (dk_at dksX5_init_3 9 rfl rfl)
theorem dX5_init_83 : decode cX5_init 83 = .ok (.newarray .int, 2) := dk_188_10 (dk_at dksX5_init_3 11 rfl rfl)
theorem dX5_init_85 : decode cX5_init 85 = .ok (.putfield 44, 3) := dk_181 0 44 (dk_at dksX5_init_3 13 rfl rfl)
theorem dX5_init_88 : decode cX5_init 88 = .ok (.aload_n 0, 1) := dk_42 (dk_at dksX5_init_3 16 rfl rfl)
theorem dX5_init_89 : decode cX5_init 89 = .ok (.bipush 36, 2) := dk_16 36 (dk_at dksX5_init_3 17 rfl rfl)
theorem dX5_init_91 : decode cX5_init 91 = .ok (.newarray .int, 2) := dk_188_10 (dk_at dksX5_init_3 19 rfl rfl)
theorem dX5_init_93 : decode cX5_init 93 = .ok (.putfield 47, 3) := dk_181 0 47 (dk_at dksX5_init_3 21 rfl rfl)
theorem dX5_init_96 : decode cX5_init 96 = .ok (.aload_n 0, 1) := dk_42 (dk_at dksX5_init_4 0 rfl rfl)
theorem dX5_init_97 : decode cX5_init 97 = .ok (.bipush 36, 2) := dk_16 36 (dk_at dksX5_init_4 1 rfl rfl)
theorem dX5_init_99 : decode cX5_init 99 = .ok (.newarray .int, 2) := dk_188_10 (dk_at dksX5_init_4 3 rfl rfl)
theorem dX5_init_101 : decode cX5_init 101 = .ok (.putfield 50, 3) := dk_181 0 50 (dk_at dksX5_init_4 5 rfl rfl)
theorem dX5_init_104 : decode cX5_init 104 = .ok (.aload_n 0, 1) := dk_42 (dk_at dksX5_init_4 8 rfl rfl)
theorem dX5_init_105 : decode cX5_init 105 = .ok (.bipush 8, 2) := dk_16 8 (dk_at dksX5_init_4 9 rfl rfl)
theorem dX5_init_107 : decode cX5_init 107 = .ok (.newarray .int, 2) := dk_188_10 (dk_at dksX5_init_4 11 rfl rfl)
theorem dX5_init_109 : decode cX5_init 109 = .ok (.putfield 53, 3) := dk_181 0 53 (dk_at dksX5_init_4 13 rfl rfl)
theorem dX5_init_112 : decode cX5_init 112 = .ok (.aload_n 0, 1) := dk_42 (dk_at dksX5_init_4 16 rfl rfl)
theorem dX5_init_113 : decode cX5_init 113 = .ok (.bipush 8, 2) := dk_16 8 (dk_at dksX5_init_4 17 rfl rfl)
theorem dX5_init_115 : decode cX5_init 115 = .ok (.newarray .int, 2) := dk_188_10 (dk_at dksX5_init_4 19 rfl rfl)
theorem dX5_init_117 : decode cX5_init 117 = .ok (.putfield 56, 3) := dk_181 0 56 (dk_at dksX5_init_4 21 rfl rfl)
theorem dX5_init_120 : decode cX5_init 120 = .ok (.aload_n 0, 1) := dk_42 (dk_at dksX5_init_5 0 rfl rfl)
theorem dX5_init_121 : decode cX5_init 121 = .ok (.bipush 8, 2) := dk_16 8 (dk_at dksX5_init_5 1 rfl rfl)
theorem dX5_init_123 : decode cX5_init 123 = .ok (.newarray .int, 2) := dk_188_10 (dk_at dksX5_init_5 3 rfl rfl)
theorem dX5_init_125 : decode cX5_init 125 = .ok (.putfield 59, 3) := dk_181 0 59 (dk_at dksX5_init_5 5 rfl rfl)
theorem dX5_init_128 : decode cX5_init 128 = .ok (.aload_n 0, 1) := dk_42 (dk_at dksX5_init_5 8 rfl rfl)
theorem dX5_init_129 : decode cX5_init 129 = .ok (.bipush 8, 2) := dk_16 8 (dk_at dksX5_init_5 9 rfl rfl)
theorem dX5_init_131 : decode cX5_init 131 = .ok (.newarray .int, 2) := dk_188_10 (dk_at dksX5_init_5 11 rfl rfl)
theorem dX5_init_133 : decode cX5_init 133 = .ok (.putfield 62, 3) := dk_181 0 62 (dk_at dksX5_init_5 13 rfl rfl)
theorem dX5_init_136 : decode cX5_init 136 = .ok (.aload_n 0, 1) := dk_42 (dk_at dksX5_init_5 16 rfl rfl)
theorem dX5_init_137 : decode cX5_init 137 = .ok (.sipush 1280, 3) := dk_17 5 0 (dk_at dksX5_init_5 17 rfl rfl)
theorem dX5_init_140 : decode cX5_init 140 = .ok (.newarray .long, 2) := dk_188_11 (dk_at dksX5_init_5 20 rfl rfl)
theorem dX5_init_142 : decode cX5_init 142 = .ok (.putfield 65, 3) := dk_181 0 65 (dk_at dksX5_init_6 0 rfl rfl)
theorem dX5_init_145 : decode cX5_init 145 = .ok (.aload_n 0, 1) := dk_42 (dk_at dksX5_init_6 3 rfl rfl)
theorem dX5_init_146 : decode cX5_init 146 = .ok (.sipush 160, 3) := dk_17 0 160 (dk_at dksX5_init_6 4 rfl rfl)
theorem dX5_init_149 : decode cX5_init 149 = .ok (.newarray .long, 2) := dk_188_11 (dk_at dksX5_init_6 7 rfl rfl)
theorem dX5_init_151 : decode cX5_init 151 = .ok (.putfield 69, 3) := dk_181 0 69 (dk_at dksX5_init_6 9 rfl rfl)
theorem dX5_init_154 : decode cX5_init 154 = .ok (.aload_n 0, 1) := dk_42 (dk_at dksX5_init_6 12 rfl rfl)
theorem dX5_init_155 : decode cX5_init 155 = .ok (.bipush 47, 2) := dk_16 47 (dk_at dksX5_init_6 13 rfl rfl)
theorem dX5_init_157 : decode cX5_init 157 = .ok (.newarray .int, 2) := dk_188_10 (dk_at dksX5_init_6 15 rfl rfl)
theorem dX5_init_159 : decode cX5_init 159 = .ok (.dup, 1) := dk_89 (dk_at dksX5_init_6 17 rfl rfl)
theorem dX5_init_160 : decode cX5_init 160 = .ok (.iconst 0, 1) := dk_3 (dk_at dksX5_init_6 18 rfl rfl)
theorem dX5_init_161 : decode cX5_init 161 = .ok (.bipush 119, 2) := dk_16 119 (dk_at dksX5_init_6 19 rfl rfl)
theorem dX5_init_163 : decode cX5_init 163 = .ok (.iastore, 1) := dk_79 (dk_at dksX5_init_6 21 rfl rfl)
theorem dX5_init_164 : decode cX5_init 164 = .ok (.dup, 1) := dk_89 (dk_at dksX5_init_6 22 rfl rfl)
theorem dX5_init_165 : decode cX5_init 165 = .ok (.iconst 1, 1) := dk_4 (dk_at dksX5_init_6 23 rfl rfl)
theorem dX5_init_166 : decode cX5_init 166 = .ok (.bipush 97, 2) := dk_16 97 (dk_at dksX5_init_7 0 rfl rfl)
theorem dX5_init_168 : decode cX5_init 168 = .ok (.iastore, 1) := dk_79 (dk_at dksX5_init_7 2 rfl rfl)
theorem dX5_init_169 : decode cX5_init 169 = .ok (.dup, 1) := dk_89 (dk_at dksX5_init_7 3 rfl rfl)
theorem dX5_init_170 : decode cX5_init 170 = .ok (.iconst 2, 1) := dk_5 (dk_at dksX5_init_7 4 rfl rfl)
theorem dX5_init_171 : decode cX5_init 171 = .ok (.bipush 108, 2) := dk_16 108 (dk_at dksX5_init_7 5 rfl rfl)
theorem dX5_init_173 : decode cX5_init 173 = .ok (.iastore, 1) := dk_79 (dk_at dksX5_init_7 7 rfl rfl)
theorem dX5_init_174 : decode cX5_init 174 = .ok (.dup, 1) := dk_89 (dk_at dksX5_init_7 8 rfl rfl)
theorem dX5_init_175 : decode cX5_init 175 = .ok (.iconst 3, 1) := dk_6 (dk_at dksX5_init_7 9 rfl rfl)
theorem dX5_init_176 : decode cX5_init 176 = .ok (.bipush 108, 2) := dk_16 108 (dk_at dksX5_init_7 10 rfl rfl)
theorem dX5_init_178 : decode cX5_init 178 = .ok (.iastore, 1) := dk_79 (dk_at dksX5_init_7 12 rfl rfl)
theorem dX5_init_179 : decode cX5_init 179 = .ok (.dup, 1) := dk_89 (dk_at dksX5_init_7 13 rfl rfl)
theorem dX5_init_180 : decode cX5_init 180 = .ok (.iconst 4, 1) := dk_7 (dk_at dksX5_init_7 14 rfl rfl)
theorem dX5_init_181 : decode cX5_init 181 = .ok (.bipush 32, 2) := dk_16 32 (dk_at dksX5_init_7 15 rfl rfl)
theorem dX5_init_183 : decode cX5_init 183 = .ok (.iastore, 1) := dk_79 (dk_at dksX5_init_7 17 rfl rfl)
theorem dX5_init_184 : decode cX5_init 184 = .ok (.dup, 1) := dk_89 (dk_at dksX5_init_7 18 rfl rfl)
theorem dX5_init_185 : decode cX5_init 185 = .ok (.iconst 5, 1) := dk_8 (dk_at dksX5_init_7 19 rfl rfl)
theorem dX5_init_186 : decode cX5_init 186 = .ok (.iconst 0, 1) := dk_3 (dk_at dksX5_init_7 20 rfl rfl)
theorem dX5_init_187 : decode cX5_init 187 = .ok (.iastore, 1) := dk_79 (dk_at dksX5_init_7 21 rfl rfl)
theorem dX5_init_188 : decode cX5_init 188 = .ok (.dup, 1) := dk_89 (dk_at dksX5_init_7 22 rfl rfl)
theorem dX5_init_189 : decode cX5_init 189 = .ok (.bipush 6, 2) := dk_16 6 (dk_at dksX5_init_8 0 rfl rfl)
theorem dX5_init_191 : decode cX5_init 191 = .ok (.bipush 103, 2) := dk_16 103 (dk_at dksX5_init_8 2 rfl rfl)
theorem dX5_init_193 : decode cX5_init 193 = .ok (.iastore, 1) := dk_79 (dk_at dksX5_init_8 4 rfl rfl)
theorem dX5_init_194 : decode cX5_init 194 = .ok (.dup, 1) := dk_89 (dk_at dksX5_init_8 5 rfl rfl)
theorem dX5_init_195 : decode cX5_init 195 = .ok (.bipush 7, 2) := dk_16 7 (dk_at dksX5_init_8 6 rfl rfl)
theorem dX5_init_197 : decode cX5_init 197 = .ok (.bipush 97, 2) := dk_16 97 (dk_at dksX5_init_8 8 rfl rfl)
theorem dX5_init_199 : decode cX5_init 199 = .ok (.iastore, 1) := dk_79 (dk_at dksX5_init_8 10 rfl rfl)
theorem dX5_init_200 : decode cX5_init 200 = .ok (.dup, 1) := dk_89 (dk_at dksX5_init_8 11 rfl rfl)
theorem dX5_init_201 : decode cX5_init 201 = .ok (.bipush 8, 2) := dk_16 8 (dk_at dksX5_init_8 12 rfl rfl)
theorem dX5_init_203 : decode cX5_init 203 = .ok (.bipush 112, 2) := dk_16 112 (dk_at dksX5_init_8 14 rfl rfl)
theorem dX5_init_205 : decode cX5_init 205 = .ok (.iastore, 1) := dk_79 (dk_at dksX5_init_8 16 rfl rfl)
theorem dX5_init_206 : decode cX5_init 206 = .ok (.dup, 1) := dk_89 (dk_at dksX5_init_8 17 rfl rfl)
theorem dX5_init_207 : decode cX5_init 207 = .ok (.bipush 9, 2) := dk_16 9 (dk_at dksX5_init_8 18 rfl rfl)
theorem dX5_init_209 : decode cX5_init 209 = .ok (.bipush 32, 2) := dk_16 32 (dk_at dksX5_init_8 20 rfl rfl)
theorem dX5_init_211 : decode cX5_init 211 = .ok (.iastore, 1) := dk_79 (dk_at dksX5_init_8 22 rfl rfl)
theorem dX5_init_212 : decode cX5_init 212 = .ok (.dup, 1) := dk_89 (dk_at dksX5_init_8 23 rfl rfl)
theorem dX5_init_213 : decode cX5_init 213 = .ok (.bipush 10, 2) := dk_16 10 (dk_at dksX5_init_9 0 rfl rfl)
theorem dX5_init_215 : decode cX5_init 215 = .ok (.iconst 0, 1) := dk_3 (dk_at dksX5_init_9 2 rfl rfl)
theorem dX5_init_216 : decode cX5_init 216 = .ok (.iastore, 1) := dk_79 (dk_at dksX5_init_9 3 rfl rfl)
theorem dX5_init_217 : decode cX5_init 217 = .ok (.dup, 1) := dk_89 (dk_at dksX5_init_9 4 rfl rfl)
theorem dX5_init_218 : decode cX5_init 218 = .ok (.bipush 11, 2) := dk_16 11 (dk_at dksX5_init_9 5 rfl rfl)
theorem dX5_init_220 : decode cX5_init 220 = .ok (.bipush 98, 2) := dk_16 98 (dk_at dksX5_init_9 7 rfl rfl)
theorem dX5_init_222 : decode cX5_init 222 = .ok (.iastore, 1) := dk_79 (dk_at dksX5_init_9 9 rfl rfl)
theorem dX5_init_223 : decode cX5_init 223 = .ok (.dup, 1) := dk_89 (dk_at dksX5_init_9 10 rfl rfl)
theorem dX5_init_224 : decode cX5_init 224 = .ok (.bipush 12, 2) := dk_16 12 (dk_at dksX5_init_9 11 rfl rfl)
theorem dX5_init_226 : decode cX5_init 226 = .ok (.bipush 97, 2) := dk_16 97 (dk_at dksX5_init_9 13 rfl rfl)
theorem dX5_init_228 : decode cX5_init 228 = .ok (.iastore, 1) := dk_79 (dk_at dksX5_init_9 15 rfl rfl)
theorem dX5_init_229 : decode cX5_init 229 = .ok (.dup, 1) := dk_89 (dk_at dksX5_init_9 16 rfl rfl)
theorem dX5_init_230 : decode cX5_init 230 = .ok (.bipush 13, 2) := dk_16 13 (dk_at dksX5_init_9 17 rfl rfl)
theorem dX5_init_232 : decode cX5_init 232 = .ok (.bipush 108, 2) := dk_16 108 (dk_at dksX5_init_9 19 rfl rfl)
theorem dX5_init_234 : decode cX5_init 234 = .ok (.iastore, 1) := dk_79 (dk_at dksX5_init_9 21 rfl rfl)
theorem dX5_init_235 : decode cX5_init 235 = .ok (.dup, 1) := dk_89 (dk_at dksX5_init_9 22 rfl rfl)
theorem dX5_init_236 : decode cX5_init 236 = .ok (.bipush 14, 2) := dk_16 14 (dk_at dksX5_init_10 0 rfl rfl)
theorem dX5_init_238 : decode cX5_init 238 = .ok (.bipush 99, 2) := dk_16 99 (dk_at dksX5_init_10 2 rfl rfl)
theorem dX5_init_240 : decode cX5_init 240 = .ok (.iastore, 1) := dk_79 (dk_at dksX5_init_10 4 rfl rfl)
theorem dX5_init_241 : decode cX5_init 241 = .ok (.dup, 1) := dk_89 (dk_at dksX5_init_10 5 rfl rfl)
theorem dX5_init_242 : decode cX5_init 242 = .ok (.bipush 15, 2) := dk_16 15 (dk_at dksX5_init_10 6 rfl rfl)
theorem dX5_init_244 : decode cX5_init 244 = .ok (.bipush 111, 2) := dk_16 111 (dk_at dksX5_init_10 8 rfl rfl)
theorem dX5_init_246 : decode cX5_init 246 = .ok (.iastore, 1) := dk_79 (dk_at dksX5_init_10 10 rfl rfl)
theorem dX5_init_247 : decode cX5_init 247 = .ok (.dup, 1) := dk_89 (dk_at dksX5_init_10 11 rfl rfl)
theorem dX5_init_248 : decode cX5_init 248 = .ok (.bipush 16, 2) := dk_16 16 (dk_at dksX5_init_10 12 rfl rfl)
theorem dX5_init_250 : decode cX5_init 250 = .ok (.bipush 110, 2) := dk_16 110 (dk_at dksX5_init_10 14 rfl rfl)
theorem dX5_init_252 : decode cX5_init 252 = .ok (.iastore, 1) := dk_79 (dk_at dksX5_init_10 16 rfl rfl)
theorem dX5_init_253 : decode cX5_init 253 = .ok (.dup, 1) := dk_89 (dk_at dksX5_init_10 17 rfl rfl)
theorem dX5_init_254 : decode cX5_init 254 = .ok (.bipush 17, 2) := dk_16 17 (dk_at dksX5_init_10 18 rfl rfl)
theorem dX5_init_256 : decode cX5_init 256 = .ok (.bipush 121, 2) := dk_16 121 (dk_at dksX5_init_10 20 rfl rfl)
theorem dX5_init_258 : decode cX5_init 258 = .ok (.iastore, 1) := dk_79 (dk_at dksX5_init_10 22 rfl rfl)
theorem dX5_init_259 : decode cX5_init 259 = .ok (.dup, 1) := dk_89 (dk_at dksX5_init_10 23 rfl rfl)
theorem dX5_init_260 : decode cX5_init 260 = .ok (.bipush 18, 2) := dk_16 18 (dk_at dksX5_init_11 0 rfl rfl)
theorem dX5_init_262 : decode cX5_init 262 = .ok (.bipush 32, 2) := dk_16 32 (dk_at dksX5_init_11 2 rfl rfl)
theorem dX5_init_264 : decode cX5_init 264 = .ok (.iastore, 1) := dk_79 (dk_at dksX5_init_11 4 rfl rfl)
theorem dX5_init_265 : decode cX5_init 265 = .ok (.dup, 1) := dk_89 (dk_at dksX5_init_11 5 rfl rfl)
theorem dX5_init_266 : decode cX5_init 266 = .ok (.bipush 19, 2) := dk_16 19 (dk_at dksX5_init_11 6 rfl rfl)
theorem dX5_init_268 : decode cX5_init 268 = .ok (.iconst 0, 1) := dk_3 (dk_at dksX5_init_11 8 rfl rfl)
theorem dX5_init_269 : decode cX5_init 269 = .ok (.iastore, 1) := dk_79 (dk_at dksX5_init_11 9 rfl rfl)
theorem dX5_init_270 : decode cX5_init 270 = .ok (.dup, 1) := dk_89 (dk_at dksX5_init_11 10 rfl rfl)
theorem dX5_init_271 : decode cX5_init 271 = .ok (.bipush 20, 2) := dk_16 20 (dk_at dksX5_init_11 11 rfl rfl)
theorem dX5_init_273 : decode cX5_init 273 = .ok (.bipush 112, 2) := dk_16 112 (dk_at dksX5_init_11 13 rfl rfl)
theorem dX5_init_275 : decode cX5_init 275 = .ok (.iastore, 1) := dk_79 (dk_at dksX5_init_11 15 rfl rfl)
theorem dX5_init_276 : decode cX5_init 276 = .ok (.dup, 1) := dk_89 (dk_at dksX5_init_11 16 rfl rfl)
theorem dX5_init_277 : decode cX5_init 277 = .ok (.bipush 21, 2) := dk_16 21 (dk_at dksX5_init_11 17 rfl rfl)
theorem dX5_init_279 : decode cX5_init 279 = .ok (.bipush 101, 2) := dk_16 101 (dk_at dksX5_init_11 19 rfl rfl)
theorem dX5_init_281 : decode cX5_init 281 = .ok (.iastore, 1) := dk_79 (dk_at dksX5_init_11 21 rfl rfl)
theorem dX5_init_282 : decode cX5_init 282 = .ok (.dup, 1) := dk_89 (dk_at dksX5_init_11 22 rfl rfl)
theorem dX5_init_283 : decode cX5_init 283 = .ok (.bipush 22, 2) := dk_16 22 (dk_at dksX5_init_12 0 rfl rfl)
theorem dX5_init_285 : decode cX5_init 285 = .ok (.bipush 114, 2) := dk_16 114 (dk_at dksX5_init_12 2 rfl rfl)
theorem dX5_init_287 : decode cX5_init 287 = .ok (.iastore, 1) := dk_79 (dk_at dksX5_init_12 4 rfl rfl)
theorem dX5_init_288 : decode cX5_init 288 = .ok (.dup, 1) := dk_89 (dk_at dksX5_init_12 5 rfl rfl)
theorem dX5_init_289 : decode cX5_init 289 = .ok (.bipush 23, 2) := dk_16 23 (dk_at dksX5_init_12 6 rfl rfl)
theorem dX5_init_291 : decode cX5_init 291 = .ok (.bipush 115, 2) := dk_16 115 (dk_at dksX5_init_12 8 rfl rfl)
theorem dX5_init_293 : decode cX5_init 293 = .ok (.iastore, 1) := dk_79 (dk_at dksX5_init_12 10 rfl rfl)
theorem dX5_init_294 : decode cX5_init 294 = .ok (.dup, 1) := dk_89 (dk_at dksX5_init_12 11 rfl rfl)
theorem dX5_init_295 : decode cX5_init 295 = .ok (.bipush 24, 2) := dk_16 24 (dk_at dksX5_init_12 12 rfl rfl)
theorem dX5_init_297 : decode cX5_init 297 = .ok (.bipush 111, 2) := dk_16 111 (dk_at dksX5_init_12 14 rfl rfl)
theorem dX5_init_299 : decode cX5_init 299 = .ok (.iastore, 1) := dk_79 (dk_at dksX5_init_12 16 rfl rfl)
theorem dX5_init_300 : decode cX5_init 300 = .ok (.dup, 1) := dk_89 (dk_at dksX5_init_12 17 rfl rfl)
theorem dX5_init_301 : decode cX5_init 301 = .ok (.bipush 25, 2) := dk_16 25 (dk_at dksX5_init_12 18 rfl rfl)
theorem dX5_init_303 : decode cX5_init 303 = .ok (.bipush 110, 2) := dk_16 110 (dk_at dksX5_init_12 20 rfl rfl)
theorem dX5_init_305 : decode cX5_init 305 = .ok (.iastore, 1) := dk_79 (dk_at dksX5_init_12 22 rfl rfl)
theorem dX5_init_306 : decode cX5_init 306 = .ok (.dup, 1) := dk_89 (dk_at dksX5_init_12 23 rfl rfl)
theorem dX5_init_307 : decode cX5_init 307 = .ok (.bipush 26, 2) := dk_16 26 (dk_at dksX5_init_13 0 rfl rfl)
theorem dX5_init_309 : decode cX5_init 309 = .ok (.bipush 32, 2) := dk_16 32 (dk_at dksX5_init_13 2 rfl rfl)
theorem dX5_init_311 : decode cX5_init 311 = .ok (.iastore, 1) := dk_79 (dk_at dksX5_init_13 4 rfl rfl)
theorem dX5_init_312 : decode cX5_init 312 = .ok (.dup, 1) := dk_89 (dk_at dksX5_init_13 5 rfl rfl)
theorem dX5_init_313 : decode cX5_init 313 = .ok (.bipush 27, 2) := dk_16 27 (dk_at dksX5_init_13 6 rfl rfl)
theorem dX5_init_315 : decode cX5_init 315 = .ok (.iconst 0, 1) := dk_3 (dk_at dksX5_init_13 8 rfl rfl)
theorem dX5_init_316 : decode cX5_init 316 = .ok (.iastore, 1) := dk_79 (dk_at dksX5_init_13 9 rfl rfl)
theorem dX5_init_317 : decode cX5_init 317 = .ok (.dup, 1) := dk_89 (dk_at dksX5_init_13 10 rfl rfl)
theorem dX5_init_318 : decode cX5_init 318 = .ok (.bipush 28, 2) := dk_16 28 (dk_at dksX5_init_13 11 rfl rfl)
theorem dX5_init_320 : decode cX5_init 320 = .ok (.bipush 115, 2) := dk_16 115 (dk_at dksX5_init_13 13 rfl rfl)
theorem dX5_init_322 : decode cX5_init 322 = .ok (.iastore, 1) := dk_79 (dk_at dksX5_init_13 15 rfl rfl)
theorem dX5_init_323 : decode cX5_init 323 = .ok (.dup, 1) := dk_89 (dk_at dksX5_init_13 16 rfl rfl)
theorem dX5_init_324 : decode cX5_init 324 = .ok (.bipush 29, 2) := dk_16 29 (dk_at dksX5_init_13 17 rfl rfl)
theorem dX5_init_326 : decode cX5_init 326 = .ok (.bipush 97, 2) := dk_16 97 (dk_at dksX5_init_13 19 rfl rfl)
theorem dX5_init_328 : decode cX5_init 328 = .ok (.iastore, 1) := dk_79 (dk_at dksX5_init_13 21 rfl rfl)
theorem dX5_init_329 : decode cX5_init 329 = .ok (.dup, 1) := dk_89 (dk_at dksX5_init_13 22 rfl rfl)
theorem dX5_init_330 : decode cX5_init 330 = .ok (.bipush 30, 2) := dk_16 30 (dk_at dksX5_init_14 0 rfl rfl)
theorem dX5_init_332 : decode cX5_init 332 = .ok (.bipush 99, 2) := dk_16 99 (dk_at dksX5_init_14 2 rfl rfl)
theorem dX5_init_334 : decode cX5_init 334 = .ok (.iastore, 1) := dk_79 (dk_at dksX5_init_14 4 rfl rfl)
theorem dX5_init_335 : decode cX5_init 335 = .ok (.dup, 1) := dk_89 (dk_at dksX5_init_14 5 rfl rfl)
theorem dX5_init_336 : decode cX5_init 336 = .ok (.bipush 31, 2) := dk_16 31 (dk_at dksX5_init_14 6 rfl rfl)
theorem dX5_init_338 : decode cX5_init 338 = .ok (.bipush 107, 2) := dk_16 107 (dk_at dksX5_init_14 8 rfl rfl)
theorem dX5_init_340 : decode cX5_init 340 = .ok (.iastore, 1) := dk_79 (dk_at dksX5_init_14 10 rfl rfl)
theorem dX5_init_341 : decode cX5_init 341 = .ok (.dup, 1) := dk_89 (dk_at dksX5_init_14 11 rfl rfl)
theorem dX5_init_342 : decode cX5_init 342 = .ok (.bipush 32, 2) := dk_16 32 (dk_at dksX5_init_14 12 rfl rfl)
theorem dX5_init_344 : decode cX5_init 344 = .ok (.bipush 32, 2) := dk_16 32 (dk_at dksX5_init_14 14 rfl rfl)
theorem dX5_init_346 : decode cX5_init 346 = .ok (.iastore, 1) := dk_79 (dk_at dksX5_init_14 16 rfl rfl)
theorem dX5_init_347 : decode cX5_init 347 = .ok (.dup, 1) := dk_89 (dk_at dksX5_init_14 17 rfl rfl)
theorem dX5_init_348 : decode cX5_init 348 = .ok (.bipush 33, 2) := dk_16 33 (dk_at dksX5_init_14 18 rfl rfl)
theorem dX5_init_350 : decode cX5_init 350 = .ok (.iconst 0, 1) := dk_3 (dk_at dksX5_init_14 20 rfl rfl)
theorem dX5_init_351 : decode cX5_init 351 = .ok (.iastore, 1) := dk_79 (dk_at dksX5_init_14 21 rfl rfl)
theorem dX5_init_352 : decode cX5_init 352 = .ok (.dup, 1) := dk_89 (dk_at dksX5_init_14 22 rfl rfl)
theorem dX5_init_353 : decode cX5_init 353 = .ok (.bipush 34, 2) := dk_16 34 (dk_at dksX5_init_15 0 rfl rfl)
theorem dX5_init_355 : decode cX5_init 355 = .ok (.bipush 109, 2) := dk_16 109 (dk_at dksX5_init_15 2 rfl rfl)
theorem dX5_init_357 : decode cX5_init 357 = .ok (.iastore, 1) := dk_79 (dk_at dksX5_init_15 4 rfl rfl)
theorem dX5_init_358 : decode cX5_init 358 = .ok (.dup, 1) := dk_89 (dk_at dksX5_init_15 5 rfl rfl)
theorem dX5_init_359 : decode cX5_init 359 = .ok (.bipush 35, 2) := dk_16 35 (dk_at dksX5_init_15 6 rfl rfl)
theorem dX5_init_361 : decode cX5_init 361 = .ok (.bipush 105, 2) := dk_16 105 (dk_at dksX5_init_15 8 rfl rfl)
theorem dX5_init_363 : decode cX5_init 363 = .ok (.iastore, 1) := dk_79 (dk_at dksX5_init_15 10 rfl rfl)
theorem dX5_init_364 : decode cX5_init 364 = .ok (.dup, 1) := dk_89 (dk_at dksX5_init_15 11 rfl rfl)
theorem dX5_init_365 : decode cX5_init 365 = .ok (.bipush 36, 2) := dk_16 36 (dk_at dksX5_init_15 12 rfl rfl)
theorem dX5_init_367 : decode cX5_init 367 = .ok (.bipush 116, 2) := dk_16 116 (dk_at dksX5_init_15 14 rfl rfl)
theorem dX5_init_369 : decode cX5_init 369 = .ok (.iastore, 1) := dk_79 (dk_at dksX5_init_15 16 rfl rfl)
theorem dX5_init_370 : decode cX5_init 370 = .ok (.dup, 1) := dk_89 (dk_at dksX5_init_15 17 rfl rfl)
theorem dX5_init_371 : decode cX5_init 371 = .ok (.bipush 37, 2) := dk_16 37 (dk_at dksX5_init_15 18 rfl rfl)
theorem dX5_init_373 : decode cX5_init 373 = .ok (.bipush 101, 2) := dk_16 101 (dk_at dksX5_init_15 20 rfl rfl)
theorem dX5_init_375 : decode cX5_init 375 = .ok (.iastore, 1) := dk_79 (dk_at dksX5_init_15 22 rfl rfl)
theorem dX5_init_376 : decode cX5_init 376 = .ok (.dup, 1) := dk_89 (dk_at dksX5_init_15 23 rfl rfl)
theorem dX5_init_377 : decode cX5_init 377 = .ok (.bipush 38, 2) := dk_16 38 (dk_at dksX5_init_16 0 rfl rfl)
theorem dX5_init_379 : decode cX5_init 379 = .ok (.bipush 32, 2) := dk_16 32 (dk_at dksX5_init_16 2 rfl rfl)
theorem dX5_init_381 : decode cX5_init 381 = .ok (.iastore, 1) := dk_79 (dk_at dksX5_init_16 4 rfl rfl)
theorem dX5_init_382 : decode cX5_init 382 = .ok (.dup, 1) := dk_89 (dk_at dksX5_init_16 5 rfl rfl)
theorem dX5_init_383 : decode cX5_init 383 = .ok (.bipush 39, 2) := dk_16 39 (dk_at dksX5_init_16 6 rfl rfl)
theorem dX5_init_385 : decode cX5_init 385 = .ok (.iconst 0, 1) := dk_3 (dk_at dksX5_init_16 8 rfl rfl)
theorem dX5_init_386 : decode cX5_init 386 = .ok (.iastore, 1) := dk_79 (dk_at dksX5_init_16 9 rfl rfl)
theorem dX5_init_387 : decode cX5_init 387 = .ok (.dup, 1) := dk_89 (dk_at dksX5_init_16 10 rfl rfl)
theorem dX5_init_388 : decode cX5_init 388 = .ok (.bipush 40, 2) := dk_16 40 (dk_at dksX5_init_16 11 rfl rfl)
theorem dX5_init_390 : decode cX5_init 390 = .ok (.bipush 114, 2) := dk_16 114 (dk_at dksX5_init_16 13 rfl rfl)
theorem dX5_init_392 : decode cX5_init 392 = .ok (.iastore, 1) := dk_79 (dk_at dksX5_init_16 15 rfl rfl)
theorem dX5_init_393 : decode cX5_init 393 = .ok (.dup, 1) := dk_89 (dk_at dksX5_init_16 16 rfl rfl)
theorem dX5_init_394 : decode cX5_init 394 = .ok (.bipush 41, 2) := dk_16 41 (dk_at dksX5_init_16 17 rfl rfl)
theorem dX5_init_396 : decode cX5_init 396 = .ok (.bipush 101, 2) := dk_16 101 (dk_at dksX5_init_16 19 rfl rfl)
theorem dX5_init_398 : decode cX5_init 398 = .ok (.iastore, 1) := dk_79 (dk_at dksX5_init_16 21 rfl rfl)
theorem dX5_init_399 : decode cX5_init 399 = .ok (.dup, 1) := dk_89 (dk_at dksX5_init_16 22 rfl rfl)
theorem dX5_init_400 : decode cX5_init 400 = .ok (.bipush 42, 2) := dk_16 42 (dk_at dksX5_init_17 0 rfl rfl)
theorem dX5_init_402 : decode cX5_init 402 = .ok (.bipush 97, 2) := dk_16 97 (dk_at dksX5_init_17 2 rfl rfl)
theorem dX5_init_404 : decode cX5_init 404 = .ok (.iastore, 1) := dk_79 (dk_at dksX5_init_17 4 rfl rfl)
theorem dX5_init_405 : decode cX5_init 405 = .ok (.dup, 1) := dk_89 (dk_at dksX5_init_17 5 rfl rfl)
theorem dX5_init_406 : decode cX5_init 406 = .ok (.bipush 43, 2) := dk_16 43 (dk_at dksX5_init_17 6 rfl rfl)
theorem dX5_init_408 : decode cX5_init 408 = .ok (.bipush 99, 2) := dk_16 99 (dk_at dksX5_init_17 8 rfl rfl)
theorem dX5_init_410 : decode cX5_init 410 = .ok (.iastore, 1) := dk_79 (dk_at dksX5_init_17 10 rfl rfl)
theorem dX5_init_411 : decode cX5_init 411 = .ok (.dup, 1) := dk_89 (dk_at dksX5_init_17 11 rfl rfl)
theorem dX5_init_412 : decode cX5_init 412 = .ok (.bipush 44, 2) := dk_16 44 (dk_at dksX5_init_17 12 rfl rfl)
theorem dX5_init_414 : decode cX5_init 414 = .ok (.bipush 104, 2) := dk_16 104 (dk_at dksX5_init_17 14 rfl rfl)
theorem dX5_init_416 : decode cX5_init 416 = .ok (.iastore, 1) := dk_79 (dk_at dksX5_init_17 16 rfl rfl)
theorem dX5_init_417 : decode cX5_init 417 = .ok (.dup, 1) := dk_89 (dk_at dksX5_init_17 17 rfl rfl)
theorem dX5_init_418 : decode cX5_init 418 = .ok (.bipush 45, 2) := dk_16 45 (dk_at dksX5_init_17 18 rfl rfl)
theorem dX5_init_420 : decode cX5_init 420 = .ok (.bipush 32, 2) := dk_16 32 (dk_at dksX5_init_17 20 rfl rfl)
theorem dX5_init_422 : decode cX5_init 422 = .ok (.iastore, 1) := dk_79 (dk_at dksX5_init_17 22 rfl rfl)
theorem dX5_init_423 : decode cX5_init 423 = .ok (.dup, 1) := dk_89 (dk_at dksX5_init_17 23 rfl rfl)
theorem dX5_init_424 : decode cX5_init 424 = .ok (.bipush 46, 2) := dk_16 46 (dk_at dksX5_init_18 0 rfl rfl)
theorem dX5_init_426 : decode cX5_init 426 = .ok (.iconst 0, 1) := dk_3 (dk_at dksX5_init_18 2 rfl rfl)
theorem dX5_init_427 : decode cX5_init 427 = .ok (.iastore, 1) := dk_79 (dk_at dksX5_init_18 3 rfl rfl)
theorem dX5_init_428 : decode cX5_init 428 = .ok (.putfield 72, 3) := dk_181 0 72 (dk_at dksX5_init_18 4 rfl rfl)
theorem dX5_init_431 : decode cX5_init 431 = .ok (.aload_n 0, 1) := dk_42 (dk_at dksX5_init_18 7 rfl rfl)
theorem dX5_init_432 : decode cX5_init 432 = .ok (.bipush 7, 2) := dk_16 7 (dk_at dksX5_init_18 8 rfl rfl)
theorem dX5_init_434 : decode cX5_init 434 = .ok (.newarray .int, 2) := dk_188_10 (dk_at dksX5_init_18 10 rfl rfl)
theorem dX5_init_436 : decode cX5_init 436 = .ok (.dup, 1) := dk_89 (dk_at dksX5_init_18 12 rfl rfl)
theorem dX5_init_437 : decode cX5_init 437 = .ok (.iconst 0, 1) := dk_3 (dk_at dksX5_init_18 13 rfl rfl)
theorem dX5_init_438 : decode cX5_init 438 = .ok (.iconst 1, 1) := dk_4 (dk_at dksX5_init_18 14 rfl rfl)
theorem dX5_init_439 : decode cX5_init 439 = .ok (.iastore, 1) := dk_79 (dk_at dksX5_init_18 15 rfl rfl)
theorem dX5_init_440 : decode cX5_init 440 = .ok (.dup, 1) := dk_89 (dk_at dksX5_init_18 16 rfl rfl)
theorem dX5_init_441 : decode cX5_init 441 = .ok (.iconst 1, 1) := dk_4 (dk_at dksX5_init_18 17 rfl rfl)
theorem dX5_init_442 : decode cX5_init 442 = .ok (.iconst 1, 1) := dk_4 (dk_at dksX5_init_18 18 rfl rfl)
theorem dX5_init_443 : decode cX5_init 443 = .ok (.iastore, 1) := dk_79 (dk_at dksX5_init_18 19 rfl rfl)
theorem dX5_init_444 : decode cX5_init 444 = .ok (.dup, 1) := dk_89 (dk_at dksX5_init_18 20 rfl rfl)
theorem dX5_init_445 : decode cX5_init 445 = .ok (.iconst 2, 1) := dk_5 (dk_at dksX5_init_18 21 rfl rfl)
theorem dX5_init_446 : decode cX5_init 446 = .ok (.iconst 1, 1) := dk_4 (dk_at dksX5_init_18 22 rfl rfl)
theorem dX5_init_447 : decode cX5_init 447 = .ok (.iastore, 1) := dk_79 (dk_at dksX5_init_18 23 rfl rfl)
theorem dX5_init_448 : decode cX5_init 448 = .ok (.dup, 1) := dk_89 (dk_at dksX5_init_19 0 rfl rfl)
theorem dX5_init_449 : decode cX5_init 449 = .ok (.iconst 3, 1) := dk_6 (dk_at dksX5_init_19 1 rfl rfl)
theorem dX5_init_450 : decode cX5_init 450 = .ok (.bipush 6, 2) := dk_16 6 (dk_at dksX5_init_19 2 rfl rfl)
theorem dX5_init_452 : decode cX5_init 452 = .ok (.iastore, 1) := dk_79 (dk_at dksX5_init_19 4 rfl rfl)
theorem dX5_init_453 : decode cX5_init 453 = .ok (.dup, 1) := dk_89 (dk_at dksX5_init_19 5 rfl rfl)
theorem dX5_init_454 : decode cX5_init 454 = .ok (.iconst 4, 1) := dk_7 (dk_at dksX5_init_19 6 rfl rfl)
theorem dX5_init_455 : decode cX5_init 455 = .ok (.iconst 1, 1) := dk_4 (dk_at dksX5_init_19 7 rfl rfl)
theorem dX5_init_456 : decode cX5_init 456 = .ok (.iastore, 1) := dk_79 (dk_at dksX5_init_19 8 rfl rfl)
theorem dX5_init_457 : decode cX5_init 457 = .ok (.dup, 1) := dk_89 (dk_at dksX5_init_19 9 rfl rfl)
theorem dX5_init_458 : decode cX5_init 458 = .ok (.iconst 5, 1) := dk_8 (dk_at dksX5_init_19 10 rfl rfl)
theorem dX5_init_459 : decode cX5_init 459 = .ok (.iconst 1, 1) := dk_4 (dk_at dksX5_init_19 11 rfl rfl)
theorem dX5_init_460 : decode cX5_init 460 = .ok (.iastore, 1) := dk_79 (dk_at dksX5_init_19 12 rfl rfl)
theorem dX5_init_461 : decode cX5_init 461 = .ok (.dup, 1) := dk_89 (dk_at dksX5_init_19 13 rfl rfl)
theorem dX5_init_462 : decode cX5_init 462 = .ok (.bipush 6, 2) := dk_16 6 (dk_at dksX5_init_19 14 rfl rfl)
theorem dX5_init_464 : decode cX5_init 464 = .ok (.iconst 1, 1) := dk_4 (dk_at dksX5_init_19 16 rfl rfl)
theorem dX5_init_465 : decode cX5_init 465 = .ok (.iastore, 1) := dk_79 (dk_at dksX5_init_19 17 rfl rfl)
theorem dX5_init_466 : decode cX5_init 466 = .ok (.putfield 75, 3) := dk_181 0 75 (dk_at dksX5_init_19 18 rfl rfl)
theorem dX5_init_469 : decode cX5_init 469 = .ok (.aload_n 0, 1) := dk_42 (dk_at dksX5_init_19 21 rfl rfl)
theorem dX5_init_470 : decode cX5_init 470 = .ok (.bipush 6, 2) := dk_16 6 (dk_at dksX5_init_19 22 rfl rfl)
theorem dX5_init_472 : decode cX5_init 472 = .ok (.newarray .int, 2) := dk_188_10 (dk_at dksX5_init_20 0 rfl rfl)
theorem dX5_init_474 : decode cX5_init 474 = .ok (.dup, 1) := dk_89 (dk_at dksX5_init_20 2 rfl rfl)
theorem dX5_init_475 : decode cX5_init 475 = .ok (.iconst 0, 1) := dk_3 (dk_at dksX5_init_20 3 rfl rfl)
theorem dX5_init_476 : decode cX5_init 476 = .ok (.bipush 6, 2) := dk_16 6 (dk_at dksX5_init_20 4 rfl rfl)
theorem dX5_init_478 : decode cX5_init 478 = .ok (.iastore, 1) := dk_79 (dk_at dksX5_init_20 6 rfl rfl)
theorem dX5_init_479 : decode cX5_init 479 = .ok (.dup, 1) := dk_89 (dk_at dksX5_init_20 7 rfl rfl)
theorem dX5_init_480 : decode cX5_init 480 = .ok (.iconst 1, 1) := dk_4 (dk_at dksX5_init_20 8 rfl rfl)
theorem dX5_init_481 : decode cX5_init 481 = .ok (.bipush 9, 2) := dk_16 9 (dk_at dksX5_init_20 9 rfl rfl)
theorem dX5_init_483 : decode cX5_init 483 = .ok (.iastore, 1) := dk_79 (dk_at dksX5_init_20 11 rfl rfl)
theorem dX5_init_484 : decode cX5_init 484 = .ok (.dup, 1) := dk_89 (dk_at dksX5_init_20 12 rfl rfl)
theorem dX5_init_485 : decode cX5_init 485 = .ok (.iconst 2, 1) := dk_5 (dk_at dksX5_init_20 13 rfl rfl)
theorem dX5_init_486 : decode cX5_init 486 = .ok (.bipush 20, 2) := dk_16 20 (dk_at dksX5_init_20 14 rfl rfl)
theorem dX5_init_488 : decode cX5_init 488 = .ok (.iastore, 1) := dk_79 (dk_at dksX5_init_20 16 rfl rfl)
theorem dX5_init_489 : decode cX5_init 489 = .ok (.dup, 1) := dk_89 (dk_at dksX5_init_20 17 rfl rfl)
theorem dX5_init_490 : decode cX5_init 490 = .ok (.iconst 3, 1) := dk_6 (dk_at dksX5_init_20 18 rfl rfl)
theorem dX5_init_491 : decode cX5_init 491 = .ok (.bipush 9, 2) := dk_16 9 (dk_at dksX5_init_20 19 rfl rfl)
theorem dX5_init_493 : decode cX5_init 493 = .ok (.iastore, 1) := dk_79 (dk_at dksX5_init_20 21 rfl rfl)
theorem dX5_init_494 : decode cX5_init 494 = .ok (.dup, 1) := dk_89 (dk_at dksX5_init_20 22 rfl rfl)
theorem dX5_init_495 : decode cX5_init 495 = .ok (.iconst 4, 1) := dk_7 (dk_at dksX5_init_20 23 rfl rfl)
theorem dX5_init_496 : decode cX5_init 496 = .ok (.bipush 99, 2) := dk_16 99 (dk_at dksX5_init_21 0 rfl rfl)
theorem dX5_init_498 : decode cX5_init 498 = .ok (.iastore, 1) := dk_79 (dk_at dksX5_init_21 2 rfl rfl)
theorem dX5_init_499 : decode cX5_init 499 = .ok (.dup, 1) := dk_89 (dk_at dksX5_init_21 3 rfl rfl)
theorem dX5_init_500 : decode cX5_init 500 = .ok (.iconst 5, 1) := dk_8 (dk_at dksX5_init_21 4 rfl rfl)
theorem dX5_init_501 : decode cX5_init 501 = .ok (.bipush 35, 2) := dk_16 35 (dk_at dksX5_init_21 5 rfl rfl)
theorem dX5_init_503 : decode cX5_init 503 = .ok (.iastore, 1) := dk_79 (dk_at dksX5_init_21 7 rfl rfl)
theorem dX5_init_504 : decode cX5_init 504 = .ok (.putfield 78, 3) := dk_181 0 78 (dk_at dksX5_init_21 8 rfl rfl)
theorem dX5_init_507 : decode cX5_init 507 = .ok (.aload_n 0, 1) := dk_42 (dk_at dksX5_init_21 11 rfl rfl)
theorem dX5_init_508 : decode cX5_init 508 = .ok (.bipush 6, 2) := dk_16 6 (dk_at dksX5_init_21 12 rfl rfl)
theorem dX5_init_510 : decode cX5_init 510 = .ok (.newarray .int, 2) := dk_188_10 (dk_at dksX5_init_21 14 rfl rfl)
theorem dX5_init_512 : decode cX5_init 512 = .ok (.putfield 81, 3) := dk_181 0 81 (dk_at dksX5_init_21 16 rfl rfl)
theorem dX5_init_515 : decode cX5_init 515 = .ok (.aload_n 0, 1) := dk_42 (dk_at dksX5_init_21 19 rfl rfl)
theorem dX5_init_516 : decode cX5_init 516 = .ok (.sipush 130, 3) := dk_17 0 130 (dk_at dksX5_init_21 20 rfl rfl)
theorem dX5_init_519 : decode cX5_init 519 = .ok (.newarray .int, 2) := dk_188_10 (dk_at dksX5_init_22 0 rfl rfl)
theorem dX5_init_521 : decode cX5_init 521 = .ok (.putfield 84, 3) := dk_181 0 84 (dk_at dksX5_init_22 2 rfl rfl)
theorem dX5_init_524 : decode cX5_init 524 = .ok (.aload_n 0, 1) := dk_42 (dk_at dksX5_init_22 5 rfl rfl)
theorem dX5_init_525 : decode cX5_init 525 = .ok (.sipush 130, 3) := dk_17 0 130 (dk_at dksX5_init_22 6 rfl rfl)
theorem dX5_init_528 : decode cX5_init 528 = .ok (.newarray .int, 2) := dk_188_10 (dk_at dksX5_init_22 9 rfl rfl)
theorem dX5_init_530 : decode cX5_init 530 = .ok (.putfield 87, 3) := dk_181 0 87 (dk_at dksX5_init_22 11 rfl rfl)
theorem dX5_init_533 : decode cX5_init 533 = .ok (.aload_n 0, 1) := dk_42 (dk_at dksX5_init_22 14 rfl rfl)
theorem dX5_init_534 : decode cX5_init 534 = .ok (.sipush 130, 3) := dk_17 0 130 (dk_at dksX5_init_22 15 rfl rfl)
theorem dX5_init_537 : decode cX5_init 537 = .ok (.newarray .int, 2) := dk_188_10 (dk_at dksX5_init_22 18 rfl rfl)
theorem dX5_init_539 : decode cX5_init 539 = .ok (.putfield 90, 3) := dk_181 0 90 (dk_at dksX5_init_22 20 rfl rfl)
theorem dX5_init_542 : decode cX5_init 542 = .ok (.aload_n 0, 1) := dk_42 (dk_at dksX5_init_22 23 rfl rfl)
theorem dX5_init_543 : decode cX5_init 543 = .ok (.iconst (-1), 1) := dk_2 (dk_at dksX5_init_23 0 rfl rfl)
theorem dX5_init_544 : decode cX5_init 544 = .ok (.putfield 93, 3) := dk_181 0 93 (dk_at dksX5_init_23 1 rfl rfl)
theorem dX5_init_547 : decode cX5_init 547 = .ok (.aload_n 0, 1) := dk_42 (dk_at dksX5_init_23 4 rfl rfl)
theorem dX5_init_548 : decode cX5_init 548 = .ok (.bipush 36, 2) := dk_16 36 (dk_at dksX5_init_23 5 rfl rfl)
theorem dX5_init_550 : decode cX5_init 550 = .ok (.newarray .int, 2) := dk_188_10 (dk_at dksX5_init_23 7 rfl rfl)
theorem dX5_init_552 : decode cX5_init 552 = .ok (.putfield 96, 3) := dk_181 0 96 (dk_at dksX5_init_23 9 rfl rfl)
theorem dX5_init_555 : decode cX5_init 555 = .ok (.aload_n 0, 1) := dk_42 (dk_at dksX5_init_23 12 rfl rfl)
theorem dX5_init_556 : decode cX5_init 556 = .ok (.bipush 36, 2) := dk_16 36 (dk_at dksX5_init_23 13 rfl rfl)
theorem dX5_init_558 : decode cX5_init 558 = .ok (.newarray .int, 2) := dk_188_10 (dk_at dksX5_init_23 15 rfl rfl)
theorem dX5_init_560 : decode cX5_init 560 = .ok (.putfield 99, 3) := dk_181 0 99 (dk_at dksX5_init_23 17 rfl rfl)
theorem dX5_init_563 : decode cX5_init 563 = .ok (.aload_n 0, 1) := dk_42 (dk_at dksX5_init_23 20 rfl rfl)
theorem dX5_init_564 : decode cX5_init 564 = .ok (.bipush 7, 2) := dk_16 7 (dk_at dksX5_init_23 21 rfl rfl)
theorem dX5_init_566 : decode cX5_init 566 = .ok (.newarray .int, 2) := dk_188_10 (dk_at dksX5_init_24 0 rfl rfl)
theorem dX5_init_568 : decode cX5_init 568 = .ok (.putfield 102, 3) := dk_181 0 102 (dk_at dksX5_init_24 2 rfl rfl)
theorem dX5_init_571 : decode cX5_init 571 = .ok (.aload_n 0, 1) := dk_42 (dk_at dksX5_init_24 5 rfl rfl)
theorem dX5_init_572 : decode cX5_init 572 = .ok (.bipush 20, 2) := dk_16 20 (dk_at dksX5_init_24 6 rfl rfl)
theorem dX5_init_574 : decode cX5_init 574 = .ok (.newarray .int, 2) := dk_188_10 (dk_at dksX5_init_24 8 rfl rfl)
theorem dX5_init_576 : decode cX5_init 576 = .ok (.putfield 105, 3) := dk_181 0 105 (dk_at dksX5_init_24 10 rfl rfl)
theorem dX5_init_579 : decode cX5_init 579 = .ok (.return_, 1) := dk_177 (dk_at dksX5_init_24 13 rfl rfl)
abbrev cX5_row : ByteArray := prog_22_method_8_code
def yX5_row : MethodName := ⟨RX5, "row", "(III)I"⟩
def dkwX5_row_4 : List UInt8 := [27, 104, 21, 4, 96, 9, 80, 132, 4, 1, 167, 255, 231, 4, 172]
abbrev dktX5_row_4 : List UInt8 := dkwX5_row_4 ++ []
def dkwX5_row_3 : List UInt8 := [180, 0, 59, 27, 29, 79, 3, 54, 4, 21, 4, 17, 0, 160, 162, 0, 23, 42, 180, 0, 65, 17, 0, 160]
abbrev dktX5_row_3 : List UInt8 := dkwX5_row_3 ++ dktX5_row_4
def dkwX5_row_2 : List UInt8 := [42, 16, 249, 182, 0, 115, 172, 42, 180, 0, 53, 27, 4, 79, 42, 180, 0, 56, 27, 28, 79, 42]
abbrev dktX5_row_2 : List UInt8 := dkwX5_row_2 ++ dktX5_row_3
def dkwX5_row_1 : List UInt8 := [172, 28, 155, 0, 8, 28, 6, 164, 0, 10, 42, 16, 250, 182, 0, 115, 172, 29, 17, 0, 160, 164, 0, 10]
abbrev dktX5_row_1 : List UInt8 := dkwX5_row_1 ++ dktX5_row_2
def dkwX5_row_0 : List UInt8 := [42, 27, 182, 0, 111, 154, 0, 9, 42, 2, 182, 0, 115, 172, 29, 156, 0, 10, 42, 16, 252, 182, 0, 115]
abbrev dktX5_row_0 : List UInt8 := dkwX5_row_0 ++ dktX5_row_1
theorem dksX5_row_0 : cX5_row.data.toList.drop 0 = dktX5_row_0 := by decide +kernel
theorem dksX5_row_1 : cX5_row.data.toList.drop 24 = dktX5_row_1 := dk_seg dksX5_row_0 24 rfl rfl
theorem dksX5_row_2 : cX5_row.data.toList.drop 48 = dktX5_row_2 := dk_seg dksX5_row_1 24 rfl rfl
theorem dksX5_row_3 : cX5_row.data.toList.drop 70 = dktX5_row_3 := dk_seg dksX5_row_2 22 rfl rfl
theorem dksX5_row_4 : cX5_row.data.toList.drop 94 = dktX5_row_4 := dk_seg dksX5_row_3 24 rfl rfl
theorem dX5_row_0 : decode cX5_row 0 = .ok (.aload_n 0, 1) := dk_42 (dk_at dksX5_row_0 0 rfl rfl)
theorem dX5_row_1 : decode cX5_row 1 = .ok (.iload_n 1, 1) := dk_27 (dk_at dksX5_row_0 1 rfl rfl)
theorem dX5_row_2 : decode cX5_row 2 = .ok (.invokevirtual 111, 3) := dk_182 0 111 (dk_at dksX5_row_0 2 rfl rfl)
theorem dX5_row_5 : decode cX5_row 5 = .ok (.ifCond .ne 9, 3) := dk_154 0 9 (dk_at dksX5_row_0 5 rfl rfl)
theorem dX5_row_8 : decode cX5_row 8 = .ok (.aload_n 0, 1) := dk_42 (dk_at dksX5_row_0 8 rfl rfl)
theorem dX5_row_9 : decode cX5_row 9 = .ok (.iconst (-1), 1) := dk_2 (dk_at dksX5_row_0 9 rfl rfl)
theorem dX5_row_10 : decode cX5_row 10 = .ok (.invokevirtual 115, 3) := dk_182 0 115 (dk_at dksX5_row_0 10 rfl rfl)
theorem dX5_row_13 : decode cX5_row 13 = .ok (.ireturn, 1) := dk_172 (dk_at dksX5_row_0 13 rfl rfl)
theorem dX5_row_14 : decode cX5_row 14 = .ok (.iload_n 3, 1) := dk_29 (dk_at dksX5_row_0 14 rfl rfl)
theorem dX5_row_15 : decode cX5_row 15 = .ok (.ifCond .ge 10, 3) := dk_156 0 10 (dk_at dksX5_row_0 15 rfl rfl)
theorem dX5_row_18 : decode cX5_row 18 = .ok (.aload_n 0, 1) := dk_42 (dk_at dksX5_row_0 18 rfl rfl)
theorem dX5_row_19 : decode cX5_row 19 = .ok (.bipush (-4), 2) := dk_16 252 (dk_at dksX5_row_0 19 rfl rfl)
theorem dX5_row_21 : decode cX5_row 21 = .ok (.invokevirtual 115, 3) := dk_182 0 115 (dk_at dksX5_row_0 21 rfl rfl)
theorem dX5_row_24 : decode cX5_row 24 = .ok (.ireturn, 1) := dk_172 (dk_at dksX5_row_1 0 rfl rfl)
theorem dX5_row_25 : decode cX5_row 25 = .ok (.iload_n 2, 1) := dk_28 (dk_at dksX5_row_1 1 rfl rfl)
theorem dX5_row_26 : decode cX5_row 26 = .ok (.ifCond .lt 8, 3) := dk_155 0 8 (dk_at dksX5_row_1 2 rfl rfl)
theorem dX5_row_29 : decode cX5_row 29 = .ok (.iload_n 2, 1) := dk_28 (dk_at dksX5_row_1 5 rfl rfl)
theorem dX5_row_30 : decode cX5_row 30 = .ok (.iconst 3, 1) := dk_6 (dk_at dksX5_row_1 6 rfl rfl)
theorem dX5_row_31 : decode cX5_row 31 = .ok (.if_icmp .le 10, 3) := dk_164 0 10 (dk_at dksX5_row_1 7 rfl rfl)
theorem dX5_row_34 : decode cX5_row 34 = .ok (.aload_n 0, 1) := dk_42 (dk_at dksX5_row_1 10 rfl rfl)
theorem dX5_row_35 : decode cX5_row 35 = .ok (.bipush (-6), 2) := dk_16 250 (dk_at dksX5_row_1 11 rfl rfl)
theorem dX5_row_37 : decode cX5_row 37 = .ok (.invokevirtual 115, 3) := dk_182 0 115 (dk_at dksX5_row_1 13 rfl rfl)
theorem dX5_row_40 : decode cX5_row 40 = .ok (.ireturn, 1) := dk_172 (dk_at dksX5_row_1 16 rfl rfl)
theorem dX5_row_41 : decode cX5_row 41 = .ok (.iload_n 3, 1) := dk_29 (dk_at dksX5_row_1 17 rfl rfl)
theorem dX5_row_42 : decode cX5_row 42 = .ok (.sipush 160, 3) := dk_17 0 160 (dk_at dksX5_row_1 18 rfl rfl)
theorem dX5_row_45 : decode cX5_row 45 = .ok (.if_icmp .le 10, 3) := dk_164 0 10 (dk_at dksX5_row_1 21 rfl rfl)
theorem dX5_row_48 : decode cX5_row 48 = .ok (.aload_n 0, 1) := dk_42 (dk_at dksX5_row_2 0 rfl rfl)
theorem dX5_row_49 : decode cX5_row 49 = .ok (.bipush (-7), 2) := dk_16 249 (dk_at dksX5_row_2 1 rfl rfl)
theorem dX5_row_51 : decode cX5_row 51 = .ok (.invokevirtual 115, 3) := dk_182 0 115 (dk_at dksX5_row_2 3 rfl rfl)
theorem dX5_row_54 : decode cX5_row 54 = .ok (.ireturn, 1) := dk_172 (dk_at dksX5_row_2 6 rfl rfl)
theorem dX5_row_55 : decode cX5_row 55 = .ok (.aload_n 0, 1) := dk_42 (dk_at dksX5_row_2 7 rfl rfl)
theorem dX5_row_56 : decode cX5_row 56 = .ok (.getfield 53, 3) := dk_180 0 53 (dk_at dksX5_row_2 8 rfl rfl)
theorem dX5_row_59 : decode cX5_row 59 = .ok (.iload_n 1, 1) := dk_27 (dk_at dksX5_row_2 11 rfl rfl)
theorem dX5_row_60 : decode cX5_row 60 = .ok (.iconst 1, 1) := dk_4 (dk_at dksX5_row_2 12 rfl rfl)
theorem dX5_row_61 : decode cX5_row 61 = .ok (.iastore, 1) := dk_79 (dk_at dksX5_row_2 13 rfl rfl)
theorem dX5_row_62 : decode cX5_row 62 = .ok (.aload_n 0, 1) := dk_42 (dk_at dksX5_row_2 14 rfl rfl)
theorem dX5_row_63 : decode cX5_row 63 = .ok (.getfield 56, 3) := dk_180 0 56 (dk_at dksX5_row_2 15 rfl rfl)
theorem dX5_row_66 : decode cX5_row 66 = .ok (.iload_n 1, 1) := dk_27 (dk_at dksX5_row_2 18 rfl rfl)
theorem dX5_row_67 : decode cX5_row 67 = .ok (.iload_n 2, 1) := dk_28 (dk_at dksX5_row_2 19 rfl rfl)
theorem dX5_row_68 : decode cX5_row 68 = .ok (.iastore, 1) := dk_79 (dk_at dksX5_row_2 20 rfl rfl)
theorem dX5_row_69 : decode cX5_row 69 = .ok (.aload_n 0, 1) := dk_42 (dk_at dksX5_row_2 21 rfl rfl)
theorem dX5_row_70 : decode cX5_row 70 = .ok (.getfield 59, 3) := dk_180 0 59 (dk_at dksX5_row_3 0 rfl rfl)
theorem dX5_row_73 : decode cX5_row 73 = .ok (.iload_n 1, 1) := dk_27 (dk_at dksX5_row_3 3 rfl rfl)
theorem dX5_row_74 : decode cX5_row 74 = .ok (.iload_n 3, 1) := dk_29 (dk_at dksX5_row_3 4 rfl rfl)
theorem dX5_row_75 : decode cX5_row 75 = .ok (.iastore, 1) := dk_79 (dk_at dksX5_row_3 5 rfl rfl)
theorem dX5_row_76 : decode cX5_row 76 = .ok (.iconst 0, 1) := dk_3 (dk_at dksX5_row_3 6 rfl rfl)
theorem dX5_row_77 : decode cX5_row 77 = .ok (.istore 4, 2) := dk_54 4 (dk_at dksX5_row_3 7 rfl rfl)
theorem dX5_row_79 : decode cX5_row 79 = .ok (.iload 4, 2) := dk_21 4 (dk_at dksX5_row_3 9 rfl rfl)
theorem dX5_row_81 : decode cX5_row 81 = .ok (.sipush 160, 3) := dk_17 0 160 (dk_at dksX5_row_3 11 rfl rfl)
theorem dX5_row_84 : decode cX5_row 84 = .ok (.if_icmp .ge 23, 3) := dk_162 0 23 (dk_at dksX5_row_3 14 rfl rfl)
theorem dX5_row_87 : decode cX5_row 87 = .ok (.aload_n 0, 1) := dk_42 (dk_at dksX5_row_3 17 rfl rfl)
theorem dX5_row_88 : decode cX5_row 88 = .ok (.getfield 65, 3) := dk_180 0 65 (dk_at dksX5_row_3 18 rfl rfl)
theorem dX5_row_91 : decode cX5_row 91 = .ok (.sipush 160, 3) := dk_17 0 160 (dk_at dksX5_row_3 21 rfl rfl)
theorem dX5_row_94 : decode cX5_row 94 = .ok (.iload_n 1, 1) := dk_27 (dk_at dksX5_row_4 0 rfl rfl)
theorem dX5_row_95 : decode cX5_row 95 = .ok (.imul, 1) := dk_104 (dk_at dksX5_row_4 1 rfl rfl)
theorem dX5_row_96 : decode cX5_row 96 = .ok (.iload 4, 2) := dk_21 4 (dk_at dksX5_row_4 2 rfl rfl)
theorem dX5_row_98 : decode cX5_row 98 = .ok (.iadd, 1) := dk_96 (dk_at dksX5_row_4 4 rfl rfl)
theorem dX5_row_99 : decode cX5_row 99 = .ok (.lconst 0, 1) := dk_9 (dk_at dksX5_row_4 5 rfl rfl)
theorem dX5_row_100 : decode cX5_row 100 = .ok (.lastore, 1) := dk_80 (dk_at dksX5_row_4 6 rfl rfl)
theorem dX5_row_101 : decode cX5_row 101 = .ok (.iinc 4 1, 3) := dk_132 4 1 (dk_at dksX5_row_4 7 rfl rfl)
theorem dX5_row_104 : decode cX5_row 104 = .ok (.goto (-25), 3) := dk_167 255 231 (dk_at dksX5_row_4 10 rfl rfl)
theorem dX5_row_107 : decode cX5_row 107 = .ok (.iconst 1, 1) := dk_4 (dk_at dksX5_row_4 13 rfl rfl)
theorem dX5_row_108 : decode cX5_row 108 = .ok (.ireturn, 1) := dk_172 (dk_at dksX5_row_4 14 rfl rfl)
abbrev cX5_isShelf : ByteArray := prog_22_method_4_code
def yX5_isShelf : MethodName := ⟨RX5, "isShelf", "(I)Z"⟩
def dkwX5_isShelf_0 : List UInt8 := [27, 155, 0, 13, 27, 16, 8, 162, 0, 7, 4, 167, 0, 4, 3, 172]
abbrev dktX5_isShelf_0 : List UInt8 := dkwX5_isShelf_0 ++ []
theorem dksX5_isShelf_0 : cX5_isShelf.data.toList.drop 0 = dktX5_isShelf_0 := by decide +kernel
theorem dX5_isShelf_0 : decode cX5_isShelf 0 = .ok (.iload_n 1, 1) := dk_27 (dk_at dksX5_isShelf_0 0 rfl rfl)
theorem dX5_isShelf_1 : decode cX5_isShelf 1 = .ok (.ifCond .lt 13, 3) := dk_155 0 13 (dk_at dksX5_isShelf_0 1 rfl rfl)
theorem dX5_isShelf_4 : decode cX5_isShelf 4 = .ok (.iload_n 1, 1) := dk_27 (dk_at dksX5_isShelf_0 4 rfl rfl)
theorem dX5_isShelf_5 : decode cX5_isShelf 5 = .ok (.bipush 8, 2) := dk_16 8 (dk_at dksX5_isShelf_0 5 rfl rfl)
theorem dX5_isShelf_7 : decode cX5_isShelf 7 = .ok (.if_icmp .ge 7, 3) := dk_162 0 7 (dk_at dksX5_isShelf_0 7 rfl rfl)
theorem dX5_isShelf_10 : decode cX5_isShelf 10 = .ok (.iconst 1, 1) := dk_4 (dk_at dksX5_isShelf_0 10 rfl rfl)
theorem dX5_isShelf_11 : decode cX5_isShelf 11 = .ok (.goto 4, 3) := dk_167 0 4 (dk_at dksX5_isShelf_0 11 rfl rfl)
theorem dX5_isShelf_14 : decode cX5_isShelf 14 = .ok (.iconst 0, 1) := dk_3 (dk_at dksX5_isShelf_0 14 rfl rfl)
theorem dX5_isShelf_15 : decode cX5_isShelf 15 = .ok (.ireturn, 1) := dk_172 (dk_at dksX5_isShelf_0 15 rfl rfl)
abbrev cX5_no : ByteArray := prog_22_method_2_code
def yX5_no : MethodName := ⟨RX5, "no", "(I)I"⟩
def dkwX5_no_0 : List UInt8 := [42, 180, 0, 22, 27, 116, 92, 46, 4, 96, 79, 27, 172]
abbrev dktX5_no_0 : List UInt8 := dkwX5_no_0 ++ []
theorem dksX5_no_0 : cX5_no.data.toList.drop 0 = dktX5_no_0 := by decide +kernel
theorem dX5_no_0 : decode cX5_no 0 = .ok (.aload_n 0, 1) := dk_42 (dk_at dksX5_no_0 0 rfl rfl)
theorem dX5_no_1 : decode cX5_no 1 = .ok (.getfield 22, 3) := dk_180 0 22 (dk_at dksX5_no_0 1 rfl rfl)
theorem dX5_no_4 : decode cX5_no 4 = .ok (.iload_n 1, 1) := dk_27 (dk_at dksX5_no_0 4 rfl rfl)
theorem dX5_no_5 : decode cX5_no 5 = .ok (.ineg, 1) := dk_116 (dk_at dksX5_no_0 5 rfl rfl)
theorem dX5_no_6 : decode cX5_no 6 = .ok (.dup2, 1) := dk_92 (dk_at dksX5_no_0 6 rfl rfl)
theorem dX5_no_7 : decode cX5_no 7 = .ok (.iaload, 1) := dk_46 (dk_at dksX5_no_0 7 rfl rfl)
theorem dX5_no_8 : decode cX5_no 8 = .ok (.iconst 1, 1) := dk_4 (dk_at dksX5_no_0 8 rfl rfl)
theorem dX5_no_9 : decode cX5_no 9 = .ok (.iadd, 1) := dk_96 (dk_at dksX5_no_0 9 rfl rfl)
theorem dX5_no_10 : decode cX5_no 10 = .ok (.iastore, 1) := dk_79 (dk_at dksX5_no_0 10 rfl rfl)
theorem dX5_no_11 : decode cX5_no 11 = .ok (.iload_n 1, 1) := dk_27 (dk_at dksX5_no_0 11 rfl rfl)
theorem dX5_no_12 : decode cX5_no 12 = .ok (.ireturn, 1) := dk_172 (dk_at dksX5_no_0 12 rfl rfl)
abbrev cX5_set : ByteArray := prog_22_method_9_code
def yX5_set : MethodName := ⟨RX5, "set", "(IIJ)I"⟩
def dkwX5_set_5 : List UInt8 := [160, 0, 9, 33, 136, 133, 167, 0, 4, 33, 80, 4, 172]
abbrev dktX5_set_5 : List UInt8 := dkwX5_set_5 ++ []
def dkwX5_set_4 : List UInt8 := [180, 0, 56, 27, 46, 4, 160, 0, 10, 33, 136, 147, 133, 167, 0, 20, 42, 180, 0, 56, 27, 46, 5]
abbrev dktX5_set_4 : List UInt8 := dkwX5_set_4 ++ dktX5_set_5
def dkwX5_set_3 : List UInt8 := [17, 0, 160, 27, 104, 28, 96, 42, 180, 0, 56, 27, 46, 154, 0, 10, 33, 136, 145, 133, 167, 0, 37, 42]
abbrev dktX5_set_3 : List UInt8 := dkwX5_set_3 ++ dktX5_set_4
def dkwX5_set_2 : List UInt8 := [155, 0, 13, 28, 42, 180, 0, 59, 27, 46, 161, 0, 10, 42, 16, 251, 182, 0, 115, 172, 42, 180, 0, 65]
abbrev dktX5_set_2 : List UInt8 := dkwX5_set_2 ++ dktX5_set_3
def dkwX5_set_1 : List UInt8 := [42, 16, 254, 182, 0, 115, 172, 42, 180, 0, 53, 27, 46, 154, 0, 10, 42, 16, 253, 182, 0, 115, 172, 28]
abbrev dktX5_set_1 : List UInt8 := dkwX5_set_1 ++ dktX5_set_2
def dkwX5_set_0 : List UInt8 := [42, 27, 182, 0, 111, 154, 0, 9, 42, 2, 182, 0, 115, 172, 42, 180, 0, 53, 27, 46, 5, 160, 0, 10]
abbrev dktX5_set_0 : List UInt8 := dkwX5_set_0 ++ dktX5_set_1
theorem dksX5_set_0 : cX5_set.data.toList.drop 0 = dktX5_set_0 := by decide +kernel
theorem dksX5_set_1 : cX5_set.data.toList.drop 24 = dktX5_set_1 := dk_seg dksX5_set_0 24 rfl rfl
theorem dksX5_set_2 : cX5_set.data.toList.drop 48 = dktX5_set_2 := dk_seg dksX5_set_1 24 rfl rfl
theorem dksX5_set_3 : cX5_set.data.toList.drop 72 = dktX5_set_3 := dk_seg dksX5_set_2 24 rfl rfl
theorem dksX5_set_4 : cX5_set.data.toList.drop 96 = dktX5_set_4 := dk_seg dksX5_set_3 24 rfl rfl
theorem dksX5_set_5 : cX5_set.data.toList.drop 119 = dktX5_set_5 := dk_seg dksX5_set_4 23 rfl rfl
theorem dX5_set_0 : decode cX5_set 0 = .ok (.aload_n 0, 1) := dk_42 (dk_at dksX5_set_0 0 rfl rfl)
theorem dX5_set_1 : decode cX5_set 1 = .ok (.iload_n 1, 1) := dk_27 (dk_at dksX5_set_0 1 rfl rfl)
theorem dX5_set_2 : decode cX5_set 2 = .ok (.invokevirtual 111, 3) := dk_182 0 111 (dk_at dksX5_set_0 2 rfl rfl)
theorem dX5_set_5 : decode cX5_set 5 = .ok (.ifCond .ne 9, 3) := dk_154 0 9 (dk_at dksX5_set_0 5 rfl rfl)
theorem dX5_set_8 : decode cX5_set 8 = .ok (.aload_n 0, 1) := dk_42 (dk_at dksX5_set_0 8 rfl rfl)
theorem dX5_set_9 : decode cX5_set 9 = .ok (.iconst (-1), 1) := dk_2 (dk_at dksX5_set_0 9 rfl rfl)
theorem dX5_set_10 : decode cX5_set 10 = .ok (.invokevirtual 115, 3) := dk_182 0 115 (dk_at dksX5_set_0 10 rfl rfl)
theorem dX5_set_13 : decode cX5_set 13 = .ok (.ireturn, 1) := dk_172 (dk_at dksX5_set_0 13 rfl rfl)
theorem dX5_set_14 : decode cX5_set 14 = .ok (.aload_n 0, 1) := dk_42 (dk_at dksX5_set_0 14 rfl rfl)
theorem dX5_set_15 : decode cX5_set 15 = .ok (.getfield 53, 3) := dk_180 0 53 (dk_at dksX5_set_0 15 rfl rfl)
theorem dX5_set_18 : decode cX5_set 18 = .ok (.iload_n 1, 1) := dk_27 (dk_at dksX5_set_0 18 rfl rfl)
theorem dX5_set_19 : decode cX5_set 19 = .ok (.iaload, 1) := dk_46 (dk_at dksX5_set_0 19 rfl rfl)
theorem dX5_set_20 : decode cX5_set 20 = .ok (.iconst 2, 1) := dk_5 (dk_at dksX5_set_0 20 rfl rfl)
theorem dX5_set_21 : decode cX5_set 21 = .ok (.if_icmp .ne 10, 3) := dk_160 0 10 (dk_at dksX5_set_0 21 rfl rfl)
theorem dX5_set_24 : decode cX5_set 24 = .ok (.aload_n 0, 1) := dk_42 (dk_at dksX5_set_1 0 rfl rfl)
theorem dX5_set_25 : decode cX5_set 25 = .ok (.bipush (-2), 2) := dk_16 254 (dk_at dksX5_set_1 1 rfl rfl)
theorem dX5_set_27 : decode cX5_set 27 = .ok (.invokevirtual 115, 3) := dk_182 0 115 (dk_at dksX5_set_1 3 rfl rfl)
theorem dX5_set_30 : decode cX5_set 30 = .ok (.ireturn, 1) := dk_172 (dk_at dksX5_set_1 6 rfl rfl)
theorem dX5_set_31 : decode cX5_set 31 = .ok (.aload_n 0, 1) := dk_42 (dk_at dksX5_set_1 7 rfl rfl)
theorem dX5_set_32 : decode cX5_set 32 = .ok (.getfield 53, 3) := dk_180 0 53 (dk_at dksX5_set_1 8 rfl rfl)
theorem dX5_set_35 : decode cX5_set 35 = .ok (.iload_n 1, 1) := dk_27 (dk_at dksX5_set_1 11 rfl rfl)
theorem dX5_set_36 : decode cX5_set 36 = .ok (.iaload, 1) := dk_46 (dk_at dksX5_set_1 12 rfl rfl)
theorem dX5_set_37 : decode cX5_set 37 = .ok (.ifCond .ne 10, 3) := dk_154 0 10 (dk_at dksX5_set_1 13 rfl rfl)
theorem dX5_set_40 : decode cX5_set 40 = .ok (.aload_n 0, 1) := dk_42 (dk_at dksX5_set_1 16 rfl rfl)
theorem dX5_set_41 : decode cX5_set 41 = .ok (.bipush (-3), 2) := dk_16 253 (dk_at dksX5_set_1 17 rfl rfl)
theorem dX5_set_43 : decode cX5_set 43 = .ok (.invokevirtual 115, 3) := dk_182 0 115 (dk_at dksX5_set_1 19 rfl rfl)
theorem dX5_set_46 : decode cX5_set 46 = .ok (.ireturn, 1) := dk_172 (dk_at dksX5_set_1 22 rfl rfl)
theorem dX5_set_47 : decode cX5_set 47 = .ok (.iload_n 2, 1) := dk_28 (dk_at dksX5_set_1 23 rfl rfl)
theorem dX5_set_48 : decode cX5_set 48 = .ok (.ifCond .lt 13, 3) := dk_155 0 13 (dk_at dksX5_set_2 0 rfl rfl)
theorem dX5_set_51 : decode cX5_set 51 = .ok (.iload_n 2, 1) := dk_28 (dk_at dksX5_set_2 3 rfl rfl)
theorem dX5_set_52 : decode cX5_set 52 = .ok (.aload_n 0, 1) := dk_42 (dk_at dksX5_set_2 4 rfl rfl)
theorem dX5_set_53 : decode cX5_set 53 = .ok (.getfield 59, 3) := dk_180 0 59 (dk_at dksX5_set_2 5 rfl rfl)
theorem dX5_set_56 : decode cX5_set 56 = .ok (.iload_n 1, 1) := dk_27 (dk_at dksX5_set_2 8 rfl rfl)
theorem dX5_set_57 : decode cX5_set 57 = .ok (.iaload, 1) := dk_46 (dk_at dksX5_set_2 9 rfl rfl)
theorem dX5_set_58 : decode cX5_set 58 = .ok (.if_icmp .lt 10, 3) := dk_161 0 10 (dk_at dksX5_set_2 10 rfl rfl)
theorem dX5_set_61 : decode cX5_set 61 = .ok (.aload_n 0, 1) := dk_42 (dk_at dksX5_set_2 13 rfl rfl)
theorem dX5_set_62 : decode cX5_set 62 = .ok (.bipush (-5), 2) := dk_16 251 (dk_at dksX5_set_2 14 rfl rfl)
theorem dX5_set_64 : decode cX5_set 64 = .ok (.invokevirtual 115, 3) := dk_182 0 115 (dk_at dksX5_set_2 16 rfl rfl)
theorem dX5_set_67 : decode cX5_set 67 = .ok (.ireturn, 1) := dk_172 (dk_at dksX5_set_2 19 rfl rfl)
theorem dX5_set_68 : decode cX5_set 68 = .ok (.aload_n 0, 1) := dk_42 (dk_at dksX5_set_2 20 rfl rfl)
theorem dX5_set_69 : decode cX5_set 69 = .ok (.getfield 65, 3) := dk_180 0 65 (dk_at dksX5_set_2 21 rfl rfl)
theorem dX5_set_72 : decode cX5_set 72 = .ok (.sipush 160, 3) := dk_17 0 160 (dk_at dksX5_set_3 0 rfl rfl)
theorem dX5_set_75 : decode cX5_set 75 = .ok (.iload_n 1, 1) := dk_27 (dk_at dksX5_set_3 3 rfl rfl)
theorem dX5_set_76 : decode cX5_set 76 = .ok (.imul, 1) := dk_104 (dk_at dksX5_set_3 4 rfl rfl)
theorem dX5_set_77 : decode cX5_set 77 = .ok (.iload_n 2, 1) := dk_28 (dk_at dksX5_set_3 5 rfl rfl)
theorem dX5_set_78 : decode cX5_set 78 = .ok (.iadd, 1) := dk_96 (dk_at dksX5_set_3 6 rfl rfl)
theorem dX5_set_79 : decode cX5_set 79 = .ok (.aload_n 0, 1) := dk_42 (dk_at dksX5_set_3 7 rfl rfl)
theorem dX5_set_80 : decode cX5_set 80 = .ok (.getfield 56, 3) := dk_180 0 56 (dk_at dksX5_set_3 8 rfl rfl)
theorem dX5_set_83 : decode cX5_set 83 = .ok (.iload_n 1, 1) := dk_27 (dk_at dksX5_set_3 11 rfl rfl)
theorem dX5_set_84 : decode cX5_set 84 = .ok (.iaload, 1) := dk_46 (dk_at dksX5_set_3 12 rfl rfl)
theorem dX5_set_85 : decode cX5_set 85 = .ok (.ifCond .ne 10, 3) := dk_154 0 10 (dk_at dksX5_set_3 13 rfl rfl)
theorem dX5_set_88 : decode cX5_set 88 = .ok (.lload_n 3, 1) := dk_33 (dk_at dksX5_set_3 16 rfl rfl)
theorem dX5_set_89 : decode cX5_set 89 = .ok (.l2i, 1) := dk_136 (dk_at dksX5_set_3 17 rfl rfl)
theorem dX5_set_90 : decode cX5_set 90 = .ok (.i2b, 1) := dk_145 (dk_at dksX5_set_3 18 rfl rfl)
theorem dX5_set_91 : decode cX5_set 91 = .ok (.i2l, 1) := dk_133 (dk_at dksX5_set_3 19 rfl rfl)
theorem dX5_set_92 : decode cX5_set 92 = .ok (.goto 37, 3) := dk_167 0 37 (dk_at dksX5_set_3 20 rfl rfl)
theorem dX5_set_95 : decode cX5_set 95 = .ok (.aload_n 0, 1) := dk_42 (dk_at dksX5_set_3 23 rfl rfl)
theorem dX5_set_96 : decode cX5_set 96 = .ok (.getfield 56, 3) := dk_180 0 56 (dk_at dksX5_set_4 0 rfl rfl)
theorem dX5_set_99 : decode cX5_set 99 = .ok (.iload_n 1, 1) := dk_27 (dk_at dksX5_set_4 3 rfl rfl)
theorem dX5_set_100 : decode cX5_set 100 = .ok (.iaload, 1) := dk_46 (dk_at dksX5_set_4 4 rfl rfl)
theorem dX5_set_101 : decode cX5_set 101 = .ok (.iconst 1, 1) := dk_4 (dk_at dksX5_set_4 5 rfl rfl)
theorem dX5_set_102 : decode cX5_set 102 = .ok (.if_icmp .ne 10, 3) := dk_160 0 10 (dk_at dksX5_set_4 6 rfl rfl)
theorem dX5_set_105 : decode cX5_set 105 = .ok (.lload_n 3, 1) := dk_33 (dk_at dksX5_set_4 9 rfl rfl)
theorem dX5_set_106 : decode cX5_set 106 = .ok (.l2i, 1) := dk_136 (dk_at dksX5_set_4 10 rfl rfl)
theorem dX5_set_107 : decode cX5_set 107 = .ok (.i2s, 1) := dk_147 (dk_at dksX5_set_4 11 rfl rfl)
theorem dX5_set_108 : decode cX5_set 108 = .ok (.i2l, 1) := dk_133 (dk_at dksX5_set_4 12 rfl rfl)
theorem dX5_set_109 : decode cX5_set 109 = .ok (.goto 20, 3) := dk_167 0 20 (dk_at dksX5_set_4 13 rfl rfl)
theorem dX5_set_112 : decode cX5_set 112 = .ok (.aload_n 0, 1) := dk_42 (dk_at dksX5_set_4 16 rfl rfl)
theorem dX5_set_113 : decode cX5_set 113 = .ok (.getfield 56, 3) := dk_180 0 56 (dk_at dksX5_set_4 17 rfl rfl)
theorem dX5_set_116 : decode cX5_set 116 = .ok (.iload_n 1, 1) := dk_27 (dk_at dksX5_set_4 20 rfl rfl)
theorem dX5_set_117 : decode cX5_set 117 = .ok (.iaload, 1) := dk_46 (dk_at dksX5_set_4 21 rfl rfl)
theorem dX5_set_118 : decode cX5_set 118 = .ok (.iconst 2, 1) := dk_5 (dk_at dksX5_set_4 22 rfl rfl)
theorem dX5_set_119 : decode cX5_set 119 = .ok (.if_icmp .ne 9, 3) := dk_160 0 9 (dk_at dksX5_set_5 0 rfl rfl)
theorem dX5_set_122 : decode cX5_set 122 = .ok (.lload_n 3, 1) := dk_33 (dk_at dksX5_set_5 3 rfl rfl)
theorem dX5_set_123 : decode cX5_set 123 = .ok (.l2i, 1) := dk_136 (dk_at dksX5_set_5 4 rfl rfl)
theorem dX5_set_124 : decode cX5_set 124 = .ok (.i2l, 1) := dk_133 (dk_at dksX5_set_5 5 rfl rfl)
theorem dX5_set_125 : decode cX5_set 125 = .ok (.goto 4, 3) := dk_167 0 4 (dk_at dksX5_set_5 6 rfl rfl)
theorem dX5_set_128 : decode cX5_set 128 = .ok (.lload_n 3, 1) := dk_33 (dk_at dksX5_set_5 9 rfl rfl)
theorem dX5_set_129 : decode cX5_set 129 = .ok (.lastore, 1) := dk_80 (dk_at dksX5_set_5 10 rfl rfl)
theorem dX5_set_130 : decode cX5_set 130 = .ok (.iconst 1, 1) := dk_4 (dk_at dksX5_set_5 11 rfl rfl)
theorem dX5_set_131 : decode cX5_set 131 = .ok (.ireturn, 1) := dk_172 (dk_at dksX5_set_5 12 rfl rfl)
abbrev cX5_copy : ByteArray := prog_22_method_10_code
def yX5_copy : MethodName := ⟨RX5, "copy", "(IIIII)I"⟩
def dkwX5_copy_10 : List UInt8 := [132, 6, 1, 167, 255, 223, 4, 172]
abbrev dktX5_copy_10 : List UInt8 := dkwX5_copy_10 ++ []
def dkwX5_copy_9 : List UInt8 := [42, 180, 0, 65, 17, 0, 160, 28, 104, 21, 4, 96, 21, 6, 96, 42, 180, 0, 69, 21, 6, 47, 80]
abbrev dktX5_copy_9 : List UInt8 := dkwX5_copy_9 ++ dktX5_copy_10
def dkwX5_copy_8 : List UInt8 := [104, 29, 96, 21, 6, 96, 47, 80, 132, 6, 1, 167, 255, 224, 3, 54, 6, 21, 6, 21, 5, 162, 0, 32]
abbrev dktX5_copy_8 : List UInt8 := dkwX5_copy_8 ++ dktX5_copy_9
def dkwX5_copy_7 : List UInt8 := [3, 54, 6, 21, 6, 21, 5, 162, 0, 31, 42, 180, 0, 69, 21, 6, 42, 180, 0, 65, 17, 0, 160, 27]
abbrev dktX5_copy_7 : List UInt8 := dkwX5_copy_7 ++ dktX5_copy_8
def dkwX5_copy_6 : List UInt8 := [163, 0, 17, 21, 4, 42, 180, 0, 59, 28, 46, 21, 5, 100, 164, 0, 10, 42, 16, 251, 182, 0, 115, 172]
abbrev dktX5_copy_6 : List UInt8 := dkwX5_copy_6 ++ dktX5_copy_7
def dkwX5_copy_5 : List UInt8 := [182, 0, 115, 172, 29, 155, 0, 35, 21, 4, 155, 0, 30, 29, 42, 180, 0, 59, 27, 46, 21, 5, 100]
abbrev dktX5_copy_5 : List UInt8 := dkwX5_copy_5 ++ dktX5_copy_6
def dkwX5_copy_4 : List UInt8 := [42, 180, 0, 53, 28, 46, 154, 0, 10, 42, 16, 253, 182, 0, 115, 172, 21, 5, 156, 0, 10, 42, 16, 252]
abbrev dktX5_copy_4 : List UInt8 := dkwX5_copy_4 ++ dktX5_copy_5
def dkwX5_copy_3 : List UInt8 := [180, 0, 56, 28, 46, 159, 0, 10, 42, 16, 254, 182, 0, 115, 172, 42, 180, 0, 53, 27, 46, 153, 0, 12]
abbrev dktX5_copy_3 : List UInt8 := dkwX5_copy_3 ++ dktX5_copy_4
def dkwX5_copy_2 : List UInt8 := [46, 4, 160, 0, 35, 42, 180, 0, 53, 28, 46, 4, 160, 0, 25, 42, 180, 0, 56, 27, 46, 42]
abbrev dktX5_copy_2 : List UInt8 := dkwX5_copy_2 ++ dktX5_copy_3
def dkwX5_copy_1 : List UInt8 := [180, 0, 53, 27, 46, 5, 159, 0, 48, 42, 180, 0, 53, 28, 46, 5, 159, 0, 38, 42, 180, 0, 53, 27]
abbrev dktX5_copy_1 : List UInt8 := dkwX5_copy_1 ++ dktX5_copy_2
def dkwX5_copy_0 : List UInt8 := [42, 27, 182, 0, 111, 153, 0, 11, 42, 28, 182, 0, 111, 154, 0, 9, 42, 2, 182, 0, 115, 172, 42]
abbrev dktX5_copy_0 : List UInt8 := dkwX5_copy_0 ++ dktX5_copy_1
theorem dksX5_copy_0 : cX5_copy.data.toList.drop 0 = dktX5_copy_0 := by decide +kernel
theorem dksX5_copy_1 : cX5_copy.data.toList.drop 23 = dktX5_copy_1 := dk_seg dksX5_copy_0 23 rfl rfl
theorem dksX5_copy_2 : cX5_copy.data.toList.drop 47 = dktX5_copy_2 := dk_seg dksX5_copy_1 24 rfl rfl
theorem dksX5_copy_3 : cX5_copy.data.toList.drop 69 = dktX5_copy_3 := dk_seg dksX5_copy_2 22 rfl rfl
theorem dksX5_copy_4 : cX5_copy.data.toList.drop 93 = dktX5_copy_4 := dk_seg dksX5_copy_3 24 rfl rfl
theorem dksX5_copy_5 : cX5_copy.data.toList.drop 117 = dktX5_copy_5 := dk_seg dksX5_copy_4 24 rfl rfl
theorem dksX5_copy_6 : cX5_copy.data.toList.drop 140 = dktX5_copy_6 := dk_seg dksX5_copy_5 23 rfl rfl
theorem dksX5_copy_7 : cX5_copy.data.toList.drop 164 = dktX5_copy_7 := dk_seg dksX5_copy_6 24 rfl rfl
theorem dksX5_copy_8 : cX5_copy.data.toList.drop 188 = dktX5_copy_8 := dk_seg dksX5_copy_7 24 rfl rfl
theorem dksX5_copy_9 : cX5_copy.data.toList.drop 212 = dktX5_copy_9 := dk_seg dksX5_copy_8 24 rfl rfl
theorem dksX5_copy_10 : cX5_copy.data.toList.drop 235 = dktX5_copy_10 := dk_seg dksX5_copy_9 23 rfl rfl
theorem dX5_copy_0 : decode cX5_copy 0 = .ok (.aload_n 0, 1) := dk_42 (dk_at dksX5_copy_0 0 rfl rfl)
theorem dX5_copy_1 : decode cX5_copy 1 = .ok (.iload_n 1, 1) := dk_27 (dk_at dksX5_copy_0 1 rfl rfl)
theorem dX5_copy_2 : decode cX5_copy 2 = .ok (.invokevirtual 111, 3) := dk_182 0 111 (dk_at dksX5_copy_0 2 rfl rfl)
theorem dX5_copy_5 : decode cX5_copy 5 = .ok (.ifCond .eq 11, 3) := dk_153 0 11 (dk_at dksX5_copy_0 5 rfl rfl)
theorem dX5_copy_8 : decode cX5_copy 8 = .ok (.aload_n 0, 1) := dk_42 (dk_at dksX5_copy_0 8 rfl rfl)
theorem dX5_copy_9 : decode cX5_copy 9 = .ok (.iload_n 2, 1) := dk_28 (dk_at dksX5_copy_0 9 rfl rfl)
theorem dX5_copy_10 : decode cX5_copy 10 = .ok (.invokevirtual 111, 3) := dk_182 0 111 (dk_at dksX5_copy_0 10 rfl rfl)
theorem dX5_copy_13 : decode cX5_copy 13 = .ok (.ifCond .ne 9, 3) := dk_154 0 9 (dk_at dksX5_copy_0 13 rfl rfl)
theorem dX5_copy_16 : decode cX5_copy 16 = .ok (.aload_n 0, 1) := dk_42 (dk_at dksX5_copy_0 16 rfl rfl)
theorem dX5_copy_17 : decode cX5_copy 17 = .ok (.iconst (-1), 1) := dk_2 (dk_at dksX5_copy_0 17 rfl rfl)
theorem dX5_copy_18 : decode cX5_copy 18 = .ok (.invokevirtual 115, 3) := dk_182 0 115 (dk_at dksX5_copy_0 18 rfl rfl)
theorem dX5_copy_21 : decode cX5_copy 21 = .ok (.ireturn, 1) := dk_172 (dk_at dksX5_copy_0 21 rfl rfl)
theorem dX5_copy_22 : decode cX5_copy 22 = .ok (.aload_n 0, 1) := dk_42 (dk_at dksX5_copy_0 22 rfl rfl)
theorem dX5_copy_23 : decode cX5_copy 23 = .ok (.getfield 53, 3) := dk_180 0 53 (dk_at dksX5_copy_1 0 rfl rfl)
theorem dX5_copy_26 : decode cX5_copy 26 = .ok (.iload_n 1, 1) := dk_27 (dk_at dksX5_copy_1 3 rfl rfl)
theorem dX5_copy_27 : decode cX5_copy 27 = .ok (.iaload, 1) := dk_46 (dk_at dksX5_copy_1 4 rfl rfl)
theorem dX5_copy_28 : decode cX5_copy 28 = .ok (.iconst 2, 1) := dk_5 (dk_at dksX5_copy_1 5 rfl rfl)
theorem dX5_copy_29 : decode cX5_copy 29 = .ok (.if_icmp .eq 48, 3) := dk_159 0 48 (dk_at dksX5_copy_1 6 rfl rfl)
theorem dX5_copy_32 : decode cX5_copy 32 = .ok (.aload_n 0, 1) := dk_42 (dk_at dksX5_copy_1 9 rfl rfl)
theorem dX5_copy_33 : decode cX5_copy 33 = .ok (.getfield 53, 3) := dk_180 0 53 (dk_at dksX5_copy_1 10 rfl rfl)
theorem dX5_copy_36 : decode cX5_copy 36 = .ok (.iload_n 2, 1) := dk_28 (dk_at dksX5_copy_1 13 rfl rfl)
theorem dX5_copy_37 : decode cX5_copy 37 = .ok (.iaload, 1) := dk_46 (dk_at dksX5_copy_1 14 rfl rfl)
theorem dX5_copy_38 : decode cX5_copy 38 = .ok (.iconst 2, 1) := dk_5 (dk_at dksX5_copy_1 15 rfl rfl)
theorem dX5_copy_39 : decode cX5_copy 39 = .ok (.if_icmp .eq 38, 3) := dk_159 0 38 (dk_at dksX5_copy_1 16 rfl rfl)
theorem dX5_copy_42 : decode cX5_copy 42 = .ok (.aload_n 0, 1) := dk_42 (dk_at dksX5_copy_1 19 rfl rfl)
theorem dX5_copy_43 : decode cX5_copy 43 = .ok (.getfield 53, 3) := dk_180 0 53 (dk_at dksX5_copy_1 20 rfl rfl)
theorem dX5_copy_46 : decode cX5_copy 46 = .ok (.iload_n 1, 1) := dk_27 (dk_at dksX5_copy_1 23 rfl rfl)
theorem dX5_copy_47 : decode cX5_copy 47 = .ok (.iaload, 1) := dk_46 (dk_at dksX5_copy_2 0 rfl rfl)
theorem dX5_copy_48 : decode cX5_copy 48 = .ok (.iconst 1, 1) := dk_4 (dk_at dksX5_copy_2 1 rfl rfl)
theorem dX5_copy_49 : decode cX5_copy 49 = .ok (.if_icmp .ne 35, 3) := dk_160 0 35 (dk_at dksX5_copy_2 2 rfl rfl)
theorem dX5_copy_52 : decode cX5_copy 52 = .ok (.aload_n 0, 1) := dk_42 (dk_at dksX5_copy_2 5 rfl rfl)
theorem dX5_copy_53 : decode cX5_copy 53 = .ok (.getfield 53, 3) := dk_180 0 53 (dk_at dksX5_copy_2 6 rfl rfl)
theorem dX5_copy_56 : decode cX5_copy 56 = .ok (.iload_n 2, 1) := dk_28 (dk_at dksX5_copy_2 9 rfl rfl)
theorem dX5_copy_57 : decode cX5_copy 57 = .ok (.iaload, 1) := dk_46 (dk_at dksX5_copy_2 10 rfl rfl)
theorem dX5_copy_58 : decode cX5_copy 58 = .ok (.iconst 1, 1) := dk_4 (dk_at dksX5_copy_2 11 rfl rfl)
theorem dX5_copy_59 : decode cX5_copy 59 = .ok (.if_icmp .ne 25, 3) := dk_160 0 25 (dk_at dksX5_copy_2 12 rfl rfl)
theorem dX5_copy_62 : decode cX5_copy 62 = .ok (.aload_n 0, 1) := dk_42 (dk_at dksX5_copy_2 15 rfl rfl)
theorem dX5_copy_63 : decode cX5_copy 63 = .ok (.getfield 56, 3) := dk_180 0 56 (dk_at dksX5_copy_2 16 rfl rfl)
theorem dX5_copy_66 : decode cX5_copy 66 = .ok (.iload_n 1, 1) := dk_27 (dk_at dksX5_copy_2 19 rfl rfl)
theorem dX5_copy_67 : decode cX5_copy 67 = .ok (.iaload, 1) := dk_46 (dk_at dksX5_copy_2 20 rfl rfl)
theorem dX5_copy_68 : decode cX5_copy 68 = .ok (.aload_n 0, 1) := dk_42 (dk_at dksX5_copy_2 21 rfl rfl)
theorem dX5_copy_69 : decode cX5_copy 69 = .ok (.getfield 56, 3) := dk_180 0 56 (dk_at dksX5_copy_3 0 rfl rfl)
theorem dX5_copy_72 : decode cX5_copy 72 = .ok (.iload_n 2, 1) := dk_28 (dk_at dksX5_copy_3 3 rfl rfl)
theorem dX5_copy_73 : decode cX5_copy 73 = .ok (.iaload, 1) := dk_46 (dk_at dksX5_copy_3 4 rfl rfl)
theorem dX5_copy_74 : decode cX5_copy 74 = .ok (.if_icmp .eq 10, 3) := dk_159 0 10 (dk_at dksX5_copy_3 5 rfl rfl)
theorem dX5_copy_77 : decode cX5_copy 77 = .ok (.aload_n 0, 1) := dk_42 (dk_at dksX5_copy_3 8 rfl rfl)
theorem dX5_copy_78 : decode cX5_copy 78 = .ok (.bipush (-2), 2) := dk_16 254 (dk_at dksX5_copy_3 9 rfl rfl)
theorem dX5_copy_80 : decode cX5_copy 80 = .ok (.invokevirtual 115, 3) := dk_182 0 115 (dk_at dksX5_copy_3 11 rfl rfl)
theorem dX5_copy_83 : decode cX5_copy 83 = .ok (.ireturn, 1) := dk_172 (dk_at dksX5_copy_3 14 rfl rfl)
theorem dX5_copy_84 : decode cX5_copy 84 = .ok (.aload_n 0, 1) := dk_42 (dk_at dksX5_copy_3 15 rfl rfl)
theorem dX5_copy_85 : decode cX5_copy 85 = .ok (.getfield 53, 3) := dk_180 0 53 (dk_at dksX5_copy_3 16 rfl rfl)
theorem dX5_copy_88 : decode cX5_copy 88 = .ok (.iload_n 1, 1) := dk_27 (dk_at dksX5_copy_3 19 rfl rfl)
theorem dX5_copy_89 : decode cX5_copy 89 = .ok (.iaload, 1) := dk_46 (dk_at dksX5_copy_3 20 rfl rfl)
theorem dX5_copy_90 : decode cX5_copy 90 = .ok (.ifCond .eq 12, 3) := dk_153 0 12 (dk_at dksX5_copy_3 21 rfl rfl)
theorem dX5_copy_93 : decode cX5_copy 93 = .ok (.aload_n 0, 1) := dk_42 (dk_at dksX5_copy_4 0 rfl rfl)
theorem dX5_copy_94 : decode cX5_copy 94 = .ok (.getfield 53, 3) := dk_180 0 53 (dk_at dksX5_copy_4 1 rfl rfl)
theorem dX5_copy_97 : decode cX5_copy 97 = .ok (.iload_n 2, 1) := dk_28 (dk_at dksX5_copy_4 4 rfl rfl)
theorem dX5_copy_98 : decode cX5_copy 98 = .ok (.iaload, 1) := dk_46 (dk_at dksX5_copy_4 5 rfl rfl)
theorem dX5_copy_99 : decode cX5_copy 99 = .ok (.ifCond .ne 10, 3) := dk_154 0 10 (dk_at dksX5_copy_4 6 rfl rfl)
theorem dX5_copy_102 : decode cX5_copy 102 = .ok (.aload_n 0, 1) := dk_42 (dk_at dksX5_copy_4 9 rfl rfl)
theorem dX5_copy_103 : decode cX5_copy 103 = .ok (.bipush (-3), 2) := dk_16 253 (dk_at dksX5_copy_4 10 rfl rfl)
theorem dX5_copy_105 : decode cX5_copy 105 = .ok (.invokevirtual 115, 3) := dk_182 0 115 (dk_at dksX5_copy_4 12 rfl rfl)
theorem dX5_copy_108 : decode cX5_copy 108 = .ok (.ireturn, 1) := dk_172 (dk_at dksX5_copy_4 15 rfl rfl)
theorem dX5_copy_109 : decode cX5_copy 109 = .ok (.iload 5, 2) := dk_21 5 (dk_at dksX5_copy_4 16 rfl rfl)
theorem dX5_copy_111 : decode cX5_copy 111 = .ok (.ifCond .ge 10, 3) := dk_156 0 10 (dk_at dksX5_copy_4 18 rfl rfl)
theorem dX5_copy_114 : decode cX5_copy 114 = .ok (.aload_n 0, 1) := dk_42 (dk_at dksX5_copy_4 21 rfl rfl)
theorem dX5_copy_115 : decode cX5_copy 115 = .ok (.bipush (-4), 2) := dk_16 252 (dk_at dksX5_copy_4 22 rfl rfl)
theorem dX5_copy_117 : decode cX5_copy 117 = .ok (.invokevirtual 115, 3) := dk_182 0 115 (dk_at dksX5_copy_5 0 rfl rfl)
theorem dX5_copy_120 : decode cX5_copy 120 = .ok (.ireturn, 1) := dk_172 (dk_at dksX5_copy_5 3 rfl rfl)
theorem dX5_copy_121 : decode cX5_copy 121 = .ok (.iload_n 3, 1) := dk_29 (dk_at dksX5_copy_5 4 rfl rfl)
theorem dX5_copy_122 : decode cX5_copy 122 = .ok (.ifCond .lt 35, 3) := dk_155 0 35 (dk_at dksX5_copy_5 5 rfl rfl)
theorem dX5_copy_125 : decode cX5_copy 125 = .ok (.iload 4, 2) := dk_21 4 (dk_at dksX5_copy_5 8 rfl rfl)
theorem dX5_copy_127 : decode cX5_copy 127 = .ok (.ifCond .lt 30, 3) := dk_155 0 30 (dk_at dksX5_copy_5 10 rfl rfl)
theorem dX5_copy_130 : decode cX5_copy 130 = .ok (.iload_n 3, 1) := dk_29 (dk_at dksX5_copy_5 13 rfl rfl)
theorem dX5_copy_131 : decode cX5_copy 131 = .ok (.aload_n 0, 1) := dk_42 (dk_at dksX5_copy_5 14 rfl rfl)
theorem dX5_copy_132 : decode cX5_copy 132 = .ok (.getfield 59, 3) := dk_180 0 59 (dk_at dksX5_copy_5 15 rfl rfl)
theorem dX5_copy_135 : decode cX5_copy 135 = .ok (.iload_n 1, 1) := dk_27 (dk_at dksX5_copy_5 18 rfl rfl)
theorem dX5_copy_136 : decode cX5_copy 136 = .ok (.iaload, 1) := dk_46 (dk_at dksX5_copy_5 19 rfl rfl)
theorem dX5_copy_137 : decode cX5_copy 137 = .ok (.iload 5, 2) := dk_21 5 (dk_at dksX5_copy_5 20 rfl rfl)
theorem dX5_copy_139 : decode cX5_copy 139 = .ok (.isub, 1) := dk_100 (dk_at dksX5_copy_5 22 rfl rfl)
theorem dX5_copy_140 : decode cX5_copy 140 = .ok (.if_icmp .gt 17, 3) := dk_163 0 17 (dk_at dksX5_copy_6 0 rfl rfl)
theorem dX5_copy_143 : decode cX5_copy 143 = .ok (.iload 4, 2) := dk_21 4 (dk_at dksX5_copy_6 3 rfl rfl)
theorem dX5_copy_145 : decode cX5_copy 145 = .ok (.aload_n 0, 1) := dk_42 (dk_at dksX5_copy_6 5 rfl rfl)
theorem dX5_copy_146 : decode cX5_copy 146 = .ok (.getfield 59, 3) := dk_180 0 59 (dk_at dksX5_copy_6 6 rfl rfl)
theorem dX5_copy_149 : decode cX5_copy 149 = .ok (.iload_n 2, 1) := dk_28 (dk_at dksX5_copy_6 9 rfl rfl)
theorem dX5_copy_150 : decode cX5_copy 150 = .ok (.iaload, 1) := dk_46 (dk_at dksX5_copy_6 10 rfl rfl)
theorem dX5_copy_151 : decode cX5_copy 151 = .ok (.iload 5, 2) := dk_21 5 (dk_at dksX5_copy_6 11 rfl rfl)
theorem dX5_copy_153 : decode cX5_copy 153 = .ok (.isub, 1) := dk_100 (dk_at dksX5_copy_6 13 rfl rfl)
theorem dX5_copy_154 : decode cX5_copy 154 = .ok (.if_icmp .le 10, 3) := dk_164 0 10 (dk_at dksX5_copy_6 14 rfl rfl)
theorem dX5_copy_157 : decode cX5_copy 157 = .ok (.aload_n 0, 1) := dk_42 (dk_at dksX5_copy_6 17 rfl rfl)
theorem dX5_copy_158 : decode cX5_copy 158 = .ok (.bipush (-5), 2) := dk_16 251 (dk_at dksX5_copy_6 18 rfl rfl)
theorem dX5_copy_160 : decode cX5_copy 160 = .ok (.invokevirtual 115, 3) := dk_182 0 115 (dk_at dksX5_copy_6 20 rfl rfl)
theorem dX5_copy_163 : decode cX5_copy 163 = .ok (.ireturn, 1) := dk_172 (dk_at dksX5_copy_6 23 rfl rfl)
theorem dX5_copy_164 : decode cX5_copy 164 = .ok (.iconst 0, 1) := dk_3 (dk_at dksX5_copy_7 0 rfl rfl)
theorem dX5_copy_165 : decode cX5_copy 165 = .ok (.istore 6, 2) := dk_54 6 (dk_at dksX5_copy_7 1 rfl rfl)
theorem dX5_copy_167 : decode cX5_copy 167 = .ok (.iload 6, 2) := dk_21 6 (dk_at dksX5_copy_7 3 rfl rfl)
theorem dX5_copy_169 : decode cX5_copy 169 = .ok (.iload 5, 2) := dk_21 5 (dk_at dksX5_copy_7 5 rfl rfl)
theorem dX5_copy_171 : decode cX5_copy 171 = .ok (.if_icmp .ge 31, 3) := dk_162 0 31 (dk_at dksX5_copy_7 7 rfl rfl)
theorem dX5_copy_174 : decode cX5_copy 174 = .ok (.aload_n 0, 1) := dk_42 (dk_at dksX5_copy_7 10 rfl rfl)
theorem dX5_copy_175 : decode cX5_copy 175 = .ok (.getfield 69, 3) := dk_180 0 69 (dk_at dksX5_copy_7 11 rfl rfl)
theorem dX5_copy_178 : decode cX5_copy 178 = .ok (.iload 6, 2) := dk_21 6 (dk_at dksX5_copy_7 14 rfl rfl)
theorem dX5_copy_180 : decode cX5_copy 180 = .ok (.aload_n 0, 1) := dk_42 (dk_at dksX5_copy_7 16 rfl rfl)
theorem dX5_copy_181 : decode cX5_copy 181 = .ok (.getfield 65, 3) := dk_180 0 65 (dk_at dksX5_copy_7 17 rfl rfl)
theorem dX5_copy_184 : decode cX5_copy 184 = .ok (.sipush 160, 3) := dk_17 0 160 (dk_at dksX5_copy_7 20 rfl rfl)
theorem dX5_copy_187 : decode cX5_copy 187 = .ok (.iload_n 1, 1) := dk_27 (dk_at dksX5_copy_7 23 rfl rfl)
theorem dX5_copy_188 : decode cX5_copy 188 = .ok (.imul, 1) := dk_104 (dk_at dksX5_copy_8 0 rfl rfl)
theorem dX5_copy_189 : decode cX5_copy 189 = .ok (.iload_n 3, 1) := dk_29 (dk_at dksX5_copy_8 1 rfl rfl)
theorem dX5_copy_190 : decode cX5_copy 190 = .ok (.iadd, 1) := dk_96 (dk_at dksX5_copy_8 2 rfl rfl)
theorem dX5_copy_191 : decode cX5_copy 191 = .ok (.iload 6, 2) := dk_21 6 (dk_at dksX5_copy_8 3 rfl rfl)
theorem dX5_copy_193 : decode cX5_copy 193 = .ok (.iadd, 1) := dk_96 (dk_at dksX5_copy_8 5 rfl rfl)
theorem dX5_copy_194 : decode cX5_copy 194 = .ok (.laload, 1) := dk_47 (dk_at dksX5_copy_8 6 rfl rfl)
theorem dX5_copy_195 : decode cX5_copy 195 = .ok (.lastore, 1) := dk_80 (dk_at dksX5_copy_8 7 rfl rfl)
theorem dX5_copy_196 : decode cX5_copy 196 = .ok (.iinc 6 1, 3) := dk_132 6 1 (dk_at dksX5_copy_8 8 rfl rfl)
theorem dX5_copy_199 : decode cX5_copy 199 = .ok (.goto (-32), 3) := dk_167 255 224 (dk_at dksX5_copy_8 11 rfl rfl)
theorem dX5_copy_202 : decode cX5_copy 202 = .ok (.iconst 0, 1) := dk_3 (dk_at dksX5_copy_8 14 rfl rfl)
theorem dX5_copy_203 : decode cX5_copy 203 = .ok (.istore 6, 2) := dk_54 6 (dk_at dksX5_copy_8 15 rfl rfl)
theorem dX5_copy_205 : decode cX5_copy 205 = .ok (.iload 6, 2) := dk_21 6 (dk_at dksX5_copy_8 17 rfl rfl)
theorem dX5_copy_207 : decode cX5_copy 207 = .ok (.iload 5, 2) := dk_21 5 (dk_at dksX5_copy_8 19 rfl rfl)
theorem dX5_copy_209 : decode cX5_copy 209 = .ok (.if_icmp .ge 32, 3) := dk_162 0 32 (dk_at dksX5_copy_8 21 rfl rfl)
theorem dX5_copy_212 : decode cX5_copy 212 = .ok (.aload_n 0, 1) := dk_42 (dk_at dksX5_copy_9 0 rfl rfl)
theorem dX5_copy_213 : decode cX5_copy 213 = .ok (.getfield 65, 3) := dk_180 0 65 (dk_at dksX5_copy_9 1 rfl rfl)
theorem dX5_copy_216 : decode cX5_copy 216 = .ok (.sipush 160, 3) := dk_17 0 160 (dk_at dksX5_copy_9 4 rfl rfl)
theorem dX5_copy_219 : decode cX5_copy 219 = .ok (.iload_n 2, 1) := dk_28 (dk_at dksX5_copy_9 7 rfl rfl)
theorem dX5_copy_220 : decode cX5_copy 220 = .ok (.imul, 1) := dk_104 (dk_at dksX5_copy_9 8 rfl rfl)
theorem dX5_copy_221 : decode cX5_copy 221 = .ok (.iload 4, 2) := dk_21 4 (dk_at dksX5_copy_9 9 rfl rfl)
theorem dX5_copy_223 : decode cX5_copy 223 = .ok (.iadd, 1) := dk_96 (dk_at dksX5_copy_9 11 rfl rfl)
theorem dX5_copy_224 : decode cX5_copy 224 = .ok (.iload 6, 2) := dk_21 6 (dk_at dksX5_copy_9 12 rfl rfl)
theorem dX5_copy_226 : decode cX5_copy 226 = .ok (.iadd, 1) := dk_96 (dk_at dksX5_copy_9 14 rfl rfl)
theorem dX5_copy_227 : decode cX5_copy 227 = .ok (.aload_n 0, 1) := dk_42 (dk_at dksX5_copy_9 15 rfl rfl)
theorem dX5_copy_228 : decode cX5_copy 228 = .ok (.getfield 69, 3) := dk_180 0 69 (dk_at dksX5_copy_9 16 rfl rfl)
theorem dX5_copy_231 : decode cX5_copy 231 = .ok (.iload 6, 2) := dk_21 6 (dk_at dksX5_copy_9 19 rfl rfl)
theorem dX5_copy_233 : decode cX5_copy 233 = .ok (.laload, 1) := dk_47 (dk_at dksX5_copy_9 21 rfl rfl)
theorem dX5_copy_234 : decode cX5_copy 234 = .ok (.lastore, 1) := dk_80 (dk_at dksX5_copy_9 22 rfl rfl)
theorem dX5_copy_235 : decode cX5_copy 235 = .ok (.iinc 6 1, 3) := dk_132 6 1 (dk_at dksX5_copy_10 0 rfl rfl)
theorem dX5_copy_238 : decode cX5_copy 238 = .ok (.goto (-33), 3) := dk_167 255 223 (dk_at dksX5_copy_10 3 rfl rfl)
theorem dX5_copy_241 : decode cX5_copy 241 = .ok (.iconst 1, 1) := dk_4 (dk_at dksX5_copy_10 6 rfl rfl)
theorem dX5_copy_242 : decode cX5_copy 242 = .ok (.ireturn, 1) := dk_172 (dk_at dksX5_copy_10 7 rfl rfl)
abbrev cX5_element : ByteArray := prog_22_method_11_code
def yX5_element : MethodName := ⟨RX5, "element", "(II)J"⟩
def dkwX5_element_2 : List UInt8 := [173]
abbrev dktX5_element_2 : List UInt8 := dkwX5_element_2 ++ []
def dkwX5_element_1 : List UInt8 := [180, 0, 59, 27, 46, 162, 0, 18, 42, 180, 0, 65, 17, 0, 160, 27, 104, 28, 96, 47, 167, 0, 4, 9]
abbrev dktX5_element_1 : List UInt8 := dkwX5_element_1 ++ dktX5_element_2
def dkwX5_element_0 : List UInt8 := [42, 27, 182, 0, 111, 153, 0, 42, 42, 180, 0, 53, 27, 46, 4, 160, 0, 32, 28, 155, 0, 28, 28, 42]
abbrev dktX5_element_0 : List UInt8 := dkwX5_element_0 ++ dktX5_element_1
theorem dksX5_element_0 : cX5_element.data.toList.drop 0 = dktX5_element_0 := by decide +kernel
theorem dksX5_element_1 : cX5_element.data.toList.drop 24 = dktX5_element_1 := dk_seg dksX5_element_0 24 rfl rfl
theorem dksX5_element_2 : cX5_element.data.toList.drop 48 = dktX5_element_2 := dk_seg dksX5_element_1 24 rfl rfl
theorem dX5_element_0 : decode cX5_element 0 = .ok (.aload_n 0, 1) := dk_42 (dk_at dksX5_element_0 0 rfl rfl)
theorem dX5_element_1 : decode cX5_element 1 = .ok (.iload_n 1, 1) := dk_27 (dk_at dksX5_element_0 1 rfl rfl)
theorem dX5_element_2 : decode cX5_element 2 = .ok (.invokevirtual 111, 3) := dk_182 0 111 (dk_at dksX5_element_0 2 rfl rfl)
theorem dX5_element_5 : decode cX5_element 5 = .ok (.ifCond .eq 42, 3) := dk_153 0 42 (dk_at dksX5_element_0 5 rfl rfl)
theorem dX5_element_8 : decode cX5_element 8 = .ok (.aload_n 0, 1) := dk_42 (dk_at dksX5_element_0 8 rfl rfl)
theorem dX5_element_9 : decode cX5_element 9 = .ok (.getfield 53, 3) := dk_180 0 53 (dk_at dksX5_element_0 9 rfl rfl)
theorem dX5_element_12 : decode cX5_element 12 = .ok (.iload_n 1, 1) := dk_27 (dk_at dksX5_element_0 12 rfl rfl)
theorem dX5_element_13 : decode cX5_element 13 = .ok (.iaload, 1) := dk_46 (dk_at dksX5_element_0 13 rfl rfl)
theorem dX5_element_14 : decode cX5_element 14 = .ok (.iconst 1, 1) := dk_4 (dk_at dksX5_element_0 14 rfl rfl)
theorem dX5_element_15 : decode cX5_element 15 = .ok (.if_icmp .ne 32, 3) := dk_160 0 32 (dk_at dksX5_element_0 15 rfl rfl)
theorem dX5_element_18 : decode cX5_element 18 = .ok (.iload_n 2, 1) := dk_28 (dk_at dksX5_element_0 18 rfl rfl)
theorem dX5_element_19 : decode cX5_element 19 = .ok (.ifCond .lt 28, 3) := dk_155 0 28 (dk_at dksX5_element_0 19 rfl rfl)
theorem dX5_element_22 : decode cX5_element 22 = .ok (.iload_n 2, 1) := dk_28 (dk_at dksX5_element_0 22 rfl rfl)
theorem dX5_element_23 : decode cX5_element 23 = .ok (.aload_n 0, 1) := dk_42 (dk_at dksX5_element_0 23 rfl rfl)
theorem dX5_element_24 : decode cX5_element 24 = .ok (.getfield 59, 3) := dk_180 0 59 (dk_at dksX5_element_1 0 rfl rfl)
theorem dX5_element_27 : decode cX5_element 27 = .ok (.iload_n 1, 1) := dk_27 (dk_at dksX5_element_1 3 rfl rfl)
theorem dX5_element_28 : decode cX5_element 28 = .ok (.iaload, 1) := dk_46 (dk_at dksX5_element_1 4 rfl rfl)
theorem dX5_element_29 : decode cX5_element 29 = .ok (.if_icmp .ge 18, 3) := dk_162 0 18 (dk_at dksX5_element_1 5 rfl rfl)
theorem dX5_element_32 : decode cX5_element 32 = .ok (.aload_n 0, 1) := dk_42 (dk_at dksX5_element_1 8 rfl rfl)
theorem dX5_element_33 : decode cX5_element 33 = .ok (.getfield 65, 3) := dk_180 0 65 (dk_at dksX5_element_1 9 rfl rfl)
theorem dX5_element_36 : decode cX5_element 36 = .ok (.sipush 160, 3) := dk_17 0 160 (dk_at dksX5_element_1 12 rfl rfl)
theorem dX5_element_39 : decode cX5_element 39 = .ok (.iload_n 1, 1) := dk_27 (dk_at dksX5_element_1 15 rfl rfl)
theorem dX5_element_40 : decode cX5_element 40 = .ok (.imul, 1) := dk_104 (dk_at dksX5_element_1 16 rfl rfl)
theorem dX5_element_41 : decode cX5_element 41 = .ok (.iload_n 2, 1) := dk_28 (dk_at dksX5_element_1 17 rfl rfl)
theorem dX5_element_42 : decode cX5_element 42 = .ok (.iadd, 1) := dk_96 (dk_at dksX5_element_1 18 rfl rfl)
theorem dX5_element_43 : decode cX5_element 43 = .ok (.laload, 1) := dk_47 (dk_at dksX5_element_1 19 rfl rfl)
theorem dX5_element_44 : decode cX5_element 44 = .ok (.goto 4, 3) := dk_167 0 4 (dk_at dksX5_element_1 20 rfl rfl)
theorem dX5_element_47 : decode cX5_element 47 = .ok (.lconst 0, 1) := dk_9 (dk_at dksX5_element_1 23 rfl rfl)
theorem dX5_element_48 : decode cX5_element 48 = .ok (.lreturn, 1) := dk_173 (dk_at dksX5_element_2 0 rfl rfl)
abbrev cX5_show : ByteArray := prog_22_method_12_code
def yX5_show : MethodName := ⟨RX5, "show", "(II)I"⟩
def dkwX5_show_2 : List UInt8 := [27, 28, 79, 28, 2, 160, 0, 7, 3, 167, 0, 4, 4, 172]
abbrev dktX5_show_2 : List UInt8 := dkwX5_show_2 ++ []
def dkwX5_show_1 : List UInt8 := [182, 0, 115, 172, 42, 180, 0, 53, 27, 28, 2, 160, 0, 7, 3, 167, 0, 4, 5, 79, 42, 180, 0, 62]
abbrev dktX5_show_1 : List UInt8 := dkwX5_show_1 ++ dktX5_show_2
def dkwX5_show_0 : List UInt8 := [42, 27, 182, 0, 111, 153, 0, 16, 28, 2, 159, 0, 17, 42, 28, 182, 0, 119, 154, 0, 9, 42, 2]
abbrev dktX5_show_0 : List UInt8 := dkwX5_show_0 ++ dktX5_show_1
theorem dksX5_show_0 : cX5_show.data.toList.drop 0 = dktX5_show_0 := by decide +kernel
theorem dksX5_show_1 : cX5_show.data.toList.drop 23 = dktX5_show_1 := dk_seg dksX5_show_0 23 rfl rfl
theorem dksX5_show_2 : cX5_show.data.toList.drop 47 = dktX5_show_2 := dk_seg dksX5_show_1 24 rfl rfl
theorem dX5_show_0 : decode cX5_show 0 = .ok (.aload_n 0, 1) := dk_42 (dk_at dksX5_show_0 0 rfl rfl)
theorem dX5_show_1 : decode cX5_show 1 = .ok (.iload_n 1, 1) := dk_27 (dk_at dksX5_show_0 1 rfl rfl)
theorem dX5_show_2 : decode cX5_show 2 = .ok (.invokevirtual 111, 3) := dk_182 0 111 (dk_at dksX5_show_0 2 rfl rfl)
theorem dX5_show_5 : decode cX5_show 5 = .ok (.ifCond .eq 16, 3) := dk_153 0 16 (dk_at dksX5_show_0 5 rfl rfl)
theorem dX5_show_8 : decode cX5_show 8 = .ok (.iload_n 2, 1) := dk_28 (dk_at dksX5_show_0 8 rfl rfl)
theorem dX5_show_9 : decode cX5_show 9 = .ok (.iconst (-1), 1) := dk_2 (dk_at dksX5_show_0 9 rfl rfl)
theorem dX5_show_10 : decode cX5_show 10 = .ok (.if_icmp .eq 17, 3) := dk_159 0 17 (dk_at dksX5_show_0 10 rfl rfl)
theorem dX5_show_13 : decode cX5_show 13 = .ok (.aload_n 0, 1) := dk_42 (dk_at dksX5_show_0 13 rfl rfl)
theorem dX5_show_14 : decode cX5_show 14 = .ok (.iload_n 2, 1) := dk_28 (dk_at dksX5_show_0 14 rfl rfl)
theorem dX5_show_15 : decode cX5_show 15 = .ok (.invokevirtual 119, 3) := dk_182 0 119 (dk_at dksX5_show_0 15 rfl rfl)
theorem dX5_show_18 : decode cX5_show 18 = .ok (.ifCond .ne 9, 3) := dk_154 0 9 (dk_at dksX5_show_0 18 rfl rfl)
theorem dX5_show_21 : decode cX5_show 21 = .ok (.aload_n 0, 1) := dk_42 (dk_at dksX5_show_0 21 rfl rfl)
theorem dX5_show_22 : decode cX5_show 22 = .ok (.iconst (-1), 1) := dk_2 (dk_at dksX5_show_0 22 rfl rfl)
theorem dX5_show_23 : decode cX5_show 23 = .ok (.invokevirtual 115, 3) := dk_182 0 115 (dk_at dksX5_show_1 0 rfl rfl)
theorem dX5_show_26 : decode cX5_show 26 = .ok (.ireturn, 1) := dk_172 (dk_at dksX5_show_1 3 rfl rfl)
theorem dX5_show_27 : decode cX5_show 27 = .ok (.aload_n 0, 1) := dk_42 (dk_at dksX5_show_1 4 rfl rfl)
theorem dX5_show_28 : decode cX5_show 28 = .ok (.getfield 53, 3) := dk_180 0 53 (dk_at dksX5_show_1 5 rfl rfl)
theorem dX5_show_31 : decode cX5_show 31 = .ok (.iload_n 1, 1) := dk_27 (dk_at dksX5_show_1 8 rfl rfl)
theorem dX5_show_32 : decode cX5_show 32 = .ok (.iload_n 2, 1) := dk_28 (dk_at dksX5_show_1 9 rfl rfl)
theorem dX5_show_33 : decode cX5_show 33 = .ok (.iconst (-1), 1) := dk_2 (dk_at dksX5_show_1 10 rfl rfl)
theorem dX5_show_34 : decode cX5_show 34 = .ok (.if_icmp .ne 7, 3) := dk_160 0 7 (dk_at dksX5_show_1 11 rfl rfl)
theorem dX5_show_37 : decode cX5_show 37 = .ok (.iconst 0, 1) := dk_3 (dk_at dksX5_show_1 14 rfl rfl)
theorem dX5_show_38 : decode cX5_show 38 = .ok (.goto 4, 3) := dk_167 0 4 (dk_at dksX5_show_1 15 rfl rfl)
theorem dX5_show_41 : decode cX5_show 41 = .ok (.iconst 2, 1) := dk_5 (dk_at dksX5_show_1 18 rfl rfl)
theorem dX5_show_42 : decode cX5_show 42 = .ok (.iastore, 1) := dk_79 (dk_at dksX5_show_1 19 rfl rfl)
theorem dX5_show_43 : decode cX5_show 43 = .ok (.aload_n 0, 1) := dk_42 (dk_at dksX5_show_1 20 rfl rfl)
theorem dX5_show_44 : decode cX5_show 44 = .ok (.getfield 62, 3) := dk_180 0 62 (dk_at dksX5_show_1 21 rfl rfl)
theorem dX5_show_47 : decode cX5_show 47 = .ok (.iload_n 1, 1) := dk_27 (dk_at dksX5_show_2 0 rfl rfl)
theorem dX5_show_48 : decode cX5_show 48 = .ok (.iload_n 2, 1) := dk_28 (dk_at dksX5_show_2 1 rfl rfl)
theorem dX5_show_49 : decode cX5_show 49 = .ok (.iastore, 1) := dk_79 (dk_at dksX5_show_2 2 rfl rfl)
theorem dX5_show_50 : decode cX5_show 50 = .ok (.iload_n 2, 1) := dk_28 (dk_at dksX5_show_2 3 rfl rfl)
theorem dX5_show_51 : decode cX5_show 51 = .ok (.iconst (-1), 1) := dk_2 (dk_at dksX5_show_2 4 rfl rfl)
theorem dX5_show_52 : decode cX5_show 52 = .ok (.if_icmp .ne 7, 3) := dk_160 0 7 (dk_at dksX5_show_2 5 rfl rfl)
theorem dX5_show_55 : decode cX5_show 55 = .ok (.iconst 0, 1) := dk_3 (dk_at dksX5_show_2 8 rfl rfl)
theorem dX5_show_56 : decode cX5_show 56 = .ok (.goto 4, 3) := dk_167 0 4 (dk_at dksX5_show_2 9 rfl rfl)
theorem dX5_show_59 : decode cX5_show 59 = .ok (.iconst 1, 1) := dk_4 (dk_at dksX5_show_2 12 rfl rfl)
theorem dX5_show_60 : decode cX5_show 60 = .ok (.ireturn, 1) := dk_172 (dk_at dksX5_show_2 13 rfl rfl)
abbrev cX5_isOne : ByteArray := prog_22_method_5_code
def yX5_isOne : MethodName := ⟨RX5, "isOne", "(I)Z"⟩
def dkwX5_isOne_0 : List UInt8 := [27, 155, 0, 15, 27, 42, 180, 0, 108, 162, 0, 7, 4, 167, 0, 4, 3, 172]
abbrev dktX5_isOne_0 : List UInt8 := dkwX5_isOne_0 ++ []
theorem dksX5_isOne_0 : cX5_isOne.data.toList.drop 0 = dktX5_isOne_0 := by decide +kernel
theorem dX5_isOne_0 : decode cX5_isOne 0 = .ok (.iload_n 1, 1) := dk_27 (dk_at dksX5_isOne_0 0 rfl rfl)
theorem dX5_isOne_1 : decode cX5_isOne 1 = .ok (.ifCond .lt 15, 3) := dk_155 0 15 (dk_at dksX5_isOne_0 1 rfl rfl)
theorem dX5_isOne_4 : decode cX5_isOne 4 = .ok (.iload_n 1, 1) := dk_27 (dk_at dksX5_isOne_0 4 rfl rfl)
theorem dX5_isOne_5 : decode cX5_isOne 5 = .ok (.aload_n 0, 1) := dk_42 (dk_at dksX5_isOne_0 5 rfl rfl)
theorem dX5_isOne_6 : decode cX5_isOne 6 = .ok (.getfield 108, 3) := dk_180 0 108 (dk_at dksX5_isOne_0 6 rfl rfl)
theorem dX5_isOne_9 : decode cX5_isOne 9 = .ok (.if_icmp .ge 7, 3) := dk_162 0 7 (dk_at dksX5_isOne_0 9 rfl rfl)
theorem dX5_isOne_12 : decode cX5_isOne 12 = .ok (.iconst 1, 1) := dk_4 (dk_at dksX5_isOne_0 12 rfl rfl)
theorem dX5_isOne_13 : decode cX5_isOne 13 = .ok (.goto 4, 3) := dk_167 0 4 (dk_at dksX5_isOne_0 13 rfl rfl)
theorem dX5_isOne_16 : decode cX5_isOne 16 = .ok (.iconst 0, 1) := dk_3 (dk_at dksX5_isOne_0 16 rfl rfl)
theorem dX5_isOne_17 : decode cX5_isOne 17 = .ok (.ireturn, 1) := dk_172 (dk_at dksX5_isOne_0 17 rfl rfl)
abbrev cX5_holds : ByteArray := prog_22_method_13_code
def yX5_holds : MethodName := ⟨RX5, "holds", "(I)I"⟩
def dkwX5_holds_1 : List UInt8 := [46, 4, 160, 0, 15, 16, 100, 42, 180, 0, 56, 27, 46, 96, 167, 0, 9, 42, 180, 0, 62, 27, 46, 172]
abbrev dktX5_holds_1 : List UInt8 := dkwX5_holds_1 ++ []
def dkwX5_holds_0 : List UInt8 := [42, 27, 182, 0, 111, 153, 0, 12, 42, 180, 0, 53, 27, 46, 154, 0, 5, 2, 172, 42, 180, 0, 53, 27]
abbrev dktX5_holds_0 : List UInt8 := dkwX5_holds_0 ++ dktX5_holds_1
theorem dksX5_holds_0 : cX5_holds.data.toList.drop 0 = dktX5_holds_0 := by decide +kernel
theorem dksX5_holds_1 : cX5_holds.data.toList.drop 24 = dktX5_holds_1 := dk_seg dksX5_holds_0 24 rfl rfl
theorem dX5_holds_0 : decode cX5_holds 0 = .ok (.aload_n 0, 1) := dk_42 (dk_at dksX5_holds_0 0 rfl rfl)
theorem dX5_holds_1 : decode cX5_holds 1 = .ok (.iload_n 1, 1) := dk_27 (dk_at dksX5_holds_0 1 rfl rfl)
theorem dX5_holds_2 : decode cX5_holds 2 = .ok (.invokevirtual 111, 3) := dk_182 0 111 (dk_at dksX5_holds_0 2 rfl rfl)
theorem dX5_holds_5 : decode cX5_holds 5 = .ok (.ifCond .eq 12, 3) := dk_153 0 12 (dk_at dksX5_holds_0 5 rfl rfl)
theorem dX5_holds_8 : decode cX5_holds 8 = .ok (.aload_n 0, 1) := dk_42 (dk_at dksX5_holds_0 8 rfl rfl)
theorem dX5_holds_9 : decode cX5_holds 9 = .ok (.getfield 53, 3) := dk_180 0 53 (dk_at dksX5_holds_0 9 rfl rfl)
theorem dX5_holds_12 : decode cX5_holds 12 = .ok (.iload_n 1, 1) := dk_27 (dk_at dksX5_holds_0 12 rfl rfl)
theorem dX5_holds_13 : decode cX5_holds 13 = .ok (.iaload, 1) := dk_46 (dk_at dksX5_holds_0 13 rfl rfl)
theorem dX5_holds_14 : decode cX5_holds 14 = .ok (.ifCond .ne 5, 3) := dk_154 0 5 (dk_at dksX5_holds_0 14 rfl rfl)
theorem dX5_holds_17 : decode cX5_holds 17 = .ok (.iconst (-1), 1) := dk_2 (dk_at dksX5_holds_0 17 rfl rfl)
theorem dX5_holds_18 : decode cX5_holds 18 = .ok (.ireturn, 1) := dk_172 (dk_at dksX5_holds_0 18 rfl rfl)
theorem dX5_holds_19 : decode cX5_holds 19 = .ok (.aload_n 0, 1) := dk_42 (dk_at dksX5_holds_0 19 rfl rfl)
theorem dX5_holds_20 : decode cX5_holds 20 = .ok (.getfield 53, 3) := dk_180 0 53 (dk_at dksX5_holds_0 20 rfl rfl)
theorem dX5_holds_23 : decode cX5_holds 23 = .ok (.iload_n 1, 1) := dk_27 (dk_at dksX5_holds_0 23 rfl rfl)
theorem dX5_holds_24 : decode cX5_holds 24 = .ok (.iaload, 1) := dk_46 (dk_at dksX5_holds_1 0 rfl rfl)
theorem dX5_holds_25 : decode cX5_holds 25 = .ok (.iconst 1, 1) := dk_4 (dk_at dksX5_holds_1 1 rfl rfl)
theorem dX5_holds_26 : decode cX5_holds 26 = .ok (.if_icmp .ne 15, 3) := dk_160 0 15 (dk_at dksX5_holds_1 2 rfl rfl)
theorem dX5_holds_29 : decode cX5_holds 29 = .ok (.bipush 100, 2) := dk_16 100 (dk_at dksX5_holds_1 5 rfl rfl)
theorem dX5_holds_31 : decode cX5_holds 31 = .ok (.aload_n 0, 1) := dk_42 (dk_at dksX5_holds_1 7 rfl rfl)
theorem dX5_holds_32 : decode cX5_holds 32 = .ok (.getfield 56, 3) := dk_180 0 56 (dk_at dksX5_holds_1 8 rfl rfl)
theorem dX5_holds_35 : decode cX5_holds 35 = .ok (.iload_n 1, 1) := dk_27 (dk_at dksX5_holds_1 11 rfl rfl)
theorem dX5_holds_36 : decode cX5_holds 36 = .ok (.iaload, 1) := dk_46 (dk_at dksX5_holds_1 12 rfl rfl)
theorem dX5_holds_37 : decode cX5_holds 37 = .ok (.iadd, 1) := dk_96 (dk_at dksX5_holds_1 13 rfl rfl)
theorem dX5_holds_38 : decode cX5_holds 38 = .ok (.goto 9, 3) := dk_167 0 9 (dk_at dksX5_holds_1 14 rfl rfl)
theorem dX5_holds_41 : decode cX5_holds 41 = .ok (.aload_n 0, 1) := dk_42 (dk_at dksX5_holds_1 17 rfl rfl)
theorem dX5_holds_42 : decode cX5_holds 42 = .ok (.getfield 62, 3) := dk_180 0 62 (dk_at dksX5_holds_1 18 rfl rfl)
theorem dX5_holds_45 : decode cX5_holds 45 = .ok (.iload_n 1, 1) := dk_27 (dk_at dksX5_holds_1 21 rfl rfl)
theorem dX5_holds_46 : decode cX5_holds 46 = .ok (.iaload, 1) := dk_46 (dk_at dksX5_holds_1 22 rfl rfl)
theorem dX5_holds_47 : decode cX5_holds 47 = .ok (.ireturn, 1) := dk_172 (dk_at dksX5_holds_1 23 rfl rfl)
abbrev cX5_says : ByteArray := prog_22_method_14_code
def yX5_says : MethodName := ⟨RX5, "says", "(II)I"⟩
def dkwX5_says_8 : List UInt8 := [29, 46, 172]
abbrev dktX5_says_8 : List UInt8 := dkwX5_says_8 ++ []
def dkwX5_says_7 : List UInt8 := [42, 180, 0, 41, 29, 46, 172, 42, 29, 182, 0, 122, 172, 42, 180, 0, 38, 29, 46, 172, 42, 180, 0, 35]
abbrev dktX5_says_7 : List UInt8 := dkwX5_says_7 ++ dktX5_says_8
def dkwX5_says_6 : List UInt8 := [170, 0, 0, 0, 0, 0, 0, 60, 0, 0, 0, 0, 0, 0, 0, 5, 0, 0, 0, 40, 0, 0, 0, 47, 0, 0, 0, 47, 0, 0, 0, 53, 0, 0, 0, 60, 0, 0, 0, 53]
abbrev dktX5_says_6 : List UInt8 := dkwX5_says_6 ++ dktX5_says_7
def dkwX5_says_5 : List UInt8 := [21, 4, 159, 0, 15, 21, 5, 154, 0, 10, 42, 16, 254, 182, 0, 115, 172, 28]
abbrev dktX5_says_5 : List UInt8 := dkwX5_says_5 ++ dktX5_says_6
def dkwX5_says_4 : List UInt8 := [28, 7, 160, 0, 14, 21, 4, 16, 6, 160, 0, 7, 4, 167, 0, 4, 3, 54, 5, 28, 153, 0, 21, 28]
abbrev dktX5_says_4 : List UInt8 := dkwX5_says_4 ++ dktX5_says_5
def dkwX5_says_3 : List UInt8 := [54, 4, 28, 4, 160, 0, 9, 21, 4, 5, 159, 0, 26, 28, 6, 160, 0, 9, 21, 4, 8, 159, 0, 15]
abbrev dktX5_says_3 : List UInt8 := dkwX5_says_3 ++ dktX5_says_4
def dkwX5_says_2 : List UInt8 := [154, 0, 10, 42, 16, 253, 182, 0, 115, 172, 42, 180, 0, 62, 27, 46, 62, 42, 180, 0, 26, 29, 46]
abbrev dktX5_says_2 : List UInt8 := dkwX5_says_2 ++ dktX5_says_3
def dkwX5_says_1 : List UInt8 := [42, 180, 0, 53, 27, 46, 4, 160, 0, 10, 42, 16, 254, 182, 0, 115, 172, 42, 180, 0, 53, 27, 46]
abbrev dktX5_says_1 : List UInt8 := dkwX5_says_1 ++ dktX5_says_2
def dkwX5_says_0 : List UInt8 := [42, 27, 182, 0, 111, 153, 0, 13, 28, 155, 0, 9, 28, 16, 6, 164, 0, 9, 42, 2, 182, 0, 115, 172]
abbrev dktX5_says_0 : List UInt8 := dkwX5_says_0 ++ dktX5_says_1
theorem dksX5_says_0 : cX5_says.data.toList.drop 0 = dktX5_says_0 := by decide +kernel
theorem dksX5_says_1 : cX5_says.data.toList.drop 24 = dktX5_says_1 := dk_seg dksX5_says_0 24 rfl rfl
theorem dksX5_says_2 : cX5_says.data.toList.drop 47 = dktX5_says_2 := dk_seg dksX5_says_1 23 rfl rfl
theorem dksX5_says_3 : cX5_says.data.toList.drop 70 = dktX5_says_3 := dk_seg dksX5_says_2 23 rfl rfl
theorem dksX5_says_4 : cX5_says.data.toList.drop 94 = dktX5_says_4 := dk_seg dksX5_says_3 24 rfl rfl
theorem dksX5_says_5 : cX5_says.data.toList.drop 118 = dktX5_says_5 := dk_seg dksX5_says_4 24 rfl rfl
theorem dksX5_says_6 : cX5_says.data.toList.drop 136 = dktX5_says_6 := dk_seg dksX5_says_5 18 rfl rfl
theorem dksX5_says_7 : cX5_says.data.toList.drop 176 = dktX5_says_7 := dk_seg dksX5_says_6 40 rfl rfl
theorem dksX5_says_8 : cX5_says.data.toList.drop 200 = dktX5_says_8 := dk_seg dksX5_says_7 24 rfl rfl
theorem dX5_says_0 : decode cX5_says 0 = .ok (.aload_n 0, 1) := dk_42 (dk_at dksX5_says_0 0 rfl rfl)
theorem dX5_says_1 : decode cX5_says 1 = .ok (.iload_n 1, 1) := dk_27 (dk_at dksX5_says_0 1 rfl rfl)
theorem dX5_says_2 : decode cX5_says 2 = .ok (.invokevirtual 111, 3) := dk_182 0 111 (dk_at dksX5_says_0 2 rfl rfl)
theorem dX5_says_5 : decode cX5_says 5 = .ok (.ifCond .eq 13, 3) := dk_153 0 13 (dk_at dksX5_says_0 5 rfl rfl)
theorem dX5_says_8 : decode cX5_says 8 = .ok (.iload_n 2, 1) := dk_28 (dk_at dksX5_says_0 8 rfl rfl)
theorem dX5_says_9 : decode cX5_says 9 = .ok (.ifCond .lt 9, 3) := dk_155 0 9 (dk_at dksX5_says_0 9 rfl rfl)
theorem dX5_says_12 : decode cX5_says 12 = .ok (.iload_n 2, 1) := dk_28 (dk_at dksX5_says_0 12 rfl rfl)
theorem dX5_says_13 : decode cX5_says 13 = .ok (.bipush 6, 2) := dk_16 6 (dk_at dksX5_says_0 13 rfl rfl)
theorem dX5_says_15 : decode cX5_says 15 = .ok (.if_icmp .le 9, 3) := dk_164 0 9 (dk_at dksX5_says_0 15 rfl rfl)
theorem dX5_says_18 : decode cX5_says 18 = .ok (.aload_n 0, 1) := dk_42 (dk_at dksX5_says_0 18 rfl rfl)
theorem dX5_says_19 : decode cX5_says 19 = .ok (.iconst (-1), 1) := dk_2 (dk_at dksX5_says_0 19 rfl rfl)
theorem dX5_says_20 : decode cX5_says 20 = .ok (.invokevirtual 115, 3) := dk_182 0 115 (dk_at dksX5_says_0 20 rfl rfl)
theorem dX5_says_23 : decode cX5_says 23 = .ok (.ireturn, 1) := dk_172 (dk_at dksX5_says_0 23 rfl rfl)
theorem dX5_says_24 : decode cX5_says 24 = .ok (.aload_n 0, 1) := dk_42 (dk_at dksX5_says_1 0 rfl rfl)
theorem dX5_says_25 : decode cX5_says 25 = .ok (.getfield 53, 3) := dk_180 0 53 (dk_at dksX5_says_1 1 rfl rfl)
theorem dX5_says_28 : decode cX5_says 28 = .ok (.iload_n 1, 1) := dk_27 (dk_at dksX5_says_1 4 rfl rfl)
theorem dX5_says_29 : decode cX5_says 29 = .ok (.iaload, 1) := dk_46 (dk_at dksX5_says_1 5 rfl rfl)
theorem dX5_says_30 : decode cX5_says 30 = .ok (.iconst 1, 1) := dk_4 (dk_at dksX5_says_1 6 rfl rfl)
theorem dX5_says_31 : decode cX5_says 31 = .ok (.if_icmp .ne 10, 3) := dk_160 0 10 (dk_at dksX5_says_1 7 rfl rfl)
theorem dX5_says_34 : decode cX5_says 34 = .ok (.aload_n 0, 1) := dk_42 (dk_at dksX5_says_1 10 rfl rfl)
theorem dX5_says_35 : decode cX5_says 35 = .ok (.bipush (-2), 2) := dk_16 254 (dk_at dksX5_says_1 11 rfl rfl)
theorem dX5_says_37 : decode cX5_says 37 = .ok (.invokevirtual 115, 3) := dk_182 0 115 (dk_at dksX5_says_1 13 rfl rfl)
theorem dX5_says_40 : decode cX5_says 40 = .ok (.ireturn, 1) := dk_172 (dk_at dksX5_says_1 16 rfl rfl)
theorem dX5_says_41 : decode cX5_says 41 = .ok (.aload_n 0, 1) := dk_42 (dk_at dksX5_says_1 17 rfl rfl)
theorem dX5_says_42 : decode cX5_says 42 = .ok (.getfield 53, 3) := dk_180 0 53 (dk_at dksX5_says_1 18 rfl rfl)
theorem dX5_says_45 : decode cX5_says 45 = .ok (.iload_n 1, 1) := dk_27 (dk_at dksX5_says_1 21 rfl rfl)
theorem dX5_says_46 : decode cX5_says 46 = .ok (.iaload, 1) := dk_46 (dk_at dksX5_says_1 22 rfl rfl)
theorem dX5_says_47 : decode cX5_says 47 = .ok (.ifCond .ne 10, 3) := dk_154 0 10 (dk_at dksX5_says_2 0 rfl rfl)
theorem dX5_says_50 : decode cX5_says 50 = .ok (.aload_n 0, 1) := dk_42 (dk_at dksX5_says_2 3 rfl rfl)
theorem dX5_says_51 : decode cX5_says 51 = .ok (.bipush (-3), 2) := dk_16 253 (dk_at dksX5_says_2 4 rfl rfl)
theorem dX5_says_53 : decode cX5_says 53 = .ok (.invokevirtual 115, 3) := dk_182 0 115 (dk_at dksX5_says_2 6 rfl rfl)
theorem dX5_says_56 : decode cX5_says 56 = .ok (.ireturn, 1) := dk_172 (dk_at dksX5_says_2 9 rfl rfl)
theorem dX5_says_57 : decode cX5_says 57 = .ok (.aload_n 0, 1) := dk_42 (dk_at dksX5_says_2 10 rfl rfl)
theorem dX5_says_58 : decode cX5_says 58 = .ok (.getfield 62, 3) := dk_180 0 62 (dk_at dksX5_says_2 11 rfl rfl)
theorem dX5_says_61 : decode cX5_says 61 = .ok (.iload_n 1, 1) := dk_27 (dk_at dksX5_says_2 14 rfl rfl)
theorem dX5_says_62 : decode cX5_says 62 = .ok (.iaload, 1) := dk_46 (dk_at dksX5_says_2 15 rfl rfl)
theorem dX5_says_63 : decode cX5_says 63 = .ok (.istore_n 3, 1) := dk_62 (dk_at dksX5_says_2 16 rfl rfl)
theorem dX5_says_64 : decode cX5_says 64 = .ok (.aload_n 0, 1) := dk_42 (dk_at dksX5_says_2 17 rfl rfl)
theorem dX5_says_65 : decode cX5_says 65 = .ok (.getfield 26, 3) := dk_180 0 26 (dk_at dksX5_says_2 18 rfl rfl)
theorem dX5_says_68 : decode cX5_says 68 = .ok (.iload_n 3, 1) := dk_29 (dk_at dksX5_says_2 21 rfl rfl)
theorem dX5_says_69 : decode cX5_says 69 = .ok (.iaload, 1) := dk_46 (dk_at dksX5_says_2 22 rfl rfl)
theorem dX5_says_70 : decode cX5_says 70 = .ok (.istore 4, 2) := dk_54 4 (dk_at dksX5_says_3 0 rfl rfl)
theorem dX5_says_72 : decode cX5_says 72 = .ok (.iload_n 2, 1) := dk_28 (dk_at dksX5_says_3 2 rfl rfl)
theorem dX5_says_73 : decode cX5_says 73 = .ok (.iconst 1, 1) := dk_4 (dk_at dksX5_says_3 3 rfl rfl)
theorem dX5_says_74 : decode cX5_says 74 = .ok (.if_icmp .ne 9, 3) := dk_160 0 9 (dk_at dksX5_says_3 4 rfl rfl)
theorem dX5_says_77 : decode cX5_says 77 = .ok (.iload 4, 2) := dk_21 4 (dk_at dksX5_says_3 7 rfl rfl)
theorem dX5_says_79 : decode cX5_says 79 = .ok (.iconst 2, 1) := dk_5 (dk_at dksX5_says_3 9 rfl rfl)
theorem dX5_says_80 : decode cX5_says 80 = .ok (.if_icmp .eq 26, 3) := dk_159 0 26 (dk_at dksX5_says_3 10 rfl rfl)
theorem dX5_says_83 : decode cX5_says 83 = .ok (.iload_n 2, 1) := dk_28 (dk_at dksX5_says_3 13 rfl rfl)
theorem dX5_says_84 : decode cX5_says 84 = .ok (.iconst 3, 1) := dk_6 (dk_at dksX5_says_3 14 rfl rfl)
theorem dX5_says_85 : decode cX5_says 85 = .ok (.if_icmp .ne 9, 3) := dk_160 0 9 (dk_at dksX5_says_3 15 rfl rfl)
theorem dX5_says_88 : decode cX5_says 88 = .ok (.iload 4, 2) := dk_21 4 (dk_at dksX5_says_3 18 rfl rfl)
theorem dX5_says_90 : decode cX5_says 90 = .ok (.iconst 5, 1) := dk_8 (dk_at dksX5_says_3 20 rfl rfl)
theorem dX5_says_91 : decode cX5_says 91 = .ok (.if_icmp .eq 15, 3) := dk_159 0 15 (dk_at dksX5_says_3 21 rfl rfl)
theorem dX5_says_94 : decode cX5_says 94 = .ok (.iload_n 2, 1) := dk_28 (dk_at dksX5_says_4 0 rfl rfl)
theorem dX5_says_95 : decode cX5_says 95 = .ok (.iconst 4, 1) := dk_7 (dk_at dksX5_says_4 1 rfl rfl)
theorem dX5_says_96 : decode cX5_says 96 = .ok (.if_icmp .ne 14, 3) := dk_160 0 14 (dk_at dksX5_says_4 2 rfl rfl)
theorem dX5_says_99 : decode cX5_says 99 = .ok (.iload 4, 2) := dk_21 4 (dk_at dksX5_says_4 5 rfl rfl)
theorem dX5_says_101 : decode cX5_says 101 = .ok (.bipush 6, 2) := dk_16 6 (dk_at dksX5_says_4 7 rfl rfl)
theorem dX5_says_103 : decode cX5_says 103 = .ok (.if_icmp .ne 7, 3) := dk_160 0 7 (dk_at dksX5_says_4 9 rfl rfl)
theorem dX5_says_106 : decode cX5_says 106 = .ok (.iconst 1, 1) := dk_4 (dk_at dksX5_says_4 12 rfl rfl)
theorem dX5_says_107 : decode cX5_says 107 = .ok (.goto 4, 3) := dk_167 0 4 (dk_at dksX5_says_4 13 rfl rfl)
theorem dX5_says_110 : decode cX5_says 110 = .ok (.iconst 0, 1) := dk_3 (dk_at dksX5_says_4 16 rfl rfl)
theorem dX5_says_111 : decode cX5_says 111 = .ok (.istore 5, 2) := dk_54 5 (dk_at dksX5_says_4 17 rfl rfl)
theorem dX5_says_113 : decode cX5_says 113 = .ok (.iload_n 2, 1) := dk_28 (dk_at dksX5_says_4 19 rfl rfl)
theorem dX5_says_114 : decode cX5_says 114 = .ok (.ifCond .eq 21, 3) := dk_153 0 21 (dk_at dksX5_says_4 20 rfl rfl)
theorem dX5_says_117 : decode cX5_says 117 = .ok (.iload_n 2, 1) := dk_28 (dk_at dksX5_says_4 23 rfl rfl)
theorem dX5_says_118 : decode cX5_says 118 = .ok (.iload 4, 2) := dk_21 4 (dk_at dksX5_says_5 0 rfl rfl)
theorem dX5_says_120 : decode cX5_says 120 = .ok (.if_icmp .eq 15, 3) := dk_159 0 15 (dk_at dksX5_says_5 2 rfl rfl)
theorem dX5_says_123 : decode cX5_says 123 = .ok (.iload 5, 2) := dk_21 5 (dk_at dksX5_says_5 5 rfl rfl)
theorem dX5_says_125 : decode cX5_says 125 = .ok (.ifCond .ne 10, 3) := dk_154 0 10 (dk_at dksX5_says_5 7 rfl rfl)
theorem dX5_says_128 : decode cX5_says 128 = .ok (.aload_n 0, 1) := dk_42 (dk_at dksX5_says_5 10 rfl rfl)
theorem dX5_says_129 : decode cX5_says 129 = .ok (.bipush (-2), 2) := dk_16 254 (dk_at dksX5_says_5 11 rfl rfl)
theorem dX5_says_131 : decode cX5_says 131 = .ok (.invokevirtual 115, 3) := dk_182 0 115 (dk_at dksX5_says_5 13 rfl rfl)
theorem dX5_says_134 : decode cX5_says 134 = .ok (.ireturn, 1) := dk_172 (dk_at dksX5_says_5 16 rfl rfl)
theorem dX5_says_135 : decode cX5_says 135 = .ok (.iload_n 2, 1) := dk_28 (dk_at dksX5_says_5 17 rfl rfl)
theorem dX5_says_136 : decode cX5_says 136 = .ok (.tableswitch 60 0 5 #[40, 47, 47, 53, 60, 53], 40) := by decide +kernel
theorem dX5_says_176 : decode cX5_says 176 = .ok (.aload_n 0, 1) := dk_42 (dk_at dksX5_says_7 0 rfl rfl)
theorem dX5_says_177 : decode cX5_says 177 = .ok (.getfield 41, 3) := dk_180 0 41 (dk_at dksX5_says_7 1 rfl rfl)
theorem dX5_says_180 : decode cX5_says 180 = .ok (.iload_n 3, 1) := dk_29 (dk_at dksX5_says_7 4 rfl rfl)
theorem dX5_says_181 : decode cX5_says 181 = .ok (.iaload, 1) := dk_46 (dk_at dksX5_says_7 5 rfl rfl)
theorem dX5_says_182 : decode cX5_says 182 = .ok (.ireturn, 1) := dk_172 (dk_at dksX5_says_7 6 rfl rfl)
theorem dX5_says_183 : decode cX5_says 183 = .ok (.aload_n 0, 1) := dk_42 (dk_at dksX5_says_7 7 rfl rfl)
theorem dX5_says_184 : decode cX5_says 184 = .ok (.iload_n 3, 1) := dk_29 (dk_at dksX5_says_7 8 rfl rfl)
theorem dX5_says_185 : decode cX5_says 185 = .ok (.invokevirtual 122, 3) := dk_182 0 122 (dk_at dksX5_says_7 9 rfl rfl)
theorem dX5_says_188 : decode cX5_says 188 = .ok (.ireturn, 1) := dk_172 (dk_at dksX5_says_7 12 rfl rfl)
theorem dX5_says_189 : decode cX5_says 189 = .ok (.aload_n 0, 1) := dk_42 (dk_at dksX5_says_7 13 rfl rfl)
theorem dX5_says_190 : decode cX5_says 190 = .ok (.getfield 38, 3) := dk_180 0 38 (dk_at dksX5_says_7 14 rfl rfl)
theorem dX5_says_193 : decode cX5_says 193 = .ok (.iload_n 3, 1) := dk_29 (dk_at dksX5_says_7 17 rfl rfl)
theorem dX5_says_194 : decode cX5_says 194 = .ok (.iaload, 1) := dk_46 (dk_at dksX5_says_7 18 rfl rfl)
theorem dX5_says_195 : decode cX5_says 195 = .ok (.ireturn, 1) := dk_172 (dk_at dksX5_says_7 19 rfl rfl)
theorem dX5_says_196 : decode cX5_says 196 = .ok (.aload_n 0, 1) := dk_42 (dk_at dksX5_says_7 20 rfl rfl)
theorem dX5_says_197 : decode cX5_says 197 = .ok (.getfield 35, 3) := dk_180 0 35 (dk_at dksX5_says_7 21 rfl rfl)
theorem dX5_says_200 : decode cX5_says 200 = .ok (.iload_n 3, 1) := dk_29 (dk_at dksX5_says_8 0 rfl rfl)
theorem dX5_says_201 : decode cX5_says 201 = .ok (.iaload, 1) := dk_46 (dk_at dksX5_says_8 1 rfl rfl)
theorem dX5_says_202 : decode cX5_says 202 = .ok (.ireturn, 1) := dk_172 (dk_at dksX5_says_8 2 rfl rfl)
abbrev cX5_shows : ByteArray := prog_22_method_42_code
def yX5_shows : MethodName := ⟨RX5, "shows", "(I)I"⟩
def dkwX5_shows_4 : List UInt8 := [3, 61, 42, 180, 0, 139, 4, 160, 0, 9, 28, 5, 108, 167, 0, 4, 28, 172]
abbrev dktX5_shows_4 : List UInt8 := dkwX5_shows_4 ++ []
def dkwX5_shows_3 : List UInt8 := [160, 0, 26, 28, 42, 180, 0, 35, 27, 46, 164, 0, 14, 28, 42, 180, 0, 35, 27, 46, 100, 167, 0, 4]
abbrev dktX5_shows_3 : List UInt8 := dkwX5_shows_3 ++ dktX5_shows_4
def dkwX5_shows_2 : List UInt8 := [46, 5, 160, 0, 12, 28, 42, 180, 0, 29, 27, 46, 96, 61, 42, 180, 0, 26, 27, 46, 16, 6]
abbrev dktX5_shows_2 : List UInt8 := dkwX5_shows_2 ++ dktX5_shows_3
def dkwX5_shows_1 : List UInt8 := [46, 4, 159, 0, 13, 42, 180, 0, 26, 27, 46, 5, 160, 0, 7, 28, 5, 104, 61, 42, 180, 0, 26, 27]
abbrev dktX5_shows_1 : List UInt8 := dkwX5_shows_1 ++ dktX5_shows_2
def dkwX5_shows_0 : List UInt8 := [42, 180, 0, 44, 27, 46, 4, 160, 0, 5, 3, 172, 42, 180, 0, 32, 27, 46, 61, 42, 180, 0, 26, 27]
abbrev dktX5_shows_0 : List UInt8 := dkwX5_shows_0 ++ dktX5_shows_1
theorem dksX5_shows_0 : cX5_shows.data.toList.drop 0 = dktX5_shows_0 := by decide +kernel
theorem dksX5_shows_1 : cX5_shows.data.toList.drop 24 = dktX5_shows_1 := dk_seg dksX5_shows_0 24 rfl rfl
theorem dksX5_shows_2 : cX5_shows.data.toList.drop 48 = dktX5_shows_2 := dk_seg dksX5_shows_1 24 rfl rfl
theorem dksX5_shows_3 : cX5_shows.data.toList.drop 70 = dktX5_shows_3 := dk_seg dksX5_shows_2 22 rfl rfl
theorem dksX5_shows_4 : cX5_shows.data.toList.drop 94 = dktX5_shows_4 := dk_seg dksX5_shows_3 24 rfl rfl
theorem dX5_shows_0 : decode cX5_shows 0 = .ok (.aload_n 0, 1) := dk_42 (dk_at dksX5_shows_0 0 rfl rfl)
theorem dX5_shows_1 : decode cX5_shows 1 = .ok (.getfield 44, 3) := dk_180 0 44 (dk_at dksX5_shows_0 1 rfl rfl)
theorem dX5_shows_4 : decode cX5_shows 4 = .ok (.iload_n 1, 1) := dk_27 (dk_at dksX5_shows_0 4 rfl rfl)
theorem dX5_shows_5 : decode cX5_shows 5 = .ok (.iaload, 1) := dk_46 (dk_at dksX5_shows_0 5 rfl rfl)
theorem dX5_shows_6 : decode cX5_shows 6 = .ok (.iconst 1, 1) := dk_4 (dk_at dksX5_shows_0 6 rfl rfl)
theorem dX5_shows_7 : decode cX5_shows 7 = .ok (.if_icmp .ne 5, 3) := dk_160 0 5 (dk_at dksX5_shows_0 7 rfl rfl)
theorem dX5_shows_10 : decode cX5_shows 10 = .ok (.iconst 0, 1) := dk_3 (dk_at dksX5_shows_0 10 rfl rfl)
theorem dX5_shows_11 : decode cX5_shows 11 = .ok (.ireturn, 1) := dk_172 (dk_at dksX5_shows_0 11 rfl rfl)
theorem dX5_shows_12 : decode cX5_shows 12 = .ok (.aload_n 0, 1) := dk_42 (dk_at dksX5_shows_0 12 rfl rfl)
theorem dX5_shows_13 : decode cX5_shows 13 = .ok (.getfield 32, 3) := dk_180 0 32 (dk_at dksX5_shows_0 13 rfl rfl)
theorem dX5_shows_16 : decode cX5_shows 16 = .ok (.iload_n 1, 1) := dk_27 (dk_at dksX5_shows_0 16 rfl rfl)
theorem dX5_shows_17 : decode cX5_shows 17 = .ok (.iaload, 1) := dk_46 (dk_at dksX5_shows_0 17 rfl rfl)
theorem dX5_shows_18 : decode cX5_shows 18 = .ok (.istore_n 2, 1) := dk_61 (dk_at dksX5_shows_0 18 rfl rfl)
theorem dX5_shows_19 : decode cX5_shows 19 = .ok (.aload_n 0, 1) := dk_42 (dk_at dksX5_shows_0 19 rfl rfl)
theorem dX5_shows_20 : decode cX5_shows 20 = .ok (.getfield 26, 3) := dk_180 0 26 (dk_at dksX5_shows_0 20 rfl rfl)
theorem dX5_shows_23 : decode cX5_shows 23 = .ok (.iload_n 1, 1) := dk_27 (dk_at dksX5_shows_0 23 rfl rfl)
theorem dX5_shows_24 : decode cX5_shows 24 = .ok (.iaload, 1) := dk_46 (dk_at dksX5_shows_1 0 rfl rfl)
theorem dX5_shows_25 : decode cX5_shows 25 = .ok (.iconst 1, 1) := dk_4 (dk_at dksX5_shows_1 1 rfl rfl)
theorem dX5_shows_26 : decode cX5_shows 26 = .ok (.if_icmp .eq 13, 3) := dk_159 0 13 (dk_at dksX5_shows_1 2 rfl rfl)
theorem dX5_shows_29 : decode cX5_shows 29 = .ok (.aload_n 0, 1) := dk_42 (dk_at dksX5_shows_1 5 rfl rfl)
theorem dX5_shows_30 : decode cX5_shows 30 = .ok (.getfield 26, 3) := dk_180 0 26 (dk_at dksX5_shows_1 6 rfl rfl)
theorem dX5_shows_33 : decode cX5_shows 33 = .ok (.iload_n 1, 1) := dk_27 (dk_at dksX5_shows_1 9 rfl rfl)
theorem dX5_shows_34 : decode cX5_shows 34 = .ok (.iaload, 1) := dk_46 (dk_at dksX5_shows_1 10 rfl rfl)
theorem dX5_shows_35 : decode cX5_shows 35 = .ok (.iconst 2, 1) := dk_5 (dk_at dksX5_shows_1 11 rfl rfl)
theorem dX5_shows_36 : decode cX5_shows 36 = .ok (.if_icmp .ne 7, 3) := dk_160 0 7 (dk_at dksX5_shows_1 12 rfl rfl)
theorem dX5_shows_39 : decode cX5_shows 39 = .ok (.iload_n 2, 1) := dk_28 (dk_at dksX5_shows_1 15 rfl rfl)
theorem dX5_shows_40 : decode cX5_shows 40 = .ok (.iconst 2, 1) := dk_5 (dk_at dksX5_shows_1 16 rfl rfl)
theorem dX5_shows_41 : decode cX5_shows 41 = .ok (.imul, 1) := dk_104 (dk_at dksX5_shows_1 17 rfl rfl)
theorem dX5_shows_42 : decode cX5_shows 42 = .ok (.istore_n 2, 1) := dk_61 (dk_at dksX5_shows_1 18 rfl rfl)
theorem dX5_shows_43 : decode cX5_shows 43 = .ok (.aload_n 0, 1) := dk_42 (dk_at dksX5_shows_1 19 rfl rfl)
theorem dX5_shows_44 : decode cX5_shows 44 = .ok (.getfield 26, 3) := dk_180 0 26 (dk_at dksX5_shows_1 20 rfl rfl)
theorem dX5_shows_47 : decode cX5_shows 47 = .ok (.iload_n 1, 1) := dk_27 (dk_at dksX5_shows_1 23 rfl rfl)
theorem dX5_shows_48 : decode cX5_shows 48 = .ok (.iaload, 1) := dk_46 (dk_at dksX5_shows_2 0 rfl rfl)
theorem dX5_shows_49 : decode cX5_shows 49 = .ok (.iconst 2, 1) := dk_5 (dk_at dksX5_shows_2 1 rfl rfl)
theorem dX5_shows_50 : decode cX5_shows 50 = .ok (.if_icmp .ne 12, 3) := dk_160 0 12 (dk_at dksX5_shows_2 2 rfl rfl)
theorem dX5_shows_53 : decode cX5_shows 53 = .ok (.iload_n 2, 1) := dk_28 (dk_at dksX5_shows_2 5 rfl rfl)
theorem dX5_shows_54 : decode cX5_shows 54 = .ok (.aload_n 0, 1) := dk_42 (dk_at dksX5_shows_2 6 rfl rfl)
theorem dX5_shows_55 : decode cX5_shows 55 = .ok (.getfield 29, 3) := dk_180 0 29 (dk_at dksX5_shows_2 7 rfl rfl)
theorem dX5_shows_58 : decode cX5_shows 58 = .ok (.iload_n 1, 1) := dk_27 (dk_at dksX5_shows_2 10 rfl rfl)
theorem dX5_shows_59 : decode cX5_shows 59 = .ok (.iaload, 1) := dk_46 (dk_at dksX5_shows_2 11 rfl rfl)
theorem dX5_shows_60 : decode cX5_shows 60 = .ok (.iadd, 1) := dk_96 (dk_at dksX5_shows_2 12 rfl rfl)
theorem dX5_shows_61 : decode cX5_shows 61 = .ok (.istore_n 2, 1) := dk_61 (dk_at dksX5_shows_2 13 rfl rfl)
theorem dX5_shows_62 : decode cX5_shows 62 = .ok (.aload_n 0, 1) := dk_42 (dk_at dksX5_shows_2 14 rfl rfl)
theorem dX5_shows_63 : decode cX5_shows 63 = .ok (.getfield 26, 3) := dk_180 0 26 (dk_at dksX5_shows_2 15 rfl rfl)
theorem dX5_shows_66 : decode cX5_shows 66 = .ok (.iload_n 1, 1) := dk_27 (dk_at dksX5_shows_2 18 rfl rfl)
theorem dX5_shows_67 : decode cX5_shows 67 = .ok (.iaload, 1) := dk_46 (dk_at dksX5_shows_2 19 rfl rfl)
theorem dX5_shows_68 : decode cX5_shows 68 = .ok (.bipush 6, 2) := dk_16 6 (dk_at dksX5_shows_2 20 rfl rfl)
theorem dX5_shows_70 : decode cX5_shows 70 = .ok (.if_icmp .ne 26, 3) := dk_160 0 26 (dk_at dksX5_shows_3 0 rfl rfl)
theorem dX5_shows_73 : decode cX5_shows 73 = .ok (.iload_n 2, 1) := dk_28 (dk_at dksX5_shows_3 3 rfl rfl)
theorem dX5_shows_74 : decode cX5_shows 74 = .ok (.aload_n 0, 1) := dk_42 (dk_at dksX5_shows_3 4 rfl rfl)
theorem dX5_shows_75 : decode cX5_shows 75 = .ok (.getfield 35, 3) := dk_180 0 35 (dk_at dksX5_shows_3 5 rfl rfl)
theorem dX5_shows_78 : decode cX5_shows 78 = .ok (.iload_n 1, 1) := dk_27 (dk_at dksX5_shows_3 8 rfl rfl)
theorem dX5_shows_79 : decode cX5_shows 79 = .ok (.iaload, 1) := dk_46 (dk_at dksX5_shows_3 9 rfl rfl)
theorem dX5_shows_80 : decode cX5_shows 80 = .ok (.if_icmp .le 14, 3) := dk_164 0 14 (dk_at dksX5_shows_3 10 rfl rfl)
theorem dX5_shows_83 : decode cX5_shows 83 = .ok (.iload_n 2, 1) := dk_28 (dk_at dksX5_shows_3 13 rfl rfl)
theorem dX5_shows_84 : decode cX5_shows 84 = .ok (.aload_n 0, 1) := dk_42 (dk_at dksX5_shows_3 14 rfl rfl)
theorem dX5_shows_85 : decode cX5_shows 85 = .ok (.getfield 35, 3) := dk_180 0 35 (dk_at dksX5_shows_3 15 rfl rfl)
theorem dX5_shows_88 : decode cX5_shows 88 = .ok (.iload_n 1, 1) := dk_27 (dk_at dksX5_shows_3 18 rfl rfl)
theorem dX5_shows_89 : decode cX5_shows 89 = .ok (.iaload, 1) := dk_46 (dk_at dksX5_shows_3 19 rfl rfl)
theorem dX5_shows_90 : decode cX5_shows 90 = .ok (.isub, 1) := dk_100 (dk_at dksX5_shows_3 20 rfl rfl)
theorem dX5_shows_91 : decode cX5_shows 91 = .ok (.goto 4, 3) := dk_167 0 4 (dk_at dksX5_shows_3 21 rfl rfl)
theorem dX5_shows_94 : decode cX5_shows 94 = .ok (.iconst 0, 1) := dk_3 (dk_at dksX5_shows_4 0 rfl rfl)
theorem dX5_shows_95 : decode cX5_shows 95 = .ok (.istore_n 2, 1) := dk_61 (dk_at dksX5_shows_4 1 rfl rfl)
theorem dX5_shows_96 : decode cX5_shows 96 = .ok (.aload_n 0, 1) := dk_42 (dk_at dksX5_shows_4 2 rfl rfl)
theorem dX5_shows_97 : decode cX5_shows 97 = .ok (.getfield 139, 3) := dk_180 0 139 (dk_at dksX5_shows_4 3 rfl rfl)
theorem dX5_shows_100 : decode cX5_shows 100 = .ok (.iconst 1, 1) := dk_4 (dk_at dksX5_shows_4 6 rfl rfl)
theorem dX5_shows_101 : decode cX5_shows 101 = .ok (.if_icmp .ne 9, 3) := dk_160 0 9 (dk_at dksX5_shows_4 7 rfl rfl)
theorem dX5_shows_104 : decode cX5_shows 104 = .ok (.iload_n 2, 1) := dk_28 (dk_at dksX5_shows_4 10 rfl rfl)
theorem dX5_shows_105 : decode cX5_shows 105 = .ok (.iconst 2, 1) := dk_5 (dk_at dksX5_shows_4 11 rfl rfl)
theorem dX5_shows_106 : decode cX5_shows 106 = .ok (.idiv, 1) := dk_108 (dk_at dksX5_shows_4 12 rfl rfl)
theorem dX5_shows_107 : decode cX5_shows 107 = .ok (.goto 4, 3) := dk_167 0 4 (dk_at dksX5_shows_4 13 rfl rfl)
theorem dX5_shows_110 : decode cX5_shows 110 = .ok (.iload_n 2, 1) := dk_28 (dk_at dksX5_shows_4 16 rfl rfl)
theorem dX5_shows_111 : decode cX5_shows 111 = .ok (.ireturn, 1) := dk_172 (dk_at dksX5_shows_4 17 rfl rfl)
abbrev cX5_person : ByteArray := prog_22_method_19_code
def yX5_person : MethodName := ⟨RX5, "person", "(IIIIII)I"⟩
def dkwX5_person_5 : List UInt8 := [21, 5, 21, 6, 182, 0, 132, 172]
abbrev dktX5_person_5 : List UInt8 := dkwX5_person_5 ++ []
def dkwX5_person_4 : List UInt8 := [180, 0, 108, 16, 7, 160, 0, 12, 42, 16, 249, 182, 0, 115, 167, 0, 16, 42, 27, 28, 29, 21, 4]
abbrev dktX5_person_4 : List UInt8 := dkwX5_person_4 ++ dktX5_person_5
def dkwX5_person_3 : List UInt8 := [153, 0, 14, 42, 180, 0, 47, 21, 6, 46, 4, 160, 0, 10, 42, 16, 250, 182, 0, 115, 172, 42]
abbrev dktX5_person_3 : List UInt8 := dkwX5_person_3 ++ dktX5_person_4
def dkwX5_person_2 : List UInt8 := [153, 0, 36, 42, 21, 5, 3, 17, 39, 15, 182, 0, 125, 153, 0, 23, 42, 21, 6, 182, 0, 129]
abbrev dktX5_person_2 : List UInt8 := dkwX5_person_2 ++ dktX5_person_3
def dkwX5_person_1 : List UInt8 := [153, 0, 59, 42, 29, 3, 16, 20, 182, 0, 125, 153, 0, 48, 42, 21, 4, 3, 16, 9, 182, 0, 125]
abbrev dktX5_person_1 : List UInt8 := dkwX5_person_1 ++ dktX5_person_2
def dkwX5_person_0 : List UInt8 := [27, 155, 0, 9, 27, 16, 6, 164, 0, 9, 42, 2, 182, 0, 115, 172, 42, 28, 3, 16, 9, 182, 0, 125]
abbrev dktX5_person_0 : List UInt8 := dkwX5_person_0 ++ dktX5_person_1
theorem dksX5_person_0 : cX5_person.data.toList.drop 0 = dktX5_person_0 := by decide +kernel
theorem dksX5_person_1 : cX5_person.data.toList.drop 24 = dktX5_person_1 := dk_seg dksX5_person_0 24 rfl rfl
theorem dksX5_person_2 : cX5_person.data.toList.drop 47 = dktX5_person_2 := dk_seg dksX5_person_1 23 rfl rfl
theorem dksX5_person_3 : cX5_person.data.toList.drop 69 = dktX5_person_3 := dk_seg dksX5_person_2 22 rfl rfl
theorem dksX5_person_4 : cX5_person.data.toList.drop 91 = dktX5_person_4 := dk_seg dksX5_person_3 22 rfl rfl
theorem dksX5_person_5 : cX5_person.data.toList.drop 114 = dktX5_person_5 := dk_seg dksX5_person_4 23 rfl rfl
theorem dX5_person_0 : decode cX5_person 0 = .ok (.iload_n 1, 1) := dk_27 (dk_at dksX5_person_0 0 rfl rfl)
theorem dX5_person_1 : decode cX5_person 1 = .ok (.ifCond .lt 9, 3) := dk_155 0 9 (dk_at dksX5_person_0 1 rfl rfl)
theorem dX5_person_4 : decode cX5_person 4 = .ok (.iload_n 1, 1) := dk_27 (dk_at dksX5_person_0 4 rfl rfl)
theorem dX5_person_5 : decode cX5_person 5 = .ok (.bipush 6, 2) := dk_16 6 (dk_at dksX5_person_0 5 rfl rfl)
theorem dX5_person_7 : decode cX5_person 7 = .ok (.if_icmp .le 9, 3) := dk_164 0 9 (dk_at dksX5_person_0 7 rfl rfl)
theorem dX5_person_10 : decode cX5_person 10 = .ok (.aload_n 0, 1) := dk_42 (dk_at dksX5_person_0 10 rfl rfl)
theorem dX5_person_11 : decode cX5_person 11 = .ok (.iconst (-1), 1) := dk_2 (dk_at dksX5_person_0 11 rfl rfl)
theorem dX5_person_12 : decode cX5_person 12 = .ok (.invokevirtual 115, 3) := dk_182 0 115 (dk_at dksX5_person_0 12 rfl rfl)
theorem dX5_person_15 : decode cX5_person 15 = .ok (.ireturn, 1) := dk_172 (dk_at dksX5_person_0 15 rfl rfl)
theorem dX5_person_16 : decode cX5_person 16 = .ok (.aload_n 0, 1) := dk_42 (dk_at dksX5_person_0 16 rfl rfl)
theorem dX5_person_17 : decode cX5_person 17 = .ok (.iload_n 2, 1) := dk_28 (dk_at dksX5_person_0 17 rfl rfl)
theorem dX5_person_18 : decode cX5_person 18 = .ok (.iconst 0, 1) := dk_3 (dk_at dksX5_person_0 18 rfl rfl)
theorem dX5_person_19 : decode cX5_person 19 = .ok (.bipush 9, 2) := dk_16 9 (dk_at dksX5_person_0 19 rfl rfl)
theorem dX5_person_21 : decode cX5_person 21 = .ok (.invokevirtual 125, 3) := dk_182 0 125 (dk_at dksX5_person_0 21 rfl rfl)
theorem dX5_person_24 : decode cX5_person 24 = .ok (.ifCond .eq 59, 3) := dk_153 0 59 (dk_at dksX5_person_1 0 rfl rfl)
theorem dX5_person_27 : decode cX5_person 27 = .ok (.aload_n 0, 1) := dk_42 (dk_at dksX5_person_1 3 rfl rfl)
theorem dX5_person_28 : decode cX5_person 28 = .ok (.iload_n 3, 1) := dk_29 (dk_at dksX5_person_1 4 rfl rfl)
theorem dX5_person_29 : decode cX5_person 29 = .ok (.iconst 0, 1) := dk_3 (dk_at dksX5_person_1 5 rfl rfl)
theorem dX5_person_30 : decode cX5_person 30 = .ok (.bipush 20, 2) := dk_16 20 (dk_at dksX5_person_1 6 rfl rfl)
theorem dX5_person_32 : decode cX5_person 32 = .ok (.invokevirtual 125, 3) := dk_182 0 125 (dk_at dksX5_person_1 8 rfl rfl)
theorem dX5_person_35 : decode cX5_person 35 = .ok (.ifCond .eq 48, 3) := dk_153 0 48 (dk_at dksX5_person_1 11 rfl rfl)
theorem dX5_person_38 : decode cX5_person 38 = .ok (.aload_n 0, 1) := dk_42 (dk_at dksX5_person_1 14 rfl rfl)
theorem dX5_person_39 : decode cX5_person 39 = .ok (.iload 4, 2) := dk_21 4 (dk_at dksX5_person_1 15 rfl rfl)
theorem dX5_person_41 : decode cX5_person 41 = .ok (.iconst 0, 1) := dk_3 (dk_at dksX5_person_1 17 rfl rfl)
theorem dX5_person_42 : decode cX5_person 42 = .ok (.bipush 9, 2) := dk_16 9 (dk_at dksX5_person_1 18 rfl rfl)
theorem dX5_person_44 : decode cX5_person 44 = .ok (.invokevirtual 125, 3) := dk_182 0 125 (dk_at dksX5_person_1 20 rfl rfl)
theorem dX5_person_47 : decode cX5_person 47 = .ok (.ifCond .eq 36, 3) := dk_153 0 36 (dk_at dksX5_person_2 0 rfl rfl)
theorem dX5_person_50 : decode cX5_person 50 = .ok (.aload_n 0, 1) := dk_42 (dk_at dksX5_person_2 3 rfl rfl)
theorem dX5_person_51 : decode cX5_person 51 = .ok (.iload 5, 2) := dk_21 5 (dk_at dksX5_person_2 4 rfl rfl)
theorem dX5_person_53 : decode cX5_person 53 = .ok (.iconst 0, 1) := dk_3 (dk_at dksX5_person_2 6 rfl rfl)
theorem dX5_person_54 : decode cX5_person 54 = .ok (.sipush 9999, 3) := dk_17 39 15 (dk_at dksX5_person_2 7 rfl rfl)
theorem dX5_person_57 : decode cX5_person 57 = .ok (.invokevirtual 125, 3) := dk_182 0 125 (dk_at dksX5_person_2 10 rfl rfl)
theorem dX5_person_60 : decode cX5_person 60 = .ok (.ifCond .eq 23, 3) := dk_153 0 23 (dk_at dksX5_person_2 13 rfl rfl)
theorem dX5_person_63 : decode cX5_person 63 = .ok (.aload_n 0, 1) := dk_42 (dk_at dksX5_person_2 16 rfl rfl)
theorem dX5_person_64 : decode cX5_person 64 = .ok (.iload 6, 2) := dk_21 6 (dk_at dksX5_person_2 17 rfl rfl)
theorem dX5_person_66 : decode cX5_person 66 = .ok (.invokevirtual 129, 3) := dk_182 0 129 (dk_at dksX5_person_2 19 rfl rfl)
theorem dX5_person_69 : decode cX5_person 69 = .ok (.ifCond .eq 14, 3) := dk_153 0 14 (dk_at dksX5_person_3 0 rfl rfl)
theorem dX5_person_72 : decode cX5_person 72 = .ok (.aload_n 0, 1) := dk_42 (dk_at dksX5_person_3 3 rfl rfl)
theorem dX5_person_73 : decode cX5_person 73 = .ok (.getfield 47, 3) := dk_180 0 47 (dk_at dksX5_person_3 4 rfl rfl)
theorem dX5_person_76 : decode cX5_person 76 = .ok (.iload 6, 2) := dk_21 6 (dk_at dksX5_person_3 7 rfl rfl)
theorem dX5_person_78 : decode cX5_person 78 = .ok (.iaload, 1) := dk_46 (dk_at dksX5_person_3 9 rfl rfl)
theorem dX5_person_79 : decode cX5_person 79 = .ok (.iconst 1, 1) := dk_4 (dk_at dksX5_person_3 10 rfl rfl)
theorem dX5_person_80 : decode cX5_person 80 = .ok (.if_icmp .ne 10, 3) := dk_160 0 10 (dk_at dksX5_person_3 11 rfl rfl)
theorem dX5_person_83 : decode cX5_person 83 = .ok (.aload_n 0, 1) := dk_42 (dk_at dksX5_person_3 14 rfl rfl)
theorem dX5_person_84 : decode cX5_person 84 = .ok (.bipush (-6), 2) := dk_16 250 (dk_at dksX5_person_3 15 rfl rfl)
theorem dX5_person_86 : decode cX5_person 86 = .ok (.invokevirtual 115, 3) := dk_182 0 115 (dk_at dksX5_person_3 17 rfl rfl)
theorem dX5_person_89 : decode cX5_person 89 = .ok (.ireturn, 1) := dk_172 (dk_at dksX5_person_3 20 rfl rfl)
theorem dX5_person_90 : decode cX5_person 90 = .ok (.aload_n 0, 1) := dk_42 (dk_at dksX5_person_3 21 rfl rfl)
theorem dX5_person_91 : decode cX5_person 91 = .ok (.getfield 108, 3) := dk_180 0 108 (dk_at dksX5_person_4 0 rfl rfl)
theorem dX5_person_94 : decode cX5_person 94 = .ok (.bipush 7, 2) := dk_16 7 (dk_at dksX5_person_4 3 rfl rfl)
theorem dX5_person_96 : decode cX5_person 96 = .ok (.if_icmp .ne 12, 3) := dk_160 0 12 (dk_at dksX5_person_4 5 rfl rfl)
theorem dX5_person_99 : decode cX5_person 99 = .ok (.aload_n 0, 1) := dk_42 (dk_at dksX5_person_4 8 rfl rfl)
theorem dX5_person_100 : decode cX5_person 100 = .ok (.bipush (-7), 2) := dk_16 249 (dk_at dksX5_person_4 9 rfl rfl)
theorem dX5_person_102 : decode cX5_person 102 = .ok (.invokevirtual 115, 3) := dk_182 0 115 (dk_at dksX5_person_4 11 rfl rfl)
theorem dX5_person_105 : decode cX5_person 105 = .ok (.goto 16, 3) := dk_167 0 16 (dk_at dksX5_person_4 14 rfl rfl)
theorem dX5_person_108 : decode cX5_person 108 = .ok (.aload_n 0, 1) := dk_42 (dk_at dksX5_person_4 17 rfl rfl)
theorem dX5_person_109 : decode cX5_person 109 = .ok (.iload_n 1, 1) := dk_27 (dk_at dksX5_person_4 18 rfl rfl)
theorem dX5_person_110 : decode cX5_person 110 = .ok (.iload_n 2, 1) := dk_28 (dk_at dksX5_person_4 19 rfl rfl)
theorem dX5_person_111 : decode cX5_person 111 = .ok (.iload_n 3, 1) := dk_29 (dk_at dksX5_person_4 20 rfl rfl)
theorem dX5_person_112 : decode cX5_person 112 = .ok (.iload 4, 2) := dk_21 4 (dk_at dksX5_person_4 21 rfl rfl)
theorem dX5_person_114 : decode cX5_person 114 = .ok (.iload 5, 2) := dk_21 5 (dk_at dksX5_person_5 0 rfl rfl)
theorem dX5_person_116 : decode cX5_person 116 = .ok (.iload 6, 2) := dk_21 6 (dk_at dksX5_person_5 2 rfl rfl)
theorem dX5_person_118 : decode cX5_person 118 = .ok (.invokevirtual 132, 3) := dk_182 0 132 (dk_at dksX5_person_5 4 rfl rfl)
theorem dX5_person_121 : decode cX5_person 121 = .ok (.ireturn, 1) := dk_172 (dk_at dksX5_person_5 7 rfl rfl)
abbrev cX5_isFrom : ByteArray := prog_22_method_7_code
def yX5_isFrom : MethodName := ⟨RX5, "isFrom", "(III)Z"⟩
def dkwX5_isFrom_0 : List UInt8 := [27, 28, 161, 0, 12, 27, 29, 163, 0, 7, 4, 167, 0, 4, 3, 172]
abbrev dktX5_isFrom_0 : List UInt8 := dkwX5_isFrom_0 ++ []
theorem dksX5_isFrom_0 : cX5_isFrom.data.toList.drop 0 = dktX5_isFrom_0 := by decide +kernel
theorem dX5_isFrom_0 : decode cX5_isFrom 0 = .ok (.iload_n 1, 1) := dk_27 (dk_at dksX5_isFrom_0 0 rfl rfl)
theorem dX5_isFrom_1 : decode cX5_isFrom 1 = .ok (.iload_n 2, 1) := dk_28 (dk_at dksX5_isFrom_0 1 rfl rfl)
theorem dX5_isFrom_2 : decode cX5_isFrom 2 = .ok (.if_icmp .lt 12, 3) := dk_161 0 12 (dk_at dksX5_isFrom_0 2 rfl rfl)
theorem dX5_isFrom_5 : decode cX5_isFrom 5 = .ok (.iload_n 1, 1) := dk_27 (dk_at dksX5_isFrom_0 5 rfl rfl)
theorem dX5_isFrom_6 : decode cX5_isFrom 6 = .ok (.iload_n 3, 1) := dk_29 (dk_at dksX5_isFrom_0 6 rfl rfl)
theorem dX5_isFrom_7 : decode cX5_isFrom 7 = .ok (.if_icmp .gt 7, 3) := dk_163 0 7 (dk_at dksX5_isFrom_0 7 rfl rfl)
theorem dX5_isFrom_10 : decode cX5_isFrom 10 = .ok (.iconst 1, 1) := dk_4 (dk_at dksX5_isFrom_0 10 rfl rfl)
theorem dX5_isFrom_11 : decode cX5_isFrom 11 = .ok (.goto 4, 3) := dk_167 0 4 (dk_at dksX5_isFrom_0 11 rfl rfl)
theorem dX5_isFrom_14 : decode cX5_isFrom 14 = .ok (.iconst 0, 1) := dk_3 (dk_at dksX5_isFrom_0 14 rfl rfl)
theorem dX5_isFrom_15 : decode cX5_isFrom 15 = .ok (.ireturn, 1) := dk_172 (dk_at dksX5_isFrom_0 15 rfl rfl)
abbrev cX5_isSquare : ByteArray := prog_22_method_6_code
def yX5_isSquare : MethodName := ⟨RX5, "isSquare", "(I)Z"⟩
def dkwX5_isSquare_0 : List UInt8 := [27, 155, 0, 13, 27, 16, 36, 162, 0, 7, 4, 167, 0, 4, 3, 172]
abbrev dktX5_isSquare_0 : List UInt8 := dkwX5_isSquare_0 ++ []
theorem dksX5_isSquare_0 : cX5_isSquare.data.toList.drop 0 = dktX5_isSquare_0 := by decide +kernel
theorem dX5_isSquare_0 : decode cX5_isSquare 0 = .ok (.iload_n 1, 1) := dk_27 (dk_at dksX5_isSquare_0 0 rfl rfl)
theorem dX5_isSquare_1 : decode cX5_isSquare 1 = .ok (.ifCond .lt 13, 3) := dk_155 0 13 (dk_at dksX5_isSquare_0 1 rfl rfl)
theorem dX5_isSquare_4 : decode cX5_isSquare 4 = .ok (.iload_n 1, 1) := dk_27 (dk_at dksX5_isSquare_0 4 rfl rfl)
theorem dX5_isSquare_5 : decode cX5_isSquare 5 = .ok (.bipush 36, 2) := dk_16 36 (dk_at dksX5_isSquare_0 5 rfl rfl)
theorem dX5_isSquare_7 : decode cX5_isSquare 7 = .ok (.if_icmp .ge 7, 3) := dk_162 0 7 (dk_at dksX5_isSquare_0 7 rfl rfl)
theorem dX5_isSquare_10 : decode cX5_isSquare 10 = .ok (.iconst 1, 1) := dk_4 (dk_at dksX5_isSquare_0 10 rfl rfl)
theorem dX5_isSquare_11 : decode cX5_isSquare 11 = .ok (.goto 4, 3) := dk_167 0 4 (dk_at dksX5_isSquare_0 11 rfl rfl)
theorem dX5_isSquare_14 : decode cX5_isSquare 14 = .ok (.iconst 0, 1) := dk_3 (dk_at dksX5_isSquare_0 14 rfl rfl)
theorem dX5_isSquare_15 : decode cX5_isSquare 15 = .ok (.ireturn, 1) := dk_172 (dk_at dksX5_isSquare_0 15 rfl rfl)
abbrev cX5_adds : ByteArray := prog_22_method_18_code
def yX5_adds : MethodName := ⟨RX5, "adds", "(IIIIII)I"⟩
def dkwX5_adds_3 : List UInt8 := [180, 0, 108, 3, 79, 42, 89, 180, 0, 108, 90, 4, 96, 181, 0, 108, 172]
abbrev dktX5_adds_3 : List UInt8 := dkwX5_adds_3 ++ []
def dkwX5_adds_2 : List UInt8 := [180, 0, 108, 21, 5, 79, 42, 180, 0, 41, 42, 180, 0, 108, 21, 6, 79, 42, 180, 0, 44, 42]
abbrev dktX5_adds_2 : List UInt8 := dkwX5_adds_2 ++ dktX5_adds_3
def dkwX5_adds_1 : List UInt8 := [42, 180, 0, 108, 29, 79, 42, 180, 0, 35, 42, 180, 0, 108, 21, 4, 79, 42, 180, 0, 38, 42]
abbrev dktX5_adds_1 : List UInt8 := dkwX5_adds_1 ++ dktX5_adds_2
def dkwX5_adds_0 : List UInt8 := [42, 180, 0, 26, 42, 180, 0, 108, 27, 79, 42, 180, 0, 29, 42, 180, 0, 108, 28, 79, 42, 180, 0, 32]
abbrev dktX5_adds_0 : List UInt8 := dkwX5_adds_0 ++ dktX5_adds_1
theorem dksX5_adds_0 : cX5_adds.data.toList.drop 0 = dktX5_adds_0 := by decide +kernel
theorem dksX5_adds_1 : cX5_adds.data.toList.drop 24 = dktX5_adds_1 := dk_seg dksX5_adds_0 24 rfl rfl
theorem dksX5_adds_2 : cX5_adds.data.toList.drop 46 = dktX5_adds_2 := dk_seg dksX5_adds_1 22 rfl rfl
theorem dksX5_adds_3 : cX5_adds.data.toList.drop 68 = dktX5_adds_3 := dk_seg dksX5_adds_2 22 rfl rfl
theorem dX5_adds_0 : decode cX5_adds 0 = .ok (.aload_n 0, 1) := dk_42 (dk_at dksX5_adds_0 0 rfl rfl)
theorem dX5_adds_1 : decode cX5_adds 1 = .ok (.getfield 26, 3) := dk_180 0 26 (dk_at dksX5_adds_0 1 rfl rfl)
theorem dX5_adds_4 : decode cX5_adds 4 = .ok (.aload_n 0, 1) := dk_42 (dk_at dksX5_adds_0 4 rfl rfl)
theorem dX5_adds_5 : decode cX5_adds 5 = .ok (.getfield 108, 3) := dk_180 0 108 (dk_at dksX5_adds_0 5 rfl rfl)
theorem dX5_adds_8 : decode cX5_adds 8 = .ok (.iload_n 1, 1) := dk_27 (dk_at dksX5_adds_0 8 rfl rfl)
theorem dX5_adds_9 : decode cX5_adds 9 = .ok (.iastore, 1) := dk_79 (dk_at dksX5_adds_0 9 rfl rfl)
theorem dX5_adds_10 : decode cX5_adds 10 = .ok (.aload_n 0, 1) := dk_42 (dk_at dksX5_adds_0 10 rfl rfl)
theorem dX5_adds_11 : decode cX5_adds 11 = .ok (.getfield 29, 3) := dk_180 0 29 (dk_at dksX5_adds_0 11 rfl rfl)
theorem dX5_adds_14 : decode cX5_adds 14 = .ok (.aload_n 0, 1) := dk_42 (dk_at dksX5_adds_0 14 rfl rfl)
theorem dX5_adds_15 : decode cX5_adds 15 = .ok (.getfield 108, 3) := dk_180 0 108 (dk_at dksX5_adds_0 15 rfl rfl)
theorem dX5_adds_18 : decode cX5_adds 18 = .ok (.iload_n 2, 1) := dk_28 (dk_at dksX5_adds_0 18 rfl rfl)
theorem dX5_adds_19 : decode cX5_adds 19 = .ok (.iastore, 1) := dk_79 (dk_at dksX5_adds_0 19 rfl rfl)
theorem dX5_adds_20 : decode cX5_adds 20 = .ok (.aload_n 0, 1) := dk_42 (dk_at dksX5_adds_0 20 rfl rfl)
theorem dX5_adds_21 : decode cX5_adds 21 = .ok (.getfield 32, 3) := dk_180 0 32 (dk_at dksX5_adds_0 21 rfl rfl)
theorem dX5_adds_24 : decode cX5_adds 24 = .ok (.aload_n 0, 1) := dk_42 (dk_at dksX5_adds_1 0 rfl rfl)
theorem dX5_adds_25 : decode cX5_adds 25 = .ok (.getfield 108, 3) := dk_180 0 108 (dk_at dksX5_adds_1 1 rfl rfl)
theorem dX5_adds_28 : decode cX5_adds 28 = .ok (.iload_n 3, 1) := dk_29 (dk_at dksX5_adds_1 4 rfl rfl)
theorem dX5_adds_29 : decode cX5_adds 29 = .ok (.iastore, 1) := dk_79 (dk_at dksX5_adds_1 5 rfl rfl)
theorem dX5_adds_30 : decode cX5_adds 30 = .ok (.aload_n 0, 1) := dk_42 (dk_at dksX5_adds_1 6 rfl rfl)
theorem dX5_adds_31 : decode cX5_adds 31 = .ok (.getfield 35, 3) := dk_180 0 35 (dk_at dksX5_adds_1 7 rfl rfl)
theorem dX5_adds_34 : decode cX5_adds 34 = .ok (.aload_n 0, 1) := dk_42 (dk_at dksX5_adds_1 10 rfl rfl)
theorem dX5_adds_35 : decode cX5_adds 35 = .ok (.getfield 108, 3) := dk_180 0 108 (dk_at dksX5_adds_1 11 rfl rfl)
theorem dX5_adds_38 : decode cX5_adds 38 = .ok (.iload 4, 2) := dk_21 4 (dk_at dksX5_adds_1 14 rfl rfl)
theorem dX5_adds_40 : decode cX5_adds 40 = .ok (.iastore, 1) := dk_79 (dk_at dksX5_adds_1 16 rfl rfl)
theorem dX5_adds_41 : decode cX5_adds 41 = .ok (.aload_n 0, 1) := dk_42 (dk_at dksX5_adds_1 17 rfl rfl)
theorem dX5_adds_42 : decode cX5_adds 42 = .ok (.getfield 38, 3) := dk_180 0 38 (dk_at dksX5_adds_1 18 rfl rfl)
theorem dX5_adds_45 : decode cX5_adds 45 = .ok (.aload_n 0, 1) := dk_42 (dk_at dksX5_adds_1 21 rfl rfl)
theorem dX5_adds_46 : decode cX5_adds 46 = .ok (.getfield 108, 3) := dk_180 0 108 (dk_at dksX5_adds_2 0 rfl rfl)
theorem dX5_adds_49 : decode cX5_adds 49 = .ok (.iload 5, 2) := dk_21 5 (dk_at dksX5_adds_2 3 rfl rfl)
theorem dX5_adds_51 : decode cX5_adds 51 = .ok (.iastore, 1) := dk_79 (dk_at dksX5_adds_2 5 rfl rfl)
theorem dX5_adds_52 : decode cX5_adds 52 = .ok (.aload_n 0, 1) := dk_42 (dk_at dksX5_adds_2 6 rfl rfl)
theorem dX5_adds_53 : decode cX5_adds 53 = .ok (.getfield 41, 3) := dk_180 0 41 (dk_at dksX5_adds_2 7 rfl rfl)
theorem dX5_adds_56 : decode cX5_adds 56 = .ok (.aload_n 0, 1) := dk_42 (dk_at dksX5_adds_2 10 rfl rfl)
theorem dX5_adds_57 : decode cX5_adds 57 = .ok (.getfield 108, 3) := dk_180 0 108 (dk_at dksX5_adds_2 11 rfl rfl)
theorem dX5_adds_60 : decode cX5_adds 60 = .ok (.iload 6, 2) := dk_21 6 (dk_at dksX5_adds_2 14 rfl rfl)
theorem dX5_adds_62 : decode cX5_adds 62 = .ok (.iastore, 1) := dk_79 (dk_at dksX5_adds_2 16 rfl rfl)
theorem dX5_adds_63 : decode cX5_adds 63 = .ok (.aload_n 0, 1) := dk_42 (dk_at dksX5_adds_2 17 rfl rfl)
theorem dX5_adds_64 : decode cX5_adds 64 = .ok (.getfield 44, 3) := dk_180 0 44 (dk_at dksX5_adds_2 18 rfl rfl)
theorem dX5_adds_67 : decode cX5_adds 67 = .ok (.aload_n 0, 1) := dk_42 (dk_at dksX5_adds_2 21 rfl rfl)
theorem dX5_adds_68 : decode cX5_adds 68 = .ok (.getfield 108, 3) := dk_180 0 108 (dk_at dksX5_adds_3 0 rfl rfl)
theorem dX5_adds_71 : decode cX5_adds 71 = .ok (.iconst 0, 1) := dk_3 (dk_at dksX5_adds_3 3 rfl rfl)
theorem dX5_adds_72 : decode cX5_adds 72 = .ok (.iastore, 1) := dk_79 (dk_at dksX5_adds_3 4 rfl rfl)
theorem dX5_adds_73 : decode cX5_adds 73 = .ok (.aload_n 0, 1) := dk_42 (dk_at dksX5_adds_3 5 rfl rfl)
theorem dX5_adds_74 : decode cX5_adds 74 = .ok (.dup, 1) := dk_89 (dk_at dksX5_adds_3 6 rfl rfl)
theorem dX5_adds_75 : decode cX5_adds 75 = .ok (.getfield 108, 3) := dk_180 0 108 (dk_at dksX5_adds_3 7 rfl rfl)
theorem dX5_adds_78 : decode cX5_adds 78 = .ok (.dup_x1, 1) := dk_90 (dk_at dksX5_adds_3 10 rfl rfl)
theorem dX5_adds_79 : decode cX5_adds 79 = .ok (.iconst 1, 1) := dk_4 (dk_at dksX5_adds_3 11 rfl rfl)
theorem dX5_adds_80 : decode cX5_adds 80 = .ok (.iadd, 1) := dk_96 (dk_at dksX5_adds_3 12 rfl rfl)
theorem dX5_adds_81 : decode cX5_adds 81 = .ok (.putfield 108, 3) := dk_181 0 108 (dk_at dksX5_adds_3 13 rfl rfl)
theorem dX5_adds_84 : decode cX5_adds 84 = .ok (.ireturn, 1) := dk_172 (dk_at dksX5_adds_3 16 rfl rfl)
abbrev cX5_build : ByteArray := prog_22_method_20_code
def yX5_build : MethodName := ⟨RX5, "build", "(IIZ)I"⟩
def dkwX5_build_4 : List UInt8 := [167, 0, 4, 3, 79, 21, 4, 172]
abbrev dktX5_build_4 : List UInt8 := dkwX5_build_4 ++ []
def dkwX5_build_3 : List UInt8 := [27, 29, 153, 0, 7, 4, 167, 0, 4, 3, 79, 167, 0, 18, 42, 180, 0, 50, 27, 29, 153, 0, 7, 4]
abbrev dktX5_build_3 : List UInt8 := dkwX5_build_3 ++ dktX5_build_4
def dkwX5_build_2 : List UInt8 := [180, 0, 47, 27, 46, 167, 0, 9, 42, 180, 0, 50, 27, 46, 54, 4, 28, 154, 0, 21, 42, 180, 0, 47]
abbrev dktX5_build_2 : List UInt8 := dkwX5_build_2 ++ dktX5_build_3
def dkwX5_build_1 : List UInt8 := [153, 0, 18, 42, 27, 182, 0, 136, 153, 0, 10, 42, 16, 250, 182, 0, 115, 172, 28, 154, 0, 12, 42]
abbrev dktX5_build_1 : List UInt8 := dkwX5_build_1 ++ dktX5_build_2
def dkwX5_build_0 : List UInt8 := [42, 27, 182, 0, 129, 153, 0, 28, 28, 155, 0, 24, 28, 4, 163, 0, 19, 28, 154, 0, 22, 29]
abbrev dktX5_build_0 : List UInt8 := dkwX5_build_0 ++ dktX5_build_1
theorem dksX5_build_0 : cX5_build.data.toList.drop 0 = dktX5_build_0 := by decide +kernel
theorem dksX5_build_1 : cX5_build.data.toList.drop 22 = dktX5_build_1 := dk_seg dksX5_build_0 22 rfl rfl
theorem dksX5_build_2 : cX5_build.data.toList.drop 45 = dktX5_build_2 := dk_seg dksX5_build_1 23 rfl rfl
theorem dksX5_build_3 : cX5_build.data.toList.drop 69 = dktX5_build_3 := dk_seg dksX5_build_2 24 rfl rfl
theorem dksX5_build_4 : cX5_build.data.toList.drop 93 = dktX5_build_4 := dk_seg dksX5_build_3 24 rfl rfl
theorem dX5_build_0 : decode cX5_build 0 = .ok (.aload_n 0, 1) := dk_42 (dk_at dksX5_build_0 0 rfl rfl)
theorem dX5_build_1 : decode cX5_build 1 = .ok (.iload_n 1, 1) := dk_27 (dk_at dksX5_build_0 1 rfl rfl)
theorem dX5_build_2 : decode cX5_build 2 = .ok (.invokevirtual 129, 3) := dk_182 0 129 (dk_at dksX5_build_0 2 rfl rfl)
theorem dX5_build_5 : decode cX5_build 5 = .ok (.ifCond .eq 28, 3) := dk_153 0 28 (dk_at dksX5_build_0 5 rfl rfl)
theorem dX5_build_8 : decode cX5_build 8 = .ok (.iload_n 2, 1) := dk_28 (dk_at dksX5_build_0 8 rfl rfl)
theorem dX5_build_9 : decode cX5_build 9 = .ok (.ifCond .lt 24, 3) := dk_155 0 24 (dk_at dksX5_build_0 9 rfl rfl)
theorem dX5_build_12 : decode cX5_build 12 = .ok (.iload_n 2, 1) := dk_28 (dk_at dksX5_build_0 12 rfl rfl)
theorem dX5_build_13 : decode cX5_build 13 = .ok (.iconst 1, 1) := dk_4 (dk_at dksX5_build_0 13 rfl rfl)
theorem dX5_build_14 : decode cX5_build 14 = .ok (.if_icmp .gt 19, 3) := dk_163 0 19 (dk_at dksX5_build_0 14 rfl rfl)
theorem dX5_build_17 : decode cX5_build 17 = .ok (.iload_n 2, 1) := dk_28 (dk_at dksX5_build_0 17 rfl rfl)
theorem dX5_build_18 : decode cX5_build 18 = .ok (.ifCond .ne 22, 3) := dk_154 0 22 (dk_at dksX5_build_0 18 rfl rfl)
theorem dX5_build_21 : decode cX5_build 21 = .ok (.iload_n 3, 1) := dk_29 (dk_at dksX5_build_0 21 rfl rfl)
theorem dX5_build_22 : decode cX5_build 22 = .ok (.ifCond .eq 18, 3) := dk_153 0 18 (dk_at dksX5_build_1 0 rfl rfl)
theorem dX5_build_25 : decode cX5_build 25 = .ok (.aload_n 0, 1) := dk_42 (dk_at dksX5_build_1 3 rfl rfl)
theorem dX5_build_26 : decode cX5_build 26 = .ok (.iload_n 1, 1) := dk_27 (dk_at dksX5_build_1 4 rfl rfl)
theorem dX5_build_27 : decode cX5_build 27 = .ok (.invokevirtual 136, 3) := dk_182 0 136 (dk_at dksX5_build_1 5 rfl rfl)
theorem dX5_build_30 : decode cX5_build 30 = .ok (.ifCond .eq 10, 3) := dk_153 0 10 (dk_at dksX5_build_1 8 rfl rfl)
theorem dX5_build_33 : decode cX5_build 33 = .ok (.aload_n 0, 1) := dk_42 (dk_at dksX5_build_1 11 rfl rfl)
theorem dX5_build_34 : decode cX5_build 34 = .ok (.bipush (-6), 2) := dk_16 250 (dk_at dksX5_build_1 12 rfl rfl)
theorem dX5_build_36 : decode cX5_build 36 = .ok (.invokevirtual 115, 3) := dk_182 0 115 (dk_at dksX5_build_1 14 rfl rfl)
theorem dX5_build_39 : decode cX5_build 39 = .ok (.ireturn, 1) := dk_172 (dk_at dksX5_build_1 17 rfl rfl)
theorem dX5_build_40 : decode cX5_build 40 = .ok (.iload_n 2, 1) := dk_28 (dk_at dksX5_build_1 18 rfl rfl)
theorem dX5_build_41 : decode cX5_build 41 = .ok (.ifCond .ne 12, 3) := dk_154 0 12 (dk_at dksX5_build_1 19 rfl rfl)
theorem dX5_build_44 : decode cX5_build 44 = .ok (.aload_n 0, 1) := dk_42 (dk_at dksX5_build_1 22 rfl rfl)
theorem dX5_build_45 : decode cX5_build 45 = .ok (.getfield 47, 3) := dk_180 0 47 (dk_at dksX5_build_2 0 rfl rfl)
theorem dX5_build_48 : decode cX5_build 48 = .ok (.iload_n 1, 1) := dk_27 (dk_at dksX5_build_2 3 rfl rfl)
theorem dX5_build_49 : decode cX5_build 49 = .ok (.iaload, 1) := dk_46 (dk_at dksX5_build_2 4 rfl rfl)
theorem dX5_build_50 : decode cX5_build 50 = .ok (.goto 9, 3) := dk_167 0 9 (dk_at dksX5_build_2 5 rfl rfl)
theorem dX5_build_53 : decode cX5_build 53 = .ok (.aload_n 0, 1) := dk_42 (dk_at dksX5_build_2 8 rfl rfl)
theorem dX5_build_54 : decode cX5_build 54 = .ok (.getfield 50, 3) := dk_180 0 50 (dk_at dksX5_build_2 9 rfl rfl)
theorem dX5_build_57 : decode cX5_build 57 = .ok (.iload_n 1, 1) := dk_27 (dk_at dksX5_build_2 12 rfl rfl)
theorem dX5_build_58 : decode cX5_build 58 = .ok (.iaload, 1) := dk_46 (dk_at dksX5_build_2 13 rfl rfl)
theorem dX5_build_59 : decode cX5_build 59 = .ok (.istore 4, 2) := dk_54 4 (dk_at dksX5_build_2 14 rfl rfl)
theorem dX5_build_61 : decode cX5_build 61 = .ok (.iload_n 2, 1) := dk_28 (dk_at dksX5_build_2 16 rfl rfl)
theorem dX5_build_62 : decode cX5_build 62 = .ok (.ifCond .ne 21, 3) := dk_154 0 21 (dk_at dksX5_build_2 17 rfl rfl)
theorem dX5_build_65 : decode cX5_build 65 = .ok (.aload_n 0, 1) := dk_42 (dk_at dksX5_build_2 20 rfl rfl)
theorem dX5_build_66 : decode cX5_build 66 = .ok (.getfield 47, 3) := dk_180 0 47 (dk_at dksX5_build_2 21 rfl rfl)
theorem dX5_build_69 : decode cX5_build 69 = .ok (.iload_n 1, 1) := dk_27 (dk_at dksX5_build_3 0 rfl rfl)
theorem dX5_build_70 : decode cX5_build 70 = .ok (.iload_n 3, 1) := dk_29 (dk_at dksX5_build_3 1 rfl rfl)
theorem dX5_build_71 : decode cX5_build 71 = .ok (.ifCond .eq 7, 3) := dk_153 0 7 (dk_at dksX5_build_3 2 rfl rfl)
theorem dX5_build_74 : decode cX5_build 74 = .ok (.iconst 1, 1) := dk_4 (dk_at dksX5_build_3 5 rfl rfl)
theorem dX5_build_75 : decode cX5_build 75 = .ok (.goto 4, 3) := dk_167 0 4 (dk_at dksX5_build_3 6 rfl rfl)
theorem dX5_build_78 : decode cX5_build 78 = .ok (.iconst 0, 1) := dk_3 (dk_at dksX5_build_3 9 rfl rfl)
theorem dX5_build_79 : decode cX5_build 79 = .ok (.iastore, 1) := dk_79 (dk_at dksX5_build_3 10 rfl rfl)
theorem dX5_build_80 : decode cX5_build 80 = .ok (.goto 18, 3) := dk_167 0 18 (dk_at dksX5_build_3 11 rfl rfl)
theorem dX5_build_83 : decode cX5_build 83 = .ok (.aload_n 0, 1) := dk_42 (dk_at dksX5_build_3 14 rfl rfl)
theorem dX5_build_84 : decode cX5_build 84 = .ok (.getfield 50, 3) := dk_180 0 50 (dk_at dksX5_build_3 15 rfl rfl)
theorem dX5_build_87 : decode cX5_build 87 = .ok (.iload_n 1, 1) := dk_27 (dk_at dksX5_build_3 18 rfl rfl)
theorem dX5_build_88 : decode cX5_build 88 = .ok (.iload_n 3, 1) := dk_29 (dk_at dksX5_build_3 19 rfl rfl)
theorem dX5_build_89 : decode cX5_build 89 = .ok (.ifCond .eq 7, 3) := dk_153 0 7 (dk_at dksX5_build_3 20 rfl rfl)
theorem dX5_build_92 : decode cX5_build 92 = .ok (.iconst 1, 1) := dk_4 (dk_at dksX5_build_3 23 rfl rfl)
theorem dX5_build_93 : decode cX5_build 93 = .ok (.goto 4, 3) := dk_167 0 4 (dk_at dksX5_build_4 0 rfl rfl)
theorem dX5_build_96 : decode cX5_build 96 = .ok (.iconst 0, 1) := dk_3 (dk_at dksX5_build_4 3 rfl rfl)
theorem dX5_build_97 : decode cX5_build 97 = .ok (.iastore, 1) := dk_79 (dk_at dksX5_build_4 4 rfl rfl)
theorem dX5_build_98 : decode cX5_build 98 = .ok (.iload 4, 2) := dk_21 4 (dk_at dksX5_build_4 5 rfl rfl)
theorem dX5_build_100 : decode cX5_build 100 = .ok (.ireturn, 1) := dk_172 (dk_at dksX5_build_4 7 rfl rfl)
abbrev cX5_thereAt : ByteArray := prog_22_method_17_code
def yX5_thereAt : MethodName := ⟨RX5, "thereAt", "(I)I"⟩
def dkwX5_thereAt_1 : List UInt8 := [29, 120, 96, 61, 132, 3, 1, 167, 255, 229, 28, 172]
abbrev dktX5_thereAt_1 : List UInt8 := dkwX5_thereAt_1 ++ []
def dkwX5_thereAt_0 : List UInt8 := [3, 61, 3, 62, 29, 42, 180, 0, 108, 162, 0, 25, 42, 180, 0, 41, 29, 46, 27, 160, 0, 9, 28, 4]
abbrev dktX5_thereAt_0 : List UInt8 := dkwX5_thereAt_0 ++ dktX5_thereAt_1
theorem dksX5_thereAt_0 : cX5_thereAt.data.toList.drop 0 = dktX5_thereAt_0 := by decide +kernel
theorem dksX5_thereAt_1 : cX5_thereAt.data.toList.drop 24 = dktX5_thereAt_1 := dk_seg dksX5_thereAt_0 24 rfl rfl
theorem dX5_thereAt_0 : decode cX5_thereAt 0 = .ok (.iconst 0, 1) := dk_3 (dk_at dksX5_thereAt_0 0 rfl rfl)
theorem dX5_thereAt_1 : decode cX5_thereAt 1 = .ok (.istore_n 2, 1) := dk_61 (dk_at dksX5_thereAt_0 1 rfl rfl)
theorem dX5_thereAt_2 : decode cX5_thereAt 2 = .ok (.iconst 0, 1) := dk_3 (dk_at dksX5_thereAt_0 2 rfl rfl)
theorem dX5_thereAt_3 : decode cX5_thereAt 3 = .ok (.istore_n 3, 1) := dk_62 (dk_at dksX5_thereAt_0 3 rfl rfl)
theorem dX5_thereAt_4 : decode cX5_thereAt 4 = .ok (.iload_n 3, 1) := dk_29 (dk_at dksX5_thereAt_0 4 rfl rfl)
theorem dX5_thereAt_5 : decode cX5_thereAt 5 = .ok (.aload_n 0, 1) := dk_42 (dk_at dksX5_thereAt_0 5 rfl rfl)
theorem dX5_thereAt_6 : decode cX5_thereAt 6 = .ok (.getfield 108, 3) := dk_180 0 108 (dk_at dksX5_thereAt_0 6 rfl rfl)
theorem dX5_thereAt_9 : decode cX5_thereAt 9 = .ok (.if_icmp .ge 25, 3) := dk_162 0 25 (dk_at dksX5_thereAt_0 9 rfl rfl)
theorem dX5_thereAt_12 : decode cX5_thereAt 12 = .ok (.aload_n 0, 1) := dk_42 (dk_at dksX5_thereAt_0 12 rfl rfl)
theorem dX5_thereAt_13 : decode cX5_thereAt 13 = .ok (.getfield 41, 3) := dk_180 0 41 (dk_at dksX5_thereAt_0 13 rfl rfl)
theorem dX5_thereAt_16 : decode cX5_thereAt 16 = .ok (.iload_n 3, 1) := dk_29 (dk_at dksX5_thereAt_0 16 rfl rfl)
theorem dX5_thereAt_17 : decode cX5_thereAt 17 = .ok (.iaload, 1) := dk_46 (dk_at dksX5_thereAt_0 17 rfl rfl)
theorem dX5_thereAt_18 : decode cX5_thereAt 18 = .ok (.iload_n 1, 1) := dk_27 (dk_at dksX5_thereAt_0 18 rfl rfl)
theorem dX5_thereAt_19 : decode cX5_thereAt 19 = .ok (.if_icmp .ne 9, 3) := dk_160 0 9 (dk_at dksX5_thereAt_0 19 rfl rfl)
theorem dX5_thereAt_22 : decode cX5_thereAt 22 = .ok (.iload_n 2, 1) := dk_28 (dk_at dksX5_thereAt_0 22 rfl rfl)
theorem dX5_thereAt_23 : decode cX5_thereAt 23 = .ok (.iconst 1, 1) := dk_4 (dk_at dksX5_thereAt_0 23 rfl rfl)
theorem dX5_thereAt_24 : decode cX5_thereAt 24 = .ok (.iload_n 3, 1) := dk_29 (dk_at dksX5_thereAt_1 0 rfl rfl)
theorem dX5_thereAt_25 : decode cX5_thereAt 25 = .ok (.ishl, 1) := dk_120 (dk_at dksX5_thereAt_1 1 rfl rfl)
theorem dX5_thereAt_26 : decode cX5_thereAt 26 = .ok (.iadd, 1) := dk_96 (dk_at dksX5_thereAt_1 2 rfl rfl)
theorem dX5_thereAt_27 : decode cX5_thereAt 27 = .ok (.istore_n 2, 1) := dk_61 (dk_at dksX5_thereAt_1 3 rfl rfl)
theorem dX5_thereAt_28 : decode cX5_thereAt 28 = .ok (.iinc 3 1, 3) := dk_132 3 1 (dk_at dksX5_thereAt_1 4 rfl rfl)
theorem dX5_thereAt_31 : decode cX5_thereAt 31 = .ok (.goto (-27), 3) := dk_167 255 229 (dk_at dksX5_thereAt_1 7 rfl rfl)
theorem dX5_thereAt_34 : decode cX5_thereAt 34 = .ok (.iload_n 2, 1) := dk_28 (dk_at dksX5_thereAt_1 10 rfl rfl)
theorem dX5_thereAt_35 : decode cX5_thereAt 35 = .ok (.ireturn, 1) := dk_172 (dk_at dksX5_thereAt_1 11 rfl rfl)
abbrev cX5_put : ByteArray := prog_22_method_21_code
def yX5_put : MethodName := ⟨RX5, "put", "(II)I"⟩
def dkwX5_put_2 : List UInt8 := [180, 0, 41, 27, 28, 79, 29, 172]
abbrev dktX5_put_2 : List UInt8 := dkwX5_put_2 ++ []
def dkwX5_put_1 : List UInt8 := [180, 0, 47, 28, 46, 4, 160, 0, 10, 42, 16, 250, 182, 0, 115, 172, 42, 180, 0, 41, 27, 46, 62, 42]
abbrev dktX5_put_1 : List UInt8 := dkwX5_put_1 ++ dktX5_put_2
def dkwX5_put_0 : List UInt8 := [42, 27, 182, 0, 119, 154, 0, 9, 42, 2, 182, 0, 115, 172, 42, 28, 182, 0, 129, 153, 0, 13, 42]
abbrev dktX5_put_0 : List UInt8 := dkwX5_put_0 ++ dktX5_put_1
theorem dksX5_put_0 : cX5_put.data.toList.drop 0 = dktX5_put_0 := by decide +kernel
theorem dksX5_put_1 : cX5_put.data.toList.drop 23 = dktX5_put_1 := dk_seg dksX5_put_0 23 rfl rfl
theorem dksX5_put_2 : cX5_put.data.toList.drop 47 = dktX5_put_2 := dk_seg dksX5_put_1 24 rfl rfl
theorem dX5_put_0 : decode cX5_put 0 = .ok (.aload_n 0, 1) := dk_42 (dk_at dksX5_put_0 0 rfl rfl)
theorem dX5_put_1 : decode cX5_put 1 = .ok (.iload_n 1, 1) := dk_27 (dk_at dksX5_put_0 1 rfl rfl)
theorem dX5_put_2 : decode cX5_put 2 = .ok (.invokevirtual 119, 3) := dk_182 0 119 (dk_at dksX5_put_0 2 rfl rfl)
theorem dX5_put_5 : decode cX5_put 5 = .ok (.ifCond .ne 9, 3) := dk_154 0 9 (dk_at dksX5_put_0 5 rfl rfl)
theorem dX5_put_8 : decode cX5_put 8 = .ok (.aload_n 0, 1) := dk_42 (dk_at dksX5_put_0 8 rfl rfl)
theorem dX5_put_9 : decode cX5_put 9 = .ok (.iconst (-1), 1) := dk_2 (dk_at dksX5_put_0 9 rfl rfl)
theorem dX5_put_10 : decode cX5_put 10 = .ok (.invokevirtual 115, 3) := dk_182 0 115 (dk_at dksX5_put_0 10 rfl rfl)
theorem dX5_put_13 : decode cX5_put 13 = .ok (.ireturn, 1) := dk_172 (dk_at dksX5_put_0 13 rfl rfl)
theorem dX5_put_14 : decode cX5_put 14 = .ok (.aload_n 0, 1) := dk_42 (dk_at dksX5_put_0 14 rfl rfl)
theorem dX5_put_15 : decode cX5_put 15 = .ok (.iload_n 2, 1) := dk_28 (dk_at dksX5_put_0 15 rfl rfl)
theorem dX5_put_16 : decode cX5_put 16 = .ok (.invokevirtual 129, 3) := dk_182 0 129 (dk_at dksX5_put_0 16 rfl rfl)
theorem dX5_put_19 : decode cX5_put 19 = .ok (.ifCond .eq 13, 3) := dk_153 0 13 (dk_at dksX5_put_0 19 rfl rfl)
theorem dX5_put_22 : decode cX5_put 22 = .ok (.aload_n 0, 1) := dk_42 (dk_at dksX5_put_0 22 rfl rfl)
theorem dX5_put_23 : decode cX5_put 23 = .ok (.getfield 47, 3) := dk_180 0 47 (dk_at dksX5_put_1 0 rfl rfl)
theorem dX5_put_26 : decode cX5_put 26 = .ok (.iload_n 2, 1) := dk_28 (dk_at dksX5_put_1 3 rfl rfl)
theorem dX5_put_27 : decode cX5_put 27 = .ok (.iaload, 1) := dk_46 (dk_at dksX5_put_1 4 rfl rfl)
theorem dX5_put_28 : decode cX5_put 28 = .ok (.iconst 1, 1) := dk_4 (dk_at dksX5_put_1 5 rfl rfl)
theorem dX5_put_29 : decode cX5_put 29 = .ok (.if_icmp .ne 10, 3) := dk_160 0 10 (dk_at dksX5_put_1 6 rfl rfl)
theorem dX5_put_32 : decode cX5_put 32 = .ok (.aload_n 0, 1) := dk_42 (dk_at dksX5_put_1 9 rfl rfl)
theorem dX5_put_33 : decode cX5_put 33 = .ok (.bipush (-6), 2) := dk_16 250 (dk_at dksX5_put_1 10 rfl rfl)
theorem dX5_put_35 : decode cX5_put 35 = .ok (.invokevirtual 115, 3) := dk_182 0 115 (dk_at dksX5_put_1 12 rfl rfl)
theorem dX5_put_38 : decode cX5_put 38 = .ok (.ireturn, 1) := dk_172 (dk_at dksX5_put_1 15 rfl rfl)
theorem dX5_put_39 : decode cX5_put 39 = .ok (.aload_n 0, 1) := dk_42 (dk_at dksX5_put_1 16 rfl rfl)
theorem dX5_put_40 : decode cX5_put 40 = .ok (.getfield 41, 3) := dk_180 0 41 (dk_at dksX5_put_1 17 rfl rfl)
theorem dX5_put_43 : decode cX5_put 43 = .ok (.iload_n 1, 1) := dk_27 (dk_at dksX5_put_1 20 rfl rfl)
theorem dX5_put_44 : decode cX5_put 44 = .ok (.iaload, 1) := dk_46 (dk_at dksX5_put_1 21 rfl rfl)
theorem dX5_put_45 : decode cX5_put 45 = .ok (.istore_n 3, 1) := dk_62 (dk_at dksX5_put_1 22 rfl rfl)
theorem dX5_put_46 : decode cX5_put 46 = .ok (.aload_n 0, 1) := dk_42 (dk_at dksX5_put_1 23 rfl rfl)
theorem dX5_put_47 : decode cX5_put 47 = .ok (.getfield 41, 3) := dk_180 0 41 (dk_at dksX5_put_2 0 rfl rfl)
theorem dX5_put_50 : decode cX5_put 50 = .ok (.iload_n 1, 1) := dk_27 (dk_at dksX5_put_2 3 rfl rfl)
theorem dX5_put_51 : decode cX5_put 51 = .ok (.iload_n 2, 1) := dk_28 (dk_at dksX5_put_2 4 rfl rfl)
theorem dX5_put_52 : decode cX5_put 52 = .ok (.iastore, 1) := dk_79 (dk_at dksX5_put_2 5 rfl rfl)
theorem dX5_put_53 : decode cX5_put 53 = .ok (.iload_n 3, 1) := dk_29 (dk_at dksX5_put_2 6 rfl rfl)
theorem dX5_put_54 : decode cX5_put 54 = .ok (.ireturn, 1) := dk_172 (dk_at dksX5_put_2 7 rfl rfl)
abbrev cX5_sack : ByteArray := prog_22_method_22_code
def yX5_sack : MethodName := ⟨RX5, "sack", "(IZ)I"⟩
def dkwX5_sack_1 : List UInt8 := [180, 0, 44, 27, 28, 153, 0, 7, 4, 167, 0, 4, 3, 79, 29, 172]
abbrev dktX5_sack_1 : List UInt8 := dkwX5_sack_1 ++ []
def dkwX5_sack_0 : List UInt8 := [42, 27, 182, 0, 119, 154, 0, 9, 42, 2, 182, 0, 115, 172, 42, 180, 0, 44, 27, 46, 62, 42]
abbrev dktX5_sack_0 : List UInt8 := dkwX5_sack_0 ++ dktX5_sack_1
theorem dksX5_sack_0 : cX5_sack.data.toList.drop 0 = dktX5_sack_0 := by decide +kernel
theorem dksX5_sack_1 : cX5_sack.data.toList.drop 22 = dktX5_sack_1 := dk_seg dksX5_sack_0 22 rfl rfl
theorem dX5_sack_0 : decode cX5_sack 0 = .ok (.aload_n 0, 1) := dk_42 (dk_at dksX5_sack_0 0 rfl rfl)
theorem dX5_sack_1 : decode cX5_sack 1 = .ok (.iload_n 1, 1) := dk_27 (dk_at dksX5_sack_0 1 rfl rfl)
theorem dX5_sack_2 : decode cX5_sack 2 = .ok (.invokevirtual 119, 3) := dk_182 0 119 (dk_at dksX5_sack_0 2 rfl rfl)
theorem dX5_sack_5 : decode cX5_sack 5 = .ok (.ifCond .ne 9, 3) := dk_154 0 9 (dk_at dksX5_sack_0 5 rfl rfl)
theorem dX5_sack_8 : decode cX5_sack 8 = .ok (.aload_n 0, 1) := dk_42 (dk_at dksX5_sack_0 8 rfl rfl)
theorem dX5_sack_9 : decode cX5_sack 9 = .ok (.iconst (-1), 1) := dk_2 (dk_at dksX5_sack_0 9 rfl rfl)
theorem dX5_sack_10 : decode cX5_sack 10 = .ok (.invokevirtual 115, 3) := dk_182 0 115 (dk_at dksX5_sack_0 10 rfl rfl)
theorem dX5_sack_13 : decode cX5_sack 13 = .ok (.ireturn, 1) := dk_172 (dk_at dksX5_sack_0 13 rfl rfl)
theorem dX5_sack_14 : decode cX5_sack 14 = .ok (.aload_n 0, 1) := dk_42 (dk_at dksX5_sack_0 14 rfl rfl)
theorem dX5_sack_15 : decode cX5_sack 15 = .ok (.getfield 44, 3) := dk_180 0 44 (dk_at dksX5_sack_0 15 rfl rfl)
theorem dX5_sack_18 : decode cX5_sack 18 = .ok (.iload_n 1, 1) := dk_27 (dk_at dksX5_sack_0 18 rfl rfl)
theorem dX5_sack_19 : decode cX5_sack 19 = .ok (.iaload, 1) := dk_46 (dk_at dksX5_sack_0 19 rfl rfl)
theorem dX5_sack_20 : decode cX5_sack 20 = .ok (.istore_n 3, 1) := dk_62 (dk_at dksX5_sack_0 20 rfl rfl)
theorem dX5_sack_21 : decode cX5_sack 21 = .ok (.aload_n 0, 1) := dk_42 (dk_at dksX5_sack_0 21 rfl rfl)
theorem dX5_sack_22 : decode cX5_sack 22 = .ok (.getfield 44, 3) := dk_180 0 44 (dk_at dksX5_sack_1 0 rfl rfl)
theorem dX5_sack_25 : decode cX5_sack 25 = .ok (.iload_n 1, 1) := dk_27 (dk_at dksX5_sack_1 3 rfl rfl)
theorem dX5_sack_26 : decode cX5_sack 26 = .ok (.iload_n 2, 1) := dk_28 (dk_at dksX5_sack_1 4 rfl rfl)
theorem dX5_sack_27 : decode cX5_sack 27 = .ok (.ifCond .eq 7, 3) := dk_153 0 7 (dk_at dksX5_sack_1 5 rfl rfl)
theorem dX5_sack_30 : decode cX5_sack 30 = .ok (.iconst 1, 1) := dk_4 (dk_at dksX5_sack_1 8 rfl rfl)
theorem dX5_sack_31 : decode cX5_sack 31 = .ok (.goto 4, 3) := dk_167 0 4 (dk_at dksX5_sack_1 9 rfl rfl)
theorem dX5_sack_34 : decode cX5_sack 34 = .ok (.iconst 0, 1) := dk_3 (dk_at dksX5_sack_1 12 rfl rfl)
theorem dX5_sack_35 : decode cX5_sack 35 = .ok (.iastore, 1) := dk_79 (dk_at dksX5_sack_1 13 rfl rfl)
theorem dX5_sack_36 : decode cX5_sack 36 = .ok (.iload_n 3, 1) := dk_29 (dk_at dksX5_sack_1 14 rfl rfl)
theorem dX5_sack_37 : decode cX5_sack 37 = .ok (.ireturn, 1) := dk_172 (dk_at dksX5_sack_1 15 rfl rfl)
abbrev cX5_ask : ByteArray := prog_22_method_25_code
def yX5_ask : MethodName := ⟨RX5, "ask", "(II)I"⟩
def dkwX5_ask_2 : List UInt8 := [42, 180, 0, 139, 62, 42, 27, 28, 182, 0, 146, 29, 172]
abbrev dktX5_ask_2 : List UInt8 := dkwX5_ask_2 ++ []
def dkwX5_ask_1 : List UInt8 := [172, 27, 154, 0, 10, 42, 180, 0, 7, 167, 0, 19, 27, 4, 160, 0, 10, 42, 180, 0, 13, 167, 0, 7]
abbrev dktX5_ask_1 : List UInt8 := dkwX5_ask_1 ++ dktX5_ask_2
def dkwX5_ask_0 : List UInt8 := [27, 155, 0, 17, 27, 5, 163, 0, 12, 42, 27, 28, 182, 0, 142, 154, 0, 10, 42, 16, 250, 182, 0, 115]
abbrev dktX5_ask_0 : List UInt8 := dkwX5_ask_0 ++ dktX5_ask_1
theorem dksX5_ask_0 : cX5_ask.data.toList.drop 0 = dktX5_ask_0 := by decide +kernel
theorem dksX5_ask_1 : cX5_ask.data.toList.drop 24 = dktX5_ask_1 := dk_seg dksX5_ask_0 24 rfl rfl
theorem dksX5_ask_2 : cX5_ask.data.toList.drop 48 = dktX5_ask_2 := dk_seg dksX5_ask_1 24 rfl rfl
theorem dX5_ask_0 : decode cX5_ask 0 = .ok (.iload_n 1, 1) := dk_27 (dk_at dksX5_ask_0 0 rfl rfl)
theorem dX5_ask_1 : decode cX5_ask 1 = .ok (.ifCond .lt 17, 3) := dk_155 0 17 (dk_at dksX5_ask_0 1 rfl rfl)
theorem dX5_ask_4 : decode cX5_ask 4 = .ok (.iload_n 1, 1) := dk_27 (dk_at dksX5_ask_0 4 rfl rfl)
theorem dX5_ask_5 : decode cX5_ask 5 = .ok (.iconst 2, 1) := dk_5 (dk_at dksX5_ask_0 5 rfl rfl)
theorem dX5_ask_6 : decode cX5_ask 6 = .ok (.if_icmp .gt 12, 3) := dk_163 0 12 (dk_at dksX5_ask_0 6 rfl rfl)
theorem dX5_ask_9 : decode cX5_ask 9 = .ok (.aload_n 0, 1) := dk_42 (dk_at dksX5_ask_0 9 rfl rfl)
theorem dX5_ask_10 : decode cX5_ask 10 = .ok (.iload_n 1, 1) := dk_27 (dk_at dksX5_ask_0 10 rfl rfl)
theorem dX5_ask_11 : decode cX5_ask 11 = .ok (.iload_n 2, 1) := dk_28 (dk_at dksX5_ask_0 11 rfl rfl)
theorem dX5_ask_12 : decode cX5_ask 12 = .ok (.invokevirtual 142, 3) := dk_182 0 142 (dk_at dksX5_ask_0 12 rfl rfl)
theorem dX5_ask_15 : decode cX5_ask 15 = .ok (.ifCond .ne 10, 3) := dk_154 0 10 (dk_at dksX5_ask_0 15 rfl rfl)
theorem dX5_ask_18 : decode cX5_ask 18 = .ok (.aload_n 0, 1) := dk_42 (dk_at dksX5_ask_0 18 rfl rfl)
theorem dX5_ask_19 : decode cX5_ask 19 = .ok (.bipush (-6), 2) := dk_16 250 (dk_at dksX5_ask_0 19 rfl rfl)
theorem dX5_ask_21 : decode cX5_ask 21 = .ok (.invokevirtual 115, 3) := dk_182 0 115 (dk_at dksX5_ask_0 21 rfl rfl)
theorem dX5_ask_24 : decode cX5_ask 24 = .ok (.ireturn, 1) := dk_172 (dk_at dksX5_ask_1 0 rfl rfl)
theorem dX5_ask_25 : decode cX5_ask 25 = .ok (.iload_n 1, 1) := dk_27 (dk_at dksX5_ask_1 1 rfl rfl)
theorem dX5_ask_26 : decode cX5_ask 26 = .ok (.ifCond .ne 10, 3) := dk_154 0 10 (dk_at dksX5_ask_1 2 rfl rfl)
theorem dX5_ask_29 : decode cX5_ask 29 = .ok (.aload_n 0, 1) := dk_42 (dk_at dksX5_ask_1 5 rfl rfl)
theorem dX5_ask_30 : decode cX5_ask 30 = .ok (.getfield 7, 3) := dk_180 0 7 (dk_at dksX5_ask_1 6 rfl rfl)
theorem dX5_ask_33 : decode cX5_ask 33 = .ok (.goto 19, 3) := dk_167 0 19 (dk_at dksX5_ask_1 9 rfl rfl)
theorem dX5_ask_36 : decode cX5_ask 36 = .ok (.iload_n 1, 1) := dk_27 (dk_at dksX5_ask_1 12 rfl rfl)
theorem dX5_ask_37 : decode cX5_ask 37 = .ok (.iconst 1, 1) := dk_4 (dk_at dksX5_ask_1 13 rfl rfl)
theorem dX5_ask_38 : decode cX5_ask 38 = .ok (.if_icmp .ne 10, 3) := dk_160 0 10 (dk_at dksX5_ask_1 14 rfl rfl)
theorem dX5_ask_41 : decode cX5_ask 41 = .ok (.aload_n 0, 1) := dk_42 (dk_at dksX5_ask_1 17 rfl rfl)
theorem dX5_ask_42 : decode cX5_ask 42 = .ok (.getfield 13, 3) := dk_180 0 13 (dk_at dksX5_ask_1 18 rfl rfl)
theorem dX5_ask_45 : decode cX5_ask 45 = .ok (.goto 7, 3) := dk_167 0 7 (dk_at dksX5_ask_1 21 rfl rfl)
theorem dX5_ask_48 : decode cX5_ask 48 = .ok (.aload_n 0, 1) := dk_42 (dk_at dksX5_ask_2 0 rfl rfl)
theorem dX5_ask_49 : decode cX5_ask 49 = .ok (.getfield 139, 3) := dk_180 0 139 (dk_at dksX5_ask_2 1 rfl rfl)
theorem dX5_ask_52 : decode cX5_ask 52 = .ok (.istore_n 3, 1) := dk_62 (dk_at dksX5_ask_2 4 rfl rfl)
theorem dX5_ask_53 : decode cX5_ask 53 = .ok (.aload_n 0, 1) := dk_42 (dk_at dksX5_ask_2 5 rfl rfl)
theorem dX5_ask_54 : decode cX5_ask 54 = .ok (.iload_n 1, 1) := dk_27 (dk_at dksX5_ask_2 6 rfl rfl)
theorem dX5_ask_55 : decode cX5_ask 55 = .ok (.iload_n 2, 1) := dk_28 (dk_at dksX5_ask_2 7 rfl rfl)
theorem dX5_ask_56 : decode cX5_ask 56 = .ok (.invokevirtual 146, 3) := dk_182 0 146 (dk_at dksX5_ask_2 8 rfl rfl)
theorem dX5_ask_59 : decode cX5_ask 59 = .ok (.iload_n 3, 1) := dk_29 (dk_at dksX5_ask_2 11 rfl rfl)
theorem dX5_ask_60 : decode cX5_ask 60 = .ok (.ireturn, 1) := dk_172 (dk_at dksX5_ask_2 12 rfl rfl)
abbrev cX5_isAsked : ByteArray := prog_22_method_23_code
def yX5_isAsked : MethodName := ⟨RX5, "isAsked", "(II)Z"⟩
def dkwX5_isAsked_1 : List UInt8 := [182, 0, 125, 167, 0, 10, 42, 28, 3, 4, 182, 0, 125, 172]
abbrev dktX5_isAsked_1 : List UInt8 := dkwX5_isAsked_1 ++ []
def dkwX5_isAsked_0 : List UInt8 := [27, 154, 0, 14, 42, 28, 4, 16, 9, 182, 0, 125, 167, 0, 25, 27, 4, 160, 0, 13, 42, 28, 4, 8]
abbrev dktX5_isAsked_0 : List UInt8 := dkwX5_isAsked_0 ++ dktX5_isAsked_1
theorem dksX5_isAsked_0 : cX5_isAsked.data.toList.drop 0 = dktX5_isAsked_0 := by decide +kernel
theorem dksX5_isAsked_1 : cX5_isAsked.data.toList.drop 24 = dktX5_isAsked_1 := dk_seg dksX5_isAsked_0 24 rfl rfl
theorem dX5_isAsked_0 : decode cX5_isAsked 0 = .ok (.iload_n 1, 1) := dk_27 (dk_at dksX5_isAsked_0 0 rfl rfl)
theorem dX5_isAsked_1 : decode cX5_isAsked 1 = .ok (.ifCond .ne 14, 3) := dk_154 0 14 (dk_at dksX5_isAsked_0 1 rfl rfl)
theorem dX5_isAsked_4 : decode cX5_isAsked 4 = .ok (.aload_n 0, 1) := dk_42 (dk_at dksX5_isAsked_0 4 rfl rfl)
theorem dX5_isAsked_5 : decode cX5_isAsked 5 = .ok (.iload_n 2, 1) := dk_28 (dk_at dksX5_isAsked_0 5 rfl rfl)
theorem dX5_isAsked_6 : decode cX5_isAsked 6 = .ok (.iconst 1, 1) := dk_4 (dk_at dksX5_isAsked_0 6 rfl rfl)
theorem dX5_isAsked_7 : decode cX5_isAsked 7 = .ok (.bipush 9, 2) := dk_16 9 (dk_at dksX5_isAsked_0 7 rfl rfl)
theorem dX5_isAsked_9 : decode cX5_isAsked 9 = .ok (.invokevirtual 125, 3) := dk_182 0 125 (dk_at dksX5_isAsked_0 9 rfl rfl)
theorem dX5_isAsked_12 : decode cX5_isAsked 12 = .ok (.goto 25, 3) := dk_167 0 25 (dk_at dksX5_isAsked_0 12 rfl rfl)
theorem dX5_isAsked_15 : decode cX5_isAsked 15 = .ok (.iload_n 1, 1) := dk_27 (dk_at dksX5_isAsked_0 15 rfl rfl)
theorem dX5_isAsked_16 : decode cX5_isAsked 16 = .ok (.iconst 1, 1) := dk_4 (dk_at dksX5_isAsked_0 16 rfl rfl)
theorem dX5_isAsked_17 : decode cX5_isAsked 17 = .ok (.if_icmp .ne 13, 3) := dk_160 0 13 (dk_at dksX5_isAsked_0 17 rfl rfl)
theorem dX5_isAsked_20 : decode cX5_isAsked 20 = .ok (.aload_n 0, 1) := dk_42 (dk_at dksX5_isAsked_0 20 rfl rfl)
theorem dX5_isAsked_21 : decode cX5_isAsked 21 = .ok (.iload_n 2, 1) := dk_28 (dk_at dksX5_isAsked_0 21 rfl rfl)
theorem dX5_isAsked_22 : decode cX5_isAsked 22 = .ok (.iconst 1, 1) := dk_4 (dk_at dksX5_isAsked_0 22 rfl rfl)
theorem dX5_isAsked_23 : decode cX5_isAsked 23 = .ok (.iconst 5, 1) := dk_8 (dk_at dksX5_isAsked_0 23 rfl rfl)
theorem dX5_isAsked_24 : decode cX5_isAsked 24 = .ok (.invokevirtual 125, 3) := dk_182 0 125 (dk_at dksX5_isAsked_1 0 rfl rfl)
theorem dX5_isAsked_27 : decode cX5_isAsked 27 = .ok (.goto 10, 3) := dk_167 0 10 (dk_at dksX5_isAsked_1 3 rfl rfl)
theorem dX5_isAsked_30 : decode cX5_isAsked 30 = .ok (.aload_n 0, 1) := dk_42 (dk_at dksX5_isAsked_1 6 rfl rfl)
theorem dX5_isAsked_31 : decode cX5_isAsked 31 = .ok (.iload_n 2, 1) := dk_28 (dk_at dksX5_isAsked_1 7 rfl rfl)
theorem dX5_isAsked_32 : decode cX5_isAsked 32 = .ok (.iconst 0, 1) := dk_3 (dk_at dksX5_isAsked_1 8 rfl rfl)
theorem dX5_isAsked_33 : decode cX5_isAsked 33 = .ok (.iconst 1, 1) := dk_4 (dk_at dksX5_isAsked_1 9 rfl rfl)
theorem dX5_isAsked_34 : decode cX5_isAsked 34 = .ok (.invokevirtual 125, 3) := dk_182 0 125 (dk_at dksX5_isAsked_1 10 rfl rfl)
theorem dX5_isAsked_37 : decode cX5_isAsked 37 = .ok (.ireturn, 1) := dk_172 (dk_at dksX5_isAsked_1 13 rfl rfl)
abbrev cX5_asks : ByteArray := prog_22_method_24_code
def yX5_asks : MethodName := ⟨RX5, "asks", "(II)V"⟩
def dkwX5_asks_1 : List UInt8 := [167, 0, 8, 42, 28, 181, 0, 139, 177]
abbrev dktX5_asks_1 : List UInt8 := dkwX5_asks_1 ++ []
def dkwX5_asks_0 : List UInt8 := [27, 154, 0, 11, 42, 28, 181, 0, 7, 167, 0, 21, 27, 4, 160, 0, 11, 42, 28, 181, 0, 13]
abbrev dktX5_asks_0 : List UInt8 := dkwX5_asks_0 ++ dktX5_asks_1
theorem dksX5_asks_0 : cX5_asks.data.toList.drop 0 = dktX5_asks_0 := by decide +kernel
theorem dksX5_asks_1 : cX5_asks.data.toList.drop 22 = dktX5_asks_1 := dk_seg dksX5_asks_0 22 rfl rfl
theorem dX5_asks_0 : decode cX5_asks 0 = .ok (.iload_n 1, 1) := dk_27 (dk_at dksX5_asks_0 0 rfl rfl)
theorem dX5_asks_1 : decode cX5_asks 1 = .ok (.ifCond .ne 11, 3) := dk_154 0 11 (dk_at dksX5_asks_0 1 rfl rfl)
theorem dX5_asks_4 : decode cX5_asks 4 = .ok (.aload_n 0, 1) := dk_42 (dk_at dksX5_asks_0 4 rfl rfl)
theorem dX5_asks_5 : decode cX5_asks 5 = .ok (.iload_n 2, 1) := dk_28 (dk_at dksX5_asks_0 5 rfl rfl)
theorem dX5_asks_6 : decode cX5_asks 6 = .ok (.putfield 7, 3) := dk_181 0 7 (dk_at dksX5_asks_0 6 rfl rfl)
theorem dX5_asks_9 : decode cX5_asks 9 = .ok (.goto 21, 3) := dk_167 0 21 (dk_at dksX5_asks_0 9 rfl rfl)
theorem dX5_asks_12 : decode cX5_asks 12 = .ok (.iload_n 1, 1) := dk_27 (dk_at dksX5_asks_0 12 rfl rfl)
theorem dX5_asks_13 : decode cX5_asks 13 = .ok (.iconst 1, 1) := dk_4 (dk_at dksX5_asks_0 13 rfl rfl)
theorem dX5_asks_14 : decode cX5_asks 14 = .ok (.if_icmp .ne 11, 3) := dk_160 0 11 (dk_at dksX5_asks_0 14 rfl rfl)
theorem dX5_asks_17 : decode cX5_asks 17 = .ok (.aload_n 0, 1) := dk_42 (dk_at dksX5_asks_0 17 rfl rfl)
theorem dX5_asks_18 : decode cX5_asks 18 = .ok (.iload_n 2, 1) := dk_28 (dk_at dksX5_asks_0 18 rfl rfl)
theorem dX5_asks_19 : decode cX5_asks 19 = .ok (.putfield 13, 3) := dk_181 0 13 (dk_at dksX5_asks_0 19 rfl rfl)
theorem dX5_asks_22 : decode cX5_asks 22 = .ok (.goto 8, 3) := dk_167 0 8 (dk_at dksX5_asks_1 0 rfl rfl)
theorem dX5_asks_25 : decode cX5_asks 25 = .ok (.aload_n 0, 1) := dk_42 (dk_at dksX5_asks_1 3 rfl rfl)
theorem dX5_asks_26 : decode cX5_asks 26 = .ok (.iload_n 2, 1) := dk_28 (dk_at dksX5_asks_1 4 rfl rfl)
theorem dX5_asks_27 : decode cX5_asks 27 = .ok (.putfield 139, 3) := dk_181 0 139 (dk_at dksX5_asks_1 5 rfl rfl)
theorem dX5_asks_30 : decode cX5_asks 30 = .ok (.return_, 1) := dk_177 (dk_at dksX5_asks_1 8 rfl rfl)
abbrev cX5_personOf : ByteArray := prog_22_method_26_code
def yX5_personOf : MethodName := ⟨RX5, "personOf", "(II)I"⟩
def dkwX5_personOf_4 : List UInt8 := [27, 46, 172, 42, 27, 182, 0, 122, 172, 42, 16, 251, 182, 0, 115, 172]
abbrev dktX5_personOf_4 : List UInt8 := dkwX5_personOf_4 ++ []
def dkwX5_personOf_3 : List UInt8 := [180, 0, 35, 27, 46, 172, 42, 180, 0, 38, 27, 46, 172, 42, 180, 0, 41, 27, 46, 172, 42, 180, 0, 44]
abbrev dktX5_personOf_3 : List UInt8 := dkwX5_personOf_3 ++ dktX5_personOf_4
def dkwX5_personOf_2 : List UInt8 := [42, 180, 0, 26, 27, 46, 172, 42, 180, 0, 29, 27, 46, 172, 42, 180, 0, 32, 27, 46, 172, 42]
abbrev dktX5_personOf_2 : List UInt8 := dkwX5_personOf_2 ++ dktX5_personOf_3
def dkwX5_personOf_1 : List UInt8 := [170, 0, 0, 0, 0, 0, 0, 103, 0, 0, 0, 0, 0, 0, 0, 7, 0, 0, 0, 48, 0, 0, 0, 55, 0, 0, 0, 62, 0, 0, 0, 69, 0, 0, 0, 76, 0, 0, 0, 83, 0, 0, 0, 90, 0, 0, 0, 97]
abbrev dktX5_personOf_1 : List UInt8 := dkwX5_personOf_1 ++ dktX5_personOf_2
def dkwX5_personOf_0 : List UInt8 := [42, 27, 182, 0, 119, 154, 0, 10, 42, 16, 251, 182, 0, 115, 172, 28]
abbrev dktX5_personOf_0 : List UInt8 := dkwX5_personOf_0 ++ dktX5_personOf_1
theorem dksX5_personOf_0 : cX5_personOf.data.toList.drop 0 = dktX5_personOf_0 := by decide +kernel
theorem dksX5_personOf_1 : cX5_personOf.data.toList.drop 16 = dktX5_personOf_1 := dk_seg dksX5_personOf_0 16 rfl rfl
theorem dksX5_personOf_2 : cX5_personOf.data.toList.drop 64 = dktX5_personOf_2 := dk_seg dksX5_personOf_1 48 rfl rfl
theorem dksX5_personOf_3 : cX5_personOf.data.toList.drop 86 = dktX5_personOf_3 := dk_seg dksX5_personOf_2 22 rfl rfl
theorem dksX5_personOf_4 : cX5_personOf.data.toList.drop 110 = dktX5_personOf_4 := dk_seg dksX5_personOf_3 24 rfl rfl
theorem dX5_personOf_0 : decode cX5_personOf 0 = .ok (.aload_n 0, 1) := dk_42 (dk_at dksX5_personOf_0 0 rfl rfl)
theorem dX5_personOf_1 : decode cX5_personOf 1 = .ok (.iload_n 1, 1) := dk_27 (dk_at dksX5_personOf_0 1 rfl rfl)
theorem dX5_personOf_2 : decode cX5_personOf 2 = .ok (.invokevirtual 119, 3) := dk_182 0 119 (dk_at dksX5_personOf_0 2 rfl rfl)
theorem dX5_personOf_5 : decode cX5_personOf 5 = .ok (.ifCond .ne 10, 3) := dk_154 0 10 (dk_at dksX5_personOf_0 5 rfl rfl)
theorem dX5_personOf_8 : decode cX5_personOf 8 = .ok (.aload_n 0, 1) := dk_42 (dk_at dksX5_personOf_0 8 rfl rfl)
theorem dX5_personOf_9 : decode cX5_personOf 9 = .ok (.bipush (-5), 2) := dk_16 251 (dk_at dksX5_personOf_0 9 rfl rfl)
theorem dX5_personOf_11 : decode cX5_personOf 11 = .ok (.invokevirtual 115, 3) := dk_182 0 115 (dk_at dksX5_personOf_0 11 rfl rfl)
theorem dX5_personOf_14 : decode cX5_personOf 14 = .ok (.ireturn, 1) := dk_172 (dk_at dksX5_personOf_0 14 rfl rfl)
theorem dX5_personOf_15 : decode cX5_personOf 15 = .ok (.iload_n 2, 1) := dk_28 (dk_at dksX5_personOf_0 15 rfl rfl)
theorem dX5_personOf_16 : decode cX5_personOf 16 = .ok (.tableswitch 103 0 7 #[48, 55, 62, 69, 76, 83, 90, 97], 48) := by decide +kernel
theorem dX5_personOf_64 : decode cX5_personOf 64 = .ok (.aload_n 0, 1) := dk_42 (dk_at dksX5_personOf_2 0 rfl rfl)
theorem dX5_personOf_65 : decode cX5_personOf 65 = .ok (.getfield 26, 3) := dk_180 0 26 (dk_at dksX5_personOf_2 1 rfl rfl)
theorem dX5_personOf_68 : decode cX5_personOf 68 = .ok (.iload_n 1, 1) := dk_27 (dk_at dksX5_personOf_2 4 rfl rfl)
theorem dX5_personOf_69 : decode cX5_personOf 69 = .ok (.iaload, 1) := dk_46 (dk_at dksX5_personOf_2 5 rfl rfl)
theorem dX5_personOf_70 : decode cX5_personOf 70 = .ok (.ireturn, 1) := dk_172 (dk_at dksX5_personOf_2 6 rfl rfl)
theorem dX5_personOf_71 : decode cX5_personOf 71 = .ok (.aload_n 0, 1) := dk_42 (dk_at dksX5_personOf_2 7 rfl rfl)
theorem dX5_personOf_72 : decode cX5_personOf 72 = .ok (.getfield 29, 3) := dk_180 0 29 (dk_at dksX5_personOf_2 8 rfl rfl)
theorem dX5_personOf_75 : decode cX5_personOf 75 = .ok (.iload_n 1, 1) := dk_27 (dk_at dksX5_personOf_2 11 rfl rfl)
theorem dX5_personOf_76 : decode cX5_personOf 76 = .ok (.iaload, 1) := dk_46 (dk_at dksX5_personOf_2 12 rfl rfl)
theorem dX5_personOf_77 : decode cX5_personOf 77 = .ok (.ireturn, 1) := dk_172 (dk_at dksX5_personOf_2 13 rfl rfl)
theorem dX5_personOf_78 : decode cX5_personOf 78 = .ok (.aload_n 0, 1) := dk_42 (dk_at dksX5_personOf_2 14 rfl rfl)
theorem dX5_personOf_79 : decode cX5_personOf 79 = .ok (.getfield 32, 3) := dk_180 0 32 (dk_at dksX5_personOf_2 15 rfl rfl)
theorem dX5_personOf_82 : decode cX5_personOf 82 = .ok (.iload_n 1, 1) := dk_27 (dk_at dksX5_personOf_2 18 rfl rfl)
theorem dX5_personOf_83 : decode cX5_personOf 83 = .ok (.iaload, 1) := dk_46 (dk_at dksX5_personOf_2 19 rfl rfl)
theorem dX5_personOf_84 : decode cX5_personOf 84 = .ok (.ireturn, 1) := dk_172 (dk_at dksX5_personOf_2 20 rfl rfl)
theorem dX5_personOf_85 : decode cX5_personOf 85 = .ok (.aload_n 0, 1) := dk_42 (dk_at dksX5_personOf_2 21 rfl rfl)
theorem dX5_personOf_86 : decode cX5_personOf 86 = .ok (.getfield 35, 3) := dk_180 0 35 (dk_at dksX5_personOf_3 0 rfl rfl)
theorem dX5_personOf_89 : decode cX5_personOf 89 = .ok (.iload_n 1, 1) := dk_27 (dk_at dksX5_personOf_3 3 rfl rfl)
theorem dX5_personOf_90 : decode cX5_personOf 90 = .ok (.iaload, 1) := dk_46 (dk_at dksX5_personOf_3 4 rfl rfl)
theorem dX5_personOf_91 : decode cX5_personOf 91 = .ok (.ireturn, 1) := dk_172 (dk_at dksX5_personOf_3 5 rfl rfl)
theorem dX5_personOf_92 : decode cX5_personOf 92 = .ok (.aload_n 0, 1) := dk_42 (dk_at dksX5_personOf_3 6 rfl rfl)
theorem dX5_personOf_93 : decode cX5_personOf 93 = .ok (.getfield 38, 3) := dk_180 0 38 (dk_at dksX5_personOf_3 7 rfl rfl)
theorem dX5_personOf_96 : decode cX5_personOf 96 = .ok (.iload_n 1, 1) := dk_27 (dk_at dksX5_personOf_3 10 rfl rfl)
theorem dX5_personOf_97 : decode cX5_personOf 97 = .ok (.iaload, 1) := dk_46 (dk_at dksX5_personOf_3 11 rfl rfl)
theorem dX5_personOf_98 : decode cX5_personOf 98 = .ok (.ireturn, 1) := dk_172 (dk_at dksX5_personOf_3 12 rfl rfl)
theorem dX5_personOf_99 : decode cX5_personOf 99 = .ok (.aload_n 0, 1) := dk_42 (dk_at dksX5_personOf_3 13 rfl rfl)
theorem dX5_personOf_100 : decode cX5_personOf 100 = .ok (.getfield 41, 3) := dk_180 0 41 (dk_at dksX5_personOf_3 14 rfl rfl)
theorem dX5_personOf_103 : decode cX5_personOf 103 = .ok (.iload_n 1, 1) := dk_27 (dk_at dksX5_personOf_3 17 rfl rfl)
theorem dX5_personOf_104 : decode cX5_personOf 104 = .ok (.iaload, 1) := dk_46 (dk_at dksX5_personOf_3 18 rfl rfl)
theorem dX5_personOf_105 : decode cX5_personOf 105 = .ok (.ireturn, 1) := dk_172 (dk_at dksX5_personOf_3 19 rfl rfl)
theorem dX5_personOf_106 : decode cX5_personOf 106 = .ok (.aload_n 0, 1) := dk_42 (dk_at dksX5_personOf_3 20 rfl rfl)
theorem dX5_personOf_107 : decode cX5_personOf 107 = .ok (.getfield 44, 3) := dk_180 0 44 (dk_at dksX5_personOf_3 21 rfl rfl)
theorem dX5_personOf_110 : decode cX5_personOf 110 = .ok (.iload_n 1, 1) := dk_27 (dk_at dksX5_personOf_4 0 rfl rfl)
theorem dX5_personOf_111 : decode cX5_personOf 111 = .ok (.iaload, 1) := dk_46 (dk_at dksX5_personOf_4 1 rfl rfl)
theorem dX5_personOf_112 : decode cX5_personOf 112 = .ok (.ireturn, 1) := dk_172 (dk_at dksX5_personOf_4 2 rfl rfl)
theorem dX5_personOf_113 : decode cX5_personOf 113 = .ok (.aload_n 0, 1) := dk_42 (dk_at dksX5_personOf_4 3 rfl rfl)
theorem dX5_personOf_114 : decode cX5_personOf 114 = .ok (.iload_n 1, 1) := dk_27 (dk_at dksX5_personOf_4 4 rfl rfl)
theorem dX5_personOf_115 : decode cX5_personOf 115 = .ok (.invokevirtual 122, 3) := dk_182 0 122 (dk_at dksX5_personOf_4 5 rfl rfl)
theorem dX5_personOf_118 : decode cX5_personOf 118 = .ok (.ireturn, 1) := dk_172 (dk_at dksX5_personOf_4 8 rfl rfl)
theorem dX5_personOf_119 : decode cX5_personOf 119 = .ok (.aload_n 0, 1) := dk_42 (dk_at dksX5_personOf_4 9 rfl rfl)
theorem dX5_personOf_120 : decode cX5_personOf 120 = .ok (.bipush (-5), 2) := dk_16 251 (dk_at dksX5_personOf_4 10 rfl rfl)
theorem dX5_personOf_122 : decode cX5_personOf 122 = .ok (.invokevirtual 115, 3) := dk_182 0 115 (dk_at dksX5_personOf_4 12 rfl rfl)
theorem dX5_personOf_125 : decode cX5_personOf 125 = .ok (.ireturn, 1) := dk_172 (dk_at dksX5_personOf_4 15 rfl rfl)
abbrev cX5_squareOf : ByteArray := prog_22_method_27_code
def yX5_squareOf : MethodName := ⟨RX5, "squareOf", "(II)I"⟩
def dkwX5_squareOf_3 : List UInt8 := [182, 0, 115, 172]
abbrev dktX5_squareOf_3 : List UInt8 := dkwX5_squareOf_3 ++ []
def dkwX5_squareOf_2 : List UInt8 := [42, 180, 0, 47, 27, 46, 172, 42, 180, 0, 50, 27, 46, 172, 42, 27, 182, 0, 136, 172, 42, 16, 251]
abbrev dktX5_squareOf_2 : List UInt8 := dkwX5_squareOf_2 ++ dktX5_squareOf_3
def dkwX5_squareOf_1 : List UInt8 := [170, 0, 0, 0, 0, 0, 0, 48, 0, 0, 0, 0, 0, 0, 0, 2, 0, 0, 0, 28, 0, 0, 0, 35, 0, 0, 0, 42]
abbrev dktX5_squareOf_1 : List UInt8 := dkwX5_squareOf_1 ++ dktX5_squareOf_2
def dkwX5_squareOf_0 : List UInt8 := [42, 27, 182, 0, 129, 154, 0, 10, 42, 16, 251, 182, 0, 115, 172, 28]
abbrev dktX5_squareOf_0 : List UInt8 := dkwX5_squareOf_0 ++ dktX5_squareOf_1
theorem dksX5_squareOf_0 : cX5_squareOf.data.toList.drop 0 = dktX5_squareOf_0 := by decide +kernel
theorem dksX5_squareOf_1 : cX5_squareOf.data.toList.drop 16 = dktX5_squareOf_1 := dk_seg dksX5_squareOf_0 16 rfl rfl
theorem dksX5_squareOf_2 : cX5_squareOf.data.toList.drop 44 = dktX5_squareOf_2 := dk_seg dksX5_squareOf_1 28 rfl rfl
theorem dksX5_squareOf_3 : cX5_squareOf.data.toList.drop 67 = dktX5_squareOf_3 := dk_seg dksX5_squareOf_2 23 rfl rfl
theorem dX5_squareOf_0 : decode cX5_squareOf 0 = .ok (.aload_n 0, 1) := dk_42 (dk_at dksX5_squareOf_0 0 rfl rfl)
theorem dX5_squareOf_1 : decode cX5_squareOf 1 = .ok (.iload_n 1, 1) := dk_27 (dk_at dksX5_squareOf_0 1 rfl rfl)
theorem dX5_squareOf_2 : decode cX5_squareOf 2 = .ok (.invokevirtual 129, 3) := dk_182 0 129 (dk_at dksX5_squareOf_0 2 rfl rfl)
theorem dX5_squareOf_5 : decode cX5_squareOf 5 = .ok (.ifCond .ne 10, 3) := dk_154 0 10 (dk_at dksX5_squareOf_0 5 rfl rfl)
theorem dX5_squareOf_8 : decode cX5_squareOf 8 = .ok (.aload_n 0, 1) := dk_42 (dk_at dksX5_squareOf_0 8 rfl rfl)
theorem dX5_squareOf_9 : decode cX5_squareOf 9 = .ok (.bipush (-5), 2) := dk_16 251 (dk_at dksX5_squareOf_0 9 rfl rfl)
theorem dX5_squareOf_11 : decode cX5_squareOf 11 = .ok (.invokevirtual 115, 3) := dk_182 0 115 (dk_at dksX5_squareOf_0 11 rfl rfl)
theorem dX5_squareOf_14 : decode cX5_squareOf 14 = .ok (.ireturn, 1) := dk_172 (dk_at dksX5_squareOf_0 14 rfl rfl)
theorem dX5_squareOf_15 : decode cX5_squareOf 15 = .ok (.iload_n 2, 1) := dk_28 (dk_at dksX5_squareOf_0 15 rfl rfl)
theorem dX5_squareOf_16 : decode cX5_squareOf 16 = .ok (.tableswitch 48 0 2 #[28, 35, 42], 28) := by decide +kernel
theorem dX5_squareOf_44 : decode cX5_squareOf 44 = .ok (.aload_n 0, 1) := dk_42 (dk_at dksX5_squareOf_2 0 rfl rfl)
theorem dX5_squareOf_45 : decode cX5_squareOf 45 = .ok (.getfield 47, 3) := dk_180 0 47 (dk_at dksX5_squareOf_2 1 rfl rfl)
theorem dX5_squareOf_48 : decode cX5_squareOf 48 = .ok (.iload_n 1, 1) := dk_27 (dk_at dksX5_squareOf_2 4 rfl rfl)
theorem dX5_squareOf_49 : decode cX5_squareOf 49 = .ok (.iaload, 1) := dk_46 (dk_at dksX5_squareOf_2 5 rfl rfl)
theorem dX5_squareOf_50 : decode cX5_squareOf 50 = .ok (.ireturn, 1) := dk_172 (dk_at dksX5_squareOf_2 6 rfl rfl)
theorem dX5_squareOf_51 : decode cX5_squareOf 51 = .ok (.aload_n 0, 1) := dk_42 (dk_at dksX5_squareOf_2 7 rfl rfl)
theorem dX5_squareOf_52 : decode cX5_squareOf 52 = .ok (.getfield 50, 3) := dk_180 0 50 (dk_at dksX5_squareOf_2 8 rfl rfl)
theorem dX5_squareOf_55 : decode cX5_squareOf 55 = .ok (.iload_n 1, 1) := dk_27 (dk_at dksX5_squareOf_2 11 rfl rfl)
theorem dX5_squareOf_56 : decode cX5_squareOf 56 = .ok (.iaload, 1) := dk_46 (dk_at dksX5_squareOf_2 12 rfl rfl)
theorem dX5_squareOf_57 : decode cX5_squareOf 57 = .ok (.ireturn, 1) := dk_172 (dk_at dksX5_squareOf_2 13 rfl rfl)
theorem dX5_squareOf_58 : decode cX5_squareOf 58 = .ok (.aload_n 0, 1) := dk_42 (dk_at dksX5_squareOf_2 14 rfl rfl)
theorem dX5_squareOf_59 : decode cX5_squareOf 59 = .ok (.iload_n 1, 1) := dk_27 (dk_at dksX5_squareOf_2 15 rfl rfl)
theorem dX5_squareOf_60 : decode cX5_squareOf 60 = .ok (.invokevirtual 136, 3) := dk_182 0 136 (dk_at dksX5_squareOf_2 16 rfl rfl)
theorem dX5_squareOf_63 : decode cX5_squareOf 63 = .ok (.ireturn, 1) := dk_172 (dk_at dksX5_squareOf_2 19 rfl rfl)
theorem dX5_squareOf_64 : decode cX5_squareOf 64 = .ok (.aload_n 0, 1) := dk_42 (dk_at dksX5_squareOf_2 20 rfl rfl)
theorem dX5_squareOf_65 : decode cX5_squareOf 65 = .ok (.bipush (-5), 2) := dk_16 251 (dk_at dksX5_squareOf_2 21 rfl rfl)
theorem dX5_squareOf_67 : decode cX5_squareOf 67 = .ok (.invokevirtual 115, 3) := dk_182 0 115 (dk_at dksX5_squareOf_3 0 rfl rfl)
theorem dX5_squareOf_70 : decode cX5_squareOf 70 = .ok (.ireturn, 1) := dk_172 (dk_at dksX5_squareOf_3 3 rfl rfl)
abbrev cX5_town : ByteArray := prog_22_method_37_code
def yX5_town : MethodName := ⟨RX5, "town", "(I)I"⟩
def dkwX5_town_6 : List UInt8 := [42, 42, 180, 0, 84, 4, 182, 0, 198, 42, 42, 180, 0, 150, 181, 0, 19, 42, 16, 250, 182, 0, 115, 172]
abbrev dktX5_town_6 : List UInt8 := dkwX5_town_6 ++ []
def dkwX5_town_5 : List UInt8 := [4, 96, 181, 0, 153, 132, 3, 1, 42, 182, 0, 202, 54, 4, 167, 255, 188, 21, 4, 153, 0, 5, 29, 172]
abbrev dktX5_town_5 : List UInt8 := dkwX5_town_5 ++ dktX5_town_6
def dkwX5_town_4 : List UInt8 := [136, 16, 59, 159, 0, 16, 42, 42, 180, 0, 153, 182, 0, 169, 54, 4, 167, 255, 210, 42, 89, 180, 0, 153]
abbrev dktX5_town_4 : List UInt8 := dkwX5_town_4 ++ dktX5_town_5
def dkwX5_town_3 : List UInt8 := [180, 0, 153, 42, 180, 0, 156, 162, 0, 58, 42, 180, 0, 65, 42, 180, 0, 159, 42, 180, 0, 153, 96, 47]
abbrev dktX5_town_3 : List UInt8 := dkwX5_town_3 ++ dktX5_town_4
def dkwX5_town_2 : List UInt8 := [181, 0, 156, 42, 2, 181, 0, 19, 4, 62, 42, 182, 0, 202, 54, 4, 21, 4, 153, 0, 69, 42]
abbrev dktX5_town_2 : List UInt8 := dkwX5_town_2 ++ dktX5_town_3
def dkwX5_town_1 : List UInt8 := [182, 0, 198, 42, 17, 0, 160, 27, 104, 181, 0, 159, 42, 3, 181, 0, 153, 42, 42, 180, 0, 59, 27, 46]
abbrev dktX5_town_1 : List UInt8 := dkwX5_town_1 ++ dktX5_town_2
def dkwX5_town_0 : List UInt8 := [42, 27, 182, 0, 195, 61, 28, 153, 0, 9, 42, 28, 182, 0, 115, 172, 42, 42, 180, 0, 84, 3]
abbrev dktX5_town_0 : List UInt8 := dkwX5_town_0 ++ dktX5_town_1
theorem dksX5_town_0 : cX5_town.data.toList.drop 0 = dktX5_town_0 := by decide +kernel
theorem dksX5_town_1 : cX5_town.data.toList.drop 22 = dktX5_town_1 := dk_seg dksX5_town_0 22 rfl rfl
theorem dksX5_town_2 : cX5_town.data.toList.drop 46 = dktX5_town_2 := dk_seg dksX5_town_1 24 rfl rfl
theorem dksX5_town_3 : cX5_town.data.toList.drop 68 = dktX5_town_3 := dk_seg dksX5_town_2 22 rfl rfl
theorem dksX5_town_4 : cX5_town.data.toList.drop 92 = dktX5_town_4 := dk_seg dksX5_town_3 24 rfl rfl
theorem dksX5_town_5 : cX5_town.data.toList.drop 116 = dktX5_town_5 := dk_seg dksX5_town_4 24 rfl rfl
theorem dksX5_town_6 : cX5_town.data.toList.drop 140 = dktX5_town_6 := dk_seg dksX5_town_5 24 rfl rfl
theorem dX5_town_0 : decode cX5_town 0 = .ok (.aload_n 0, 1) := dk_42 (dk_at dksX5_town_0 0 rfl rfl)
theorem dX5_town_1 : decode cX5_town 1 = .ok (.iload_n 1, 1) := dk_27 (dk_at dksX5_town_0 1 rfl rfl)
theorem dX5_town_2 : decode cX5_town 2 = .ok (.invokevirtual 195, 3) := dk_182 0 195 (dk_at dksX5_town_0 2 rfl rfl)
theorem dX5_town_5 : decode cX5_town 5 = .ok (.istore_n 2, 1) := dk_61 (dk_at dksX5_town_0 5 rfl rfl)
theorem dX5_town_6 : decode cX5_town 6 = .ok (.iload_n 2, 1) := dk_28 (dk_at dksX5_town_0 6 rfl rfl)
theorem dX5_town_7 : decode cX5_town 7 = .ok (.ifCond .eq 9, 3) := dk_153 0 9 (dk_at dksX5_town_0 7 rfl rfl)
theorem dX5_town_10 : decode cX5_town 10 = .ok (.aload_n 0, 1) := dk_42 (dk_at dksX5_town_0 10 rfl rfl)
theorem dX5_town_11 : decode cX5_town 11 = .ok (.iload_n 2, 1) := dk_28 (dk_at dksX5_town_0 11 rfl rfl)
theorem dX5_town_12 : decode cX5_town 12 = .ok (.invokevirtual 115, 3) := dk_182 0 115 (dk_at dksX5_town_0 12 rfl rfl)
theorem dX5_town_15 : decode cX5_town 15 = .ok (.ireturn, 1) := dk_172 (dk_at dksX5_town_0 15 rfl rfl)
theorem dX5_town_16 : decode cX5_town 16 = .ok (.aload_n 0, 1) := dk_42 (dk_at dksX5_town_0 16 rfl rfl)
theorem dX5_town_17 : decode cX5_town 17 = .ok (.aload_n 0, 1) := dk_42 (dk_at dksX5_town_0 17 rfl rfl)
theorem dX5_town_18 : decode cX5_town 18 = .ok (.getfield 84, 3) := dk_180 0 84 (dk_at dksX5_town_0 18 rfl rfl)
theorem dX5_town_21 : decode cX5_town 21 = .ok (.iconst 0, 1) := dk_3 (dk_at dksX5_town_0 21 rfl rfl)
theorem dX5_town_22 : decode cX5_town 22 = .ok (.invokevirtual 198, 3) := dk_182 0 198 (dk_at dksX5_town_1 0 rfl rfl)
theorem dX5_town_25 : decode cX5_town 25 = .ok (.aload_n 0, 1) := dk_42 (dk_at dksX5_town_1 3 rfl rfl)
theorem dX5_town_26 : decode cX5_town 26 = .ok (.sipush 160, 3) := dk_17 0 160 (dk_at dksX5_town_1 4 rfl rfl)
theorem dX5_town_29 : decode cX5_town 29 = .ok (.iload_n 1, 1) := dk_27 (dk_at dksX5_town_1 7 rfl rfl)
theorem dX5_town_30 : decode cX5_town 30 = .ok (.imul, 1) := dk_104 (dk_at dksX5_town_1 8 rfl rfl)
theorem dX5_town_31 : decode cX5_town 31 = .ok (.putfield 159, 3) := dk_181 0 159 (dk_at dksX5_town_1 9 rfl rfl)
theorem dX5_town_34 : decode cX5_town 34 = .ok (.aload_n 0, 1) := dk_42 (dk_at dksX5_town_1 12 rfl rfl)
theorem dX5_town_35 : decode cX5_town 35 = .ok (.iconst 0, 1) := dk_3 (dk_at dksX5_town_1 13 rfl rfl)
theorem dX5_town_36 : decode cX5_town 36 = .ok (.putfield 153, 3) := dk_181 0 153 (dk_at dksX5_town_1 14 rfl rfl)
theorem dX5_town_39 : decode cX5_town 39 = .ok (.aload_n 0, 1) := dk_42 (dk_at dksX5_town_1 17 rfl rfl)
theorem dX5_town_40 : decode cX5_town 40 = .ok (.aload_n 0, 1) := dk_42 (dk_at dksX5_town_1 18 rfl rfl)
theorem dX5_town_41 : decode cX5_town 41 = .ok (.getfield 59, 3) := dk_180 0 59 (dk_at dksX5_town_1 19 rfl rfl)
theorem dX5_town_44 : decode cX5_town 44 = .ok (.iload_n 1, 1) := dk_27 (dk_at dksX5_town_1 22 rfl rfl)
theorem dX5_town_45 : decode cX5_town 45 = .ok (.iaload, 1) := dk_46 (dk_at dksX5_town_1 23 rfl rfl)
theorem dX5_town_46 : decode cX5_town 46 = .ok (.putfield 156, 3) := dk_181 0 156 (dk_at dksX5_town_2 0 rfl rfl)
theorem dX5_town_49 : decode cX5_town 49 = .ok (.aload_n 0, 1) := dk_42 (dk_at dksX5_town_2 3 rfl rfl)
theorem dX5_town_50 : decode cX5_town 50 = .ok (.iconst (-1), 1) := dk_2 (dk_at dksX5_town_2 4 rfl rfl)
theorem dX5_town_51 : decode cX5_town 51 = .ok (.putfield 19, 3) := dk_181 0 19 (dk_at dksX5_town_2 5 rfl rfl)
theorem dX5_town_54 : decode cX5_town 54 = .ok (.iconst 1, 1) := dk_4 (dk_at dksX5_town_2 8 rfl rfl)
theorem dX5_town_55 : decode cX5_town 55 = .ok (.istore_n 3, 1) := dk_62 (dk_at dksX5_town_2 9 rfl rfl)
theorem dX5_town_56 : decode cX5_town 56 = .ok (.aload_n 0, 1) := dk_42 (dk_at dksX5_town_2 10 rfl rfl)
theorem dX5_town_57 : decode cX5_town 57 = .ok (.invokevirtual 202, 3) := dk_182 0 202 (dk_at dksX5_town_2 11 rfl rfl)
theorem dX5_town_60 : decode cX5_town 60 = .ok (.istore 4, 2) := dk_54 4 (dk_at dksX5_town_2 14 rfl rfl)
theorem dX5_town_62 : decode cX5_town 62 = .ok (.iload 4, 2) := dk_21 4 (dk_at dksX5_town_2 16 rfl rfl)
theorem dX5_town_64 : decode cX5_town 64 = .ok (.ifCond .eq 69, 3) := dk_153 0 69 (dk_at dksX5_town_2 18 rfl rfl)
theorem dX5_town_67 : decode cX5_town 67 = .ok (.aload_n 0, 1) := dk_42 (dk_at dksX5_town_2 21 rfl rfl)
theorem dX5_town_68 : decode cX5_town 68 = .ok (.getfield 153, 3) := dk_180 0 153 (dk_at dksX5_town_3 0 rfl rfl)
theorem dX5_town_71 : decode cX5_town 71 = .ok (.aload_n 0, 1) := dk_42 (dk_at dksX5_town_3 3 rfl rfl)
theorem dX5_town_72 : decode cX5_town 72 = .ok (.getfield 156, 3) := dk_180 0 156 (dk_at dksX5_town_3 4 rfl rfl)
theorem dX5_town_75 : decode cX5_town 75 = .ok (.if_icmp .ge 58, 3) := dk_162 0 58 (dk_at dksX5_town_3 7 rfl rfl)
theorem dX5_town_78 : decode cX5_town 78 = .ok (.aload_n 0, 1) := dk_42 (dk_at dksX5_town_3 10 rfl rfl)
theorem dX5_town_79 : decode cX5_town 79 = .ok (.getfield 65, 3) := dk_180 0 65 (dk_at dksX5_town_3 11 rfl rfl)
theorem dX5_town_82 : decode cX5_town 82 = .ok (.aload_n 0, 1) := dk_42 (dk_at dksX5_town_3 14 rfl rfl)
theorem dX5_town_83 : decode cX5_town 83 = .ok (.getfield 159, 3) := dk_180 0 159 (dk_at dksX5_town_3 15 rfl rfl)
theorem dX5_town_86 : decode cX5_town 86 = .ok (.aload_n 0, 1) := dk_42 (dk_at dksX5_town_3 18 rfl rfl)
theorem dX5_town_87 : decode cX5_town 87 = .ok (.getfield 153, 3) := dk_180 0 153 (dk_at dksX5_town_3 19 rfl rfl)
theorem dX5_town_90 : decode cX5_town 90 = .ok (.iadd, 1) := dk_96 (dk_at dksX5_town_3 22 rfl rfl)
theorem dX5_town_91 : decode cX5_town 91 = .ok (.laload, 1) := dk_47 (dk_at dksX5_town_3 23 rfl rfl)
theorem dX5_town_92 : decode cX5_town 92 = .ok (.l2i, 1) := dk_136 (dk_at dksX5_town_4 0 rfl rfl)
theorem dX5_town_93 : decode cX5_town 93 = .ok (.bipush 59, 2) := dk_16 59 (dk_at dksX5_town_4 1 rfl rfl)
theorem dX5_town_95 : decode cX5_town 95 = .ok (.if_icmp .eq 16, 3) := dk_159 0 16 (dk_at dksX5_town_4 3 rfl rfl)
theorem dX5_town_98 : decode cX5_town 98 = .ok (.aload_n 0, 1) := dk_42 (dk_at dksX5_town_4 6 rfl rfl)
theorem dX5_town_99 : decode cX5_town 99 = .ok (.aload_n 0, 1) := dk_42 (dk_at dksX5_town_4 7 rfl rfl)
theorem dX5_town_100 : decode cX5_town 100 = .ok (.getfield 153, 3) := dk_180 0 153 (dk_at dksX5_town_4 8 rfl rfl)
theorem dX5_town_103 : decode cX5_town 103 = .ok (.invokevirtual 169, 3) := dk_182 0 169 (dk_at dksX5_town_4 11 rfl rfl)
theorem dX5_town_106 : decode cX5_town 106 = .ok (.istore 4, 2) := dk_54 4 (dk_at dksX5_town_4 14 rfl rfl)
theorem dX5_town_108 : decode cX5_town 108 = .ok (.goto (-46), 3) := dk_167 255 210 (dk_at dksX5_town_4 16 rfl rfl)
theorem dX5_town_111 : decode cX5_town 111 = .ok (.aload_n 0, 1) := dk_42 (dk_at dksX5_town_4 19 rfl rfl)
theorem dX5_town_112 : decode cX5_town 112 = .ok (.dup, 1) := dk_89 (dk_at dksX5_town_4 20 rfl rfl)
theorem dX5_town_113 : decode cX5_town 113 = .ok (.getfield 153, 3) := dk_180 0 153 (dk_at dksX5_town_4 21 rfl rfl)
theorem dX5_town_116 : decode cX5_town 116 = .ok (.iconst 1, 1) := dk_4 (dk_at dksX5_town_5 0 rfl rfl)
theorem dX5_town_117 : decode cX5_town 117 = .ok (.iadd, 1) := dk_96 (dk_at dksX5_town_5 1 rfl rfl)
theorem dX5_town_118 : decode cX5_town 118 = .ok (.putfield 153, 3) := dk_181 0 153 (dk_at dksX5_town_5 2 rfl rfl)
theorem dX5_town_121 : decode cX5_town 121 = .ok (.iinc 3 1, 3) := dk_132 3 1 (dk_at dksX5_town_5 5 rfl rfl)
theorem dX5_town_124 : decode cX5_town 124 = .ok (.aload_n 0, 1) := dk_42 (dk_at dksX5_town_5 8 rfl rfl)
theorem dX5_town_125 : decode cX5_town 125 = .ok (.invokevirtual 202, 3) := dk_182 0 202 (dk_at dksX5_town_5 9 rfl rfl)
theorem dX5_town_128 : decode cX5_town 128 = .ok (.istore 4, 2) := dk_54 4 (dk_at dksX5_town_5 12 rfl rfl)
theorem dX5_town_130 : decode cX5_town 130 = .ok (.goto (-68), 3) := dk_167 255 188 (dk_at dksX5_town_5 14 rfl rfl)
theorem dX5_town_133 : decode cX5_town 133 = .ok (.iload 4, 2) := dk_21 4 (dk_at dksX5_town_5 17 rfl rfl)
theorem dX5_town_135 : decode cX5_town 135 = .ok (.ifCond .eq 5, 3) := dk_153 0 5 (dk_at dksX5_town_5 19 rfl rfl)
theorem dX5_town_138 : decode cX5_town 138 = .ok (.iload_n 3, 1) := dk_29 (dk_at dksX5_town_5 22 rfl rfl)
theorem dX5_town_139 : decode cX5_town 139 = .ok (.ireturn, 1) := dk_172 (dk_at dksX5_town_5 23 rfl rfl)
theorem dX5_town_140 : decode cX5_town 140 = .ok (.aload_n 0, 1) := dk_42 (dk_at dksX5_town_6 0 rfl rfl)
theorem dX5_town_141 : decode cX5_town 141 = .ok (.aload_n 0, 1) := dk_42 (dk_at dksX5_town_6 1 rfl rfl)
theorem dX5_town_142 : decode cX5_town 142 = .ok (.getfield 84, 3) := dk_180 0 84 (dk_at dksX5_town_6 2 rfl rfl)
theorem dX5_town_145 : decode cX5_town 145 = .ok (.iconst 1, 1) := dk_4 (dk_at dksX5_town_6 5 rfl rfl)
theorem dX5_town_146 : decode cX5_town 146 = .ok (.invokevirtual 198, 3) := dk_182 0 198 (dk_at dksX5_town_6 6 rfl rfl)
theorem dX5_town_149 : decode cX5_town 149 = .ok (.aload_n 0, 1) := dk_42 (dk_at dksX5_town_6 9 rfl rfl)
theorem dX5_town_150 : decode cX5_town 150 = .ok (.aload_n 0, 1) := dk_42 (dk_at dksX5_town_6 10 rfl rfl)
theorem dX5_town_151 : decode cX5_town 151 = .ok (.getfield 150, 3) := dk_180 0 150 (dk_at dksX5_town_6 11 rfl rfl)
theorem dX5_town_154 : decode cX5_town 154 = .ok (.putfield 19, 3) := dk_181 0 19 (dk_at dksX5_town_6 14 rfl rfl)
theorem dX5_town_157 : decode cX5_town 157 = .ok (.aload_n 0, 1) := dk_42 (dk_at dksX5_town_6 17 rfl rfl)
theorem dX5_town_158 : decode cX5_town 158 = .ok (.bipush (-6), 2) := dk_16 250 (dk_at dksX5_town_6 18 rfl rfl)
theorem dX5_town_160 : decode cX5_town 160 = .ok (.invokevirtual 115, 3) := dk_182 0 115 (dk_at dksX5_town_6 20 rfl rfl)
theorem dX5_town_163 : decode cX5_town 163 = .ok (.ireturn, 1) := dk_172 (dk_at dksX5_town_6 23 rfl rfl)
abbrev cX5_wanted : ByteArray := prog_22_method_15_code
def yX5_wanted : MethodName := ⟨RX5, "wanted", "(I)I"⟩
def dkwX5_wanted_1 : List UInt8 := [167, 0, 18, 42, 180, 0, 53, 27, 46, 154, 0, 8, 16, 253, 167, 0, 4, 3, 172]
abbrev dktX5_wanted_1 : List UInt8 := dkwX5_wanted_1 ++ []
def dkwX5_wanted_0 : List UInt8 := [42, 27, 182, 0, 111, 154, 0, 7, 2, 167, 0, 33, 42, 180, 0, 53, 27, 46, 5, 160, 0, 8, 16, 254]
abbrev dktX5_wanted_0 : List UInt8 := dkwX5_wanted_0 ++ dktX5_wanted_1
theorem dksX5_wanted_0 : cX5_wanted.data.toList.drop 0 = dktX5_wanted_0 := by decide +kernel
theorem dksX5_wanted_1 : cX5_wanted.data.toList.drop 24 = dktX5_wanted_1 := dk_seg dksX5_wanted_0 24 rfl rfl
theorem dX5_wanted_0 : decode cX5_wanted 0 = .ok (.aload_n 0, 1) := dk_42 (dk_at dksX5_wanted_0 0 rfl rfl)
theorem dX5_wanted_1 : decode cX5_wanted 1 = .ok (.iload_n 1, 1) := dk_27 (dk_at dksX5_wanted_0 1 rfl rfl)
theorem dX5_wanted_2 : decode cX5_wanted 2 = .ok (.invokevirtual 111, 3) := dk_182 0 111 (dk_at dksX5_wanted_0 2 rfl rfl)
theorem dX5_wanted_5 : decode cX5_wanted 5 = .ok (.ifCond .ne 7, 3) := dk_154 0 7 (dk_at dksX5_wanted_0 5 rfl rfl)
theorem dX5_wanted_8 : decode cX5_wanted 8 = .ok (.iconst (-1), 1) := dk_2 (dk_at dksX5_wanted_0 8 rfl rfl)
theorem dX5_wanted_9 : decode cX5_wanted 9 = .ok (.goto 33, 3) := dk_167 0 33 (dk_at dksX5_wanted_0 9 rfl rfl)
theorem dX5_wanted_12 : decode cX5_wanted 12 = .ok (.aload_n 0, 1) := dk_42 (dk_at dksX5_wanted_0 12 rfl rfl)
theorem dX5_wanted_13 : decode cX5_wanted 13 = .ok (.getfield 53, 3) := dk_180 0 53 (dk_at dksX5_wanted_0 13 rfl rfl)
theorem dX5_wanted_16 : decode cX5_wanted 16 = .ok (.iload_n 1, 1) := dk_27 (dk_at dksX5_wanted_0 16 rfl rfl)
theorem dX5_wanted_17 : decode cX5_wanted 17 = .ok (.iaload, 1) := dk_46 (dk_at dksX5_wanted_0 17 rfl rfl)
theorem dX5_wanted_18 : decode cX5_wanted 18 = .ok (.iconst 2, 1) := dk_5 (dk_at dksX5_wanted_0 18 rfl rfl)
theorem dX5_wanted_19 : decode cX5_wanted 19 = .ok (.if_icmp .ne 8, 3) := dk_160 0 8 (dk_at dksX5_wanted_0 19 rfl rfl)
theorem dX5_wanted_22 : decode cX5_wanted 22 = .ok (.bipush (-2), 2) := dk_16 254 (dk_at dksX5_wanted_0 22 rfl rfl)
theorem dX5_wanted_24 : decode cX5_wanted 24 = .ok (.goto 18, 3) := dk_167 0 18 (dk_at dksX5_wanted_1 0 rfl rfl)
theorem dX5_wanted_27 : decode cX5_wanted 27 = .ok (.aload_n 0, 1) := dk_42 (dk_at dksX5_wanted_1 3 rfl rfl)
theorem dX5_wanted_28 : decode cX5_wanted 28 = .ok (.getfield 53, 3) := dk_180 0 53 (dk_at dksX5_wanted_1 4 rfl rfl)
theorem dX5_wanted_31 : decode cX5_wanted 31 = .ok (.iload_n 1, 1) := dk_27 (dk_at dksX5_wanted_1 7 rfl rfl)
theorem dX5_wanted_32 : decode cX5_wanted 32 = .ok (.iaload, 1) := dk_46 (dk_at dksX5_wanted_1 8 rfl rfl)
theorem dX5_wanted_33 : decode cX5_wanted 33 = .ok (.ifCond .ne 8, 3) := dk_154 0 8 (dk_at dksX5_wanted_1 9 rfl rfl)
theorem dX5_wanted_36 : decode cX5_wanted 36 = .ok (.bipush (-3), 2) := dk_16 253 (dk_at dksX5_wanted_1 12 rfl rfl)
theorem dX5_wanted_38 : decode cX5_wanted 38 = .ok (.goto 4, 3) := dk_167 0 4 (dk_at dksX5_wanted_1 14 rfl rfl)
theorem dX5_wanted_41 : decode cX5_wanted 41 = .ok (.iconst 0, 1) := dk_3 (dk_at dksX5_wanted_1 17 rfl rfl)
theorem dX5_wanted_42 : decode cX5_wanted 42 = .ok (.ireturn, 1) := dk_172 (dk_at dksX5_wanted_1 18 rfl rfl)
abbrev cX5_carriesAll : ByteArray := prog_22_method_36_code
def yX5_carriesAll : MethodName := ⟨RX5, "carriesAll", "([IZ)V"⟩
def dkwX5_carriesAll_10 : List UInt8 := [79, 43, 29, 8, 96, 42, 180, 0, 192, 79, 43, 29, 16, 6, 96, 42, 180, 0, 16, 79, 177]
abbrev dktX5_carriesAll_10 : List UInt8 := dkwX5_carriesAll_10 ++ []
def dkwX5_carriesAll_9 : List UInt8 := [5, 96, 42, 180, 0, 13, 79, 43, 29, 6, 96, 42, 180, 0, 139, 79, 43, 29, 7, 96, 42, 180, 0, 189]
abbrev dktX5_carriesAll_9 : List UInt8 := dkwX5_carriesAll_9 ++ dktX5_carriesAll_10
def dkwX5_carriesAll_8 : List UInt8 := [181, 0, 16, 167, 0, 65, 43, 29, 42, 180, 0, 108, 79, 43, 29, 4, 96, 42, 180, 0, 7, 79, 43, 29]
abbrev dktX5_carriesAll_8 : List UInt8 := dkwX5_carriesAll_8 ++ dktX5_carriesAll_9
def dkwX5_carriesAll_7 : List UInt8 := [43, 29, 7, 96, 46, 181, 0, 189, 42, 43, 29, 8, 96, 46, 181, 0, 192, 42, 43, 29, 16, 6, 96, 46]
abbrev dktX5_carriesAll_7 : List UInt8 := dkwX5_carriesAll_7 ++ dktX5_carriesAll_8
def dkwX5_carriesAll_6 : List UInt8 := [96, 46, 181, 0, 7, 42, 43, 29, 5, 96, 46, 181, 0, 13, 42, 43, 29, 6, 96, 46, 181, 0, 139, 42]
abbrev dktX5_carriesAll_6 : List UInt8 := dkwX5_carriesAll_6 ++ dktX5_carriesAll_7
def dkwX5_carriesAll_5 : List UInt8 := [16, 36, 43, 29, 28, 182, 0, 185, 62, 28, 153, 0, 68, 42, 43, 29, 46, 181, 0, 108, 42, 43, 29, 4]
abbrev dktX5_carriesAll_5 : List UInt8 := dkwX5_carriesAll_5 ++ dktX5_carriesAll_6
def dkwX5_carriesAll_4 : List UInt8 := [182, 0, 185, 62, 42, 42, 180, 0, 47, 16, 36, 43, 29, 28, 182, 0, 185, 62, 42, 42, 180, 0, 50]
abbrev dktX5_carriesAll_4 : List UInt8 := dkwX5_carriesAll_4 ++ dktX5_carriesAll_5
def dkwX5_carriesAll_3 : List UInt8 := [42, 180, 0, 41, 16, 7, 43, 29, 28, 182, 0, 185, 62, 42, 42, 180, 0, 44, 16, 7, 43, 29, 28]
abbrev dktX5_carriesAll_3 : List UInt8 := dkwX5_carriesAll_3 ++ dktX5_carriesAll_4
def dkwX5_carriesAll_2 : List UInt8 := [16, 7, 43, 29, 28, 182, 0, 185, 62, 42, 42, 180, 0, 38, 16, 7, 43, 29, 28, 182, 0, 185, 62, 42]
abbrev dktX5_carriesAll_2 : List UInt8 := dkwX5_carriesAll_2 ++ dktX5_carriesAll_3
def dkwX5_carriesAll_1 : List UInt8 := [182, 0, 185, 62, 42, 42, 180, 0, 32, 16, 7, 43, 29, 28, 182, 0, 185, 62, 42, 42, 180, 0, 35]
abbrev dktX5_carriesAll_1 : List UInt8 := dkwX5_carriesAll_1 ++ dktX5_carriesAll_2
def dkwX5_carriesAll_0 : List UInt8 := [42, 42, 180, 0, 26, 16, 7, 43, 3, 28, 182, 0, 185, 62, 42, 42, 180, 0, 29, 16, 7, 43, 29, 28]
abbrev dktX5_carriesAll_0 : List UInt8 := dkwX5_carriesAll_0 ++ dktX5_carriesAll_1
theorem dksX5_carriesAll_0 : cX5_carriesAll.data.toList.drop 0 = dktX5_carriesAll_0 := by decide +kernel
theorem dksX5_carriesAll_1 : cX5_carriesAll.data.toList.drop 24 = dktX5_carriesAll_1 := dk_seg dksX5_carriesAll_0 24 rfl rfl
theorem dksX5_carriesAll_2 : cX5_carriesAll.data.toList.drop 47 = dktX5_carriesAll_2 := dk_seg dksX5_carriesAll_1 23 rfl rfl
theorem dksX5_carriesAll_3 : cX5_carriesAll.data.toList.drop 71 = dktX5_carriesAll_3 := dk_seg dksX5_carriesAll_2 24 rfl rfl
theorem dksX5_carriesAll_4 : cX5_carriesAll.data.toList.drop 94 = dktX5_carriesAll_4 := dk_seg dksX5_carriesAll_3 23 rfl rfl
theorem dksX5_carriesAll_5 : cX5_carriesAll.data.toList.drop 117 = dktX5_carriesAll_5 := dk_seg dksX5_carriesAll_4 23 rfl rfl
theorem dksX5_carriesAll_6 : cX5_carriesAll.data.toList.drop 141 = dktX5_carriesAll_6 := dk_seg dksX5_carriesAll_5 24 rfl rfl
theorem dksX5_carriesAll_7 : cX5_carriesAll.data.toList.drop 165 = dktX5_carriesAll_7 := dk_seg dksX5_carriesAll_6 24 rfl rfl
theorem dksX5_carriesAll_8 : cX5_carriesAll.data.toList.drop 189 = dktX5_carriesAll_8 := dk_seg dksX5_carriesAll_7 24 rfl rfl
theorem dksX5_carriesAll_9 : cX5_carriesAll.data.toList.drop 213 = dktX5_carriesAll_9 := dk_seg dksX5_carriesAll_8 24 rfl rfl
theorem dksX5_carriesAll_10 : cX5_carriesAll.data.toList.drop 237 = dktX5_carriesAll_10 := dk_seg dksX5_carriesAll_9 24 rfl rfl
theorem dX5_carriesAll_0 : decode cX5_carriesAll 0 = .ok (.aload_n 0, 1) := dk_42 (dk_at dksX5_carriesAll_0 0 rfl rfl)
theorem dX5_carriesAll_1 : decode cX5_carriesAll 1 = .ok (.aload_n 0, 1) := dk_42 (dk_at dksX5_carriesAll_0 1 rfl rfl)
theorem dX5_carriesAll_2 : decode cX5_carriesAll 2 = .ok (.getfield 26, 3) := dk_180 0 26 (dk_at dksX5_carriesAll_0 2 rfl rfl)
theorem dX5_carriesAll_5 : decode cX5_carriesAll 5 = .ok (.bipush 7, 2) := dk_16 7 (dk_at dksX5_carriesAll_0 5 rfl rfl)
theorem dX5_carriesAll_7 : decode cX5_carriesAll 7 = .ok (.aload_n 1, 1) := dk_43 (dk_at dksX5_carriesAll_0 7 rfl rfl)
theorem dX5_carriesAll_8 : decode cX5_carriesAll 8 = .ok (.iconst 0, 1) := dk_3 (dk_at dksX5_carriesAll_0 8 rfl rfl)
theorem dX5_carriesAll_9 : decode cX5_carriesAll 9 = .ok (.iload_n 2, 1) := dk_28 (dk_at dksX5_carriesAll_0 9 rfl rfl)
theorem dX5_carriesAll_10 : decode cX5_carriesAll 10 = .ok (.invokevirtual 185, 3) := dk_182 0 185 (dk_at dksX5_carriesAll_0 10 rfl rfl)
theorem dX5_carriesAll_13 : decode cX5_carriesAll 13 = .ok (.istore_n 3, 1) := dk_62 (dk_at dksX5_carriesAll_0 13 rfl rfl)
theorem dX5_carriesAll_14 : decode cX5_carriesAll 14 = .ok (.aload_n 0, 1) := dk_42 (dk_at dksX5_carriesAll_0 14 rfl rfl)
theorem dX5_carriesAll_15 : decode cX5_carriesAll 15 = .ok (.aload_n 0, 1) := dk_42 (dk_at dksX5_carriesAll_0 15 rfl rfl)
theorem dX5_carriesAll_16 : decode cX5_carriesAll 16 = .ok (.getfield 29, 3) := dk_180 0 29 (dk_at dksX5_carriesAll_0 16 rfl rfl)
theorem dX5_carriesAll_19 : decode cX5_carriesAll 19 = .ok (.bipush 7, 2) := dk_16 7 (dk_at dksX5_carriesAll_0 19 rfl rfl)
theorem dX5_carriesAll_21 : decode cX5_carriesAll 21 = .ok (.aload_n 1, 1) := dk_43 (dk_at dksX5_carriesAll_0 21 rfl rfl)
theorem dX5_carriesAll_22 : decode cX5_carriesAll 22 = .ok (.iload_n 3, 1) := dk_29 (dk_at dksX5_carriesAll_0 22 rfl rfl)
theorem dX5_carriesAll_23 : decode cX5_carriesAll 23 = .ok (.iload_n 2, 1) := dk_28 (dk_at dksX5_carriesAll_0 23 rfl rfl)
theorem dX5_carriesAll_24 : decode cX5_carriesAll 24 = .ok (.invokevirtual 185, 3) := dk_182 0 185 (dk_at dksX5_carriesAll_1 0 rfl rfl)
theorem dX5_carriesAll_27 : decode cX5_carriesAll 27 = .ok (.istore_n 3, 1) := dk_62 (dk_at dksX5_carriesAll_1 3 rfl rfl)
theorem dX5_carriesAll_28 : decode cX5_carriesAll 28 = .ok (.aload_n 0, 1) := dk_42 (dk_at dksX5_carriesAll_1 4 rfl rfl)
theorem dX5_carriesAll_29 : decode cX5_carriesAll 29 = .ok (.aload_n 0, 1) := dk_42 (dk_at dksX5_carriesAll_1 5 rfl rfl)
theorem dX5_carriesAll_30 : decode cX5_carriesAll 30 = .ok (.getfield 32, 3) := dk_180 0 32 (dk_at dksX5_carriesAll_1 6 rfl rfl)
theorem dX5_carriesAll_33 : decode cX5_carriesAll 33 = .ok (.bipush 7, 2) := dk_16 7 (dk_at dksX5_carriesAll_1 9 rfl rfl)
theorem dX5_carriesAll_35 : decode cX5_carriesAll 35 = .ok (.aload_n 1, 1) := dk_43 (dk_at dksX5_carriesAll_1 11 rfl rfl)
theorem dX5_carriesAll_36 : decode cX5_carriesAll 36 = .ok (.iload_n 3, 1) := dk_29 (dk_at dksX5_carriesAll_1 12 rfl rfl)
theorem dX5_carriesAll_37 : decode cX5_carriesAll 37 = .ok (.iload_n 2, 1) := dk_28 (dk_at dksX5_carriesAll_1 13 rfl rfl)
theorem dX5_carriesAll_38 : decode cX5_carriesAll 38 = .ok (.invokevirtual 185, 3) := dk_182 0 185 (dk_at dksX5_carriesAll_1 14 rfl rfl)
theorem dX5_carriesAll_41 : decode cX5_carriesAll 41 = .ok (.istore_n 3, 1) := dk_62 (dk_at dksX5_carriesAll_1 17 rfl rfl)
theorem dX5_carriesAll_42 : decode cX5_carriesAll 42 = .ok (.aload_n 0, 1) := dk_42 (dk_at dksX5_carriesAll_1 18 rfl rfl)
theorem dX5_carriesAll_43 : decode cX5_carriesAll 43 = .ok (.aload_n 0, 1) := dk_42 (dk_at dksX5_carriesAll_1 19 rfl rfl)
theorem dX5_carriesAll_44 : decode cX5_carriesAll 44 = .ok (.getfield 35, 3) := dk_180 0 35 (dk_at dksX5_carriesAll_1 20 rfl rfl)
theorem dX5_carriesAll_47 : decode cX5_carriesAll 47 = .ok (.bipush 7, 2) := dk_16 7 (dk_at dksX5_carriesAll_2 0 rfl rfl)
theorem dX5_carriesAll_49 : decode cX5_carriesAll 49 = .ok (.aload_n 1, 1) := dk_43 (dk_at dksX5_carriesAll_2 2 rfl rfl)
theorem dX5_carriesAll_50 : decode cX5_carriesAll 50 = .ok (.iload_n 3, 1) := dk_29 (dk_at dksX5_carriesAll_2 3 rfl rfl)
theorem dX5_carriesAll_51 : decode cX5_carriesAll 51 = .ok (.iload_n 2, 1) := dk_28 (dk_at dksX5_carriesAll_2 4 rfl rfl)
theorem dX5_carriesAll_52 : decode cX5_carriesAll 52 = .ok (.invokevirtual 185, 3) := dk_182 0 185 (dk_at dksX5_carriesAll_2 5 rfl rfl)
theorem dX5_carriesAll_55 : decode cX5_carriesAll 55 = .ok (.istore_n 3, 1) := dk_62 (dk_at dksX5_carriesAll_2 8 rfl rfl)
theorem dX5_carriesAll_56 : decode cX5_carriesAll 56 = .ok (.aload_n 0, 1) := dk_42 (dk_at dksX5_carriesAll_2 9 rfl rfl)
theorem dX5_carriesAll_57 : decode cX5_carriesAll 57 = .ok (.aload_n 0, 1) := dk_42 (dk_at dksX5_carriesAll_2 10 rfl rfl)
theorem dX5_carriesAll_58 : decode cX5_carriesAll 58 = .ok (.getfield 38, 3) := dk_180 0 38 (dk_at dksX5_carriesAll_2 11 rfl rfl)
theorem dX5_carriesAll_61 : decode cX5_carriesAll 61 = .ok (.bipush 7, 2) := dk_16 7 (dk_at dksX5_carriesAll_2 14 rfl rfl)
theorem dX5_carriesAll_63 : decode cX5_carriesAll 63 = .ok (.aload_n 1, 1) := dk_43 (dk_at dksX5_carriesAll_2 16 rfl rfl)
theorem dX5_carriesAll_64 : decode cX5_carriesAll 64 = .ok (.iload_n 3, 1) := dk_29 (dk_at dksX5_carriesAll_2 17 rfl rfl)
theorem dX5_carriesAll_65 : decode cX5_carriesAll 65 = .ok (.iload_n 2, 1) := dk_28 (dk_at dksX5_carriesAll_2 18 rfl rfl)
theorem dX5_carriesAll_66 : decode cX5_carriesAll 66 = .ok (.invokevirtual 185, 3) := dk_182 0 185 (dk_at dksX5_carriesAll_2 19 rfl rfl)
theorem dX5_carriesAll_69 : decode cX5_carriesAll 69 = .ok (.istore_n 3, 1) := dk_62 (dk_at dksX5_carriesAll_2 22 rfl rfl)
theorem dX5_carriesAll_70 : decode cX5_carriesAll 70 = .ok (.aload_n 0, 1) := dk_42 (dk_at dksX5_carriesAll_2 23 rfl rfl)
theorem dX5_carriesAll_71 : decode cX5_carriesAll 71 = .ok (.aload_n 0, 1) := dk_42 (dk_at dksX5_carriesAll_3 0 rfl rfl)
theorem dX5_carriesAll_72 : decode cX5_carriesAll 72 = .ok (.getfield 41, 3) := dk_180 0 41 (dk_at dksX5_carriesAll_3 1 rfl rfl)
theorem dX5_carriesAll_75 : decode cX5_carriesAll 75 = .ok (.bipush 7, 2) := dk_16 7 (dk_at dksX5_carriesAll_3 4 rfl rfl)
theorem dX5_carriesAll_77 : decode cX5_carriesAll 77 = .ok (.aload_n 1, 1) := dk_43 (dk_at dksX5_carriesAll_3 6 rfl rfl)
theorem dX5_carriesAll_78 : decode cX5_carriesAll 78 = .ok (.iload_n 3, 1) := dk_29 (dk_at dksX5_carriesAll_3 7 rfl rfl)
theorem dX5_carriesAll_79 : decode cX5_carriesAll 79 = .ok (.iload_n 2, 1) := dk_28 (dk_at dksX5_carriesAll_3 8 rfl rfl)
theorem dX5_carriesAll_80 : decode cX5_carriesAll 80 = .ok (.invokevirtual 185, 3) := dk_182 0 185 (dk_at dksX5_carriesAll_3 9 rfl rfl)
theorem dX5_carriesAll_83 : decode cX5_carriesAll 83 = .ok (.istore_n 3, 1) := dk_62 (dk_at dksX5_carriesAll_3 12 rfl rfl)
theorem dX5_carriesAll_84 : decode cX5_carriesAll 84 = .ok (.aload_n 0, 1) := dk_42 (dk_at dksX5_carriesAll_3 13 rfl rfl)
theorem dX5_carriesAll_85 : decode cX5_carriesAll 85 = .ok (.aload_n 0, 1) := dk_42 (dk_at dksX5_carriesAll_3 14 rfl rfl)
theorem dX5_carriesAll_86 : decode cX5_carriesAll 86 = .ok (.getfield 44, 3) := dk_180 0 44 (dk_at dksX5_carriesAll_3 15 rfl rfl)
theorem dX5_carriesAll_89 : decode cX5_carriesAll 89 = .ok (.bipush 7, 2) := dk_16 7 (dk_at dksX5_carriesAll_3 18 rfl rfl)
theorem dX5_carriesAll_91 : decode cX5_carriesAll 91 = .ok (.aload_n 1, 1) := dk_43 (dk_at dksX5_carriesAll_3 20 rfl rfl)
theorem dX5_carriesAll_92 : decode cX5_carriesAll 92 = .ok (.iload_n 3, 1) := dk_29 (dk_at dksX5_carriesAll_3 21 rfl rfl)
theorem dX5_carriesAll_93 : decode cX5_carriesAll 93 = .ok (.iload_n 2, 1) := dk_28 (dk_at dksX5_carriesAll_3 22 rfl rfl)
theorem dX5_carriesAll_94 : decode cX5_carriesAll 94 = .ok (.invokevirtual 185, 3) := dk_182 0 185 (dk_at dksX5_carriesAll_4 0 rfl rfl)
theorem dX5_carriesAll_97 : decode cX5_carriesAll 97 = .ok (.istore_n 3, 1) := dk_62 (dk_at dksX5_carriesAll_4 3 rfl rfl)
theorem dX5_carriesAll_98 : decode cX5_carriesAll 98 = .ok (.aload_n 0, 1) := dk_42 (dk_at dksX5_carriesAll_4 4 rfl rfl)
theorem dX5_carriesAll_99 : decode cX5_carriesAll 99 = .ok (.aload_n 0, 1) := dk_42 (dk_at dksX5_carriesAll_4 5 rfl rfl)
theorem dX5_carriesAll_100 : decode cX5_carriesAll 100 = .ok (.getfield 47, 3) := dk_180 0 47 (dk_at dksX5_carriesAll_4 6 rfl rfl)
theorem dX5_carriesAll_103 : decode cX5_carriesAll 103 = .ok (.bipush 36, 2) := dk_16 36 (dk_at dksX5_carriesAll_4 9 rfl rfl)
theorem dX5_carriesAll_105 : decode cX5_carriesAll 105 = .ok (.aload_n 1, 1) := dk_43 (dk_at dksX5_carriesAll_4 11 rfl rfl)
theorem dX5_carriesAll_106 : decode cX5_carriesAll 106 = .ok (.iload_n 3, 1) := dk_29 (dk_at dksX5_carriesAll_4 12 rfl rfl)
theorem dX5_carriesAll_107 : decode cX5_carriesAll 107 = .ok (.iload_n 2, 1) := dk_28 (dk_at dksX5_carriesAll_4 13 rfl rfl)
theorem dX5_carriesAll_108 : decode cX5_carriesAll 108 = .ok (.invokevirtual 185, 3) := dk_182 0 185 (dk_at dksX5_carriesAll_4 14 rfl rfl)
theorem dX5_carriesAll_111 : decode cX5_carriesAll 111 = .ok (.istore_n 3, 1) := dk_62 (dk_at dksX5_carriesAll_4 17 rfl rfl)
theorem dX5_carriesAll_112 : decode cX5_carriesAll 112 = .ok (.aload_n 0, 1) := dk_42 (dk_at dksX5_carriesAll_4 18 rfl rfl)
theorem dX5_carriesAll_113 : decode cX5_carriesAll 113 = .ok (.aload_n 0, 1) := dk_42 (dk_at dksX5_carriesAll_4 19 rfl rfl)
theorem dX5_carriesAll_114 : decode cX5_carriesAll 114 = .ok (.getfield 50, 3) := dk_180 0 50 (dk_at dksX5_carriesAll_4 20 rfl rfl)
theorem dX5_carriesAll_117 : decode cX5_carriesAll 117 = .ok (.bipush 36, 2) := dk_16 36 (dk_at dksX5_carriesAll_5 0 rfl rfl)
theorem dX5_carriesAll_119 : decode cX5_carriesAll 119 = .ok (.aload_n 1, 1) := dk_43 (dk_at dksX5_carriesAll_5 2 rfl rfl)
theorem dX5_carriesAll_120 : decode cX5_carriesAll 120 = .ok (.iload_n 3, 1) := dk_29 (dk_at dksX5_carriesAll_5 3 rfl rfl)
theorem dX5_carriesAll_121 : decode cX5_carriesAll 121 = .ok (.iload_n 2, 1) := dk_28 (dk_at dksX5_carriesAll_5 4 rfl rfl)
theorem dX5_carriesAll_122 : decode cX5_carriesAll 122 = .ok (.invokevirtual 185, 3) := dk_182 0 185 (dk_at dksX5_carriesAll_5 5 rfl rfl)
theorem dX5_carriesAll_125 : decode cX5_carriesAll 125 = .ok (.istore_n 3, 1) := dk_62 (dk_at dksX5_carriesAll_5 8 rfl rfl)
theorem dX5_carriesAll_126 : decode cX5_carriesAll 126 = .ok (.iload_n 2, 1) := dk_28 (dk_at dksX5_carriesAll_5 9 rfl rfl)
theorem dX5_carriesAll_127 : decode cX5_carriesAll 127 = .ok (.ifCond .eq 68, 3) := dk_153 0 68 (dk_at dksX5_carriesAll_5 10 rfl rfl)
theorem dX5_carriesAll_130 : decode cX5_carriesAll 130 = .ok (.aload_n 0, 1) := dk_42 (dk_at dksX5_carriesAll_5 13 rfl rfl)
theorem dX5_carriesAll_131 : decode cX5_carriesAll 131 = .ok (.aload_n 1, 1) := dk_43 (dk_at dksX5_carriesAll_5 14 rfl rfl)
theorem dX5_carriesAll_132 : decode cX5_carriesAll 132 = .ok (.iload_n 3, 1) := dk_29 (dk_at dksX5_carriesAll_5 15 rfl rfl)
theorem dX5_carriesAll_133 : decode cX5_carriesAll 133 = .ok (.iaload, 1) := dk_46 (dk_at dksX5_carriesAll_5 16 rfl rfl)
theorem dX5_carriesAll_134 : decode cX5_carriesAll 134 = .ok (.putfield 108, 3) := dk_181 0 108 (dk_at dksX5_carriesAll_5 17 rfl rfl)
theorem dX5_carriesAll_137 : decode cX5_carriesAll 137 = .ok (.aload_n 0, 1) := dk_42 (dk_at dksX5_carriesAll_5 20 rfl rfl)
theorem dX5_carriesAll_138 : decode cX5_carriesAll 138 = .ok (.aload_n 1, 1) := dk_43 (dk_at dksX5_carriesAll_5 21 rfl rfl)
theorem dX5_carriesAll_139 : decode cX5_carriesAll 139 = .ok (.iload_n 3, 1) := dk_29 (dk_at dksX5_carriesAll_5 22 rfl rfl)
theorem dX5_carriesAll_140 : decode cX5_carriesAll 140 = .ok (.iconst 1, 1) := dk_4 (dk_at dksX5_carriesAll_5 23 rfl rfl)
theorem dX5_carriesAll_141 : decode cX5_carriesAll 141 = .ok (.iadd, 1) := dk_96 (dk_at dksX5_carriesAll_6 0 rfl rfl)
theorem dX5_carriesAll_142 : decode cX5_carriesAll 142 = .ok (.iaload, 1) := dk_46 (dk_at dksX5_carriesAll_6 1 rfl rfl)
theorem dX5_carriesAll_143 : decode cX5_carriesAll 143 = .ok (.putfield 7, 3) := dk_181 0 7 (dk_at dksX5_carriesAll_6 2 rfl rfl)
theorem dX5_carriesAll_146 : decode cX5_carriesAll 146 = .ok (.aload_n 0, 1) := dk_42 (dk_at dksX5_carriesAll_6 5 rfl rfl)
theorem dX5_carriesAll_147 : decode cX5_carriesAll 147 = .ok (.aload_n 1, 1) := dk_43 (dk_at dksX5_carriesAll_6 6 rfl rfl)
theorem dX5_carriesAll_148 : decode cX5_carriesAll 148 = .ok (.iload_n 3, 1) := dk_29 (dk_at dksX5_carriesAll_6 7 rfl rfl)
theorem dX5_carriesAll_149 : decode cX5_carriesAll 149 = .ok (.iconst 2, 1) := dk_5 (dk_at dksX5_carriesAll_6 8 rfl rfl)
theorem dX5_carriesAll_150 : decode cX5_carriesAll 150 = .ok (.iadd, 1) := dk_96 (dk_at dksX5_carriesAll_6 9 rfl rfl)
theorem dX5_carriesAll_151 : decode cX5_carriesAll 151 = .ok (.iaload, 1) := dk_46 (dk_at dksX5_carriesAll_6 10 rfl rfl)
theorem dX5_carriesAll_152 : decode cX5_carriesAll 152 = .ok (.putfield 13, 3) := dk_181 0 13 (dk_at dksX5_carriesAll_6 11 rfl rfl)
theorem dX5_carriesAll_155 : decode cX5_carriesAll 155 = .ok (.aload_n 0, 1) := dk_42 (dk_at dksX5_carriesAll_6 14 rfl rfl)
theorem dX5_carriesAll_156 : decode cX5_carriesAll 156 = .ok (.aload_n 1, 1) := dk_43 (dk_at dksX5_carriesAll_6 15 rfl rfl)
theorem dX5_carriesAll_157 : decode cX5_carriesAll 157 = .ok (.iload_n 3, 1) := dk_29 (dk_at dksX5_carriesAll_6 16 rfl rfl)
theorem dX5_carriesAll_158 : decode cX5_carriesAll 158 = .ok (.iconst 3, 1) := dk_6 (dk_at dksX5_carriesAll_6 17 rfl rfl)
theorem dX5_carriesAll_159 : decode cX5_carriesAll 159 = .ok (.iadd, 1) := dk_96 (dk_at dksX5_carriesAll_6 18 rfl rfl)
theorem dX5_carriesAll_160 : decode cX5_carriesAll 160 = .ok (.iaload, 1) := dk_46 (dk_at dksX5_carriesAll_6 19 rfl rfl)
theorem dX5_carriesAll_161 : decode cX5_carriesAll 161 = .ok (.putfield 139, 3) := dk_181 0 139 (dk_at dksX5_carriesAll_6 20 rfl rfl)
theorem dX5_carriesAll_164 : decode cX5_carriesAll 164 = .ok (.aload_n 0, 1) := dk_42 (dk_at dksX5_carriesAll_6 23 rfl rfl)
theorem dX5_carriesAll_165 : decode cX5_carriesAll 165 = .ok (.aload_n 1, 1) := dk_43 (dk_at dksX5_carriesAll_7 0 rfl rfl)
theorem dX5_carriesAll_166 : decode cX5_carriesAll 166 = .ok (.iload_n 3, 1) := dk_29 (dk_at dksX5_carriesAll_7 1 rfl rfl)
theorem dX5_carriesAll_167 : decode cX5_carriesAll 167 = .ok (.iconst 4, 1) := dk_7 (dk_at dksX5_carriesAll_7 2 rfl rfl)
theorem dX5_carriesAll_168 : decode cX5_carriesAll 168 = .ok (.iadd, 1) := dk_96 (dk_at dksX5_carriesAll_7 3 rfl rfl)
theorem dX5_carriesAll_169 : decode cX5_carriesAll 169 = .ok (.iaload, 1) := dk_46 (dk_at dksX5_carriesAll_7 4 rfl rfl)
theorem dX5_carriesAll_170 : decode cX5_carriesAll 170 = .ok (.putfield 189, 3) := dk_181 0 189 (dk_at dksX5_carriesAll_7 5 rfl rfl)
theorem dX5_carriesAll_173 : decode cX5_carriesAll 173 = .ok (.aload_n 0, 1) := dk_42 (dk_at dksX5_carriesAll_7 8 rfl rfl)
theorem dX5_carriesAll_174 : decode cX5_carriesAll 174 = .ok (.aload_n 1, 1) := dk_43 (dk_at dksX5_carriesAll_7 9 rfl rfl)
theorem dX5_carriesAll_175 : decode cX5_carriesAll 175 = .ok (.iload_n 3, 1) := dk_29 (dk_at dksX5_carriesAll_7 10 rfl rfl)
theorem dX5_carriesAll_176 : decode cX5_carriesAll 176 = .ok (.iconst 5, 1) := dk_8 (dk_at dksX5_carriesAll_7 11 rfl rfl)
theorem dX5_carriesAll_177 : decode cX5_carriesAll 177 = .ok (.iadd, 1) := dk_96 (dk_at dksX5_carriesAll_7 12 rfl rfl)
theorem dX5_carriesAll_178 : decode cX5_carriesAll 178 = .ok (.iaload, 1) := dk_46 (dk_at dksX5_carriesAll_7 13 rfl rfl)
theorem dX5_carriesAll_179 : decode cX5_carriesAll 179 = .ok (.putfield 192, 3) := dk_181 0 192 (dk_at dksX5_carriesAll_7 14 rfl rfl)
theorem dX5_carriesAll_182 : decode cX5_carriesAll 182 = .ok (.aload_n 0, 1) := dk_42 (dk_at dksX5_carriesAll_7 17 rfl rfl)
theorem dX5_carriesAll_183 : decode cX5_carriesAll 183 = .ok (.aload_n 1, 1) := dk_43 (dk_at dksX5_carriesAll_7 18 rfl rfl)
theorem dX5_carriesAll_184 : decode cX5_carriesAll 184 = .ok (.iload_n 3, 1) := dk_29 (dk_at dksX5_carriesAll_7 19 rfl rfl)
theorem dX5_carriesAll_185 : decode cX5_carriesAll 185 = .ok (.bipush 6, 2) := dk_16 6 (dk_at dksX5_carriesAll_7 20 rfl rfl)
theorem dX5_carriesAll_187 : decode cX5_carriesAll 187 = .ok (.iadd, 1) := dk_96 (dk_at dksX5_carriesAll_7 22 rfl rfl)
theorem dX5_carriesAll_188 : decode cX5_carriesAll 188 = .ok (.iaload, 1) := dk_46 (dk_at dksX5_carriesAll_7 23 rfl rfl)
theorem dX5_carriesAll_189 : decode cX5_carriesAll 189 = .ok (.putfield 16, 3) := dk_181 0 16 (dk_at dksX5_carriesAll_8 0 rfl rfl)
theorem dX5_carriesAll_192 : decode cX5_carriesAll 192 = .ok (.goto 65, 3) := dk_167 0 65 (dk_at dksX5_carriesAll_8 3 rfl rfl)
theorem dX5_carriesAll_195 : decode cX5_carriesAll 195 = .ok (.aload_n 1, 1) := dk_43 (dk_at dksX5_carriesAll_8 6 rfl rfl)
theorem dX5_carriesAll_196 : decode cX5_carriesAll 196 = .ok (.iload_n 3, 1) := dk_29 (dk_at dksX5_carriesAll_8 7 rfl rfl)
theorem dX5_carriesAll_197 : decode cX5_carriesAll 197 = .ok (.aload_n 0, 1) := dk_42 (dk_at dksX5_carriesAll_8 8 rfl rfl)
theorem dX5_carriesAll_198 : decode cX5_carriesAll 198 = .ok (.getfield 108, 3) := dk_180 0 108 (dk_at dksX5_carriesAll_8 9 rfl rfl)
theorem dX5_carriesAll_201 : decode cX5_carriesAll 201 = .ok (.iastore, 1) := dk_79 (dk_at dksX5_carriesAll_8 12 rfl rfl)
theorem dX5_carriesAll_202 : decode cX5_carriesAll 202 = .ok (.aload_n 1, 1) := dk_43 (dk_at dksX5_carriesAll_8 13 rfl rfl)
theorem dX5_carriesAll_203 : decode cX5_carriesAll 203 = .ok (.iload_n 3, 1) := dk_29 (dk_at dksX5_carriesAll_8 14 rfl rfl)
theorem dX5_carriesAll_204 : decode cX5_carriesAll 204 = .ok (.iconst 1, 1) := dk_4 (dk_at dksX5_carriesAll_8 15 rfl rfl)
theorem dX5_carriesAll_205 : decode cX5_carriesAll 205 = .ok (.iadd, 1) := dk_96 (dk_at dksX5_carriesAll_8 16 rfl rfl)
theorem dX5_carriesAll_206 : decode cX5_carriesAll 206 = .ok (.aload_n 0, 1) := dk_42 (dk_at dksX5_carriesAll_8 17 rfl rfl)
theorem dX5_carriesAll_207 : decode cX5_carriesAll 207 = .ok (.getfield 7, 3) := dk_180 0 7 (dk_at dksX5_carriesAll_8 18 rfl rfl)
theorem dX5_carriesAll_210 : decode cX5_carriesAll 210 = .ok (.iastore, 1) := dk_79 (dk_at dksX5_carriesAll_8 21 rfl rfl)
theorem dX5_carriesAll_211 : decode cX5_carriesAll 211 = .ok (.aload_n 1, 1) := dk_43 (dk_at dksX5_carriesAll_8 22 rfl rfl)
theorem dX5_carriesAll_212 : decode cX5_carriesAll 212 = .ok (.iload_n 3, 1) := dk_29 (dk_at dksX5_carriesAll_8 23 rfl rfl)
theorem dX5_carriesAll_213 : decode cX5_carriesAll 213 = .ok (.iconst 2, 1) := dk_5 (dk_at dksX5_carriesAll_9 0 rfl rfl)
theorem dX5_carriesAll_214 : decode cX5_carriesAll 214 = .ok (.iadd, 1) := dk_96 (dk_at dksX5_carriesAll_9 1 rfl rfl)
theorem dX5_carriesAll_215 : decode cX5_carriesAll 215 = .ok (.aload_n 0, 1) := dk_42 (dk_at dksX5_carriesAll_9 2 rfl rfl)
theorem dX5_carriesAll_216 : decode cX5_carriesAll 216 = .ok (.getfield 13, 3) := dk_180 0 13 (dk_at dksX5_carriesAll_9 3 rfl rfl)
theorem dX5_carriesAll_219 : decode cX5_carriesAll 219 = .ok (.iastore, 1) := dk_79 (dk_at dksX5_carriesAll_9 6 rfl rfl)
theorem dX5_carriesAll_220 : decode cX5_carriesAll 220 = .ok (.aload_n 1, 1) := dk_43 (dk_at dksX5_carriesAll_9 7 rfl rfl)
theorem dX5_carriesAll_221 : decode cX5_carriesAll 221 = .ok (.iload_n 3, 1) := dk_29 (dk_at dksX5_carriesAll_9 8 rfl rfl)
theorem dX5_carriesAll_222 : decode cX5_carriesAll 222 = .ok (.iconst 3, 1) := dk_6 (dk_at dksX5_carriesAll_9 9 rfl rfl)
theorem dX5_carriesAll_223 : decode cX5_carriesAll 223 = .ok (.iadd, 1) := dk_96 (dk_at dksX5_carriesAll_9 10 rfl rfl)
theorem dX5_carriesAll_224 : decode cX5_carriesAll 224 = .ok (.aload_n 0, 1) := dk_42 (dk_at dksX5_carriesAll_9 11 rfl rfl)
theorem dX5_carriesAll_225 : decode cX5_carriesAll 225 = .ok (.getfield 139, 3) := dk_180 0 139 (dk_at dksX5_carriesAll_9 12 rfl rfl)
theorem dX5_carriesAll_228 : decode cX5_carriesAll 228 = .ok (.iastore, 1) := dk_79 (dk_at dksX5_carriesAll_9 15 rfl rfl)
theorem dX5_carriesAll_229 : decode cX5_carriesAll 229 = .ok (.aload_n 1, 1) := dk_43 (dk_at dksX5_carriesAll_9 16 rfl rfl)
theorem dX5_carriesAll_230 : decode cX5_carriesAll 230 = .ok (.iload_n 3, 1) := dk_29 (dk_at dksX5_carriesAll_9 17 rfl rfl)
theorem dX5_carriesAll_231 : decode cX5_carriesAll 231 = .ok (.iconst 4, 1) := dk_7 (dk_at dksX5_carriesAll_9 18 rfl rfl)
theorem dX5_carriesAll_232 : decode cX5_carriesAll 232 = .ok (.iadd, 1) := dk_96 (dk_at dksX5_carriesAll_9 19 rfl rfl)
theorem dX5_carriesAll_233 : decode cX5_carriesAll 233 = .ok (.aload_n 0, 1) := dk_42 (dk_at dksX5_carriesAll_9 20 rfl rfl)
theorem dX5_carriesAll_234 : decode cX5_carriesAll 234 = .ok (.getfield 189, 3) := dk_180 0 189 (dk_at dksX5_carriesAll_9 21 rfl rfl)
theorem dX5_carriesAll_237 : decode cX5_carriesAll 237 = .ok (.iastore, 1) := dk_79 (dk_at dksX5_carriesAll_10 0 rfl rfl)
theorem dX5_carriesAll_238 : decode cX5_carriesAll 238 = .ok (.aload_n 1, 1) := dk_43 (dk_at dksX5_carriesAll_10 1 rfl rfl)
theorem dX5_carriesAll_239 : decode cX5_carriesAll 239 = .ok (.iload_n 3, 1) := dk_29 (dk_at dksX5_carriesAll_10 2 rfl rfl)
theorem dX5_carriesAll_240 : decode cX5_carriesAll 240 = .ok (.iconst 5, 1) := dk_8 (dk_at dksX5_carriesAll_10 3 rfl rfl)
theorem dX5_carriesAll_241 : decode cX5_carriesAll 241 = .ok (.iadd, 1) := dk_96 (dk_at dksX5_carriesAll_10 4 rfl rfl)
theorem dX5_carriesAll_242 : decode cX5_carriesAll 242 = .ok (.aload_n 0, 1) := dk_42 (dk_at dksX5_carriesAll_10 5 rfl rfl)
theorem dX5_carriesAll_243 : decode cX5_carriesAll 243 = .ok (.getfield 192, 3) := dk_180 0 192 (dk_at dksX5_carriesAll_10 6 rfl rfl)
theorem dX5_carriesAll_246 : decode cX5_carriesAll 246 = .ok (.iastore, 1) := dk_79 (dk_at dksX5_carriesAll_10 9 rfl rfl)
theorem dX5_carriesAll_247 : decode cX5_carriesAll 247 = .ok (.aload_n 1, 1) := dk_43 (dk_at dksX5_carriesAll_10 10 rfl rfl)
theorem dX5_carriesAll_248 : decode cX5_carriesAll 248 = .ok (.iload_n 3, 1) := dk_29 (dk_at dksX5_carriesAll_10 11 rfl rfl)
theorem dX5_carriesAll_249 : decode cX5_carriesAll 249 = .ok (.bipush 6, 2) := dk_16 6 (dk_at dksX5_carriesAll_10 12 rfl rfl)
theorem dX5_carriesAll_251 : decode cX5_carriesAll 251 = .ok (.iadd, 1) := dk_96 (dk_at dksX5_carriesAll_10 14 rfl rfl)
theorem dX5_carriesAll_252 : decode cX5_carriesAll 252 = .ok (.aload_n 0, 1) := dk_42 (dk_at dksX5_carriesAll_10 15 rfl rfl)
theorem dX5_carriesAll_253 : decode cX5_carriesAll 253 = .ok (.getfield 16, 3) := dk_180 0 16 (dk_at dksX5_carriesAll_10 16 rfl rfl)
theorem dX5_carriesAll_256 : decode cX5_carriesAll 256 = .ok (.iastore, 1) := dk_79 (dk_at dksX5_carriesAll_10 19 rfl rfl)
theorem dX5_carriesAll_257 : decode cX5_carriesAll 257 = .ok (.return_, 1) := dk_177 (dk_at dksX5_carriesAll_10 20 rfl rfl)
abbrev cX5_carries : ByteArray := prog_22_method_35_code
def yX5_carries : MethodName := ⟨RX5, "carries", "([II[IIZ)I"⟩
def dkwX5_carries_2 : List UInt8 := [96, 172]
abbrev dktX5_carries_2 : List UInt8 := dkwX5_carries_2 ++ []
def dkwX5_carries_1 : List UInt8 := [79, 167, 0, 14, 45, 21, 4, 21, 6, 96, 43, 21, 6, 46, 79, 132, 6, 1, 167, 255, 217, 21, 4, 28]
abbrev dktX5_carries_1 : List UInt8 := dkwX5_carries_1 ++ dktX5_carries_2
def dkwX5_carries_0 : List UInt8 := [3, 54, 6, 21, 6, 28, 162, 0, 39, 21, 5, 153, 0, 17, 43, 21, 6, 45, 21, 4, 21, 6, 96, 46]
abbrev dktX5_carries_0 : List UInt8 := dkwX5_carries_0 ++ dktX5_carries_1
theorem dksX5_carries_0 : cX5_carries.data.toList.drop 0 = dktX5_carries_0 := by decide +kernel
theorem dksX5_carries_1 : cX5_carries.data.toList.drop 24 = dktX5_carries_1 := dk_seg dksX5_carries_0 24 rfl rfl
theorem dksX5_carries_2 : cX5_carries.data.toList.drop 48 = dktX5_carries_2 := dk_seg dksX5_carries_1 24 rfl rfl
theorem dX5_carries_0 : decode cX5_carries 0 = .ok (.iconst 0, 1) := dk_3 (dk_at dksX5_carries_0 0 rfl rfl)
theorem dX5_carries_1 : decode cX5_carries 1 = .ok (.istore 6, 2) := dk_54 6 (dk_at dksX5_carries_0 1 rfl rfl)
theorem dX5_carries_3 : decode cX5_carries 3 = .ok (.iload 6, 2) := dk_21 6 (dk_at dksX5_carries_0 3 rfl rfl)
theorem dX5_carries_5 : decode cX5_carries 5 = .ok (.iload_n 2, 1) := dk_28 (dk_at dksX5_carries_0 5 rfl rfl)
theorem dX5_carries_6 : decode cX5_carries 6 = .ok (.if_icmp .ge 39, 3) := dk_162 0 39 (dk_at dksX5_carries_0 6 rfl rfl)
theorem dX5_carries_9 : decode cX5_carries 9 = .ok (.iload 5, 2) := dk_21 5 (dk_at dksX5_carries_0 9 rfl rfl)
theorem dX5_carries_11 : decode cX5_carries 11 = .ok (.ifCond .eq 17, 3) := dk_153 0 17 (dk_at dksX5_carries_0 11 rfl rfl)
theorem dX5_carries_14 : decode cX5_carries 14 = .ok (.aload_n 1, 1) := dk_43 (dk_at dksX5_carries_0 14 rfl rfl)
theorem dX5_carries_15 : decode cX5_carries 15 = .ok (.iload 6, 2) := dk_21 6 (dk_at dksX5_carries_0 15 rfl rfl)
theorem dX5_carries_17 : decode cX5_carries 17 = .ok (.aload_n 3, 1) := dk_45 (dk_at dksX5_carries_0 17 rfl rfl)
theorem dX5_carries_18 : decode cX5_carries 18 = .ok (.iload 4, 2) := dk_21 4 (dk_at dksX5_carries_0 18 rfl rfl)
theorem dX5_carries_20 : decode cX5_carries 20 = .ok (.iload 6, 2) := dk_21 6 (dk_at dksX5_carries_0 20 rfl rfl)
theorem dX5_carries_22 : decode cX5_carries 22 = .ok (.iadd, 1) := dk_96 (dk_at dksX5_carries_0 22 rfl rfl)
theorem dX5_carries_23 : decode cX5_carries 23 = .ok (.iaload, 1) := dk_46 (dk_at dksX5_carries_0 23 rfl rfl)
theorem dX5_carries_24 : decode cX5_carries 24 = .ok (.iastore, 1) := dk_79 (dk_at dksX5_carries_1 0 rfl rfl)
theorem dX5_carries_25 : decode cX5_carries 25 = .ok (.goto 14, 3) := dk_167 0 14 (dk_at dksX5_carries_1 1 rfl rfl)
theorem dX5_carries_28 : decode cX5_carries 28 = .ok (.aload_n 3, 1) := dk_45 (dk_at dksX5_carries_1 4 rfl rfl)
theorem dX5_carries_29 : decode cX5_carries 29 = .ok (.iload 4, 2) := dk_21 4 (dk_at dksX5_carries_1 5 rfl rfl)
theorem dX5_carries_31 : decode cX5_carries 31 = .ok (.iload 6, 2) := dk_21 6 (dk_at dksX5_carries_1 7 rfl rfl)
theorem dX5_carries_33 : decode cX5_carries 33 = .ok (.iadd, 1) := dk_96 (dk_at dksX5_carries_1 9 rfl rfl)
theorem dX5_carries_34 : decode cX5_carries 34 = .ok (.aload_n 1, 1) := dk_43 (dk_at dksX5_carries_1 10 rfl rfl)
theorem dX5_carries_35 : decode cX5_carries 35 = .ok (.iload 6, 2) := dk_21 6 (dk_at dksX5_carries_1 11 rfl rfl)
theorem dX5_carries_37 : decode cX5_carries 37 = .ok (.iaload, 1) := dk_46 (dk_at dksX5_carries_1 13 rfl rfl)
theorem dX5_carries_38 : decode cX5_carries 38 = .ok (.iastore, 1) := dk_79 (dk_at dksX5_carries_1 14 rfl rfl)
theorem dX5_carries_39 : decode cX5_carries 39 = .ok (.iinc 6 1, 3) := dk_132 6 1 (dk_at dksX5_carries_1 15 rfl rfl)
theorem dX5_carries_42 : decode cX5_carries 42 = .ok (.goto (-39), 3) := dk_167 255 217 (dk_at dksX5_carries_1 18 rfl rfl)
theorem dX5_carries_45 : decode cX5_carries 45 = .ok (.iload 4, 2) := dk_21 4 (dk_at dksX5_carries_1 21 rfl rfl)
theorem dX5_carries_47 : decode cX5_carries 47 = .ok (.iload_n 2, 1) := dk_28 (dk_at dksX5_carries_1 23 rfl rfl)
theorem dX5_carries_48 : decode cX5_carries 48 = .ok (.iadd, 1) := dk_96 (dk_at dksX5_carries_2 0 rfl rfl)
theorem dX5_carries_49 : decode cX5_carries 49 = .ok (.ireturn, 1) := dk_172 (dk_at dksX5_carries_2 1 rfl rfl)
abbrev cX5_item : ByteArray := prog_22_method_34_code
def yX5_item : MethodName := ⟨RX5, "item", "()Z"⟩
def dkwX5_item_12 : List UInt8 := [8, 100, 42, 180, 0, 81, 3, 46, 182, 0, 146, 4, 172]
abbrev dktX5_item_12 : List UInt8 := dkwX5_item_12 ++ []
def dkwX5_item_11 : List UInt8 := [182, 0, 132, 87, 167, 0, 31, 42, 180, 0, 44, 42, 180, 0, 81, 3, 46, 4, 79, 167, 0, 16, 42, 27]
abbrev dktX5_item_11 : List UInt8 := dkwX5_item_11 ++ dktX5_item_12
def dkwX5_item_10 : List UInt8 := [180, 0, 81, 5, 46, 42, 180, 0, 81, 6, 46, 42, 180, 0, 81, 7, 46, 42, 180, 0, 81, 8, 46]
abbrev dktX5_item_10 : List UInt8 := dkwX5_item_10 ++ dktX5_item_11
def dkwX5_item_9 : List UInt8 := [180, 0, 81, 3, 46, 4, 79, 167, 0, 75, 42, 42, 180, 0, 81, 3, 46, 42, 180, 0, 81, 4, 46, 42]
abbrev dktX5_item_9 : List UInt8 := dkwX5_item_9 ++ dktX5_item_10
def dkwX5_item_8 : List UInt8 := [42, 180, 0, 47, 42, 180, 0, 81, 3, 46, 4, 27, 100, 79, 167, 0, 90, 42, 180, 0, 50, 42]
abbrev dktX5_item_8 : List UInt8 := dkwX5_item_8 ++ dktX5_item_9
def dkwX5_item_7 : List UInt8 := [170, 0, 0, 0, 0, 125, 0, 0, 0, 0, 0, 0, 0, 4, 0, 0, 0, 34, 0, 0, 0, 34, 0, 0, 0, 51, 0, 0, 0, 66, 0, 0, 0, 110]
abbrev dktX5_item_7 : List UInt8 := dkwX5_item_7 ++ dktX5_item_8
def dkwX5_item_6 : List UInt8 := [79, 132, 2, 1, 167, 255, 150, 27]
abbrev dktX5_item_6 : List UInt8 := dkwX5_item_6 ++ dktX5_item_7
def dkwX5_item_5 : List UInt8 := [42, 27, 28, 182, 0, 182, 154, 0, 9, 42, 29, 182, 0, 169, 172, 42, 180, 0, 81, 28, 42, 180, 0, 162]
abbrev dktX5_item_5 : List UInt8 := dkwX5_item_5 ++ dktX5_item_6
def dkwX5_item_4 : List UInt8 := [42, 89, 180, 0, 153, 4, 96, 181, 0, 153, 42, 180, 0, 153, 62, 42, 182, 0, 179, 154, 0, 5, 3, 172]
abbrev dktX5_item_4 : List UInt8 := dkwX5_item_4 ++ dktX5_item_5
def dkwX5_item_3 : List UInt8 := [180, 0, 159, 42, 180, 0, 153, 96, 47, 136, 16, 32, 159, 0, 12, 42, 42, 180, 0, 153, 182, 0, 169, 172]
abbrev dktX5_item_3 : List UInt8 := dkwX5_item_3 ++ dktX5_item_4
def dkwX5_item_2 : List UInt8 := [46, 162, 0, 102, 28, 158, 0, 53, 42, 180, 0, 153, 42, 180, 0, 156, 162, 0, 23, 42, 180, 0, 65, 42]
abbrev dktX5_item_2 : List UInt8 := dkwX5_item_2 ++ dktX5_item_3
def dkwX5_item_1 : List UInt8 := [182, 0, 169, 172, 42, 182, 0, 175, 60, 27, 2, 160, 0, 5, 3, 172, 3, 61, 28, 42, 180, 0, 75, 27]
abbrev dktX5_item_1 : List UInt8 := dkwX5_item_1 ++ dktX5_item_2
def dkwX5_item_0 : List UInt8 := [42, 6, 182, 0, 172, 153, 0, 21, 42, 180, 0, 108, 16, 7, 160, 0, 12, 42, 42, 180, 0, 153]
abbrev dktX5_item_0 : List UInt8 := dkwX5_item_0 ++ dktX5_item_1
theorem dksX5_item_0 : cX5_item.data.toList.drop 0 = dktX5_item_0 := by decide +kernel
theorem dksX5_item_1 : cX5_item.data.toList.drop 22 = dktX5_item_1 := dk_seg dksX5_item_0 22 rfl rfl
theorem dksX5_item_2 : cX5_item.data.toList.drop 46 = dktX5_item_2 := dk_seg dksX5_item_1 24 rfl rfl
theorem dksX5_item_3 : cX5_item.data.toList.drop 70 = dktX5_item_3 := dk_seg dksX5_item_2 24 rfl rfl
theorem dksX5_item_4 : cX5_item.data.toList.drop 94 = dktX5_item_4 := dk_seg dksX5_item_3 24 rfl rfl
theorem dksX5_item_5 : cX5_item.data.toList.drop 118 = dktX5_item_5 := dk_seg dksX5_item_4 24 rfl rfl
theorem dksX5_item_6 : cX5_item.data.toList.drop 142 = dktX5_item_6 := dk_seg dksX5_item_5 24 rfl rfl
theorem dksX5_item_7 : cX5_item.data.toList.drop 150 = dktX5_item_7 := dk_seg dksX5_item_6 8 rfl rfl
theorem dksX5_item_8 : cX5_item.data.toList.drop 184 = dktX5_item_8 := dk_seg dksX5_item_7 34 rfl rfl
theorem dksX5_item_9 : cX5_item.data.toList.drop 206 = dktX5_item_9 := dk_seg dksX5_item_8 22 rfl rfl
theorem dksX5_item_10 : cX5_item.data.toList.drop 230 = dktX5_item_10 := dk_seg dksX5_item_9 24 rfl rfl
theorem dksX5_item_11 : cX5_item.data.toList.drop 253 = dktX5_item_11 := dk_seg dksX5_item_10 23 rfl rfl
theorem dksX5_item_12 : cX5_item.data.toList.drop 277 = dktX5_item_12 := dk_seg dksX5_item_11 24 rfl rfl
theorem dX5_item_0 : decode cX5_item 0 = .ok (.aload_n 0, 1) := dk_42 (dk_at dksX5_item_0 0 rfl rfl)
theorem dX5_item_1 : decode cX5_item 1 = .ok (.iconst 3, 1) := dk_6 (dk_at dksX5_item_0 1 rfl rfl)
theorem dX5_item_2 : decode cX5_item 2 = .ok (.invokevirtual 172, 3) := dk_182 0 172 (dk_at dksX5_item_0 2 rfl rfl)
theorem dX5_item_5 : decode cX5_item 5 = .ok (.ifCond .eq 21, 3) := dk_153 0 21 (dk_at dksX5_item_0 5 rfl rfl)
theorem dX5_item_8 : decode cX5_item 8 = .ok (.aload_n 0, 1) := dk_42 (dk_at dksX5_item_0 8 rfl rfl)
theorem dX5_item_9 : decode cX5_item 9 = .ok (.getfield 108, 3) := dk_180 0 108 (dk_at dksX5_item_0 9 rfl rfl)
theorem dX5_item_12 : decode cX5_item 12 = .ok (.bipush 7, 2) := dk_16 7 (dk_at dksX5_item_0 12 rfl rfl)
theorem dX5_item_14 : decode cX5_item 14 = .ok (.if_icmp .ne 12, 3) := dk_160 0 12 (dk_at dksX5_item_0 14 rfl rfl)
theorem dX5_item_17 : decode cX5_item 17 = .ok (.aload_n 0, 1) := dk_42 (dk_at dksX5_item_0 17 rfl rfl)
theorem dX5_item_18 : decode cX5_item 18 = .ok (.aload_n 0, 1) := dk_42 (dk_at dksX5_item_0 18 rfl rfl)
theorem dX5_item_19 : decode cX5_item 19 = .ok (.getfield 153, 3) := dk_180 0 153 (dk_at dksX5_item_0 19 rfl rfl)
theorem dX5_item_22 : decode cX5_item 22 = .ok (.invokevirtual 169, 3) := dk_182 0 169 (dk_at dksX5_item_1 0 rfl rfl)
theorem dX5_item_25 : decode cX5_item 25 = .ok (.ireturn, 1) := dk_172 (dk_at dksX5_item_1 3 rfl rfl)
theorem dX5_item_26 : decode cX5_item 26 = .ok (.aload_n 0, 1) := dk_42 (dk_at dksX5_item_1 4 rfl rfl)
theorem dX5_item_27 : decode cX5_item 27 = .ok (.invokevirtual 175, 3) := dk_182 0 175 (dk_at dksX5_item_1 5 rfl rfl)
theorem dX5_item_30 : decode cX5_item 30 = .ok (.istore_n 1, 1) := dk_60 (dk_at dksX5_item_1 8 rfl rfl)
theorem dX5_item_31 : decode cX5_item 31 = .ok (.iload_n 1, 1) := dk_27 (dk_at dksX5_item_1 9 rfl rfl)
theorem dX5_item_32 : decode cX5_item 32 = .ok (.iconst (-1), 1) := dk_2 (dk_at dksX5_item_1 10 rfl rfl)
theorem dX5_item_33 : decode cX5_item 33 = .ok (.if_icmp .ne 5, 3) := dk_160 0 5 (dk_at dksX5_item_1 11 rfl rfl)
theorem dX5_item_36 : decode cX5_item 36 = .ok (.iconst 0, 1) := dk_3 (dk_at dksX5_item_1 14 rfl rfl)
theorem dX5_item_37 : decode cX5_item 37 = .ok (.ireturn, 1) := dk_172 (dk_at dksX5_item_1 15 rfl rfl)
theorem dX5_item_38 : decode cX5_item 38 = .ok (.iconst 0, 1) := dk_3 (dk_at dksX5_item_1 16 rfl rfl)
theorem dX5_item_39 : decode cX5_item 39 = .ok (.istore_n 2, 1) := dk_61 (dk_at dksX5_item_1 17 rfl rfl)
theorem dX5_item_40 : decode cX5_item 40 = .ok (.iload_n 2, 1) := dk_28 (dk_at dksX5_item_1 18 rfl rfl)
theorem dX5_item_41 : decode cX5_item 41 = .ok (.aload_n 0, 1) := dk_42 (dk_at dksX5_item_1 19 rfl rfl)
theorem dX5_item_42 : decode cX5_item 42 = .ok (.getfield 75, 3) := dk_180 0 75 (dk_at dksX5_item_1 20 rfl rfl)
theorem dX5_item_45 : decode cX5_item 45 = .ok (.iload_n 1, 1) := dk_27 (dk_at dksX5_item_1 23 rfl rfl)
theorem dX5_item_46 : decode cX5_item 46 = .ok (.iaload, 1) := dk_46 (dk_at dksX5_item_2 0 rfl rfl)
theorem dX5_item_47 : decode cX5_item 47 = .ok (.if_icmp .ge 102, 3) := dk_162 0 102 (dk_at dksX5_item_2 1 rfl rfl)
theorem dX5_item_50 : decode cX5_item 50 = .ok (.iload_n 2, 1) := dk_28 (dk_at dksX5_item_2 4 rfl rfl)
theorem dX5_item_51 : decode cX5_item 51 = .ok (.ifCond .le 53, 3) := dk_158 0 53 (dk_at dksX5_item_2 5 rfl rfl)
theorem dX5_item_54 : decode cX5_item 54 = .ok (.aload_n 0, 1) := dk_42 (dk_at dksX5_item_2 8 rfl rfl)
theorem dX5_item_55 : decode cX5_item 55 = .ok (.getfield 153, 3) := dk_180 0 153 (dk_at dksX5_item_2 9 rfl rfl)
theorem dX5_item_58 : decode cX5_item 58 = .ok (.aload_n 0, 1) := dk_42 (dk_at dksX5_item_2 12 rfl rfl)
theorem dX5_item_59 : decode cX5_item 59 = .ok (.getfield 156, 3) := dk_180 0 156 (dk_at dksX5_item_2 13 rfl rfl)
theorem dX5_item_62 : decode cX5_item 62 = .ok (.if_icmp .ge 23, 3) := dk_162 0 23 (dk_at dksX5_item_2 16 rfl rfl)
theorem dX5_item_65 : decode cX5_item 65 = .ok (.aload_n 0, 1) := dk_42 (dk_at dksX5_item_2 19 rfl rfl)
theorem dX5_item_66 : decode cX5_item 66 = .ok (.getfield 65, 3) := dk_180 0 65 (dk_at dksX5_item_2 20 rfl rfl)
theorem dX5_item_69 : decode cX5_item 69 = .ok (.aload_n 0, 1) := dk_42 (dk_at dksX5_item_2 23 rfl rfl)
theorem dX5_item_70 : decode cX5_item 70 = .ok (.getfield 159, 3) := dk_180 0 159 (dk_at dksX5_item_3 0 rfl rfl)
theorem dX5_item_73 : decode cX5_item 73 = .ok (.aload_n 0, 1) := dk_42 (dk_at dksX5_item_3 3 rfl rfl)
theorem dX5_item_74 : decode cX5_item 74 = .ok (.getfield 153, 3) := dk_180 0 153 (dk_at dksX5_item_3 4 rfl rfl)
theorem dX5_item_77 : decode cX5_item 77 = .ok (.iadd, 1) := dk_96 (dk_at dksX5_item_3 7 rfl rfl)
theorem dX5_item_78 : decode cX5_item 78 = .ok (.laload, 1) := dk_47 (dk_at dksX5_item_3 8 rfl rfl)
theorem dX5_item_79 : decode cX5_item 79 = .ok (.l2i, 1) := dk_136 (dk_at dksX5_item_3 9 rfl rfl)
theorem dX5_item_80 : decode cX5_item 80 = .ok (.bipush 32, 2) := dk_16 32 (dk_at dksX5_item_3 10 rfl rfl)
theorem dX5_item_82 : decode cX5_item 82 = .ok (.if_icmp .eq 12, 3) := dk_159 0 12 (dk_at dksX5_item_3 12 rfl rfl)
theorem dX5_item_85 : decode cX5_item 85 = .ok (.aload_n 0, 1) := dk_42 (dk_at dksX5_item_3 15 rfl rfl)
theorem dX5_item_86 : decode cX5_item 86 = .ok (.aload_n 0, 1) := dk_42 (dk_at dksX5_item_3 16 rfl rfl)
theorem dX5_item_87 : decode cX5_item 87 = .ok (.getfield 153, 3) := dk_180 0 153 (dk_at dksX5_item_3 17 rfl rfl)
theorem dX5_item_90 : decode cX5_item 90 = .ok (.invokevirtual 169, 3) := dk_182 0 169 (dk_at dksX5_item_3 20 rfl rfl)
theorem dX5_item_93 : decode cX5_item 93 = .ok (.ireturn, 1) := dk_172 (dk_at dksX5_item_3 23 rfl rfl)
theorem dX5_item_94 : decode cX5_item 94 = .ok (.aload_n 0, 1) := dk_42 (dk_at dksX5_item_4 0 rfl rfl)
theorem dX5_item_95 : decode cX5_item 95 = .ok (.dup, 1) := dk_89 (dk_at dksX5_item_4 1 rfl rfl)
theorem dX5_item_96 : decode cX5_item 96 = .ok (.getfield 153, 3) := dk_180 0 153 (dk_at dksX5_item_4 2 rfl rfl)
theorem dX5_item_99 : decode cX5_item 99 = .ok (.iconst 1, 1) := dk_4 (dk_at dksX5_item_4 5 rfl rfl)
theorem dX5_item_100 : decode cX5_item 100 = .ok (.iadd, 1) := dk_96 (dk_at dksX5_item_4 6 rfl rfl)
theorem dX5_item_101 : decode cX5_item 101 = .ok (.putfield 153, 3) := dk_181 0 153 (dk_at dksX5_item_4 7 rfl rfl)
theorem dX5_item_104 : decode cX5_item 104 = .ok (.aload_n 0, 1) := dk_42 (dk_at dksX5_item_4 10 rfl rfl)
theorem dX5_item_105 : decode cX5_item 105 = .ok (.getfield 153, 3) := dk_180 0 153 (dk_at dksX5_item_4 11 rfl rfl)
theorem dX5_item_108 : decode cX5_item 108 = .ok (.istore_n 3, 1) := dk_62 (dk_at dksX5_item_4 14 rfl rfl)
theorem dX5_item_109 : decode cX5_item 109 = .ok (.aload_n 0, 1) := dk_42 (dk_at dksX5_item_4 15 rfl rfl)
theorem dX5_item_110 : decode cX5_item 110 = .ok (.invokevirtual 179, 3) := dk_182 0 179 (dk_at dksX5_item_4 16 rfl rfl)
theorem dX5_item_113 : decode cX5_item 113 = .ok (.ifCond .ne 5, 3) := dk_154 0 5 (dk_at dksX5_item_4 19 rfl rfl)
theorem dX5_item_116 : decode cX5_item 116 = .ok (.iconst 0, 1) := dk_3 (dk_at dksX5_item_4 22 rfl rfl)
theorem dX5_item_117 : decode cX5_item 117 = .ok (.ireturn, 1) := dk_172 (dk_at dksX5_item_4 23 rfl rfl)
theorem dX5_item_118 : decode cX5_item 118 = .ok (.aload_n 0, 1) := dk_42 (dk_at dksX5_item_5 0 rfl rfl)
theorem dX5_item_119 : decode cX5_item 119 = .ok (.iload_n 1, 1) := dk_27 (dk_at dksX5_item_5 1 rfl rfl)
theorem dX5_item_120 : decode cX5_item 120 = .ok (.iload_n 2, 1) := dk_28 (dk_at dksX5_item_5 2 rfl rfl)
theorem dX5_item_121 : decode cX5_item 121 = .ok (.invokevirtual 182, 3) := dk_182 0 182 (dk_at dksX5_item_5 3 rfl rfl)
theorem dX5_item_124 : decode cX5_item 124 = .ok (.ifCond .ne 9, 3) := dk_154 0 9 (dk_at dksX5_item_5 6 rfl rfl)
theorem dX5_item_127 : decode cX5_item 127 = .ok (.aload_n 0, 1) := dk_42 (dk_at dksX5_item_5 9 rfl rfl)
theorem dX5_item_128 : decode cX5_item 128 = .ok (.iload_n 3, 1) := dk_29 (dk_at dksX5_item_5 10 rfl rfl)
theorem dX5_item_129 : decode cX5_item 129 = .ok (.invokevirtual 169, 3) := dk_182 0 169 (dk_at dksX5_item_5 11 rfl rfl)
theorem dX5_item_132 : decode cX5_item 132 = .ok (.ireturn, 1) := dk_172 (dk_at dksX5_item_5 14 rfl rfl)
theorem dX5_item_133 : decode cX5_item 133 = .ok (.aload_n 0, 1) := dk_42 (dk_at dksX5_item_5 15 rfl rfl)
theorem dX5_item_134 : decode cX5_item 134 = .ok (.getfield 81, 3) := dk_180 0 81 (dk_at dksX5_item_5 16 rfl rfl)
theorem dX5_item_137 : decode cX5_item 137 = .ok (.iload_n 2, 1) := dk_28 (dk_at dksX5_item_5 19 rfl rfl)
theorem dX5_item_138 : decode cX5_item 138 = .ok (.aload_n 0, 1) := dk_42 (dk_at dksX5_item_5 20 rfl rfl)
theorem dX5_item_139 : decode cX5_item 139 = .ok (.getfield 162, 3) := dk_180 0 162 (dk_at dksX5_item_5 21 rfl rfl)
theorem dX5_item_142 : decode cX5_item 142 = .ok (.iastore, 1) := dk_79 (dk_at dksX5_item_6 0 rfl rfl)
theorem dX5_item_143 : decode cX5_item 143 = .ok (.iinc 2 1, 3) := dk_132 2 1 (dk_at dksX5_item_6 1 rfl rfl)
theorem dX5_item_146 : decode cX5_item 146 = .ok (.goto (-106), 3) := dk_167 255 150 (dk_at dksX5_item_6 4 rfl rfl)
theorem dX5_item_149 : decode cX5_item 149 = .ok (.iload_n 1, 1) := dk_27 (dk_at dksX5_item_6 7 rfl rfl)
theorem dX5_item_150 : decode cX5_item 150 = .ok (.tableswitch 125 0 4 #[34, 34, 51, 66, 110], 34) := by decide +kernel
theorem dX5_item_184 : decode cX5_item 184 = .ok (.aload_n 0, 1) := dk_42 (dk_at dksX5_item_8 0 rfl rfl)
theorem dX5_item_185 : decode cX5_item 185 = .ok (.getfield 47, 3) := dk_180 0 47 (dk_at dksX5_item_8 1 rfl rfl)
theorem dX5_item_188 : decode cX5_item 188 = .ok (.aload_n 0, 1) := dk_42 (dk_at dksX5_item_8 4 rfl rfl)
theorem dX5_item_189 : decode cX5_item 189 = .ok (.getfield 81, 3) := dk_180 0 81 (dk_at dksX5_item_8 5 rfl rfl)
theorem dX5_item_192 : decode cX5_item 192 = .ok (.iconst 0, 1) := dk_3 (dk_at dksX5_item_8 8 rfl rfl)
theorem dX5_item_193 : decode cX5_item 193 = .ok (.iaload, 1) := dk_46 (dk_at dksX5_item_8 9 rfl rfl)
theorem dX5_item_194 : decode cX5_item 194 = .ok (.iconst 1, 1) := dk_4 (dk_at dksX5_item_8 10 rfl rfl)
theorem dX5_item_195 : decode cX5_item 195 = .ok (.iload_n 1, 1) := dk_27 (dk_at dksX5_item_8 11 rfl rfl)
theorem dX5_item_196 : decode cX5_item 196 = .ok (.isub, 1) := dk_100 (dk_at dksX5_item_8 12 rfl rfl)
theorem dX5_item_197 : decode cX5_item 197 = .ok (.iastore, 1) := dk_79 (dk_at dksX5_item_8 13 rfl rfl)
theorem dX5_item_198 : decode cX5_item 198 = .ok (.goto 90, 3) := dk_167 0 90 (dk_at dksX5_item_8 14 rfl rfl)
theorem dX5_item_201 : decode cX5_item 201 = .ok (.aload_n 0, 1) := dk_42 (dk_at dksX5_item_8 17 rfl rfl)
theorem dX5_item_202 : decode cX5_item 202 = .ok (.getfield 50, 3) := dk_180 0 50 (dk_at dksX5_item_8 18 rfl rfl)
theorem dX5_item_205 : decode cX5_item 205 = .ok (.aload_n 0, 1) := dk_42 (dk_at dksX5_item_8 21 rfl rfl)
theorem dX5_item_206 : decode cX5_item 206 = .ok (.getfield 81, 3) := dk_180 0 81 (dk_at dksX5_item_9 0 rfl rfl)
theorem dX5_item_209 : decode cX5_item 209 = .ok (.iconst 0, 1) := dk_3 (dk_at dksX5_item_9 3 rfl rfl)
theorem dX5_item_210 : decode cX5_item 210 = .ok (.iaload, 1) := dk_46 (dk_at dksX5_item_9 4 rfl rfl)
theorem dX5_item_211 : decode cX5_item 211 = .ok (.iconst 1, 1) := dk_4 (dk_at dksX5_item_9 5 rfl rfl)
theorem dX5_item_212 : decode cX5_item 212 = .ok (.iastore, 1) := dk_79 (dk_at dksX5_item_9 6 rfl rfl)
theorem dX5_item_213 : decode cX5_item 213 = .ok (.goto 75, 3) := dk_167 0 75 (dk_at dksX5_item_9 7 rfl rfl)
theorem dX5_item_216 : decode cX5_item 216 = .ok (.aload_n 0, 1) := dk_42 (dk_at dksX5_item_9 10 rfl rfl)
theorem dX5_item_217 : decode cX5_item 217 = .ok (.aload_n 0, 1) := dk_42 (dk_at dksX5_item_9 11 rfl rfl)
theorem dX5_item_218 : decode cX5_item 218 = .ok (.getfield 81, 3) := dk_180 0 81 (dk_at dksX5_item_9 12 rfl rfl)
theorem dX5_item_221 : decode cX5_item 221 = .ok (.iconst 0, 1) := dk_3 (dk_at dksX5_item_9 15 rfl rfl)
theorem dX5_item_222 : decode cX5_item 222 = .ok (.iaload, 1) := dk_46 (dk_at dksX5_item_9 16 rfl rfl)
theorem dX5_item_223 : decode cX5_item 223 = .ok (.aload_n 0, 1) := dk_42 (dk_at dksX5_item_9 17 rfl rfl)
theorem dX5_item_224 : decode cX5_item 224 = .ok (.getfield 81, 3) := dk_180 0 81 (dk_at dksX5_item_9 18 rfl rfl)
theorem dX5_item_227 : decode cX5_item 227 = .ok (.iconst 1, 1) := dk_4 (dk_at dksX5_item_9 21 rfl rfl)
theorem dX5_item_228 : decode cX5_item 228 = .ok (.iaload, 1) := dk_46 (dk_at dksX5_item_9 22 rfl rfl)
theorem dX5_item_229 : decode cX5_item 229 = .ok (.aload_n 0, 1) := dk_42 (dk_at dksX5_item_9 23 rfl rfl)
theorem dX5_item_230 : decode cX5_item 230 = .ok (.getfield 81, 3) := dk_180 0 81 (dk_at dksX5_item_10 0 rfl rfl)
theorem dX5_item_233 : decode cX5_item 233 = .ok (.iconst 2, 1) := dk_5 (dk_at dksX5_item_10 3 rfl rfl)
theorem dX5_item_234 : decode cX5_item 234 = .ok (.iaload, 1) := dk_46 (dk_at dksX5_item_10 4 rfl rfl)
theorem dX5_item_235 : decode cX5_item 235 = .ok (.aload_n 0, 1) := dk_42 (dk_at dksX5_item_10 5 rfl rfl)
theorem dX5_item_236 : decode cX5_item 236 = .ok (.getfield 81, 3) := dk_180 0 81 (dk_at dksX5_item_10 6 rfl rfl)
theorem dX5_item_239 : decode cX5_item 239 = .ok (.iconst 3, 1) := dk_6 (dk_at dksX5_item_10 9 rfl rfl)
theorem dX5_item_240 : decode cX5_item 240 = .ok (.iaload, 1) := dk_46 (dk_at dksX5_item_10 10 rfl rfl)
theorem dX5_item_241 : decode cX5_item 241 = .ok (.aload_n 0, 1) := dk_42 (dk_at dksX5_item_10 11 rfl rfl)
theorem dX5_item_242 : decode cX5_item 242 = .ok (.getfield 81, 3) := dk_180 0 81 (dk_at dksX5_item_10 12 rfl rfl)
theorem dX5_item_245 : decode cX5_item 245 = .ok (.iconst 4, 1) := dk_7 (dk_at dksX5_item_10 15 rfl rfl)
theorem dX5_item_246 : decode cX5_item 246 = .ok (.iaload, 1) := dk_46 (dk_at dksX5_item_10 16 rfl rfl)
theorem dX5_item_247 : decode cX5_item 247 = .ok (.aload_n 0, 1) := dk_42 (dk_at dksX5_item_10 17 rfl rfl)
theorem dX5_item_248 : decode cX5_item 248 = .ok (.getfield 81, 3) := dk_180 0 81 (dk_at dksX5_item_10 18 rfl rfl)
theorem dX5_item_251 : decode cX5_item 251 = .ok (.iconst 5, 1) := dk_8 (dk_at dksX5_item_10 21 rfl rfl)
theorem dX5_item_252 : decode cX5_item 252 = .ok (.iaload, 1) := dk_46 (dk_at dksX5_item_10 22 rfl rfl)
theorem dX5_item_253 : decode cX5_item 253 = .ok (.invokevirtual 132, 3) := dk_182 0 132 (dk_at dksX5_item_11 0 rfl rfl)
theorem dX5_item_256 : decode cX5_item 256 = .ok (.pop, 1) := dk_87 (dk_at dksX5_item_11 3 rfl rfl)
theorem dX5_item_257 : decode cX5_item 257 = .ok (.goto 31, 3) := dk_167 0 31 (dk_at dksX5_item_11 4 rfl rfl)
theorem dX5_item_260 : decode cX5_item 260 = .ok (.aload_n 0, 1) := dk_42 (dk_at dksX5_item_11 7 rfl rfl)
theorem dX5_item_261 : decode cX5_item 261 = .ok (.getfield 44, 3) := dk_180 0 44 (dk_at dksX5_item_11 8 rfl rfl)
theorem dX5_item_264 : decode cX5_item 264 = .ok (.aload_n 0, 1) := dk_42 (dk_at dksX5_item_11 11 rfl rfl)
theorem dX5_item_265 : decode cX5_item 265 = .ok (.getfield 81, 3) := dk_180 0 81 (dk_at dksX5_item_11 12 rfl rfl)
theorem dX5_item_268 : decode cX5_item 268 = .ok (.iconst 0, 1) := dk_3 (dk_at dksX5_item_11 15 rfl rfl)
theorem dX5_item_269 : decode cX5_item 269 = .ok (.iaload, 1) := dk_46 (dk_at dksX5_item_11 16 rfl rfl)
theorem dX5_item_270 : decode cX5_item 270 = .ok (.iconst 1, 1) := dk_4 (dk_at dksX5_item_11 17 rfl rfl)
theorem dX5_item_271 : decode cX5_item 271 = .ok (.iastore, 1) := dk_79 (dk_at dksX5_item_11 18 rfl rfl)
theorem dX5_item_272 : decode cX5_item 272 = .ok (.goto 16, 3) := dk_167 0 16 (dk_at dksX5_item_11 19 rfl rfl)
theorem dX5_item_275 : decode cX5_item 275 = .ok (.aload_n 0, 1) := dk_42 (dk_at dksX5_item_11 22 rfl rfl)
theorem dX5_item_276 : decode cX5_item 276 = .ok (.iload_n 1, 1) := dk_27 (dk_at dksX5_item_11 23 rfl rfl)
theorem dX5_item_277 : decode cX5_item 277 = .ok (.iconst 5, 1) := dk_8 (dk_at dksX5_item_12 0 rfl rfl)
theorem dX5_item_278 : decode cX5_item 278 = .ok (.isub, 1) := dk_100 (dk_at dksX5_item_12 1 rfl rfl)
theorem dX5_item_279 : decode cX5_item 279 = .ok (.aload_n 0, 1) := dk_42 (dk_at dksX5_item_12 2 rfl rfl)
theorem dX5_item_280 : decode cX5_item 280 = .ok (.getfield 81, 3) := dk_180 0 81 (dk_at dksX5_item_12 3 rfl rfl)
theorem dX5_item_283 : decode cX5_item 283 = .ok (.iconst 0, 1) := dk_3 (dk_at dksX5_item_12 6 rfl rfl)
theorem dX5_item_284 : decode cX5_item 284 = .ok (.iaload, 1) := dk_46 (dk_at dksX5_item_12 7 rfl rfl)
theorem dX5_item_285 : decode cX5_item 285 = .ok (.invokevirtual 146, 3) := dk_182 0 146 (dk_at dksX5_item_12 8 rfl rfl)
theorem dX5_item_288 : decode cX5_item 288 = .ok (.iconst 1, 1) := dk_4 (dk_at dksX5_item_12 11 rfl rfl)
theorem dX5_item_289 : decode cX5_item 289 = .ok (.ireturn, 1) := dk_172 (dk_at dksX5_item_12 12 rfl rfl)
abbrev cX5_stands : ByteArray := prog_22_method_29_code
def yX5_stands : MethodName := ⟨RX5, "stands", "(I)Z"⟩
def dkwX5_stands_4 : List UInt8 := [163, 0, 7, 4, 167, 0, 4, 3, 172]
abbrev dktX5_stands_4 : List UInt8 := dkwX5_stands_4 ++ []
def dkwX5_stands_3 : List UInt8 := [28, 46, 160, 0, 12, 132, 3, 1, 132, 2, 1, 167, 255, 210, 42, 180, 0, 72, 28, 46, 16, 32]
abbrev dktX5_stands_3 : List UInt8 := dkwX5_stands_3 ++ dktX5_stands_4
def dkwX5_stands_2 : List UInt8 := [29, 42, 180, 0, 156, 162, 0, 33, 42, 180, 0, 65, 42, 180, 0, 159, 29, 96, 47, 136, 42, 180, 0, 72]
abbrev dktX5_stands_2 : List UInt8 := dkwX5_stands_2 ++ dktX5_stands_3
def dkwX5_stands_1 : List UInt8 := [96, 62, 132, 2, 1, 167, 255, 231, 42, 180, 0, 153, 62, 42, 180, 0, 72, 28, 46, 16, 32, 164, 0, 41]
abbrev dktX5_stands_1 : List UInt8 := dkwX5_stands_1 ++ dktX5_stands_2
def dkwX5_stands_0 : List UInt8 := [3, 61, 3, 62, 29, 27, 162, 0, 26, 29, 42, 180, 0, 72, 28, 46, 154, 0, 7, 4, 167, 0, 4, 3]
abbrev dktX5_stands_0 : List UInt8 := dkwX5_stands_0 ++ dktX5_stands_1
theorem dksX5_stands_0 : cX5_stands.data.toList.drop 0 = dktX5_stands_0 := by decide +kernel
theorem dksX5_stands_1 : cX5_stands.data.toList.drop 24 = dktX5_stands_1 := dk_seg dksX5_stands_0 24 rfl rfl
theorem dksX5_stands_2 : cX5_stands.data.toList.drop 48 = dktX5_stands_2 := dk_seg dksX5_stands_1 24 rfl rfl
theorem dksX5_stands_3 : cX5_stands.data.toList.drop 72 = dktX5_stands_3 := dk_seg dksX5_stands_2 24 rfl rfl
theorem dksX5_stands_4 : cX5_stands.data.toList.drop 94 = dktX5_stands_4 := dk_seg dksX5_stands_3 22 rfl rfl
theorem dX5_stands_0 : decode cX5_stands 0 = .ok (.iconst 0, 1) := dk_3 (dk_at dksX5_stands_0 0 rfl rfl)
theorem dX5_stands_1 : decode cX5_stands 1 = .ok (.istore_n 2, 1) := dk_61 (dk_at dksX5_stands_0 1 rfl rfl)
theorem dX5_stands_2 : decode cX5_stands 2 = .ok (.iconst 0, 1) := dk_3 (dk_at dksX5_stands_0 2 rfl rfl)
theorem dX5_stands_3 : decode cX5_stands 3 = .ok (.istore_n 3, 1) := dk_62 (dk_at dksX5_stands_0 3 rfl rfl)
theorem dX5_stands_4 : decode cX5_stands 4 = .ok (.iload_n 3, 1) := dk_29 (dk_at dksX5_stands_0 4 rfl rfl)
theorem dX5_stands_5 : decode cX5_stands 5 = .ok (.iload_n 1, 1) := dk_27 (dk_at dksX5_stands_0 5 rfl rfl)
theorem dX5_stands_6 : decode cX5_stands 6 = .ok (.if_icmp .ge 26, 3) := dk_162 0 26 (dk_at dksX5_stands_0 6 rfl rfl)
theorem dX5_stands_9 : decode cX5_stands 9 = .ok (.iload_n 3, 1) := dk_29 (dk_at dksX5_stands_0 9 rfl rfl)
theorem dX5_stands_10 : decode cX5_stands 10 = .ok (.aload_n 0, 1) := dk_42 (dk_at dksX5_stands_0 10 rfl rfl)
theorem dX5_stands_11 : decode cX5_stands 11 = .ok (.getfield 72, 3) := dk_180 0 72 (dk_at dksX5_stands_0 11 rfl rfl)
theorem dX5_stands_14 : decode cX5_stands 14 = .ok (.iload_n 2, 1) := dk_28 (dk_at dksX5_stands_0 14 rfl rfl)
theorem dX5_stands_15 : decode cX5_stands 15 = .ok (.iaload, 1) := dk_46 (dk_at dksX5_stands_0 15 rfl rfl)
theorem dX5_stands_16 : decode cX5_stands 16 = .ok (.ifCond .ne 7, 3) := dk_154 0 7 (dk_at dksX5_stands_0 16 rfl rfl)
theorem dX5_stands_19 : decode cX5_stands 19 = .ok (.iconst 1, 1) := dk_4 (dk_at dksX5_stands_0 19 rfl rfl)
theorem dX5_stands_20 : decode cX5_stands 20 = .ok (.goto 4, 3) := dk_167 0 4 (dk_at dksX5_stands_0 20 rfl rfl)
theorem dX5_stands_23 : decode cX5_stands 23 = .ok (.iconst 0, 1) := dk_3 (dk_at dksX5_stands_0 23 rfl rfl)
theorem dX5_stands_24 : decode cX5_stands 24 = .ok (.iadd, 1) := dk_96 (dk_at dksX5_stands_1 0 rfl rfl)
theorem dX5_stands_25 : decode cX5_stands 25 = .ok (.istore_n 3, 1) := dk_62 (dk_at dksX5_stands_1 1 rfl rfl)
theorem dX5_stands_26 : decode cX5_stands 26 = .ok (.iinc 2 1, 3) := dk_132 2 1 (dk_at dksX5_stands_1 2 rfl rfl)
theorem dX5_stands_29 : decode cX5_stands 29 = .ok (.goto (-25), 3) := dk_167 255 231 (dk_at dksX5_stands_1 5 rfl rfl)
theorem dX5_stands_32 : decode cX5_stands 32 = .ok (.aload_n 0, 1) := dk_42 (dk_at dksX5_stands_1 8 rfl rfl)
theorem dX5_stands_33 : decode cX5_stands 33 = .ok (.getfield 153, 3) := dk_180 0 153 (dk_at dksX5_stands_1 9 rfl rfl)
theorem dX5_stands_36 : decode cX5_stands 36 = .ok (.istore_n 3, 1) := dk_62 (dk_at dksX5_stands_1 12 rfl rfl)
theorem dX5_stands_37 : decode cX5_stands 37 = .ok (.aload_n 0, 1) := dk_42 (dk_at dksX5_stands_1 13 rfl rfl)
theorem dX5_stands_38 : decode cX5_stands 38 = .ok (.getfield 72, 3) := dk_180 0 72 (dk_at dksX5_stands_1 14 rfl rfl)
theorem dX5_stands_41 : decode cX5_stands 41 = .ok (.iload_n 2, 1) := dk_28 (dk_at dksX5_stands_1 17 rfl rfl)
theorem dX5_stands_42 : decode cX5_stands 42 = .ok (.iaload, 1) := dk_46 (dk_at dksX5_stands_1 18 rfl rfl)
theorem dX5_stands_43 : decode cX5_stands 43 = .ok (.bipush 32, 2) := dk_16 32 (dk_at dksX5_stands_1 19 rfl rfl)
theorem dX5_stands_45 : decode cX5_stands 45 = .ok (.if_icmp .le 41, 3) := dk_164 0 41 (dk_at dksX5_stands_1 21 rfl rfl)
theorem dX5_stands_48 : decode cX5_stands 48 = .ok (.iload_n 3, 1) := dk_29 (dk_at dksX5_stands_2 0 rfl rfl)
theorem dX5_stands_49 : decode cX5_stands 49 = .ok (.aload_n 0, 1) := dk_42 (dk_at dksX5_stands_2 1 rfl rfl)
theorem dX5_stands_50 : decode cX5_stands 50 = .ok (.getfield 156, 3) := dk_180 0 156 (dk_at dksX5_stands_2 2 rfl rfl)
theorem dX5_stands_53 : decode cX5_stands 53 = .ok (.if_icmp .ge 33, 3) := dk_162 0 33 (dk_at dksX5_stands_2 5 rfl rfl)
theorem dX5_stands_56 : decode cX5_stands 56 = .ok (.aload_n 0, 1) := dk_42 (dk_at dksX5_stands_2 8 rfl rfl)
theorem dX5_stands_57 : decode cX5_stands 57 = .ok (.getfield 65, 3) := dk_180 0 65 (dk_at dksX5_stands_2 9 rfl rfl)
theorem dX5_stands_60 : decode cX5_stands 60 = .ok (.aload_n 0, 1) := dk_42 (dk_at dksX5_stands_2 12 rfl rfl)
theorem dX5_stands_61 : decode cX5_stands 61 = .ok (.getfield 159, 3) := dk_180 0 159 (dk_at dksX5_stands_2 13 rfl rfl)
theorem dX5_stands_64 : decode cX5_stands 64 = .ok (.iload_n 3, 1) := dk_29 (dk_at dksX5_stands_2 16 rfl rfl)
theorem dX5_stands_65 : decode cX5_stands 65 = .ok (.iadd, 1) := dk_96 (dk_at dksX5_stands_2 17 rfl rfl)
theorem dX5_stands_66 : decode cX5_stands 66 = .ok (.laload, 1) := dk_47 (dk_at dksX5_stands_2 18 rfl rfl)
theorem dX5_stands_67 : decode cX5_stands 67 = .ok (.l2i, 1) := dk_136 (dk_at dksX5_stands_2 19 rfl rfl)
theorem dX5_stands_68 : decode cX5_stands 68 = .ok (.aload_n 0, 1) := dk_42 (dk_at dksX5_stands_2 20 rfl rfl)
theorem dX5_stands_69 : decode cX5_stands 69 = .ok (.getfield 72, 3) := dk_180 0 72 (dk_at dksX5_stands_2 21 rfl rfl)
theorem dX5_stands_72 : decode cX5_stands 72 = .ok (.iload_n 2, 1) := dk_28 (dk_at dksX5_stands_3 0 rfl rfl)
theorem dX5_stands_73 : decode cX5_stands 73 = .ok (.iaload, 1) := dk_46 (dk_at dksX5_stands_3 1 rfl rfl)
theorem dX5_stands_74 : decode cX5_stands 74 = .ok (.if_icmp .ne 12, 3) := dk_160 0 12 (dk_at dksX5_stands_3 2 rfl rfl)
theorem dX5_stands_77 : decode cX5_stands 77 = .ok (.iinc 3 1, 3) := dk_132 3 1 (dk_at dksX5_stands_3 5 rfl rfl)
theorem dX5_stands_80 : decode cX5_stands 80 = .ok (.iinc 2 1, 3) := dk_132 2 1 (dk_at dksX5_stands_3 8 rfl rfl)
theorem dX5_stands_83 : decode cX5_stands 83 = .ok (.goto (-46), 3) := dk_167 255 210 (dk_at dksX5_stands_3 11 rfl rfl)
theorem dX5_stands_86 : decode cX5_stands 86 = .ok (.aload_n 0, 1) := dk_42 (dk_at dksX5_stands_3 14 rfl rfl)
theorem dX5_stands_87 : decode cX5_stands 87 = .ok (.getfield 72, 3) := dk_180 0 72 (dk_at dksX5_stands_3 15 rfl rfl)
theorem dX5_stands_90 : decode cX5_stands 90 = .ok (.iload_n 2, 1) := dk_28 (dk_at dksX5_stands_3 18 rfl rfl)
theorem dX5_stands_91 : decode cX5_stands 91 = .ok (.iaload, 1) := dk_46 (dk_at dksX5_stands_3 19 rfl rfl)
theorem dX5_stands_92 : decode cX5_stands 92 = .ok (.bipush 32, 2) := dk_16 32 (dk_at dksX5_stands_3 20 rfl rfl)
theorem dX5_stands_94 : decode cX5_stands 94 = .ok (.if_icmp .gt 7, 3) := dk_163 0 7 (dk_at dksX5_stands_4 0 rfl rfl)
theorem dX5_stands_97 : decode cX5_stands 97 = .ok (.iconst 1, 1) := dk_4 (dk_at dksX5_stands_4 3 rfl rfl)
theorem dX5_stands_98 : decode cX5_stands 98 = .ok (.goto 4, 3) := dk_167 0 4 (dk_at dksX5_stands_4 4 rfl rfl)
theorem dX5_stands_101 : decode cX5_stands 101 = .ok (.iconst 0, 1) := dk_3 (dk_at dksX5_stands_4 7 rfl rfl)
theorem dX5_stands_102 : decode cX5_stands 102 = .ok (.ireturn, 1) := dk_172 (dk_at dksX5_stands_4 8 rfl rfl)
abbrev cX5_wrong : ByteArray := prog_22_method_28_code
def yX5_wrong : MethodName := ⟨RX5, "wrong", "(I)Z"⟩
def dkwX5_wrong_0 : List UInt8 := [42, 27, 181, 0, 150, 3, 172]
abbrev dktX5_wrong_0 : List UInt8 := dkwX5_wrong_0 ++ []
theorem dksX5_wrong_0 : cX5_wrong.data.toList.drop 0 = dktX5_wrong_0 := by decide +kernel
theorem dX5_wrong_0 : decode cX5_wrong 0 = .ok (.aload_n 0, 1) := dk_42 (dk_at dksX5_wrong_0 0 rfl rfl)
theorem dX5_wrong_1 : decode cX5_wrong 1 = .ok (.iload_n 1, 1) := dk_27 (dk_at dksX5_wrong_0 1 rfl rfl)
theorem dX5_wrong_2 : decode cX5_wrong 2 = .ok (.putfield 150, 3) := dk_181 0 150 (dk_at dksX5_wrong_0 2 rfl rfl)
theorem dX5_wrong_5 : decode cX5_wrong 5 = .ok (.iconst 0, 1) := dk_3 (dk_at dksX5_wrong_0 5 rfl rfl)
theorem dX5_wrong_6 : decode cX5_wrong 6 = .ok (.ireturn, 1) := dk_172 (dk_at dksX5_wrong_0 6 rfl rfl)
abbrev cX5_word : ByteArray := prog_22_method_30_code
def yX5_word : MethodName := ⟨RX5, "word", "()I"⟩
def dkwX5_word_5 : List UInt8 := [167, 255, 244, 132, 1, 1, 132, 3, 1, 167, 255, 138, 42, 28, 181, 0, 150, 2, 172]
abbrev dktX5_word_5 : List UInt8 := dkwX5_word_5 ++ []
def dkwX5_word_4 : List UInt8 := [164, 0, 8, 21, 4, 167, 0, 4, 28, 61, 42, 180, 0, 72, 27, 46, 153, 0, 9, 132, 1, 1]
abbrev dktX5_word_4 : List UInt8 := dkwX5_word_4 ++ dktX5_word_5
def dkwX5_word_3 : List UInt8 := [167, 255, 208, 42, 180, 0, 72, 21, 5, 46, 154, 0, 11, 42, 21, 4, 181, 0, 153, 29, 172, 21, 4, 28]
abbrev dktX5_word_3 : List UInt8 := dkwX5_word_3 ++ dktX5_word_4
def dkwX5_word_2 : List UInt8 := [180, 0, 159, 21, 4, 96, 47, 136, 42, 180, 0, 72, 21, 5, 46, 160, 0, 12, 132, 4, 1, 132, 5, 1]
abbrev dktX5_word_2 : List UInt8 := dkwX5_word_2 ++ dktX5_word_3
def dkwX5_word_1 : List UInt8 := [42, 180, 0, 72, 21, 5, 46, 153, 0, 44, 21, 4, 42, 180, 0, 156, 162, 0, 35, 42, 180, 0, 65, 42]
abbrev dktX5_word_1 : List UInt8 := dkwX5_word_1 ++ dktX5_word_2
def dkwX5_word_0 : List UInt8 := [3, 60, 42, 180, 0, 153, 61, 3, 62, 29, 16, 7, 162, 0, 118, 42, 180, 0, 153, 54, 4, 27, 54, 5]
abbrev dktX5_word_0 : List UInt8 := dkwX5_word_0 ++ dktX5_word_1
theorem dksX5_word_0 : cX5_word.data.toList.drop 0 = dktX5_word_0 := by decide +kernel
theorem dksX5_word_1 : cX5_word.data.toList.drop 24 = dktX5_word_1 := dk_seg dksX5_word_0 24 rfl rfl
theorem dksX5_word_2 : cX5_word.data.toList.drop 48 = dktX5_word_2 := dk_seg dksX5_word_1 24 rfl rfl
theorem dksX5_word_3 : cX5_word.data.toList.drop 72 = dktX5_word_3 := dk_seg dksX5_word_2 24 rfl rfl
theorem dksX5_word_4 : cX5_word.data.toList.drop 96 = dktX5_word_4 := dk_seg dksX5_word_3 24 rfl rfl
theorem dksX5_word_5 : cX5_word.data.toList.drop 118 = dktX5_word_5 := dk_seg dksX5_word_4 22 rfl rfl
theorem dX5_word_0 : decode cX5_word 0 = .ok (.iconst 0, 1) := dk_3 (dk_at dksX5_word_0 0 rfl rfl)
theorem dX5_word_1 : decode cX5_word 1 = .ok (.istore_n 1, 1) := dk_60 (dk_at dksX5_word_0 1 rfl rfl)
theorem dX5_word_2 : decode cX5_word 2 = .ok (.aload_n 0, 1) := dk_42 (dk_at dksX5_word_0 2 rfl rfl)
theorem dX5_word_3 : decode cX5_word 3 = .ok (.getfield 153, 3) := dk_180 0 153 (dk_at dksX5_word_0 3 rfl rfl)
theorem dX5_word_6 : decode cX5_word 6 = .ok (.istore_n 2, 1) := dk_61 (dk_at dksX5_word_0 6 rfl rfl)
theorem dX5_word_7 : decode cX5_word 7 = .ok (.iconst 0, 1) := dk_3 (dk_at dksX5_word_0 7 rfl rfl)
theorem dX5_word_8 : decode cX5_word 8 = .ok (.istore_n 3, 1) := dk_62 (dk_at dksX5_word_0 8 rfl rfl)
theorem dX5_word_9 : decode cX5_word 9 = .ok (.iload_n 3, 1) := dk_29 (dk_at dksX5_word_0 9 rfl rfl)
theorem dX5_word_10 : decode cX5_word 10 = .ok (.bipush 7, 2) := dk_16 7 (dk_at dksX5_word_0 10 rfl rfl)
theorem dX5_word_12 : decode cX5_word 12 = .ok (.if_icmp .ge 118, 3) := dk_162 0 118 (dk_at dksX5_word_0 12 rfl rfl)
theorem dX5_word_15 : decode cX5_word 15 = .ok (.aload_n 0, 1) := dk_42 (dk_at dksX5_word_0 15 rfl rfl)
theorem dX5_word_16 : decode cX5_word 16 = .ok (.getfield 153, 3) := dk_180 0 153 (dk_at dksX5_word_0 16 rfl rfl)
theorem dX5_word_19 : decode cX5_word 19 = .ok (.istore 4, 2) := dk_54 4 (dk_at dksX5_word_0 19 rfl rfl)
theorem dX5_word_21 : decode cX5_word 21 = .ok (.iload_n 1, 1) := dk_27 (dk_at dksX5_word_0 21 rfl rfl)
theorem dX5_word_22 : decode cX5_word 22 = .ok (.istore 5, 2) := dk_54 5 (dk_at dksX5_word_0 22 rfl rfl)
theorem dX5_word_24 : decode cX5_word 24 = .ok (.aload_n 0, 1) := dk_42 (dk_at dksX5_word_1 0 rfl rfl)
theorem dX5_word_25 : decode cX5_word 25 = .ok (.getfield 72, 3) := dk_180 0 72 (dk_at dksX5_word_1 1 rfl rfl)
theorem dX5_word_28 : decode cX5_word 28 = .ok (.iload 5, 2) := dk_21 5 (dk_at dksX5_word_1 4 rfl rfl)
theorem dX5_word_30 : decode cX5_word 30 = .ok (.iaload, 1) := dk_46 (dk_at dksX5_word_1 6 rfl rfl)
theorem dX5_word_31 : decode cX5_word 31 = .ok (.ifCond .eq 44, 3) := dk_153 0 44 (dk_at dksX5_word_1 7 rfl rfl)
theorem dX5_word_34 : decode cX5_word 34 = .ok (.iload 4, 2) := dk_21 4 (dk_at dksX5_word_1 10 rfl rfl)
theorem dX5_word_36 : decode cX5_word 36 = .ok (.aload_n 0, 1) := dk_42 (dk_at dksX5_word_1 12 rfl rfl)
theorem dX5_word_37 : decode cX5_word 37 = .ok (.getfield 156, 3) := dk_180 0 156 (dk_at dksX5_word_1 13 rfl rfl)
theorem dX5_word_40 : decode cX5_word 40 = .ok (.if_icmp .ge 35, 3) := dk_162 0 35 (dk_at dksX5_word_1 16 rfl rfl)
theorem dX5_word_43 : decode cX5_word 43 = .ok (.aload_n 0, 1) := dk_42 (dk_at dksX5_word_1 19 rfl rfl)
theorem dX5_word_44 : decode cX5_word 44 = .ok (.getfield 65, 3) := dk_180 0 65 (dk_at dksX5_word_1 20 rfl rfl)
theorem dX5_word_47 : decode cX5_word 47 = .ok (.aload_n 0, 1) := dk_42 (dk_at dksX5_word_1 23 rfl rfl)
theorem dX5_word_48 : decode cX5_word 48 = .ok (.getfield 159, 3) := dk_180 0 159 (dk_at dksX5_word_2 0 rfl rfl)
theorem dX5_word_51 : decode cX5_word 51 = .ok (.iload 4, 2) := dk_21 4 (dk_at dksX5_word_2 3 rfl rfl)
theorem dX5_word_53 : decode cX5_word 53 = .ok (.iadd, 1) := dk_96 (dk_at dksX5_word_2 5 rfl rfl)
theorem dX5_word_54 : decode cX5_word 54 = .ok (.laload, 1) := dk_47 (dk_at dksX5_word_2 6 rfl rfl)
theorem dX5_word_55 : decode cX5_word 55 = .ok (.l2i, 1) := dk_136 (dk_at dksX5_word_2 7 rfl rfl)
theorem dX5_word_56 : decode cX5_word 56 = .ok (.aload_n 0, 1) := dk_42 (dk_at dksX5_word_2 8 rfl rfl)
theorem dX5_word_57 : decode cX5_word 57 = .ok (.getfield 72, 3) := dk_180 0 72 (dk_at dksX5_word_2 9 rfl rfl)
theorem dX5_word_60 : decode cX5_word 60 = .ok (.iload 5, 2) := dk_21 5 (dk_at dksX5_word_2 12 rfl rfl)
theorem dX5_word_62 : decode cX5_word 62 = .ok (.iaload, 1) := dk_46 (dk_at dksX5_word_2 14 rfl rfl)
theorem dX5_word_63 : decode cX5_word 63 = .ok (.if_icmp .ne 12, 3) := dk_160 0 12 (dk_at dksX5_word_2 15 rfl rfl)
theorem dX5_word_66 : decode cX5_word 66 = .ok (.iinc 4 1, 3) := dk_132 4 1 (dk_at dksX5_word_2 18 rfl rfl)
theorem dX5_word_69 : decode cX5_word 69 = .ok (.iinc 5 1, 3) := dk_132 5 1 (dk_at dksX5_word_2 21 rfl rfl)
theorem dX5_word_72 : decode cX5_word 72 = .ok (.goto (-48), 3) := dk_167 255 208 (dk_at dksX5_word_3 0 rfl rfl)
theorem dX5_word_75 : decode cX5_word 75 = .ok (.aload_n 0, 1) := dk_42 (dk_at dksX5_word_3 3 rfl rfl)
theorem dX5_word_76 : decode cX5_word 76 = .ok (.getfield 72, 3) := dk_180 0 72 (dk_at dksX5_word_3 4 rfl rfl)
theorem dX5_word_79 : decode cX5_word 79 = .ok (.iload 5, 2) := dk_21 5 (dk_at dksX5_word_3 7 rfl rfl)
theorem dX5_word_81 : decode cX5_word 81 = .ok (.iaload, 1) := dk_46 (dk_at dksX5_word_3 9 rfl rfl)
theorem dX5_word_82 : decode cX5_word 82 = .ok (.ifCond .ne 11, 3) := dk_154 0 11 (dk_at dksX5_word_3 10 rfl rfl)
theorem dX5_word_85 : decode cX5_word 85 = .ok (.aload_n 0, 1) := dk_42 (dk_at dksX5_word_3 13 rfl rfl)
theorem dX5_word_86 : decode cX5_word 86 = .ok (.iload 4, 2) := dk_21 4 (dk_at dksX5_word_3 14 rfl rfl)
theorem dX5_word_88 : decode cX5_word 88 = .ok (.putfield 153, 3) := dk_181 0 153 (dk_at dksX5_word_3 16 rfl rfl)
theorem dX5_word_91 : decode cX5_word 91 = .ok (.iload_n 3, 1) := dk_29 (dk_at dksX5_word_3 19 rfl rfl)
theorem dX5_word_92 : decode cX5_word 92 = .ok (.ireturn, 1) := dk_172 (dk_at dksX5_word_3 20 rfl rfl)
theorem dX5_word_93 : decode cX5_word 93 = .ok (.iload 4, 2) := dk_21 4 (dk_at dksX5_word_3 21 rfl rfl)
theorem dX5_word_95 : decode cX5_word 95 = .ok (.iload_n 2, 1) := dk_28 (dk_at dksX5_word_3 23 rfl rfl)
theorem dX5_word_96 : decode cX5_word 96 = .ok (.if_icmp .le 8, 3) := dk_164 0 8 (dk_at dksX5_word_4 0 rfl rfl)
theorem dX5_word_99 : decode cX5_word 99 = .ok (.iload 4, 2) := dk_21 4 (dk_at dksX5_word_4 3 rfl rfl)
theorem dX5_word_101 : decode cX5_word 101 = .ok (.goto 4, 3) := dk_167 0 4 (dk_at dksX5_word_4 5 rfl rfl)
theorem dX5_word_104 : decode cX5_word 104 = .ok (.iload_n 2, 1) := dk_28 (dk_at dksX5_word_4 8 rfl rfl)
theorem dX5_word_105 : decode cX5_word 105 = .ok (.istore_n 2, 1) := dk_61 (dk_at dksX5_word_4 9 rfl rfl)
theorem dX5_word_106 : decode cX5_word 106 = .ok (.aload_n 0, 1) := dk_42 (dk_at dksX5_word_4 10 rfl rfl)
theorem dX5_word_107 : decode cX5_word 107 = .ok (.getfield 72, 3) := dk_180 0 72 (dk_at dksX5_word_4 11 rfl rfl)
theorem dX5_word_110 : decode cX5_word 110 = .ok (.iload_n 1, 1) := dk_27 (dk_at dksX5_word_4 14 rfl rfl)
theorem dX5_word_111 : decode cX5_word 111 = .ok (.iaload, 1) := dk_46 (dk_at dksX5_word_4 15 rfl rfl)
theorem dX5_word_112 : decode cX5_word 112 = .ok (.ifCond .eq 9, 3) := dk_153 0 9 (dk_at dksX5_word_4 16 rfl rfl)
theorem dX5_word_115 : decode cX5_word 115 = .ok (.iinc 1 1, 3) := dk_132 1 1 (dk_at dksX5_word_4 19 rfl rfl)
theorem dX5_word_118 : decode cX5_word 118 = .ok (.goto (-12), 3) := dk_167 255 244 (dk_at dksX5_word_5 0 rfl rfl)
theorem dX5_word_121 : decode cX5_word 121 = .ok (.iinc 1 1, 3) := dk_132 1 1 (dk_at dksX5_word_5 3 rfl rfl)
theorem dX5_word_124 : decode cX5_word 124 = .ok (.iinc 3 1, 3) := dk_132 3 1 (dk_at dksX5_word_5 6 rfl rfl)
theorem dX5_word_127 : decode cX5_word 127 = .ok (.goto (-118), 3) := dk_167 255 138 (dk_at dksX5_word_5 9 rfl rfl)
theorem dX5_word_130 : decode cX5_word 130 = .ok (.aload_n 0, 1) := dk_42 (dk_at dksX5_word_5 12 rfl rfl)
theorem dX5_word_131 : decode cX5_word 131 = .ok (.iload_n 2, 1) := dk_28 (dk_at dksX5_word_5 13 rfl rfl)
theorem dX5_word_132 : decode cX5_word 132 = .ok (.putfield 150, 3) := dk_181 0 150 (dk_at dksX5_word_5 14 rfl rfl)
theorem dX5_word_135 : decode cX5_word 135 = .ok (.iconst (-1), 1) := dk_2 (dk_at dksX5_word_5 17 rfl rfl)
theorem dX5_word_136 : decode cX5_word 136 = .ok (.ireturn, 1) := dk_172 (dk_at dksX5_word_5 18 rfl rfl)
abbrev cX5_reads : ByteArray := prog_22_method_32_code
def yX5_reads : MethodName := ⟨RX5, "reads", "()Z"⟩
def dkwX5_reads_3 : List UInt8 := [181, 0, 153, 132, 1, 1, 167, 255, 201, 4, 172]
abbrev dktX5_reads_3 : List UInt8 := dkwX5_reads_3 ++ []
def dkwX5_reads_2 : List UInt8 := [180, 0, 159, 42, 180, 0, 153, 96, 47, 136, 96, 16, 48, 100, 181, 0, 162, 42, 89, 180, 0, 153, 4, 96]
abbrev dktX5_reads_2 : List UInt8 := dkwX5_reads_2 ++ dktX5_reads_3
def dkwX5_reads_1 : List UInt8 := [5, 162, 0, 56, 42, 182, 0, 165, 153, 0, 49, 42, 16, 10, 42, 180, 0, 162, 104, 42, 180, 0, 65, 42]
abbrev dktX5_reads_1 : List UInt8 := dkwX5_reads_1 ++ dktX5_reads_2
def dkwX5_reads_0 : List UInt8 := [42, 3, 181, 0, 162, 42, 182, 0, 165, 154, 0, 12, 42, 42, 180, 0, 153, 182, 0, 169, 172, 3, 60, 27]
abbrev dktX5_reads_0 : List UInt8 := dkwX5_reads_0 ++ dktX5_reads_1
theorem dksX5_reads_0 : cX5_reads.data.toList.drop 0 = dktX5_reads_0 := by decide +kernel
theorem dksX5_reads_1 : cX5_reads.data.toList.drop 24 = dktX5_reads_1 := dk_seg dksX5_reads_0 24 rfl rfl
theorem dksX5_reads_2 : cX5_reads.data.toList.drop 48 = dktX5_reads_2 := dk_seg dksX5_reads_1 24 rfl rfl
theorem dksX5_reads_3 : cX5_reads.data.toList.drop 72 = dktX5_reads_3 := dk_seg dksX5_reads_2 24 rfl rfl
theorem dX5_reads_0 : decode cX5_reads 0 = .ok (.aload_n 0, 1) := dk_42 (dk_at dksX5_reads_0 0 rfl rfl)
theorem dX5_reads_1 : decode cX5_reads 1 = .ok (.iconst 0, 1) := dk_3 (dk_at dksX5_reads_0 1 rfl rfl)
theorem dX5_reads_2 : decode cX5_reads 2 = .ok (.putfield 162, 3) := dk_181 0 162 (dk_at dksX5_reads_0 2 rfl rfl)
theorem dX5_reads_5 : decode cX5_reads 5 = .ok (.aload_n 0, 1) := dk_42 (dk_at dksX5_reads_0 5 rfl rfl)
theorem dX5_reads_6 : decode cX5_reads 6 = .ok (.invokevirtual 165, 3) := dk_182 0 165 (dk_at dksX5_reads_0 6 rfl rfl)
theorem dX5_reads_9 : decode cX5_reads 9 = .ok (.ifCond .ne 12, 3) := dk_154 0 12 (dk_at dksX5_reads_0 9 rfl rfl)
theorem dX5_reads_12 : decode cX5_reads 12 = .ok (.aload_n 0, 1) := dk_42 (dk_at dksX5_reads_0 12 rfl rfl)
theorem dX5_reads_13 : decode cX5_reads 13 = .ok (.aload_n 0, 1) := dk_42 (dk_at dksX5_reads_0 13 rfl rfl)
theorem dX5_reads_14 : decode cX5_reads 14 = .ok (.getfield 153, 3) := dk_180 0 153 (dk_at dksX5_reads_0 14 rfl rfl)
theorem dX5_reads_17 : decode cX5_reads 17 = .ok (.invokevirtual 169, 3) := dk_182 0 169 (dk_at dksX5_reads_0 17 rfl rfl)
theorem dX5_reads_20 : decode cX5_reads 20 = .ok (.ireturn, 1) := dk_172 (dk_at dksX5_reads_0 20 rfl rfl)
theorem dX5_reads_21 : decode cX5_reads 21 = .ok (.iconst 0, 1) := dk_3 (dk_at dksX5_reads_0 21 rfl rfl)
theorem dX5_reads_22 : decode cX5_reads 22 = .ok (.istore_n 1, 1) := dk_60 (dk_at dksX5_reads_0 22 rfl rfl)
theorem dX5_reads_23 : decode cX5_reads 23 = .ok (.iload_n 1, 1) := dk_27 (dk_at dksX5_reads_0 23 rfl rfl)
theorem dX5_reads_24 : decode cX5_reads 24 = .ok (.iconst 2, 1) := dk_5 (dk_at dksX5_reads_1 0 rfl rfl)
theorem dX5_reads_25 : decode cX5_reads 25 = .ok (.if_icmp .ge 56, 3) := dk_162 0 56 (dk_at dksX5_reads_1 1 rfl rfl)
theorem dX5_reads_28 : decode cX5_reads 28 = .ok (.aload_n 0, 1) := dk_42 (dk_at dksX5_reads_1 4 rfl rfl)
theorem dX5_reads_29 : decode cX5_reads 29 = .ok (.invokevirtual 165, 3) := dk_182 0 165 (dk_at dksX5_reads_1 5 rfl rfl)
theorem dX5_reads_32 : decode cX5_reads 32 = .ok (.ifCond .eq 49, 3) := dk_153 0 49 (dk_at dksX5_reads_1 8 rfl rfl)
theorem dX5_reads_35 : decode cX5_reads 35 = .ok (.aload_n 0, 1) := dk_42 (dk_at dksX5_reads_1 11 rfl rfl)
theorem dX5_reads_36 : decode cX5_reads 36 = .ok (.bipush 10, 2) := dk_16 10 (dk_at dksX5_reads_1 12 rfl rfl)
theorem dX5_reads_38 : decode cX5_reads 38 = .ok (.aload_n 0, 1) := dk_42 (dk_at dksX5_reads_1 14 rfl rfl)
theorem dX5_reads_39 : decode cX5_reads 39 = .ok (.getfield 162, 3) := dk_180 0 162 (dk_at dksX5_reads_1 15 rfl rfl)
theorem dX5_reads_42 : decode cX5_reads 42 = .ok (.imul, 1) := dk_104 (dk_at dksX5_reads_1 18 rfl rfl)
theorem dX5_reads_43 : decode cX5_reads 43 = .ok (.aload_n 0, 1) := dk_42 (dk_at dksX5_reads_1 19 rfl rfl)
theorem dX5_reads_44 : decode cX5_reads 44 = .ok (.getfield 65, 3) := dk_180 0 65 (dk_at dksX5_reads_1 20 rfl rfl)
theorem dX5_reads_47 : decode cX5_reads 47 = .ok (.aload_n 0, 1) := dk_42 (dk_at dksX5_reads_1 23 rfl rfl)
theorem dX5_reads_48 : decode cX5_reads 48 = .ok (.getfield 159, 3) := dk_180 0 159 (dk_at dksX5_reads_2 0 rfl rfl)
theorem dX5_reads_51 : decode cX5_reads 51 = .ok (.aload_n 0, 1) := dk_42 (dk_at dksX5_reads_2 3 rfl rfl)
theorem dX5_reads_52 : decode cX5_reads 52 = .ok (.getfield 153, 3) := dk_180 0 153 (dk_at dksX5_reads_2 4 rfl rfl)
theorem dX5_reads_55 : decode cX5_reads 55 = .ok (.iadd, 1) := dk_96 (dk_at dksX5_reads_2 7 rfl rfl)
theorem dX5_reads_56 : decode cX5_reads 56 = .ok (.laload, 1) := dk_47 (dk_at dksX5_reads_2 8 rfl rfl)
theorem dX5_reads_57 : decode cX5_reads 57 = .ok (.l2i, 1) := dk_136 (dk_at dksX5_reads_2 9 rfl rfl)
theorem dX5_reads_58 : decode cX5_reads 58 = .ok (.iadd, 1) := dk_96 (dk_at dksX5_reads_2 10 rfl rfl)
theorem dX5_reads_59 : decode cX5_reads 59 = .ok (.bipush 48, 2) := dk_16 48 (dk_at dksX5_reads_2 11 rfl rfl)
theorem dX5_reads_61 : decode cX5_reads 61 = .ok (.isub, 1) := dk_100 (dk_at dksX5_reads_2 13 rfl rfl)
theorem dX5_reads_62 : decode cX5_reads 62 = .ok (.putfield 162, 3) := dk_181 0 162 (dk_at dksX5_reads_2 14 rfl rfl)
theorem dX5_reads_65 : decode cX5_reads 65 = .ok (.aload_n 0, 1) := dk_42 (dk_at dksX5_reads_2 17 rfl rfl)
theorem dX5_reads_66 : decode cX5_reads 66 = .ok (.dup, 1) := dk_89 (dk_at dksX5_reads_2 18 rfl rfl)
theorem dX5_reads_67 : decode cX5_reads 67 = .ok (.getfield 153, 3) := dk_180 0 153 (dk_at dksX5_reads_2 19 rfl rfl)
theorem dX5_reads_70 : decode cX5_reads 70 = .ok (.iconst 1, 1) := dk_4 (dk_at dksX5_reads_2 22 rfl rfl)
theorem dX5_reads_71 : decode cX5_reads 71 = .ok (.iadd, 1) := dk_96 (dk_at dksX5_reads_2 23 rfl rfl)
theorem dX5_reads_72 : decode cX5_reads 72 = .ok (.putfield 153, 3) := dk_181 0 153 (dk_at dksX5_reads_3 0 rfl rfl)
theorem dX5_reads_75 : decode cX5_reads 75 = .ok (.iinc 1 1, 3) := dk_132 1 1 (dk_at dksX5_reads_3 3 rfl rfl)
theorem dX5_reads_78 : decode cX5_reads 78 = .ok (.goto (-55), 3) := dk_167 255 201 (dk_at dksX5_reads_3 6 rfl rfl)
theorem dX5_reads_81 : decode cX5_reads 81 = .ok (.iconst 1, 1) := dk_4 (dk_at dksX5_reads_3 9 rfl rfl)
theorem dX5_reads_82 : decode cX5_reads 82 = .ok (.ireturn, 1) := dk_172 (dk_at dksX5_reads_3 10 rfl rfl)
abbrev cX5_isDigit : ByteArray := prog_22_method_31_code
def yX5_isDigit : MethodName := ⟨RX5, "isDigit", "()Z"⟩
def dkwX5_isDigit_2 : List UInt8 := [163, 0, 7, 4, 167, 0, 4, 3, 172]
abbrev dktX5_isDigit_2 : List UInt8 := dkwX5_isDigit_2 ++ []
def dkwX5_isDigit_1 : List UInt8 := [47, 136, 16, 48, 161, 0, 27, 42, 180, 0, 65, 42, 180, 0, 159, 42, 180, 0, 153, 96, 47, 136, 16, 57]
abbrev dktX5_isDigit_1 : List UInt8 := dkwX5_isDigit_1 ++ dktX5_isDigit_2
def dkwX5_isDigit_0 : List UInt8 := [42, 180, 0, 153, 42, 180, 0, 156, 162, 0, 47, 42, 180, 0, 65, 42, 180, 0, 159, 42, 180, 0, 153, 96]
abbrev dktX5_isDigit_0 : List UInt8 := dkwX5_isDigit_0 ++ dktX5_isDigit_1
theorem dksX5_isDigit_0 : cX5_isDigit.data.toList.drop 0 = dktX5_isDigit_0 := by decide +kernel
theorem dksX5_isDigit_1 : cX5_isDigit.data.toList.drop 24 = dktX5_isDigit_1 := dk_seg dksX5_isDigit_0 24 rfl rfl
theorem dksX5_isDigit_2 : cX5_isDigit.data.toList.drop 48 = dktX5_isDigit_2 := dk_seg dksX5_isDigit_1 24 rfl rfl
theorem dX5_isDigit_0 : decode cX5_isDigit 0 = .ok (.aload_n 0, 1) := dk_42 (dk_at dksX5_isDigit_0 0 rfl rfl)
theorem dX5_isDigit_1 : decode cX5_isDigit 1 = .ok (.getfield 153, 3) := dk_180 0 153 (dk_at dksX5_isDigit_0 1 rfl rfl)
theorem dX5_isDigit_4 : decode cX5_isDigit 4 = .ok (.aload_n 0, 1) := dk_42 (dk_at dksX5_isDigit_0 4 rfl rfl)
theorem dX5_isDigit_5 : decode cX5_isDigit 5 = .ok (.getfield 156, 3) := dk_180 0 156 (dk_at dksX5_isDigit_0 5 rfl rfl)
theorem dX5_isDigit_8 : decode cX5_isDigit 8 = .ok (.if_icmp .ge 47, 3) := dk_162 0 47 (dk_at dksX5_isDigit_0 8 rfl rfl)
theorem dX5_isDigit_11 : decode cX5_isDigit 11 = .ok (.aload_n 0, 1) := dk_42 (dk_at dksX5_isDigit_0 11 rfl rfl)
theorem dX5_isDigit_12 : decode cX5_isDigit 12 = .ok (.getfield 65, 3) := dk_180 0 65 (dk_at dksX5_isDigit_0 12 rfl rfl)
theorem dX5_isDigit_15 : decode cX5_isDigit 15 = .ok (.aload_n 0, 1) := dk_42 (dk_at dksX5_isDigit_0 15 rfl rfl)
theorem dX5_isDigit_16 : decode cX5_isDigit 16 = .ok (.getfield 159, 3) := dk_180 0 159 (dk_at dksX5_isDigit_0 16 rfl rfl)
theorem dX5_isDigit_19 : decode cX5_isDigit 19 = .ok (.aload_n 0, 1) := dk_42 (dk_at dksX5_isDigit_0 19 rfl rfl)
theorem dX5_isDigit_20 : decode cX5_isDigit 20 = .ok (.getfield 153, 3) := dk_180 0 153 (dk_at dksX5_isDigit_0 20 rfl rfl)
theorem dX5_isDigit_23 : decode cX5_isDigit 23 = .ok (.iadd, 1) := dk_96 (dk_at dksX5_isDigit_0 23 rfl rfl)
theorem dX5_isDigit_24 : decode cX5_isDigit 24 = .ok (.laload, 1) := dk_47 (dk_at dksX5_isDigit_1 0 rfl rfl)
theorem dX5_isDigit_25 : decode cX5_isDigit 25 = .ok (.l2i, 1) := dk_136 (dk_at dksX5_isDigit_1 1 rfl rfl)
theorem dX5_isDigit_26 : decode cX5_isDigit 26 = .ok (.bipush 48, 2) := dk_16 48 (dk_at dksX5_isDigit_1 2 rfl rfl)
theorem dX5_isDigit_28 : decode cX5_isDigit 28 = .ok (.if_icmp .lt 27, 3) := dk_161 0 27 (dk_at dksX5_isDigit_1 4 rfl rfl)
theorem dX5_isDigit_31 : decode cX5_isDigit 31 = .ok (.aload_n 0, 1) := dk_42 (dk_at dksX5_isDigit_1 7 rfl rfl)
theorem dX5_isDigit_32 : decode cX5_isDigit 32 = .ok (.getfield 65, 3) := dk_180 0 65 (dk_at dksX5_isDigit_1 8 rfl rfl)
theorem dX5_isDigit_35 : decode cX5_isDigit 35 = .ok (.aload_n 0, 1) := dk_42 (dk_at dksX5_isDigit_1 11 rfl rfl)
theorem dX5_isDigit_36 : decode cX5_isDigit 36 = .ok (.getfield 159, 3) := dk_180 0 159 (dk_at dksX5_isDigit_1 12 rfl rfl)
theorem dX5_isDigit_39 : decode cX5_isDigit 39 = .ok (.aload_n 0, 1) := dk_42 (dk_at dksX5_isDigit_1 15 rfl rfl)
theorem dX5_isDigit_40 : decode cX5_isDigit 40 = .ok (.getfield 153, 3) := dk_180 0 153 (dk_at dksX5_isDigit_1 16 rfl rfl)
theorem dX5_isDigit_43 : decode cX5_isDigit 43 = .ok (.iadd, 1) := dk_96 (dk_at dksX5_isDigit_1 19 rfl rfl)
theorem dX5_isDigit_44 : decode cX5_isDigit 44 = .ok (.laload, 1) := dk_47 (dk_at dksX5_isDigit_1 20 rfl rfl)
theorem dX5_isDigit_45 : decode cX5_isDigit 45 = .ok (.l2i, 1) := dk_136 (dk_at dksX5_isDigit_1 21 rfl rfl)
theorem dX5_isDigit_46 : decode cX5_isDigit 46 = .ok (.bipush 57, 2) := dk_16 57 (dk_at dksX5_isDigit_1 22 rfl rfl)
theorem dX5_isDigit_48 : decode cX5_isDigit 48 = .ok (.if_icmp .gt 7, 3) := dk_163 0 7 (dk_at dksX5_isDigit_2 0 rfl rfl)
theorem dX5_isDigit_51 : decode cX5_isDigit 51 = .ok (.iconst 1, 1) := dk_4 (dk_at dksX5_isDigit_2 3 rfl rfl)
theorem dX5_isDigit_52 : decode cX5_isDigit 52 = .ok (.goto 4, 3) := dk_167 0 4 (dk_at dksX5_isDigit_2 4 rfl rfl)
theorem dX5_isDigit_55 : decode cX5_isDigit 55 = .ok (.iconst 0, 1) := dk_3 (dk_at dksX5_isDigit_2 7 rfl rfl)
theorem dX5_isDigit_56 : decode cX5_isDigit 56 = .ok (.ireturn, 1) := dk_172 (dk_at dksX5_isDigit_2 8 rfl rfl)
abbrev cX5_isSo : ByteArray := prog_22_method_33_code
def yX5_isSo : MethodName := ⟨RX5, "isSo", "(II)Z"⟩
def dkwX5_isSo_4 : List UInt8 := [154, 0, 14, 42, 42, 180, 0, 162, 182, 0, 136, 154, 0, 7, 4, 167, 0, 4, 3, 172]
abbrev dktX5_isSo_4 : List UInt8 := dkwX5_isSo_4 ++ []
def dkwX5_isSo_3 : List UInt8 := [100, 42, 180, 0, 162, 182, 0, 142, 167, 0, 34, 42, 42, 180, 0, 162, 182, 0, 129, 153, 0, 22, 27]
abbrev dktX5_isSo_3 : List UInt8 := dkwX5_isSo_3 ++ dktX5_isSo_4
def dkwX5_isSo_2 : List UInt8 := [180, 0, 162, 42, 180, 0, 108, 162, 0, 7, 4, 167, 0, 4, 3, 172, 27, 7, 164, 0, 17, 42, 27, 8]
abbrev dktX5_isSo_2 : List UInt8 := dkwX5_isSo_2 ++ dktX5_isSo_3
def dkwX5_isSo_1 : List UInt8 := [180, 0, 47, 42, 180, 0, 162, 46, 154, 0, 7, 4, 167, 0, 4, 3, 172, 27, 7, 160, 0, 20, 42]
abbrev dktX5_isSo_1 : List UInt8 := dkwX5_isSo_1 ++ dktX5_isSo_2
def dkwX5_isSo_0 : List UInt8 := [27, 6, 160, 0, 39, 42, 180, 0, 162, 42, 180, 0, 78, 28, 46, 163, 0, 24, 28, 8, 160, 0, 15, 42]
abbrev dktX5_isSo_0 : List UInt8 := dkwX5_isSo_0 ++ dktX5_isSo_1
theorem dksX5_isSo_0 : cX5_isSo.data.toList.drop 0 = dktX5_isSo_0 := by decide +kernel
theorem dksX5_isSo_1 : cX5_isSo.data.toList.drop 24 = dktX5_isSo_1 := dk_seg dksX5_isSo_0 24 rfl rfl
theorem dksX5_isSo_2 : cX5_isSo.data.toList.drop 47 = dktX5_isSo_2 := dk_seg dksX5_isSo_1 23 rfl rfl
theorem dksX5_isSo_3 : cX5_isSo.data.toList.drop 71 = dktX5_isSo_3 := dk_seg dksX5_isSo_2 24 rfl rfl
theorem dksX5_isSo_4 : cX5_isSo.data.toList.drop 94 = dktX5_isSo_4 := dk_seg dksX5_isSo_3 23 rfl rfl
theorem dX5_isSo_0 : decode cX5_isSo 0 = .ok (.iload_n 1, 1) := dk_27 (dk_at dksX5_isSo_0 0 rfl rfl)
theorem dX5_isSo_1 : decode cX5_isSo 1 = .ok (.iconst 3, 1) := dk_6 (dk_at dksX5_isSo_0 1 rfl rfl)
theorem dX5_isSo_2 : decode cX5_isSo 2 = .ok (.if_icmp .ne 39, 3) := dk_160 0 39 (dk_at dksX5_isSo_0 2 rfl rfl)
theorem dX5_isSo_5 : decode cX5_isSo 5 = .ok (.aload_n 0, 1) := dk_42 (dk_at dksX5_isSo_0 5 rfl rfl)
theorem dX5_isSo_6 : decode cX5_isSo 6 = .ok (.getfield 162, 3) := dk_180 0 162 (dk_at dksX5_isSo_0 6 rfl rfl)
theorem dX5_isSo_9 : decode cX5_isSo 9 = .ok (.aload_n 0, 1) := dk_42 (dk_at dksX5_isSo_0 9 rfl rfl)
theorem dX5_isSo_10 : decode cX5_isSo 10 = .ok (.getfield 78, 3) := dk_180 0 78 (dk_at dksX5_isSo_0 10 rfl rfl)
theorem dX5_isSo_13 : decode cX5_isSo 13 = .ok (.iload_n 2, 1) := dk_28 (dk_at dksX5_isSo_0 13 rfl rfl)
theorem dX5_isSo_14 : decode cX5_isSo 14 = .ok (.iaload, 1) := dk_46 (dk_at dksX5_isSo_0 14 rfl rfl)
theorem dX5_isSo_15 : decode cX5_isSo 15 = .ok (.if_icmp .gt 24, 3) := dk_163 0 24 (dk_at dksX5_isSo_0 15 rfl rfl)
theorem dX5_isSo_18 : decode cX5_isSo 18 = .ok (.iload_n 2, 1) := dk_28 (dk_at dksX5_isSo_0 18 rfl rfl)
theorem dX5_isSo_19 : decode cX5_isSo 19 = .ok (.iconst 5, 1) := dk_8 (dk_at dksX5_isSo_0 19 rfl rfl)
theorem dX5_isSo_20 : decode cX5_isSo 20 = .ok (.if_icmp .ne 15, 3) := dk_160 0 15 (dk_at dksX5_isSo_0 20 rfl rfl)
theorem dX5_isSo_23 : decode cX5_isSo 23 = .ok (.aload_n 0, 1) := dk_42 (dk_at dksX5_isSo_0 23 rfl rfl)
theorem dX5_isSo_24 : decode cX5_isSo 24 = .ok (.getfield 47, 3) := dk_180 0 47 (dk_at dksX5_isSo_1 0 rfl rfl)
theorem dX5_isSo_27 : decode cX5_isSo 27 = .ok (.aload_n 0, 1) := dk_42 (dk_at dksX5_isSo_1 3 rfl rfl)
theorem dX5_isSo_28 : decode cX5_isSo 28 = .ok (.getfield 162, 3) := dk_180 0 162 (dk_at dksX5_isSo_1 4 rfl rfl)
theorem dX5_isSo_31 : decode cX5_isSo 31 = .ok (.iaload, 1) := dk_46 (dk_at dksX5_isSo_1 7 rfl rfl)
theorem dX5_isSo_32 : decode cX5_isSo 32 = .ok (.ifCond .ne 7, 3) := dk_154 0 7 (dk_at dksX5_isSo_1 8 rfl rfl)
theorem dX5_isSo_35 : decode cX5_isSo 35 = .ok (.iconst 1, 1) := dk_4 (dk_at dksX5_isSo_1 11 rfl rfl)
theorem dX5_isSo_36 : decode cX5_isSo 36 = .ok (.goto 4, 3) := dk_167 0 4 (dk_at dksX5_isSo_1 12 rfl rfl)
theorem dX5_isSo_39 : decode cX5_isSo 39 = .ok (.iconst 0, 1) := dk_3 (dk_at dksX5_isSo_1 15 rfl rfl)
theorem dX5_isSo_40 : decode cX5_isSo 40 = .ok (.ireturn, 1) := dk_172 (dk_at dksX5_isSo_1 16 rfl rfl)
theorem dX5_isSo_41 : decode cX5_isSo 41 = .ok (.iload_n 1, 1) := dk_27 (dk_at dksX5_isSo_1 17 rfl rfl)
theorem dX5_isSo_42 : decode cX5_isSo 42 = .ok (.iconst 4, 1) := dk_7 (dk_at dksX5_isSo_1 18 rfl rfl)
theorem dX5_isSo_43 : decode cX5_isSo 43 = .ok (.if_icmp .ne 20, 3) := dk_160 0 20 (dk_at dksX5_isSo_1 19 rfl rfl)
theorem dX5_isSo_46 : decode cX5_isSo 46 = .ok (.aload_n 0, 1) := dk_42 (dk_at dksX5_isSo_1 22 rfl rfl)
theorem dX5_isSo_47 : decode cX5_isSo 47 = .ok (.getfield 162, 3) := dk_180 0 162 (dk_at dksX5_isSo_2 0 rfl rfl)
theorem dX5_isSo_50 : decode cX5_isSo 50 = .ok (.aload_n 0, 1) := dk_42 (dk_at dksX5_isSo_2 3 rfl rfl)
theorem dX5_isSo_51 : decode cX5_isSo 51 = .ok (.getfield 108, 3) := dk_180 0 108 (dk_at dksX5_isSo_2 4 rfl rfl)
theorem dX5_isSo_54 : decode cX5_isSo 54 = .ok (.if_icmp .ge 7, 3) := dk_162 0 7 (dk_at dksX5_isSo_2 7 rfl rfl)
theorem dX5_isSo_57 : decode cX5_isSo 57 = .ok (.iconst 1, 1) := dk_4 (dk_at dksX5_isSo_2 10 rfl rfl)
theorem dX5_isSo_58 : decode cX5_isSo 58 = .ok (.goto 4, 3) := dk_167 0 4 (dk_at dksX5_isSo_2 11 rfl rfl)
theorem dX5_isSo_61 : decode cX5_isSo 61 = .ok (.iconst 0, 1) := dk_3 (dk_at dksX5_isSo_2 14 rfl rfl)
theorem dX5_isSo_62 : decode cX5_isSo 62 = .ok (.ireturn, 1) := dk_172 (dk_at dksX5_isSo_2 15 rfl rfl)
theorem dX5_isSo_63 : decode cX5_isSo 63 = .ok (.iload_n 1, 1) := dk_27 (dk_at dksX5_isSo_2 16 rfl rfl)
theorem dX5_isSo_64 : decode cX5_isSo 64 = .ok (.iconst 4, 1) := dk_7 (dk_at dksX5_isSo_2 17 rfl rfl)
theorem dX5_isSo_65 : decode cX5_isSo 65 = .ok (.if_icmp .le 17, 3) := dk_164 0 17 (dk_at dksX5_isSo_2 18 rfl rfl)
theorem dX5_isSo_68 : decode cX5_isSo 68 = .ok (.aload_n 0, 1) := dk_42 (dk_at dksX5_isSo_2 21 rfl rfl)
theorem dX5_isSo_69 : decode cX5_isSo 69 = .ok (.iload_n 1, 1) := dk_27 (dk_at dksX5_isSo_2 22 rfl rfl)
theorem dX5_isSo_70 : decode cX5_isSo 70 = .ok (.iconst 5, 1) := dk_8 (dk_at dksX5_isSo_2 23 rfl rfl)
theorem dX5_isSo_71 : decode cX5_isSo 71 = .ok (.isub, 1) := dk_100 (dk_at dksX5_isSo_3 0 rfl rfl)
theorem dX5_isSo_72 : decode cX5_isSo 72 = .ok (.aload_n 0, 1) := dk_42 (dk_at dksX5_isSo_3 1 rfl rfl)
theorem dX5_isSo_73 : decode cX5_isSo 73 = .ok (.getfield 162, 3) := dk_180 0 162 (dk_at dksX5_isSo_3 2 rfl rfl)
theorem dX5_isSo_76 : decode cX5_isSo 76 = .ok (.invokevirtual 142, 3) := dk_182 0 142 (dk_at dksX5_isSo_3 5 rfl rfl)
theorem dX5_isSo_79 : decode cX5_isSo 79 = .ok (.goto 34, 3) := dk_167 0 34 (dk_at dksX5_isSo_3 8 rfl rfl)
theorem dX5_isSo_82 : decode cX5_isSo 82 = .ok (.aload_n 0, 1) := dk_42 (dk_at dksX5_isSo_3 11 rfl rfl)
theorem dX5_isSo_83 : decode cX5_isSo 83 = .ok (.aload_n 0, 1) := dk_42 (dk_at dksX5_isSo_3 12 rfl rfl)
theorem dX5_isSo_84 : decode cX5_isSo 84 = .ok (.getfield 162, 3) := dk_180 0 162 (dk_at dksX5_isSo_3 13 rfl rfl)
theorem dX5_isSo_87 : decode cX5_isSo 87 = .ok (.invokevirtual 129, 3) := dk_182 0 129 (dk_at dksX5_isSo_3 16 rfl rfl)
theorem dX5_isSo_90 : decode cX5_isSo 90 = .ok (.ifCond .eq 22, 3) := dk_153 0 22 (dk_at dksX5_isSo_3 19 rfl rfl)
theorem dX5_isSo_93 : decode cX5_isSo 93 = .ok (.iload_n 1, 1) := dk_27 (dk_at dksX5_isSo_3 22 rfl rfl)
theorem dX5_isSo_94 : decode cX5_isSo 94 = .ok (.ifCond .ne 14, 3) := dk_154 0 14 (dk_at dksX5_isSo_4 0 rfl rfl)
theorem dX5_isSo_97 : decode cX5_isSo 97 = .ok (.aload_n 0, 1) := dk_42 (dk_at dksX5_isSo_4 3 rfl rfl)
theorem dX5_isSo_98 : decode cX5_isSo 98 = .ok (.aload_n 0, 1) := dk_42 (dk_at dksX5_isSo_4 4 rfl rfl)
theorem dX5_isSo_99 : decode cX5_isSo 99 = .ok (.getfield 162, 3) := dk_180 0 162 (dk_at dksX5_isSo_4 5 rfl rfl)
theorem dX5_isSo_102 : decode cX5_isSo 102 = .ok (.invokevirtual 136, 3) := dk_182 0 136 (dk_at dksX5_isSo_4 8 rfl rfl)
theorem dX5_isSo_105 : decode cX5_isSo 105 = .ok (.ifCond .ne 7, 3) := dk_154 0 7 (dk_at dksX5_isSo_4 11 rfl rfl)
theorem dX5_isSo_108 : decode cX5_isSo 108 = .ok (.iconst 1, 1) := dk_4 (dk_at dksX5_isSo_4 14 rfl rfl)
theorem dX5_isSo_109 : decode cX5_isSo 109 = .ok (.goto 4, 3) := dk_167 0 4 (dk_at dksX5_isSo_4 15 rfl rfl)
theorem dX5_isSo_112 : decode cX5_isSo 112 = .ok (.iconst 0, 1) := dk_3 (dk_at dksX5_isSo_4 18 rfl rfl)
theorem dX5_isSo_113 : decode cX5_isSo 113 = .ok (.ireturn, 1) := dk_172 (dk_at dksX5_isSo_4 19 rfl rfl)
abbrev cX5_fault : ByteArray := prog_22_method_38_code
def yX5_fault : MethodName := ⟨RX5, "fault", "()I"⟩
theorem dX5_fault_0 : decode cX5_fault 0 = .ok (.aload_n 0, 1) := by decide +kernel
theorem dX5_fault_1 : decode cX5_fault 1 = .ok (.getfield 19, 3) := by decide +kernel
theorem dX5_fault_4 : decode cX5_fault 4 = .ok (.ireturn, 1) := by decide +kernel
abbrev cX5_view : ByteArray := prog_22_method_50_code
def yX5_view : MethodName := ⟨RX5, "view", "(II)I"⟩
def dkwX5_view_1 : List UInt8 := [27, 28, 182, 0, 209, 153, 0, 7, 4, 167, 0, 4, 3, 172]
abbrev dktX5_view_1 : List UInt8 := dkwX5_view_1 ++ []
def dkwX5_view_0 : List UInt8 := [42, 27, 182, 0, 129, 153, 0, 11, 42, 28, 182, 0, 129, 154, 0, 10, 42, 16, 250, 182, 0, 115, 172, 42]
abbrev dktX5_view_0 : List UInt8 := dkwX5_view_0 ++ dktX5_view_1
theorem dksX5_view_0 : cX5_view.data.toList.drop 0 = dktX5_view_0 := by decide +kernel
theorem dksX5_view_1 : cX5_view.data.toList.drop 24 = dktX5_view_1 := dk_seg dksX5_view_0 24 rfl rfl
theorem dX5_view_0 : decode cX5_view 0 = .ok (.aload_n 0, 1) := dk_42 (dk_at dksX5_view_0 0 rfl rfl)
theorem dX5_view_1 : decode cX5_view 1 = .ok (.iload_n 1, 1) := dk_27 (dk_at dksX5_view_0 1 rfl rfl)
theorem dX5_view_2 : decode cX5_view 2 = .ok (.invokevirtual 129, 3) := dk_182 0 129 (dk_at dksX5_view_0 2 rfl rfl)
theorem dX5_view_5 : decode cX5_view 5 = .ok (.ifCond .eq 11, 3) := dk_153 0 11 (dk_at dksX5_view_0 5 rfl rfl)
theorem dX5_view_8 : decode cX5_view 8 = .ok (.aload_n 0, 1) := dk_42 (dk_at dksX5_view_0 8 rfl rfl)
theorem dX5_view_9 : decode cX5_view 9 = .ok (.iload_n 2, 1) := dk_28 (dk_at dksX5_view_0 9 rfl rfl)
theorem dX5_view_10 : decode cX5_view 10 = .ok (.invokevirtual 129, 3) := dk_182 0 129 (dk_at dksX5_view_0 10 rfl rfl)
theorem dX5_view_13 : decode cX5_view 13 = .ok (.ifCond .ne 10, 3) := dk_154 0 10 (dk_at dksX5_view_0 13 rfl rfl)
theorem dX5_view_16 : decode cX5_view 16 = .ok (.aload_n 0, 1) := dk_42 (dk_at dksX5_view_0 16 rfl rfl)
theorem dX5_view_17 : decode cX5_view 17 = .ok (.bipush (-6), 2) := dk_16 250 (dk_at dksX5_view_0 17 rfl rfl)
theorem dX5_view_19 : decode cX5_view 19 = .ok (.invokevirtual 115, 3) := dk_182 0 115 (dk_at dksX5_view_0 19 rfl rfl)
theorem dX5_view_22 : decode cX5_view 22 = .ok (.ireturn, 1) := dk_172 (dk_at dksX5_view_0 22 rfl rfl)
theorem dX5_view_23 : decode cX5_view 23 = .ok (.aload_n 0, 1) := dk_42 (dk_at dksX5_view_0 23 rfl rfl)
theorem dX5_view_24 : decode cX5_view 24 = .ok (.iload_n 1, 1) := dk_27 (dk_at dksX5_view_1 0 rfl rfl)
theorem dX5_view_25 : decode cX5_view 25 = .ok (.iload_n 2, 1) := dk_28 (dk_at dksX5_view_1 1 rfl rfl)
theorem dX5_view_26 : decode cX5_view 26 = .ok (.invokevirtual 209, 3) := dk_182 0 209 (dk_at dksX5_view_1 2 rfl rfl)
theorem dX5_view_29 : decode cX5_view 29 = .ok (.ifCond .eq 7, 3) := dk_153 0 7 (dk_at dksX5_view_1 5 rfl rfl)
theorem dX5_view_32 : decode cX5_view 32 = .ok (.iconst 1, 1) := dk_4 (dk_at dksX5_view_1 8 rfl rfl)
theorem dX5_view_33 : decode cX5_view 33 = .ok (.goto 4, 3) := dk_167 0 4 (dk_at dksX5_view_1 9 rfl rfl)
theorem dX5_view_36 : decode cX5_view 36 = .ok (.iconst 0, 1) := dk_3 (dk_at dksX5_view_1 12 rfl rfl)
theorem dX5_view_37 : decode cX5_view 37 = .ok (.ireturn, 1) := dk_172 (dk_at dksX5_view_1 13 rfl rfl)
abbrev cX5_sees : ByteArray := prog_22_method_40_code
def yX5_sees : MethodName := ⟨RX5, "sees", "(II)Z"⟩
def dkwX5_sees_5 : List UInt8 := [96, 54, 6, 167, 255, 229, 4, 172]
abbrev dktX5_sees_5 : List UInt8 := dkwX5_sees_5 ++ []
def dkwX5_sees_4 : List UInt8 := [21, 6, 21, 4, 162, 0, 26, 42, 180, 0, 47, 21, 6, 46, 4, 160, 0, 5, 3, 172, 21, 6, 21, 5]
abbrev dktX5_sees_4 : List UInt8 := dkwX5_sees_4 ++ dktX5_sees_5
def dkwX5_sees_3 : List UInt8 := [108, 21, 4, 16, 6, 108, 160, 0, 7, 4, 167, 0, 5, 16, 6, 54, 5, 29, 21, 5, 96, 54, 6]
abbrev dktX5_sees_3 : List UInt8 := dkwX5_sees_3 ++ dktX5_sees_4
def dkwX5_sees_2 : List UInt8 := [162, 0, 7, 27, 167, 0, 4, 28, 62, 27, 28, 162, 0, 7, 28, 167, 0, 4, 27, 54, 4, 29, 16, 6]
abbrev dktX5_sees_2 : List UInt8 := dkwX5_sees_2 ++ dktX5_sees_3
def dkwX5_sees_1 : List UInt8 := [16, 6, 112, 160, 0, 16, 42, 27, 28, 182, 0, 205, 42, 180, 0, 13, 164, 0, 5, 3, 172, 27, 28]
abbrev dktX5_sees_1 : List UInt8 := dkwX5_sees_1 ++ dktX5_sees_2
def dkwX5_sees_0 : List UInt8 := [27, 28, 160, 0, 5, 4, 172, 27, 16, 6, 108, 28, 16, 6, 108, 159, 0, 14, 27, 16, 6, 112, 28]
abbrev dktX5_sees_0 : List UInt8 := dkwX5_sees_0 ++ dktX5_sees_1
theorem dksX5_sees_0 : cX5_sees.data.toList.drop 0 = dktX5_sees_0 := by decide +kernel
theorem dksX5_sees_1 : cX5_sees.data.toList.drop 23 = dktX5_sees_1 := dk_seg dksX5_sees_0 23 rfl rfl
theorem dksX5_sees_2 : cX5_sees.data.toList.drop 46 = dktX5_sees_2 := dk_seg dksX5_sees_1 23 rfl rfl
theorem dksX5_sees_3 : cX5_sees.data.toList.drop 70 = dktX5_sees_3 := dk_seg dksX5_sees_2 24 rfl rfl
theorem dksX5_sees_4 : cX5_sees.data.toList.drop 93 = dktX5_sees_4 := dk_seg dksX5_sees_3 23 rfl rfl
theorem dksX5_sees_5 : cX5_sees.data.toList.drop 117 = dktX5_sees_5 := dk_seg dksX5_sees_4 24 rfl rfl
theorem dX5_sees_0 : decode cX5_sees 0 = .ok (.iload_n 1, 1) := dk_27 (dk_at dksX5_sees_0 0 rfl rfl)
theorem dX5_sees_1 : decode cX5_sees 1 = .ok (.iload_n 2, 1) := dk_28 (dk_at dksX5_sees_0 1 rfl rfl)
theorem dX5_sees_2 : decode cX5_sees 2 = .ok (.if_icmp .ne 5, 3) := dk_160 0 5 (dk_at dksX5_sees_0 2 rfl rfl)
theorem dX5_sees_5 : decode cX5_sees 5 = .ok (.iconst 1, 1) := dk_4 (dk_at dksX5_sees_0 5 rfl rfl)
theorem dX5_sees_6 : decode cX5_sees 6 = .ok (.ireturn, 1) := dk_172 (dk_at dksX5_sees_0 6 rfl rfl)
theorem dX5_sees_7 : decode cX5_sees 7 = .ok (.iload_n 1, 1) := dk_27 (dk_at dksX5_sees_0 7 rfl rfl)
theorem dX5_sees_8 : decode cX5_sees 8 = .ok (.bipush 6, 2) := dk_16 6 (dk_at dksX5_sees_0 8 rfl rfl)
theorem dX5_sees_10 : decode cX5_sees 10 = .ok (.idiv, 1) := dk_108 (dk_at dksX5_sees_0 10 rfl rfl)
theorem dX5_sees_11 : decode cX5_sees 11 = .ok (.iload_n 2, 1) := dk_28 (dk_at dksX5_sees_0 11 rfl rfl)
theorem dX5_sees_12 : decode cX5_sees 12 = .ok (.bipush 6, 2) := dk_16 6 (dk_at dksX5_sees_0 12 rfl rfl)
theorem dX5_sees_14 : decode cX5_sees 14 = .ok (.idiv, 1) := dk_108 (dk_at dksX5_sees_0 14 rfl rfl)
theorem dX5_sees_15 : decode cX5_sees 15 = .ok (.if_icmp .eq 14, 3) := dk_159 0 14 (dk_at dksX5_sees_0 15 rfl rfl)
theorem dX5_sees_18 : decode cX5_sees 18 = .ok (.iload_n 1, 1) := dk_27 (dk_at dksX5_sees_0 18 rfl rfl)
theorem dX5_sees_19 : decode cX5_sees 19 = .ok (.bipush 6, 2) := dk_16 6 (dk_at dksX5_sees_0 19 rfl rfl)
theorem dX5_sees_21 : decode cX5_sees 21 = .ok (.irem, 1) := dk_112 (dk_at dksX5_sees_0 21 rfl rfl)
theorem dX5_sees_22 : decode cX5_sees 22 = .ok (.iload_n 2, 1) := dk_28 (dk_at dksX5_sees_0 22 rfl rfl)
theorem dX5_sees_23 : decode cX5_sees 23 = .ok (.bipush 6, 2) := dk_16 6 (dk_at dksX5_sees_1 0 rfl rfl)
theorem dX5_sees_25 : decode cX5_sees 25 = .ok (.irem, 1) := dk_112 (dk_at dksX5_sees_1 2 rfl rfl)
theorem dX5_sees_26 : decode cX5_sees 26 = .ok (.if_icmp .ne 16, 3) := dk_160 0 16 (dk_at dksX5_sees_1 3 rfl rfl)
theorem dX5_sees_29 : decode cX5_sees 29 = .ok (.aload_n 0, 1) := dk_42 (dk_at dksX5_sees_1 6 rfl rfl)
theorem dX5_sees_30 : decode cX5_sees 30 = .ok (.iload_n 1, 1) := dk_27 (dk_at dksX5_sees_1 7 rfl rfl)
theorem dX5_sees_31 : decode cX5_sees 31 = .ok (.iload_n 2, 1) := dk_28 (dk_at dksX5_sees_1 8 rfl rfl)
theorem dX5_sees_32 : decode cX5_sees 32 = .ok (.invokevirtual 205, 3) := dk_182 0 205 (dk_at dksX5_sees_1 9 rfl rfl)
theorem dX5_sees_35 : decode cX5_sees 35 = .ok (.aload_n 0, 1) := dk_42 (dk_at dksX5_sees_1 12 rfl rfl)
theorem dX5_sees_36 : decode cX5_sees 36 = .ok (.getfield 13, 3) := dk_180 0 13 (dk_at dksX5_sees_1 13 rfl rfl)
theorem dX5_sees_39 : decode cX5_sees 39 = .ok (.if_icmp .le 5, 3) := dk_164 0 5 (dk_at dksX5_sees_1 16 rfl rfl)
theorem dX5_sees_42 : decode cX5_sees 42 = .ok (.iconst 0, 1) := dk_3 (dk_at dksX5_sees_1 19 rfl rfl)
theorem dX5_sees_43 : decode cX5_sees 43 = .ok (.ireturn, 1) := dk_172 (dk_at dksX5_sees_1 20 rfl rfl)
theorem dX5_sees_44 : decode cX5_sees 44 = .ok (.iload_n 1, 1) := dk_27 (dk_at dksX5_sees_1 21 rfl rfl)
theorem dX5_sees_45 : decode cX5_sees 45 = .ok (.iload_n 2, 1) := dk_28 (dk_at dksX5_sees_1 22 rfl rfl)
theorem dX5_sees_46 : decode cX5_sees 46 = .ok (.if_icmp .ge 7, 3) := dk_162 0 7 (dk_at dksX5_sees_2 0 rfl rfl)
theorem dX5_sees_49 : decode cX5_sees 49 = .ok (.iload_n 1, 1) := dk_27 (dk_at dksX5_sees_2 3 rfl rfl)
theorem dX5_sees_50 : decode cX5_sees 50 = .ok (.goto 4, 3) := dk_167 0 4 (dk_at dksX5_sees_2 4 rfl rfl)
theorem dX5_sees_53 : decode cX5_sees 53 = .ok (.iload_n 2, 1) := dk_28 (dk_at dksX5_sees_2 7 rfl rfl)
theorem dX5_sees_54 : decode cX5_sees 54 = .ok (.istore_n 3, 1) := dk_62 (dk_at dksX5_sees_2 8 rfl rfl)
theorem dX5_sees_55 : decode cX5_sees 55 = .ok (.iload_n 1, 1) := dk_27 (dk_at dksX5_sees_2 9 rfl rfl)
theorem dX5_sees_56 : decode cX5_sees 56 = .ok (.iload_n 2, 1) := dk_28 (dk_at dksX5_sees_2 10 rfl rfl)
theorem dX5_sees_57 : decode cX5_sees 57 = .ok (.if_icmp .ge 7, 3) := dk_162 0 7 (dk_at dksX5_sees_2 11 rfl rfl)
theorem dX5_sees_60 : decode cX5_sees 60 = .ok (.iload_n 2, 1) := dk_28 (dk_at dksX5_sees_2 14 rfl rfl)
theorem dX5_sees_61 : decode cX5_sees 61 = .ok (.goto 4, 3) := dk_167 0 4 (dk_at dksX5_sees_2 15 rfl rfl)
theorem dX5_sees_64 : decode cX5_sees 64 = .ok (.iload_n 1, 1) := dk_27 (dk_at dksX5_sees_2 18 rfl rfl)
theorem dX5_sees_65 : decode cX5_sees 65 = .ok (.istore 4, 2) := dk_54 4 (dk_at dksX5_sees_2 19 rfl rfl)
theorem dX5_sees_67 : decode cX5_sees 67 = .ok (.iload_n 3, 1) := dk_29 (dk_at dksX5_sees_2 21 rfl rfl)
theorem dX5_sees_68 : decode cX5_sees 68 = .ok (.bipush 6, 2) := dk_16 6 (dk_at dksX5_sees_2 22 rfl rfl)
theorem dX5_sees_70 : decode cX5_sees 70 = .ok (.idiv, 1) := dk_108 (dk_at dksX5_sees_3 0 rfl rfl)
theorem dX5_sees_71 : decode cX5_sees 71 = .ok (.iload 4, 2) := dk_21 4 (dk_at dksX5_sees_3 1 rfl rfl)
theorem dX5_sees_73 : decode cX5_sees 73 = .ok (.bipush 6, 2) := dk_16 6 (dk_at dksX5_sees_3 3 rfl rfl)
theorem dX5_sees_75 : decode cX5_sees 75 = .ok (.idiv, 1) := dk_108 (dk_at dksX5_sees_3 5 rfl rfl)
theorem dX5_sees_76 : decode cX5_sees 76 = .ok (.if_icmp .ne 7, 3) := dk_160 0 7 (dk_at dksX5_sees_3 6 rfl rfl)
theorem dX5_sees_79 : decode cX5_sees 79 = .ok (.iconst 1, 1) := dk_4 (dk_at dksX5_sees_3 9 rfl rfl)
theorem dX5_sees_80 : decode cX5_sees 80 = .ok (.goto 5, 3) := dk_167 0 5 (dk_at dksX5_sees_3 10 rfl rfl)
theorem dX5_sees_83 : decode cX5_sees 83 = .ok (.bipush 6, 2) := dk_16 6 (dk_at dksX5_sees_3 13 rfl rfl)
theorem dX5_sees_85 : decode cX5_sees 85 = .ok (.istore 5, 2) := dk_54 5 (dk_at dksX5_sees_3 15 rfl rfl)
theorem dX5_sees_87 : decode cX5_sees 87 = .ok (.iload_n 3, 1) := dk_29 (dk_at dksX5_sees_3 17 rfl rfl)
theorem dX5_sees_88 : decode cX5_sees 88 = .ok (.iload 5, 2) := dk_21 5 (dk_at dksX5_sees_3 18 rfl rfl)
theorem dX5_sees_90 : decode cX5_sees 90 = .ok (.iadd, 1) := dk_96 (dk_at dksX5_sees_3 20 rfl rfl)
theorem dX5_sees_91 : decode cX5_sees 91 = .ok (.istore 6, 2) := dk_54 6 (dk_at dksX5_sees_3 21 rfl rfl)
theorem dX5_sees_93 : decode cX5_sees 93 = .ok (.iload 6, 2) := dk_21 6 (dk_at dksX5_sees_4 0 rfl rfl)
theorem dX5_sees_95 : decode cX5_sees 95 = .ok (.iload 4, 2) := dk_21 4 (dk_at dksX5_sees_4 2 rfl rfl)
theorem dX5_sees_97 : decode cX5_sees 97 = .ok (.if_icmp .ge 26, 3) := dk_162 0 26 (dk_at dksX5_sees_4 4 rfl rfl)
theorem dX5_sees_100 : decode cX5_sees 100 = .ok (.aload_n 0, 1) := dk_42 (dk_at dksX5_sees_4 7 rfl rfl)
theorem dX5_sees_101 : decode cX5_sees 101 = .ok (.getfield 47, 3) := dk_180 0 47 (dk_at dksX5_sees_4 8 rfl rfl)
theorem dX5_sees_104 : decode cX5_sees 104 = .ok (.iload 6, 2) := dk_21 6 (dk_at dksX5_sees_4 11 rfl rfl)
theorem dX5_sees_106 : decode cX5_sees 106 = .ok (.iaload, 1) := dk_46 (dk_at dksX5_sees_4 13 rfl rfl)
theorem dX5_sees_107 : decode cX5_sees 107 = .ok (.iconst 1, 1) := dk_4 (dk_at dksX5_sees_4 14 rfl rfl)
theorem dX5_sees_108 : decode cX5_sees 108 = .ok (.if_icmp .ne 5, 3) := dk_160 0 5 (dk_at dksX5_sees_4 15 rfl rfl)
theorem dX5_sees_111 : decode cX5_sees 111 = .ok (.iconst 0, 1) := dk_3 (dk_at dksX5_sees_4 18 rfl rfl)
theorem dX5_sees_112 : decode cX5_sees 112 = .ok (.ireturn, 1) := dk_172 (dk_at dksX5_sees_4 19 rfl rfl)
theorem dX5_sees_113 : decode cX5_sees 113 = .ok (.iload 6, 2) := dk_21 6 (dk_at dksX5_sees_4 20 rfl rfl)
theorem dX5_sees_115 : decode cX5_sees 115 = .ok (.iload 5, 2) := dk_21 5 (dk_at dksX5_sees_4 22 rfl rfl)
theorem dX5_sees_117 : decode cX5_sees 117 = .ok (.iadd, 1) := dk_96 (dk_at dksX5_sees_5 0 rfl rfl)
theorem dX5_sees_118 : decode cX5_sees 118 = .ok (.istore 6, 2) := dk_54 6 (dk_at dksX5_sees_5 1 rfl rfl)
theorem dX5_sees_120 : decode cX5_sees 120 = .ok (.goto (-27), 3) := dk_167 255 229 (dk_at dksX5_sees_5 3 rfl rfl)
theorem dX5_sees_123 : decode cX5_sees 123 = .ok (.iconst 1, 1) := dk_4 (dk_at dksX5_sees_5 6 rfl rfl)
theorem dX5_sees_124 : decode cX5_sees 124 = .ok (.ireturn, 1) := dk_172 (dk_at dksX5_sees_5 7 rfl rfl)
abbrev cX5_distance : ByteArray := prog_22_method_39_code
def yX5_distance : MethodName := ⟨RX5, "distance", "(II)I"⟩
def dkwX5_distance_1 : List UInt8 := [96, 54, 5, 21, 5, 156, 0, 9, 21, 5, 116, 167, 0, 5, 21, 5, 172]
abbrev dktX5_distance_1 : List UInt8 := dkwX5_distance_1 ++ []
def dkwX5_distance_0 : List UInt8 := [27, 16, 6, 108, 28, 16, 6, 108, 100, 62, 27, 16, 6, 112, 28, 16, 6, 112, 100, 54, 4, 29, 21, 4]
abbrev dktX5_distance_0 : List UInt8 := dkwX5_distance_0 ++ dktX5_distance_1
theorem dksX5_distance_0 : cX5_distance.data.toList.drop 0 = dktX5_distance_0 := by decide +kernel
theorem dksX5_distance_1 : cX5_distance.data.toList.drop 24 = dktX5_distance_1 := dk_seg dksX5_distance_0 24 rfl rfl
theorem dX5_distance_0 : decode cX5_distance 0 = .ok (.iload_n 1, 1) := dk_27 (dk_at dksX5_distance_0 0 rfl rfl)
theorem dX5_distance_1 : decode cX5_distance 1 = .ok (.bipush 6, 2) := dk_16 6 (dk_at dksX5_distance_0 1 rfl rfl)
theorem dX5_distance_3 : decode cX5_distance 3 = .ok (.idiv, 1) := dk_108 (dk_at dksX5_distance_0 3 rfl rfl)
theorem dX5_distance_4 : decode cX5_distance 4 = .ok (.iload_n 2, 1) := dk_28 (dk_at dksX5_distance_0 4 rfl rfl)
theorem dX5_distance_5 : decode cX5_distance 5 = .ok (.bipush 6, 2) := dk_16 6 (dk_at dksX5_distance_0 5 rfl rfl)
theorem dX5_distance_7 : decode cX5_distance 7 = .ok (.idiv, 1) := dk_108 (dk_at dksX5_distance_0 7 rfl rfl)
theorem dX5_distance_8 : decode cX5_distance 8 = .ok (.isub, 1) := dk_100 (dk_at dksX5_distance_0 8 rfl rfl)
theorem dX5_distance_9 : decode cX5_distance 9 = .ok (.istore_n 3, 1) := dk_62 (dk_at dksX5_distance_0 9 rfl rfl)
theorem dX5_distance_10 : decode cX5_distance 10 = .ok (.iload_n 1, 1) := dk_27 (dk_at dksX5_distance_0 10 rfl rfl)
theorem dX5_distance_11 : decode cX5_distance 11 = .ok (.bipush 6, 2) := dk_16 6 (dk_at dksX5_distance_0 11 rfl rfl)
theorem dX5_distance_13 : decode cX5_distance 13 = .ok (.irem, 1) := dk_112 (dk_at dksX5_distance_0 13 rfl rfl)
theorem dX5_distance_14 : decode cX5_distance 14 = .ok (.iload_n 2, 1) := dk_28 (dk_at dksX5_distance_0 14 rfl rfl)
theorem dX5_distance_15 : decode cX5_distance 15 = .ok (.bipush 6, 2) := dk_16 6 (dk_at dksX5_distance_0 15 rfl rfl)
theorem dX5_distance_17 : decode cX5_distance 17 = .ok (.irem, 1) := dk_112 (dk_at dksX5_distance_0 17 rfl rfl)
theorem dX5_distance_18 : decode cX5_distance 18 = .ok (.isub, 1) := dk_100 (dk_at dksX5_distance_0 18 rfl rfl)
theorem dX5_distance_19 : decode cX5_distance 19 = .ok (.istore 4, 2) := dk_54 4 (dk_at dksX5_distance_0 19 rfl rfl)
theorem dX5_distance_21 : decode cX5_distance 21 = .ok (.iload_n 3, 1) := dk_29 (dk_at dksX5_distance_0 21 rfl rfl)
theorem dX5_distance_22 : decode cX5_distance 22 = .ok (.iload 4, 2) := dk_21 4 (dk_at dksX5_distance_0 22 rfl rfl)
theorem dX5_distance_24 : decode cX5_distance 24 = .ok (.iadd, 1) := dk_96 (dk_at dksX5_distance_1 0 rfl rfl)
theorem dX5_distance_25 : decode cX5_distance 25 = .ok (.istore 5, 2) := dk_54 5 (dk_at dksX5_distance_1 1 rfl rfl)
theorem dX5_distance_27 : decode cX5_distance 27 = .ok (.iload 5, 2) := dk_21 5 (dk_at dksX5_distance_1 3 rfl rfl)
theorem dX5_distance_29 : decode cX5_distance 29 = .ok (.ifCond .ge 9, 3) := dk_156 0 9 (dk_at dksX5_distance_1 5 rfl rfl)
theorem dX5_distance_32 : decode cX5_distance 32 = .ok (.iload 5, 2) := dk_21 5 (dk_at dksX5_distance_1 8 rfl rfl)
theorem dX5_distance_34 : decode cX5_distance 34 = .ok (.ineg, 1) := dk_116 (dk_at dksX5_distance_1 10 rfl rfl)
theorem dX5_distance_35 : decode cX5_distance 35 = .ok (.goto 5, 3) := dk_167 0 5 (dk_at dksX5_distance_1 11 rfl rfl)
theorem dX5_distance_38 : decode cX5_distance 38 = .ok (.iload 5, 2) := dk_21 5 (dk_at dksX5_distance_1 14 rfl rfl)
theorem dX5_distance_40 : decode cX5_distance 40 = .ok (.ireturn, 1) := dk_172 (dk_at dksX5_distance_1 16 rfl rfl)
abbrev cX5_glances : ByteArray := prog_22_method_51_code
def yX5_glances : MethodName := ⟨RX5, "glances", "(II)I"⟩
def dkwX5_glances_1 : List UInt8 := [16, 251, 182, 0, 115, 172, 28, 154, 0, 11, 42, 27, 182, 0, 221, 167, 0, 8, 42, 27, 182, 0, 215, 172]
abbrev dktX5_glances_1 : List UInt8 := dkwX5_glances_1 ++ []
def dkwX5_glances_0 : List UInt8 := [42, 27, 182, 0, 119, 154, 0, 9, 42, 2, 182, 0, 115, 172, 28, 155, 0, 8, 28, 4, 164, 0, 10, 42]
abbrev dktX5_glances_0 : List UInt8 := dkwX5_glances_0 ++ dktX5_glances_1
theorem dksX5_glances_0 : cX5_glances.data.toList.drop 0 = dktX5_glances_0 := by decide +kernel
theorem dksX5_glances_1 : cX5_glances.data.toList.drop 24 = dktX5_glances_1 := dk_seg dksX5_glances_0 24 rfl rfl
theorem dX5_glances_0 : decode cX5_glances 0 = .ok (.aload_n 0, 1) := dk_42 (dk_at dksX5_glances_0 0 rfl rfl)
theorem dX5_glances_1 : decode cX5_glances 1 = .ok (.iload_n 1, 1) := dk_27 (dk_at dksX5_glances_0 1 rfl rfl)
theorem dX5_glances_2 : decode cX5_glances 2 = .ok (.invokevirtual 119, 3) := dk_182 0 119 (dk_at dksX5_glances_0 2 rfl rfl)
theorem dX5_glances_5 : decode cX5_glances 5 = .ok (.ifCond .ne 9, 3) := dk_154 0 9 (dk_at dksX5_glances_0 5 rfl rfl)
theorem dX5_glances_8 : decode cX5_glances 8 = .ok (.aload_n 0, 1) := dk_42 (dk_at dksX5_glances_0 8 rfl rfl)
theorem dX5_glances_9 : decode cX5_glances 9 = .ok (.iconst (-1), 1) := dk_2 (dk_at dksX5_glances_0 9 rfl rfl)
theorem dX5_glances_10 : decode cX5_glances 10 = .ok (.invokevirtual 115, 3) := dk_182 0 115 (dk_at dksX5_glances_0 10 rfl rfl)
theorem dX5_glances_13 : decode cX5_glances 13 = .ok (.ireturn, 1) := dk_172 (dk_at dksX5_glances_0 13 rfl rfl)
theorem dX5_glances_14 : decode cX5_glances 14 = .ok (.iload_n 2, 1) := dk_28 (dk_at dksX5_glances_0 14 rfl rfl)
theorem dX5_glances_15 : decode cX5_glances 15 = .ok (.ifCond .lt 8, 3) := dk_155 0 8 (dk_at dksX5_glances_0 15 rfl rfl)
theorem dX5_glances_18 : decode cX5_glances 18 = .ok (.iload_n 2, 1) := dk_28 (dk_at dksX5_glances_0 18 rfl rfl)
theorem dX5_glances_19 : decode cX5_glances 19 = .ok (.iconst 1, 1) := dk_4 (dk_at dksX5_glances_0 19 rfl rfl)
theorem dX5_glances_20 : decode cX5_glances 20 = .ok (.if_icmp .le 10, 3) := dk_164 0 10 (dk_at dksX5_glances_0 20 rfl rfl)
theorem dX5_glances_23 : decode cX5_glances 23 = .ok (.aload_n 0, 1) := dk_42 (dk_at dksX5_glances_0 23 rfl rfl)
theorem dX5_glances_24 : decode cX5_glances 24 = .ok (.bipush (-5), 2) := dk_16 251 (dk_at dksX5_glances_1 0 rfl rfl)
theorem dX5_glances_26 : decode cX5_glances 26 = .ok (.invokevirtual 115, 3) := dk_182 0 115 (dk_at dksX5_glances_1 2 rfl rfl)
theorem dX5_glances_29 : decode cX5_glances 29 = .ok (.ireturn, 1) := dk_172 (dk_at dksX5_glances_1 5 rfl rfl)
theorem dX5_glances_30 : decode cX5_glances 30 = .ok (.iload_n 2, 1) := dk_28 (dk_at dksX5_glances_1 6 rfl rfl)
theorem dX5_glances_31 : decode cX5_glances 31 = .ok (.ifCond .ne 11, 3) := dk_154 0 11 (dk_at dksX5_glances_1 7 rfl rfl)
theorem dX5_glances_34 : decode cX5_glances 34 = .ok (.aload_n 0, 1) := dk_42 (dk_at dksX5_glances_1 10 rfl rfl)
theorem dX5_glances_35 : decode cX5_glances 35 = .ok (.iload_n 1, 1) := dk_27 (dk_at dksX5_glances_1 11 rfl rfl)
theorem dX5_glances_36 : decode cX5_glances 36 = .ok (.invokevirtual 221, 3) := dk_182 0 221 (dk_at dksX5_glances_1 12 rfl rfl)
theorem dX5_glances_39 : decode cX5_glances 39 = .ok (.goto 8, 3) := dk_167 0 8 (dk_at dksX5_glances_1 15 rfl rfl)
theorem dX5_glances_42 : decode cX5_glances 42 = .ok (.aload_n 0, 1) := dk_42 (dk_at dksX5_glances_1 18 rfl rfl)
theorem dX5_glances_43 : decode cX5_glances 43 = .ok (.iload_n 1, 1) := dk_27 (dk_at dksX5_glances_1 19 rfl rfl)
theorem dX5_glances_44 : decode cX5_glances 44 = .ok (.invokevirtual 215, 3) := dk_182 0 215 (dk_at dksX5_glances_1 20 rfl rfl)
theorem dX5_glances_47 : decode cX5_glances 47 = .ok (.ireturn, 1) := dk_172 (dk_at dksX5_glances_1 23 rfl rfl)
abbrev cX5_lookers : ByteArray := prog_22_method_45_code
def yX5_lookers : MethodName := ⟨RX5, "lookers", "(I)I"⟩
def dkwX5_lookers_1 : List UInt8 := [160, 0, 9, 28, 4, 29, 120, 96, 61, 132, 3, 1, 167, 255, 226, 28, 172]
abbrev dktX5_lookers_1 : List UInt8 := dkwX5_lookers_1 ++ []
def dkwX5_lookers_0 : List UInt8 := [3, 61, 3, 62, 29, 42, 180, 0, 108, 162, 0, 28, 42, 29, 182, 0, 215, 27, 122, 4, 126, 4]
abbrev dktX5_lookers_0 : List UInt8 := dkwX5_lookers_0 ++ dktX5_lookers_1
theorem dksX5_lookers_0 : cX5_lookers.data.toList.drop 0 = dktX5_lookers_0 := by decide +kernel
theorem dksX5_lookers_1 : cX5_lookers.data.toList.drop 22 = dktX5_lookers_1 := dk_seg dksX5_lookers_0 22 rfl rfl
theorem dX5_lookers_0 : decode cX5_lookers 0 = .ok (.iconst 0, 1) := dk_3 (dk_at dksX5_lookers_0 0 rfl rfl)
theorem dX5_lookers_1 : decode cX5_lookers 1 = .ok (.istore_n 2, 1) := dk_61 (dk_at dksX5_lookers_0 1 rfl rfl)
theorem dX5_lookers_2 : decode cX5_lookers 2 = .ok (.iconst 0, 1) := dk_3 (dk_at dksX5_lookers_0 2 rfl rfl)
theorem dX5_lookers_3 : decode cX5_lookers 3 = .ok (.istore_n 3, 1) := dk_62 (dk_at dksX5_lookers_0 3 rfl rfl)
theorem dX5_lookers_4 : decode cX5_lookers 4 = .ok (.iload_n 3, 1) := dk_29 (dk_at dksX5_lookers_0 4 rfl rfl)
theorem dX5_lookers_5 : decode cX5_lookers 5 = .ok (.aload_n 0, 1) := dk_42 (dk_at dksX5_lookers_0 5 rfl rfl)
theorem dX5_lookers_6 : decode cX5_lookers 6 = .ok (.getfield 108, 3) := dk_180 0 108 (dk_at dksX5_lookers_0 6 rfl rfl)
theorem dX5_lookers_9 : decode cX5_lookers 9 = .ok (.if_icmp .ge 28, 3) := dk_162 0 28 (dk_at dksX5_lookers_0 9 rfl rfl)
theorem dX5_lookers_12 : decode cX5_lookers 12 = .ok (.aload_n 0, 1) := dk_42 (dk_at dksX5_lookers_0 12 rfl rfl)
theorem dX5_lookers_13 : decode cX5_lookers 13 = .ok (.iload_n 3, 1) := dk_29 (dk_at dksX5_lookers_0 13 rfl rfl)
theorem dX5_lookers_14 : decode cX5_lookers 14 = .ok (.invokevirtual 215, 3) := dk_182 0 215 (dk_at dksX5_lookers_0 14 rfl rfl)
theorem dX5_lookers_17 : decode cX5_lookers 17 = .ok (.iload_n 1, 1) := dk_27 (dk_at dksX5_lookers_0 17 rfl rfl)
theorem dX5_lookers_18 : decode cX5_lookers 18 = .ok (.ishr, 1) := dk_122 (dk_at dksX5_lookers_0 18 rfl rfl)
theorem dX5_lookers_19 : decode cX5_lookers 19 = .ok (.iconst 1, 1) := dk_4 (dk_at dksX5_lookers_0 19 rfl rfl)
theorem dX5_lookers_20 : decode cX5_lookers 20 = .ok (.iand, 1) := dk_126 (dk_at dksX5_lookers_0 20 rfl rfl)
theorem dX5_lookers_21 : decode cX5_lookers 21 = .ok (.iconst 1, 1) := dk_4 (dk_at dksX5_lookers_0 21 rfl rfl)
theorem dX5_lookers_22 : decode cX5_lookers 22 = .ok (.if_icmp .ne 9, 3) := dk_160 0 9 (dk_at dksX5_lookers_1 0 rfl rfl)
theorem dX5_lookers_25 : decode cX5_lookers 25 = .ok (.iload_n 2, 1) := dk_28 (dk_at dksX5_lookers_1 3 rfl rfl)
theorem dX5_lookers_26 : decode cX5_lookers 26 = .ok (.iconst 1, 1) := dk_4 (dk_at dksX5_lookers_1 4 rfl rfl)
theorem dX5_lookers_27 : decode cX5_lookers 27 = .ok (.iload_n 3, 1) := dk_29 (dk_at dksX5_lookers_1 5 rfl rfl)
theorem dX5_lookers_28 : decode cX5_lookers 28 = .ok (.ishl, 1) := dk_120 (dk_at dksX5_lookers_1 6 rfl rfl)
theorem dX5_lookers_29 : decode cX5_lookers 29 = .ok (.iadd, 1) := dk_96 (dk_at dksX5_lookers_1 7 rfl rfl)
theorem dX5_lookers_30 : decode cX5_lookers 30 = .ok (.istore_n 2, 1) := dk_61 (dk_at dksX5_lookers_1 8 rfl rfl)
theorem dX5_lookers_31 : decode cX5_lookers 31 = .ok (.iinc 3 1, 3) := dk_132 3 1 (dk_at dksX5_lookers_1 9 rfl rfl)
theorem dX5_lookers_34 : decode cX5_lookers 34 = .ok (.goto (-30), 3) := dk_167 255 226 (dk_at dksX5_lookers_1 12 rfl rfl)
theorem dX5_lookers_37 : decode cX5_lookers 37 = .ok (.iload_n 2, 1) := dk_28 (dk_at dksX5_lookers_1 15 rfl rfl)
theorem dX5_lookers_38 : decode cX5_lookers 38 = .ok (.ireturn, 1) := dk_172 (dk_at dksX5_lookers_1 16 rfl rfl)
abbrev cX5_lookedAt : ByteArray := prog_22_method_44_code
def yX5_lookedAt : MethodName := ⟨RX5, "lookedAt", "(I)I"⟩
def dkwX5_lookedAt_6 : List UInt8 := [160, 0, 7, 3, 167, 0, 6, 4, 29, 120, 172]
abbrev dktX5_lookedAt_6 : List UInt8 := dkwX5_lookedAt_6 ++ []
def dkwX5_lookedAt_5 : List UInt8 := [180, 0, 26, 27, 46, 7, 159, 0, 16, 42, 180, 0, 26, 27, 46, 16, 6, 159, 0, 5, 28, 172, 29, 2]
abbrev dktX5_lookedAt_5 : List UInt8 := dkwX5_lookedAt_5 ++ dktX5_lookedAt_6
def dkwX5_lookedAt_4 : List UInt8 := [21, 4, 182, 0, 122, 42, 29, 182, 0, 122, 164, 0, 6, 21, 4, 62, 132, 4, 1, 167, 255, 152, 42]
abbrev dktX5_lookedAt_4 : List UInt8 := dkwX5_lookedAt_4 ++ dktX5_lookedAt_5
def dkwX5_lookedAt_3 : List UInt8 := [180, 0, 41, 21, 4, 46, 182, 0, 205, 100, 54, 5, 21, 5, 157, 0, 22, 21, 5, 154, 0, 20, 42]
abbrev dktX5_lookedAt_3 : List UInt8 := dkwX5_lookedAt_3 ++ dktX5_lookedAt_4
def dkwX5_lookedAt_2 : List UInt8 := [180, 0, 41, 27, 46, 42, 180, 0, 41, 29, 46, 182, 0, 205, 42, 42, 180, 0, 41, 27, 46, 42]
abbrev dktX5_lookedAt_2 : List UInt8 := dkwX5_lookedAt_2 ++ dktX5_lookedAt_3
def dkwX5_lookedAt_1 : List UInt8 := [154, 0, 6, 167, 0, 82, 28, 4, 21, 4, 120, 96, 61, 29, 2, 160, 0, 7, 4, 167, 0, 37, 42, 42]
abbrev dktX5_lookedAt_1 : List UInt8 := dkwX5_lookedAt_1 ++ dktX5_lookedAt_2
def dkwX5_lookedAt_0 : List UInt8 := [3, 61, 2, 62, 3, 54, 4, 21, 4, 42, 180, 0, 108, 162, 0, 101, 42, 27, 21, 4, 182, 0, 212]
abbrev dktX5_lookedAt_0 : List UInt8 := dkwX5_lookedAt_0 ++ dktX5_lookedAt_1
theorem dksX5_lookedAt_0 : cX5_lookedAt.data.toList.drop 0 = dktX5_lookedAt_0 := by decide +kernel
theorem dksX5_lookedAt_1 : cX5_lookedAt.data.toList.drop 23 = dktX5_lookedAt_1 := dk_seg dksX5_lookedAt_0 23 rfl rfl
theorem dksX5_lookedAt_2 : cX5_lookedAt.data.toList.drop 47 = dktX5_lookedAt_2 := dk_seg dksX5_lookedAt_1 24 rfl rfl
theorem dksX5_lookedAt_3 : cX5_lookedAt.data.toList.drop 69 = dktX5_lookedAt_3 := dk_seg dksX5_lookedAt_2 22 rfl rfl
theorem dksX5_lookedAt_4 : cX5_lookedAt.data.toList.drop 92 = dktX5_lookedAt_4 := dk_seg dksX5_lookedAt_3 23 rfl rfl
theorem dksX5_lookedAt_5 : cX5_lookedAt.data.toList.drop 115 = dktX5_lookedAt_5 := dk_seg dksX5_lookedAt_4 23 rfl rfl
theorem dksX5_lookedAt_6 : cX5_lookedAt.data.toList.drop 139 = dktX5_lookedAt_6 := dk_seg dksX5_lookedAt_5 24 rfl rfl
theorem dX5_lookedAt_0 : decode cX5_lookedAt 0 = .ok (.iconst 0, 1) := dk_3 (dk_at dksX5_lookedAt_0 0 rfl rfl)
theorem dX5_lookedAt_1 : decode cX5_lookedAt 1 = .ok (.istore_n 2, 1) := dk_61 (dk_at dksX5_lookedAt_0 1 rfl rfl)
theorem dX5_lookedAt_2 : decode cX5_lookedAt 2 = .ok (.iconst (-1), 1) := dk_2 (dk_at dksX5_lookedAt_0 2 rfl rfl)
theorem dX5_lookedAt_3 : decode cX5_lookedAt 3 = .ok (.istore_n 3, 1) := dk_62 (dk_at dksX5_lookedAt_0 3 rfl rfl)
theorem dX5_lookedAt_4 : decode cX5_lookedAt 4 = .ok (.iconst 0, 1) := dk_3 (dk_at dksX5_lookedAt_0 4 rfl rfl)
theorem dX5_lookedAt_5 : decode cX5_lookedAt 5 = .ok (.istore 4, 2) := dk_54 4 (dk_at dksX5_lookedAt_0 5 rfl rfl)
theorem dX5_lookedAt_7 : decode cX5_lookedAt 7 = .ok (.iload 4, 2) := dk_21 4 (dk_at dksX5_lookedAt_0 7 rfl rfl)
theorem dX5_lookedAt_9 : decode cX5_lookedAt 9 = .ok (.aload_n 0, 1) := dk_42 (dk_at dksX5_lookedAt_0 9 rfl rfl)
theorem dX5_lookedAt_10 : decode cX5_lookedAt 10 = .ok (.getfield 108, 3) := dk_180 0 108 (dk_at dksX5_lookedAt_0 10 rfl rfl)
theorem dX5_lookedAt_13 : decode cX5_lookedAt 13 = .ok (.if_icmp .ge 101, 3) := dk_162 0 101 (dk_at dksX5_lookedAt_0 13 rfl rfl)
theorem dX5_lookedAt_16 : decode cX5_lookedAt 16 = .ok (.aload_n 0, 1) := dk_42 (dk_at dksX5_lookedAt_0 16 rfl rfl)
theorem dX5_lookedAt_17 : decode cX5_lookedAt 17 = .ok (.iload_n 1, 1) := dk_27 (dk_at dksX5_lookedAt_0 17 rfl rfl)
theorem dX5_lookedAt_18 : decode cX5_lookedAt 18 = .ok (.iload 4, 2) := dk_21 4 (dk_at dksX5_lookedAt_0 18 rfl rfl)
theorem dX5_lookedAt_20 : decode cX5_lookedAt 20 = .ok (.invokevirtual 212, 3) := dk_182 0 212 (dk_at dksX5_lookedAt_0 20 rfl rfl)
theorem dX5_lookedAt_23 : decode cX5_lookedAt 23 = .ok (.ifCond .ne 6, 3) := dk_154 0 6 (dk_at dksX5_lookedAt_1 0 rfl rfl)
theorem dX5_lookedAt_26 : decode cX5_lookedAt 26 = .ok (.goto 82, 3) := dk_167 0 82 (dk_at dksX5_lookedAt_1 3 rfl rfl)
theorem dX5_lookedAt_29 : decode cX5_lookedAt 29 = .ok (.iload_n 2, 1) := dk_28 (dk_at dksX5_lookedAt_1 6 rfl rfl)
theorem dX5_lookedAt_30 : decode cX5_lookedAt 30 = .ok (.iconst 1, 1) := dk_4 (dk_at dksX5_lookedAt_1 7 rfl rfl)
theorem dX5_lookedAt_31 : decode cX5_lookedAt 31 = .ok (.iload 4, 2) := dk_21 4 (dk_at dksX5_lookedAt_1 8 rfl rfl)
theorem dX5_lookedAt_33 : decode cX5_lookedAt 33 = .ok (.ishl, 1) := dk_120 (dk_at dksX5_lookedAt_1 10 rfl rfl)
theorem dX5_lookedAt_34 : decode cX5_lookedAt 34 = .ok (.iadd, 1) := dk_96 (dk_at dksX5_lookedAt_1 11 rfl rfl)
theorem dX5_lookedAt_35 : decode cX5_lookedAt 35 = .ok (.istore_n 2, 1) := dk_61 (dk_at dksX5_lookedAt_1 12 rfl rfl)
theorem dX5_lookedAt_36 : decode cX5_lookedAt 36 = .ok (.iload_n 3, 1) := dk_29 (dk_at dksX5_lookedAt_1 13 rfl rfl)
theorem dX5_lookedAt_37 : decode cX5_lookedAt 37 = .ok (.iconst (-1), 1) := dk_2 (dk_at dksX5_lookedAt_1 14 rfl rfl)
theorem dX5_lookedAt_38 : decode cX5_lookedAt 38 = .ok (.if_icmp .ne 7, 3) := dk_160 0 7 (dk_at dksX5_lookedAt_1 15 rfl rfl)
theorem dX5_lookedAt_41 : decode cX5_lookedAt 41 = .ok (.iconst 1, 1) := dk_4 (dk_at dksX5_lookedAt_1 18 rfl rfl)
theorem dX5_lookedAt_42 : decode cX5_lookedAt 42 = .ok (.goto 37, 3) := dk_167 0 37 (dk_at dksX5_lookedAt_1 19 rfl rfl)
theorem dX5_lookedAt_45 : decode cX5_lookedAt 45 = .ok (.aload_n 0, 1) := dk_42 (dk_at dksX5_lookedAt_1 22 rfl rfl)
theorem dX5_lookedAt_46 : decode cX5_lookedAt 46 = .ok (.aload_n 0, 1) := dk_42 (dk_at dksX5_lookedAt_1 23 rfl rfl)
theorem dX5_lookedAt_47 : decode cX5_lookedAt 47 = .ok (.getfield 41, 3) := dk_180 0 41 (dk_at dksX5_lookedAt_2 0 rfl rfl)
theorem dX5_lookedAt_50 : decode cX5_lookedAt 50 = .ok (.iload_n 1, 1) := dk_27 (dk_at dksX5_lookedAt_2 3 rfl rfl)
theorem dX5_lookedAt_51 : decode cX5_lookedAt 51 = .ok (.iaload, 1) := dk_46 (dk_at dksX5_lookedAt_2 4 rfl rfl)
theorem dX5_lookedAt_52 : decode cX5_lookedAt 52 = .ok (.aload_n 0, 1) := dk_42 (dk_at dksX5_lookedAt_2 5 rfl rfl)
theorem dX5_lookedAt_53 : decode cX5_lookedAt 53 = .ok (.getfield 41, 3) := dk_180 0 41 (dk_at dksX5_lookedAt_2 6 rfl rfl)
theorem dX5_lookedAt_56 : decode cX5_lookedAt 56 = .ok (.iload_n 3, 1) := dk_29 (dk_at dksX5_lookedAt_2 9 rfl rfl)
theorem dX5_lookedAt_57 : decode cX5_lookedAt 57 = .ok (.iaload, 1) := dk_46 (dk_at dksX5_lookedAt_2 10 rfl rfl)
theorem dX5_lookedAt_58 : decode cX5_lookedAt 58 = .ok (.invokevirtual 205, 3) := dk_182 0 205 (dk_at dksX5_lookedAt_2 11 rfl rfl)
theorem dX5_lookedAt_61 : decode cX5_lookedAt 61 = .ok (.aload_n 0, 1) := dk_42 (dk_at dksX5_lookedAt_2 14 rfl rfl)
theorem dX5_lookedAt_62 : decode cX5_lookedAt 62 = .ok (.aload_n 0, 1) := dk_42 (dk_at dksX5_lookedAt_2 15 rfl rfl)
theorem dX5_lookedAt_63 : decode cX5_lookedAt 63 = .ok (.getfield 41, 3) := dk_180 0 41 (dk_at dksX5_lookedAt_2 16 rfl rfl)
theorem dX5_lookedAt_66 : decode cX5_lookedAt 66 = .ok (.iload_n 1, 1) := dk_27 (dk_at dksX5_lookedAt_2 19 rfl rfl)
theorem dX5_lookedAt_67 : decode cX5_lookedAt 67 = .ok (.iaload, 1) := dk_46 (dk_at dksX5_lookedAt_2 20 rfl rfl)
theorem dX5_lookedAt_68 : decode cX5_lookedAt 68 = .ok (.aload_n 0, 1) := dk_42 (dk_at dksX5_lookedAt_2 21 rfl rfl)
theorem dX5_lookedAt_69 : decode cX5_lookedAt 69 = .ok (.getfield 41, 3) := dk_180 0 41 (dk_at dksX5_lookedAt_3 0 rfl rfl)
theorem dX5_lookedAt_72 : decode cX5_lookedAt 72 = .ok (.iload 4, 2) := dk_21 4 (dk_at dksX5_lookedAt_3 3 rfl rfl)
theorem dX5_lookedAt_74 : decode cX5_lookedAt 74 = .ok (.iaload, 1) := dk_46 (dk_at dksX5_lookedAt_3 5 rfl rfl)
theorem dX5_lookedAt_75 : decode cX5_lookedAt 75 = .ok (.invokevirtual 205, 3) := dk_182 0 205 (dk_at dksX5_lookedAt_3 6 rfl rfl)
theorem dX5_lookedAt_78 : decode cX5_lookedAt 78 = .ok (.isub, 1) := dk_100 (dk_at dksX5_lookedAt_3 9 rfl rfl)
theorem dX5_lookedAt_79 : decode cX5_lookedAt 79 = .ok (.istore 5, 2) := dk_54 5 (dk_at dksX5_lookedAt_3 10 rfl rfl)
theorem dX5_lookedAt_81 : decode cX5_lookedAt 81 = .ok (.iload 5, 2) := dk_21 5 (dk_at dksX5_lookedAt_3 12 rfl rfl)
theorem dX5_lookedAt_83 : decode cX5_lookedAt 83 = .ok (.ifCond .gt 22, 3) := dk_157 0 22 (dk_at dksX5_lookedAt_3 14 rfl rfl)
theorem dX5_lookedAt_86 : decode cX5_lookedAt 86 = .ok (.iload 5, 2) := dk_21 5 (dk_at dksX5_lookedAt_3 17 rfl rfl)
theorem dX5_lookedAt_88 : decode cX5_lookedAt 88 = .ok (.ifCond .ne 20, 3) := dk_154 0 20 (dk_at dksX5_lookedAt_3 19 rfl rfl)
theorem dX5_lookedAt_91 : decode cX5_lookedAt 91 = .ok (.aload_n 0, 1) := dk_42 (dk_at dksX5_lookedAt_3 22 rfl rfl)
theorem dX5_lookedAt_92 : decode cX5_lookedAt 92 = .ok (.iload 4, 2) := dk_21 4 (dk_at dksX5_lookedAt_4 0 rfl rfl)
theorem dX5_lookedAt_94 : decode cX5_lookedAt 94 = .ok (.invokevirtual 122, 3) := dk_182 0 122 (dk_at dksX5_lookedAt_4 2 rfl rfl)
theorem dX5_lookedAt_97 : decode cX5_lookedAt 97 = .ok (.aload_n 0, 1) := dk_42 (dk_at dksX5_lookedAt_4 5 rfl rfl)
theorem dX5_lookedAt_98 : decode cX5_lookedAt 98 = .ok (.iload_n 3, 1) := dk_29 (dk_at dksX5_lookedAt_4 6 rfl rfl)
theorem dX5_lookedAt_99 : decode cX5_lookedAt 99 = .ok (.invokevirtual 122, 3) := dk_182 0 122 (dk_at dksX5_lookedAt_4 7 rfl rfl)
theorem dX5_lookedAt_102 : decode cX5_lookedAt 102 = .ok (.if_icmp .le 6, 3) := dk_164 0 6 (dk_at dksX5_lookedAt_4 10 rfl rfl)
theorem dX5_lookedAt_105 : decode cX5_lookedAt 105 = .ok (.iload 4, 2) := dk_21 4 (dk_at dksX5_lookedAt_4 13 rfl rfl)
theorem dX5_lookedAt_107 : decode cX5_lookedAt 107 = .ok (.istore_n 3, 1) := dk_62 (dk_at dksX5_lookedAt_4 15 rfl rfl)
theorem dX5_lookedAt_108 : decode cX5_lookedAt 108 = .ok (.iinc 4 1, 3) := dk_132 4 1 (dk_at dksX5_lookedAt_4 16 rfl rfl)
theorem dX5_lookedAt_111 : decode cX5_lookedAt 111 = .ok (.goto (-104), 3) := dk_167 255 152 (dk_at dksX5_lookedAt_4 19 rfl rfl)
theorem dX5_lookedAt_114 : decode cX5_lookedAt 114 = .ok (.aload_n 0, 1) := dk_42 (dk_at dksX5_lookedAt_4 22 rfl rfl)
theorem dX5_lookedAt_115 : decode cX5_lookedAt 115 = .ok (.getfield 26, 3) := dk_180 0 26 (dk_at dksX5_lookedAt_5 0 rfl rfl)
theorem dX5_lookedAt_118 : decode cX5_lookedAt 118 = .ok (.iload_n 1, 1) := dk_27 (dk_at dksX5_lookedAt_5 3 rfl rfl)
theorem dX5_lookedAt_119 : decode cX5_lookedAt 119 = .ok (.iaload, 1) := dk_46 (dk_at dksX5_lookedAt_5 4 rfl rfl)
theorem dX5_lookedAt_120 : decode cX5_lookedAt 120 = .ok (.iconst 4, 1) := dk_7 (dk_at dksX5_lookedAt_5 5 rfl rfl)
theorem dX5_lookedAt_121 : decode cX5_lookedAt 121 = .ok (.if_icmp .eq 16, 3) := dk_159 0 16 (dk_at dksX5_lookedAt_5 6 rfl rfl)
theorem dX5_lookedAt_124 : decode cX5_lookedAt 124 = .ok (.aload_n 0, 1) := dk_42 (dk_at dksX5_lookedAt_5 9 rfl rfl)
theorem dX5_lookedAt_125 : decode cX5_lookedAt 125 = .ok (.getfield 26, 3) := dk_180 0 26 (dk_at dksX5_lookedAt_5 10 rfl rfl)
theorem dX5_lookedAt_128 : decode cX5_lookedAt 128 = .ok (.iload_n 1, 1) := dk_27 (dk_at dksX5_lookedAt_5 13 rfl rfl)
theorem dX5_lookedAt_129 : decode cX5_lookedAt 129 = .ok (.iaload, 1) := dk_46 (dk_at dksX5_lookedAt_5 14 rfl rfl)
theorem dX5_lookedAt_130 : decode cX5_lookedAt 130 = .ok (.bipush 6, 2) := dk_16 6 (dk_at dksX5_lookedAt_5 15 rfl rfl)
theorem dX5_lookedAt_132 : decode cX5_lookedAt 132 = .ok (.if_icmp .eq 5, 3) := dk_159 0 5 (dk_at dksX5_lookedAt_5 17 rfl rfl)
theorem dX5_lookedAt_135 : decode cX5_lookedAt 135 = .ok (.iload_n 2, 1) := dk_28 (dk_at dksX5_lookedAt_5 20 rfl rfl)
theorem dX5_lookedAt_136 : decode cX5_lookedAt 136 = .ok (.ireturn, 1) := dk_172 (dk_at dksX5_lookedAt_5 21 rfl rfl)
theorem dX5_lookedAt_137 : decode cX5_lookedAt 137 = .ok (.iload_n 3, 1) := dk_29 (dk_at dksX5_lookedAt_5 22 rfl rfl)
theorem dX5_lookedAt_138 : decode cX5_lookedAt 138 = .ok (.iconst (-1), 1) := dk_2 (dk_at dksX5_lookedAt_5 23 rfl rfl)
theorem dX5_lookedAt_139 : decode cX5_lookedAt 139 = .ok (.if_icmp .ne 7, 3) := dk_160 0 7 (dk_at dksX5_lookedAt_6 0 rfl rfl)
theorem dX5_lookedAt_142 : decode cX5_lookedAt 142 = .ok (.iconst 0, 1) := dk_3 (dk_at dksX5_lookedAt_6 3 rfl rfl)
theorem dX5_lookedAt_143 : decode cX5_lookedAt 143 = .ok (.goto 6, 3) := dk_167 0 6 (dk_at dksX5_lookedAt_6 4 rfl rfl)
theorem dX5_lookedAt_146 : decode cX5_lookedAt 146 = .ok (.iconst 1, 1) := dk_4 (dk_at dksX5_lookedAt_6 7 rfl rfl)
theorem dX5_lookedAt_147 : decode cX5_lookedAt 147 = .ok (.iload_n 3, 1) := dk_29 (dk_at dksX5_lookedAt_6 8 rfl rfl)
theorem dX5_lookedAt_148 : decode cX5_lookedAt 148 = .ok (.ishl, 1) := dk_120 (dk_at dksX5_lookedAt_6 9 rfl rfl)
theorem dX5_lookedAt_149 : decode cX5_lookedAt 149 = .ok (.ireturn, 1) := dk_172 (dk_at dksX5_lookedAt_6 10 rfl rfl)
abbrev cX5_would : ByteArray := prog_22_method_43_code
def yX5_would : MethodName := ⟨RX5, "would", "(II)Z"⟩
def dkwX5_would_4 : List UInt8 := [164, 0, 7, 4, 167, 0, 4, 3, 172]
abbrev dktX5_would_4 : List UInt8 := dkwX5_would_4 ++ []
def dkwX5_would_3 : List UInt8 := [180, 0, 35, 27, 46, 42, 42, 180, 0, 41, 27, 46, 42, 180, 0, 41, 28, 46, 182, 0, 205, 96]
abbrev dktX5_would_3 : List UInt8 := dkwX5_would_3 ++ dktX5_would_4
def dkwX5_would_2 : List UInt8 := [180, 0, 41, 27, 46, 42, 180, 0, 41, 28, 46, 182, 0, 209, 153, 0, 38, 42, 28, 182, 0, 122, 42]
abbrev dktX5_would_2 : List UInt8 := dkwX5_would_2 ++ dktX5_would_3
def dkwX5_would_1 : List UInt8 := [180, 0, 26, 27, 46, 6, 159, 0, 13, 42, 180, 0, 26, 27, 46, 8, 160, 0, 5, 3, 172, 42, 42]
abbrev dktX5_would_1 : List UInt8 := dkwX5_would_1 ++ dktX5_would_2
def dkwX5_would_0 : List UInt8 := [27, 28, 159, 0, 39, 27, 42, 180, 0, 93, 159, 0, 31, 28, 42, 180, 0, 93, 159, 0, 23, 42]
abbrev dktX5_would_0 : List UInt8 := dkwX5_would_0 ++ dktX5_would_1
theorem dksX5_would_0 : cX5_would.data.toList.drop 0 = dktX5_would_0 := by decide +kernel
theorem dksX5_would_1 : cX5_would.data.toList.drop 22 = dktX5_would_1 := dk_seg dksX5_would_0 22 rfl rfl
theorem dksX5_would_2 : cX5_would.data.toList.drop 45 = dktX5_would_2 := dk_seg dksX5_would_1 23 rfl rfl
theorem dksX5_would_3 : cX5_would.data.toList.drop 68 = dktX5_would_3 := dk_seg dksX5_would_2 23 rfl rfl
theorem dksX5_would_4 : cX5_would.data.toList.drop 90 = dktX5_would_4 := dk_seg dksX5_would_3 22 rfl rfl
theorem dX5_would_0 : decode cX5_would 0 = .ok (.iload_n 1, 1) := dk_27 (dk_at dksX5_would_0 0 rfl rfl)
theorem dX5_would_1 : decode cX5_would 1 = .ok (.iload_n 2, 1) := dk_28 (dk_at dksX5_would_0 1 rfl rfl)
theorem dX5_would_2 : decode cX5_would 2 = .ok (.if_icmp .eq 39, 3) := dk_159 0 39 (dk_at dksX5_would_0 2 rfl rfl)
theorem dX5_would_5 : decode cX5_would 5 = .ok (.iload_n 1, 1) := dk_27 (dk_at dksX5_would_0 5 rfl rfl)
theorem dX5_would_6 : decode cX5_would 6 = .ok (.aload_n 0, 1) := dk_42 (dk_at dksX5_would_0 6 rfl rfl)
theorem dX5_would_7 : decode cX5_would 7 = .ok (.getfield 93, 3) := dk_180 0 93 (dk_at dksX5_would_0 7 rfl rfl)
theorem dX5_would_10 : decode cX5_would 10 = .ok (.if_icmp .eq 31, 3) := dk_159 0 31 (dk_at dksX5_would_0 10 rfl rfl)
theorem dX5_would_13 : decode cX5_would 13 = .ok (.iload_n 2, 1) := dk_28 (dk_at dksX5_would_0 13 rfl rfl)
theorem dX5_would_14 : decode cX5_would 14 = .ok (.aload_n 0, 1) := dk_42 (dk_at dksX5_would_0 14 rfl rfl)
theorem dX5_would_15 : decode cX5_would 15 = .ok (.getfield 93, 3) := dk_180 0 93 (dk_at dksX5_would_0 15 rfl rfl)
theorem dX5_would_18 : decode cX5_would 18 = .ok (.if_icmp .eq 23, 3) := dk_159 0 23 (dk_at dksX5_would_0 18 rfl rfl)
theorem dX5_would_21 : decode cX5_would 21 = .ok (.aload_n 0, 1) := dk_42 (dk_at dksX5_would_0 21 rfl rfl)
theorem dX5_would_22 : decode cX5_would 22 = .ok (.getfield 26, 3) := dk_180 0 26 (dk_at dksX5_would_1 0 rfl rfl)
theorem dX5_would_25 : decode cX5_would 25 = .ok (.iload_n 1, 1) := dk_27 (dk_at dksX5_would_1 3 rfl rfl)
theorem dX5_would_26 : decode cX5_would 26 = .ok (.iaload, 1) := dk_46 (dk_at dksX5_would_1 4 rfl rfl)
theorem dX5_would_27 : decode cX5_would 27 = .ok (.iconst 3, 1) := dk_6 (dk_at dksX5_would_1 5 rfl rfl)
theorem dX5_would_28 : decode cX5_would 28 = .ok (.if_icmp .eq 13, 3) := dk_159 0 13 (dk_at dksX5_would_1 6 rfl rfl)
theorem dX5_would_31 : decode cX5_would 31 = .ok (.aload_n 0, 1) := dk_42 (dk_at dksX5_would_1 9 rfl rfl)
theorem dX5_would_32 : decode cX5_would 32 = .ok (.getfield 26, 3) := dk_180 0 26 (dk_at dksX5_would_1 10 rfl rfl)
theorem dX5_would_35 : decode cX5_would 35 = .ok (.iload_n 1, 1) := dk_27 (dk_at dksX5_would_1 13 rfl rfl)
theorem dX5_would_36 : decode cX5_would 36 = .ok (.iaload, 1) := dk_46 (dk_at dksX5_would_1 14 rfl rfl)
theorem dX5_would_37 : decode cX5_would 37 = .ok (.iconst 5, 1) := dk_8 (dk_at dksX5_would_1 15 rfl rfl)
theorem dX5_would_38 : decode cX5_would 38 = .ok (.if_icmp .ne 5, 3) := dk_160 0 5 (dk_at dksX5_would_1 16 rfl rfl)
theorem dX5_would_41 : decode cX5_would 41 = .ok (.iconst 0, 1) := dk_3 (dk_at dksX5_would_1 19 rfl rfl)
theorem dX5_would_42 : decode cX5_would 42 = .ok (.ireturn, 1) := dk_172 (dk_at dksX5_would_1 20 rfl rfl)
theorem dX5_would_43 : decode cX5_would 43 = .ok (.aload_n 0, 1) := dk_42 (dk_at dksX5_would_1 21 rfl rfl)
theorem dX5_would_44 : decode cX5_would 44 = .ok (.aload_n 0, 1) := dk_42 (dk_at dksX5_would_1 22 rfl rfl)
theorem dX5_would_45 : decode cX5_would 45 = .ok (.getfield 41, 3) := dk_180 0 41 (dk_at dksX5_would_2 0 rfl rfl)
theorem dX5_would_48 : decode cX5_would 48 = .ok (.iload_n 1, 1) := dk_27 (dk_at dksX5_would_2 3 rfl rfl)
theorem dX5_would_49 : decode cX5_would 49 = .ok (.iaload, 1) := dk_46 (dk_at dksX5_would_2 4 rfl rfl)
theorem dX5_would_50 : decode cX5_would 50 = .ok (.aload_n 0, 1) := dk_42 (dk_at dksX5_would_2 5 rfl rfl)
theorem dX5_would_51 : decode cX5_would 51 = .ok (.getfield 41, 3) := dk_180 0 41 (dk_at dksX5_would_2 6 rfl rfl)
theorem dX5_would_54 : decode cX5_would 54 = .ok (.iload_n 2, 1) := dk_28 (dk_at dksX5_would_2 9 rfl rfl)
theorem dX5_would_55 : decode cX5_would 55 = .ok (.iaload, 1) := dk_46 (dk_at dksX5_would_2 10 rfl rfl)
theorem dX5_would_56 : decode cX5_would 56 = .ok (.invokevirtual 209, 3) := dk_182 0 209 (dk_at dksX5_would_2 11 rfl rfl)
theorem dX5_would_59 : decode cX5_would 59 = .ok (.ifCond .eq 38, 3) := dk_153 0 38 (dk_at dksX5_would_2 14 rfl rfl)
theorem dX5_would_62 : decode cX5_would 62 = .ok (.aload_n 0, 1) := dk_42 (dk_at dksX5_would_2 17 rfl rfl)
theorem dX5_would_63 : decode cX5_would 63 = .ok (.iload_n 2, 1) := dk_28 (dk_at dksX5_would_2 18 rfl rfl)
theorem dX5_would_64 : decode cX5_would 64 = .ok (.invokevirtual 122, 3) := dk_182 0 122 (dk_at dksX5_would_2 19 rfl rfl)
theorem dX5_would_67 : decode cX5_would 67 = .ok (.aload_n 0, 1) := dk_42 (dk_at dksX5_would_2 22 rfl rfl)
theorem dX5_would_68 : decode cX5_would 68 = .ok (.getfield 35, 3) := dk_180 0 35 (dk_at dksX5_would_3 0 rfl rfl)
theorem dX5_would_71 : decode cX5_would 71 = .ok (.iload_n 1, 1) := dk_27 (dk_at dksX5_would_3 3 rfl rfl)
theorem dX5_would_72 : decode cX5_would 72 = .ok (.iaload, 1) := dk_46 (dk_at dksX5_would_3 4 rfl rfl)
theorem dX5_would_73 : decode cX5_would 73 = .ok (.aload_n 0, 1) := dk_42 (dk_at dksX5_would_3 5 rfl rfl)
theorem dX5_would_74 : decode cX5_would 74 = .ok (.aload_n 0, 1) := dk_42 (dk_at dksX5_would_3 6 rfl rfl)
theorem dX5_would_75 : decode cX5_would 75 = .ok (.getfield 41, 3) := dk_180 0 41 (dk_at dksX5_would_3 7 rfl rfl)
theorem dX5_would_78 : decode cX5_would 78 = .ok (.iload_n 1, 1) := dk_27 (dk_at dksX5_would_3 10 rfl rfl)
theorem dX5_would_79 : decode cX5_would 79 = .ok (.iaload, 1) := dk_46 (dk_at dksX5_would_3 11 rfl rfl)
theorem dX5_would_80 : decode cX5_would 80 = .ok (.aload_n 0, 1) := dk_42 (dk_at dksX5_would_3 12 rfl rfl)
theorem dX5_would_81 : decode cX5_would 81 = .ok (.getfield 41, 3) := dk_180 0 41 (dk_at dksX5_would_3 13 rfl rfl)
theorem dX5_would_84 : decode cX5_would 84 = .ok (.iload_n 2, 1) := dk_28 (dk_at dksX5_would_3 16 rfl rfl)
theorem dX5_would_85 : decode cX5_would 85 = .ok (.iaload, 1) := dk_46 (dk_at dksX5_would_3 17 rfl rfl)
theorem dX5_would_86 : decode cX5_would 86 = .ok (.invokevirtual 205, 3) := dk_182 0 205 (dk_at dksX5_would_3 18 rfl rfl)
theorem dX5_would_89 : decode cX5_would 89 = .ok (.iadd, 1) := dk_96 (dk_at dksX5_would_3 21 rfl rfl)
theorem dX5_would_90 : decode cX5_would 90 = .ok (.if_icmp .le 7, 3) := dk_164 0 7 (dk_at dksX5_would_4 0 rfl rfl)
theorem dX5_would_93 : decode cX5_would 93 = .ok (.iconst 1, 1) := dk_4 (dk_at dksX5_would_4 3 rfl rfl)
theorem dX5_would_94 : decode cX5_would 94 = .ok (.goto 4, 3) := dk_167 0 4 (dk_at dksX5_would_4 4 rfl rfl)
theorem dX5_would_97 : decode cX5_would 97 = .ok (.iconst 0, 1) := dk_3 (dk_at dksX5_would_4 7 rfl rfl)
theorem dX5_would_98 : decode cX5_would 98 = .ok (.ireturn, 1) := dk_172 (dk_at dksX5_would_4 8 rfl rfl)
abbrev cX5_duty : ByteArray := prog_22_method_52_code
def yX5_duty : MethodName := ⟨RX5, "duty", "(II)I"⟩
def dkwX5_duty_1 : List UInt8 := [16, 251, 182, 0, 115, 172, 28, 154, 0, 11, 42, 27, 182, 0, 227, 167, 0, 8, 42, 27, 182, 0, 230, 172]
abbrev dktX5_duty_1 : List UInt8 := dkwX5_duty_1 ++ []
def dkwX5_duty_0 : List UInt8 := [42, 27, 182, 0, 119, 154, 0, 9, 42, 2, 182, 0, 115, 172, 28, 155, 0, 8, 28, 4, 164, 0, 10, 42]
abbrev dktX5_duty_0 : List UInt8 := dkwX5_duty_0 ++ dktX5_duty_1
theorem dksX5_duty_0 : cX5_duty.data.toList.drop 0 = dktX5_duty_0 := by decide +kernel
theorem dksX5_duty_1 : cX5_duty.data.toList.drop 24 = dktX5_duty_1 := dk_seg dksX5_duty_0 24 rfl rfl
theorem dX5_duty_0 : decode cX5_duty 0 = .ok (.aload_n 0, 1) := dk_42 (dk_at dksX5_duty_0 0 rfl rfl)
theorem dX5_duty_1 : decode cX5_duty 1 = .ok (.iload_n 1, 1) := dk_27 (dk_at dksX5_duty_0 1 rfl rfl)
theorem dX5_duty_2 : decode cX5_duty 2 = .ok (.invokevirtual 119, 3) := dk_182 0 119 (dk_at dksX5_duty_0 2 rfl rfl)
theorem dX5_duty_5 : decode cX5_duty 5 = .ok (.ifCond .ne 9, 3) := dk_154 0 9 (dk_at dksX5_duty_0 5 rfl rfl)
theorem dX5_duty_8 : decode cX5_duty 8 = .ok (.aload_n 0, 1) := dk_42 (dk_at dksX5_duty_0 8 rfl rfl)
theorem dX5_duty_9 : decode cX5_duty 9 = .ok (.iconst (-1), 1) := dk_2 (dk_at dksX5_duty_0 9 rfl rfl)
theorem dX5_duty_10 : decode cX5_duty 10 = .ok (.invokevirtual 115, 3) := dk_182 0 115 (dk_at dksX5_duty_0 10 rfl rfl)
theorem dX5_duty_13 : decode cX5_duty 13 = .ok (.ireturn, 1) := dk_172 (dk_at dksX5_duty_0 13 rfl rfl)
theorem dX5_duty_14 : decode cX5_duty 14 = .ok (.iload_n 2, 1) := dk_28 (dk_at dksX5_duty_0 14 rfl rfl)
theorem dX5_duty_15 : decode cX5_duty 15 = .ok (.ifCond .lt 8, 3) := dk_155 0 8 (dk_at dksX5_duty_0 15 rfl rfl)
theorem dX5_duty_18 : decode cX5_duty 18 = .ok (.iload_n 2, 1) := dk_28 (dk_at dksX5_duty_0 18 rfl rfl)
theorem dX5_duty_19 : decode cX5_duty 19 = .ok (.iconst 1, 1) := dk_4 (dk_at dksX5_duty_0 19 rfl rfl)
theorem dX5_duty_20 : decode cX5_duty 20 = .ok (.if_icmp .le 10, 3) := dk_164 0 10 (dk_at dksX5_duty_0 20 rfl rfl)
theorem dX5_duty_23 : decode cX5_duty 23 = .ok (.aload_n 0, 1) := dk_42 (dk_at dksX5_duty_0 23 rfl rfl)
theorem dX5_duty_24 : decode cX5_duty 24 = .ok (.bipush (-5), 2) := dk_16 251 (dk_at dksX5_duty_1 0 rfl rfl)
theorem dX5_duty_26 : decode cX5_duty 26 = .ok (.invokevirtual 115, 3) := dk_182 0 115 (dk_at dksX5_duty_1 2 rfl rfl)
theorem dX5_duty_29 : decode cX5_duty 29 = .ok (.ireturn, 1) := dk_172 (dk_at dksX5_duty_1 5 rfl rfl)
theorem dX5_duty_30 : decode cX5_duty 30 = .ok (.iload_n 2, 1) := dk_28 (dk_at dksX5_duty_1 6 rfl rfl)
theorem dX5_duty_31 : decode cX5_duty 31 = .ok (.ifCond .ne 11, 3) := dk_154 0 11 (dk_at dksX5_duty_1 7 rfl rfl)
theorem dX5_duty_34 : decode cX5_duty 34 = .ok (.aload_n 0, 1) := dk_42 (dk_at dksX5_duty_1 10 rfl rfl)
theorem dX5_duty_35 : decode cX5_duty 35 = .ok (.iload_n 1, 1) := dk_27 (dk_at dksX5_duty_1 11 rfl rfl)
theorem dX5_duty_36 : decode cX5_duty 36 = .ok (.invokevirtual 227, 3) := dk_182 0 227 (dk_at dksX5_duty_1 12 rfl rfl)
theorem dX5_duty_39 : decode cX5_duty 39 = .ok (.goto 8, 3) := dk_167 0 8 (dk_at dksX5_duty_1 15 rfl rfl)
theorem dX5_duty_42 : decode cX5_duty 42 = .ok (.aload_n 0, 1) := dk_42 (dk_at dksX5_duty_1 18 rfl rfl)
theorem dX5_duty_43 : decode cX5_duty 43 = .ok (.iload_n 1, 1) := dk_27 (dk_at dksX5_duty_1 19 rfl rfl)
theorem dX5_duty_44 : decode cX5_duty 44 = .ok (.invokevirtual 230, 3) := dk_182 0 230 (dk_at dksX5_duty_1 20 rfl rfl)
theorem dX5_duty_47 : decode cX5_duty 47 = .ok (.ireturn, 1) := dk_172 (dk_at dksX5_duty_1 23 rfl rfl)
abbrev cX5_owes : ByteArray := prog_22_method_47_code
def yX5_owes : MethodName := ⟨RX5, "owes", "(I)I"⟩
def dkwX5_owes_2 : List UInt8 := [42, 180, 0, 26, 27, 46, 5, 160, 0, 12, 28, 28, 16, 9, 108, 100, 167, 0, 4, 28, 172]
abbrev dktX5_owes_2 : List UInt8 := dkwX5_owes_2 ++ []
def dkwX5_owes_1 : List UInt8 := [46, 182, 0, 218, 154, 0, 5, 3, 172, 42, 180, 0, 7, 42, 42, 27, 182, 0, 221, 182, 0, 224, 104, 61]
abbrev dktX5_owes_1 : List UInt8 := dkwX5_owes_1 ++ dktX5_owes_2
def dkwX5_owes_0 : List UInt8 := [42, 180, 0, 26, 27, 46, 8, 159, 0, 24, 27, 42, 180, 0, 93, 159, 0, 16, 42, 42, 180, 0, 41, 27]
abbrev dktX5_owes_0 : List UInt8 := dkwX5_owes_0 ++ dktX5_owes_1
theorem dksX5_owes_0 : cX5_owes.data.toList.drop 0 = dktX5_owes_0 := by decide +kernel
theorem dksX5_owes_1 : cX5_owes.data.toList.drop 24 = dktX5_owes_1 := dk_seg dksX5_owes_0 24 rfl rfl
theorem dksX5_owes_2 : cX5_owes.data.toList.drop 48 = dktX5_owes_2 := dk_seg dksX5_owes_1 24 rfl rfl
theorem dX5_owes_0 : decode cX5_owes 0 = .ok (.aload_n 0, 1) := dk_42 (dk_at dksX5_owes_0 0 rfl rfl)
theorem dX5_owes_1 : decode cX5_owes 1 = .ok (.getfield 26, 3) := dk_180 0 26 (dk_at dksX5_owes_0 1 rfl rfl)
theorem dX5_owes_4 : decode cX5_owes 4 = .ok (.iload_n 1, 1) := dk_27 (dk_at dksX5_owes_0 4 rfl rfl)
theorem dX5_owes_5 : decode cX5_owes 5 = .ok (.iaload, 1) := dk_46 (dk_at dksX5_owes_0 5 rfl rfl)
theorem dX5_owes_6 : decode cX5_owes 6 = .ok (.iconst 5, 1) := dk_8 (dk_at dksX5_owes_0 6 rfl rfl)
theorem dX5_owes_7 : decode cX5_owes 7 = .ok (.if_icmp .eq 24, 3) := dk_159 0 24 (dk_at dksX5_owes_0 7 rfl rfl)
theorem dX5_owes_10 : decode cX5_owes 10 = .ok (.iload_n 1, 1) := dk_27 (dk_at dksX5_owes_0 10 rfl rfl)
theorem dX5_owes_11 : decode cX5_owes 11 = .ok (.aload_n 0, 1) := dk_42 (dk_at dksX5_owes_0 11 rfl rfl)
theorem dX5_owes_12 : decode cX5_owes 12 = .ok (.getfield 93, 3) := dk_180 0 93 (dk_at dksX5_owes_0 12 rfl rfl)
theorem dX5_owes_15 : decode cX5_owes 15 = .ok (.if_icmp .eq 16, 3) := dk_159 0 16 (dk_at dksX5_owes_0 15 rfl rfl)
theorem dX5_owes_18 : decode cX5_owes 18 = .ok (.aload_n 0, 1) := dk_42 (dk_at dksX5_owes_0 18 rfl rfl)
theorem dX5_owes_19 : decode cX5_owes 19 = .ok (.aload_n 0, 1) := dk_42 (dk_at dksX5_owes_0 19 rfl rfl)
theorem dX5_owes_20 : decode cX5_owes 20 = .ok (.getfield 41, 3) := dk_180 0 41 (dk_at dksX5_owes_0 20 rfl rfl)
theorem dX5_owes_23 : decode cX5_owes 23 = .ok (.iload_n 1, 1) := dk_27 (dk_at dksX5_owes_0 23 rfl rfl)
theorem dX5_owes_24 : decode cX5_owes 24 = .ok (.iaload, 1) := dk_46 (dk_at dksX5_owes_1 0 rfl rfl)
theorem dX5_owes_25 : decode cX5_owes 25 = .ok (.invokevirtual 218, 3) := dk_182 0 218 (dk_at dksX5_owes_1 1 rfl rfl)
theorem dX5_owes_28 : decode cX5_owes 28 = .ok (.ifCond .ne 5, 3) := dk_154 0 5 (dk_at dksX5_owes_1 4 rfl rfl)
theorem dX5_owes_31 : decode cX5_owes 31 = .ok (.iconst 0, 1) := dk_3 (dk_at dksX5_owes_1 7 rfl rfl)
theorem dX5_owes_32 : decode cX5_owes 32 = .ok (.ireturn, 1) := dk_172 (dk_at dksX5_owes_1 8 rfl rfl)
theorem dX5_owes_33 : decode cX5_owes 33 = .ok (.aload_n 0, 1) := dk_42 (dk_at dksX5_owes_1 9 rfl rfl)
theorem dX5_owes_34 : decode cX5_owes 34 = .ok (.getfield 7, 3) := dk_180 0 7 (dk_at dksX5_owes_1 10 rfl rfl)
theorem dX5_owes_37 : decode cX5_owes 37 = .ok (.aload_n 0, 1) := dk_42 (dk_at dksX5_owes_1 13 rfl rfl)
theorem dX5_owes_38 : decode cX5_owes 38 = .ok (.aload_n 0, 1) := dk_42 (dk_at dksX5_owes_1 14 rfl rfl)
theorem dX5_owes_39 : decode cX5_owes 39 = .ok (.iload_n 1, 1) := dk_27 (dk_at dksX5_owes_1 15 rfl rfl)
theorem dX5_owes_40 : decode cX5_owes 40 = .ok (.invokevirtual 221, 3) := dk_182 0 221 (dk_at dksX5_owes_1 16 rfl rfl)
theorem dX5_owes_43 : decode cX5_owes 43 = .ok (.invokevirtual 224, 3) := dk_182 0 224 (dk_at dksX5_owes_1 19 rfl rfl)
theorem dX5_owes_46 : decode cX5_owes 46 = .ok (.imul, 1) := dk_104 (dk_at dksX5_owes_1 22 rfl rfl)
theorem dX5_owes_47 : decode cX5_owes 47 = .ok (.istore_n 2, 1) := dk_61 (dk_at dksX5_owes_1 23 rfl rfl)
theorem dX5_owes_48 : decode cX5_owes 48 = .ok (.aload_n 0, 1) := dk_42 (dk_at dksX5_owes_2 0 rfl rfl)
theorem dX5_owes_49 : decode cX5_owes 49 = .ok (.getfield 26, 3) := dk_180 0 26 (dk_at dksX5_owes_2 1 rfl rfl)
theorem dX5_owes_52 : decode cX5_owes 52 = .ok (.iload_n 1, 1) := dk_27 (dk_at dksX5_owes_2 4 rfl rfl)
theorem dX5_owes_53 : decode cX5_owes 53 = .ok (.iaload, 1) := dk_46 (dk_at dksX5_owes_2 5 rfl rfl)
theorem dX5_owes_54 : decode cX5_owes 54 = .ok (.iconst 2, 1) := dk_5 (dk_at dksX5_owes_2 6 rfl rfl)
theorem dX5_owes_55 : decode cX5_owes 55 = .ok (.if_icmp .ne 12, 3) := dk_160 0 12 (dk_at dksX5_owes_2 7 rfl rfl)
theorem dX5_owes_58 : decode cX5_owes 58 = .ok (.iload_n 2, 1) := dk_28 (dk_at dksX5_owes_2 10 rfl rfl)
theorem dX5_owes_59 : decode cX5_owes 59 = .ok (.iload_n 2, 1) := dk_28 (dk_at dksX5_owes_2 11 rfl rfl)
theorem dX5_owes_60 : decode cX5_owes 60 = .ok (.bipush 9, 2) := dk_16 9 (dk_at dksX5_owes_2 12 rfl rfl)
theorem dX5_owes_62 : decode cX5_owes 62 = .ok (.idiv, 1) := dk_108 (dk_at dksX5_owes_2 14 rfl rfl)
theorem dX5_owes_63 : decode cX5_owes 63 = .ok (.isub, 1) := dk_100 (dk_at dksX5_owes_2 15 rfl rfl)
theorem dX5_owes_64 : decode cX5_owes 64 = .ok (.goto 4, 3) := dk_167 0 4 (dk_at dksX5_owes_2 16 rfl rfl)
theorem dX5_owes_67 : decode cX5_owes 67 = .ok (.iload_n 2, 1) := dk_28 (dk_at dksX5_owes_2 19 rfl rfl)
theorem dX5_owes_68 : decode cX5_owes 68 = .ok (.ireturn, 1) := dk_172 (dk_at dksX5_owes_2 20 rfl rfl)
abbrev cX5_isLit : ByteArray := prog_22_method_41_code
def yX5_isLit : MethodName := ⟨RX5, "isLit", "(I)Z"⟩
def dkwX5_isLit_1 : List UInt8 := [153, 0, 5, 4, 172, 132, 2, 1, 167, 255, 226, 3, 172]
abbrev dktX5_isLit_1 : List UInt8 := dkwX5_isLit_1 ++ []
def dkwX5_isLit_0 : List UInt8 := [3, 61, 28, 16, 36, 162, 0, 30, 42, 180, 0, 50, 28, 46, 4, 160, 0, 14, 42, 28, 27, 182, 0, 209]
abbrev dktX5_isLit_0 : List UInt8 := dkwX5_isLit_0 ++ dktX5_isLit_1
theorem dksX5_isLit_0 : cX5_isLit.data.toList.drop 0 = dktX5_isLit_0 := by decide +kernel
theorem dksX5_isLit_1 : cX5_isLit.data.toList.drop 24 = dktX5_isLit_1 := dk_seg dksX5_isLit_0 24 rfl rfl
theorem dX5_isLit_0 : decode cX5_isLit 0 = .ok (.iconst 0, 1) := dk_3 (dk_at dksX5_isLit_0 0 rfl rfl)
theorem dX5_isLit_1 : decode cX5_isLit 1 = .ok (.istore_n 2, 1) := dk_61 (dk_at dksX5_isLit_0 1 rfl rfl)
theorem dX5_isLit_2 : decode cX5_isLit 2 = .ok (.iload_n 2, 1) := dk_28 (dk_at dksX5_isLit_0 2 rfl rfl)
theorem dX5_isLit_3 : decode cX5_isLit 3 = .ok (.bipush 36, 2) := dk_16 36 (dk_at dksX5_isLit_0 3 rfl rfl)
theorem dX5_isLit_5 : decode cX5_isLit 5 = .ok (.if_icmp .ge 30, 3) := dk_162 0 30 (dk_at dksX5_isLit_0 5 rfl rfl)
theorem dX5_isLit_8 : decode cX5_isLit 8 = .ok (.aload_n 0, 1) := dk_42 (dk_at dksX5_isLit_0 8 rfl rfl)
theorem dX5_isLit_9 : decode cX5_isLit 9 = .ok (.getfield 50, 3) := dk_180 0 50 (dk_at dksX5_isLit_0 9 rfl rfl)
theorem dX5_isLit_12 : decode cX5_isLit 12 = .ok (.iload_n 2, 1) := dk_28 (dk_at dksX5_isLit_0 12 rfl rfl)
theorem dX5_isLit_13 : decode cX5_isLit 13 = .ok (.iaload, 1) := dk_46 (dk_at dksX5_isLit_0 13 rfl rfl)
theorem dX5_isLit_14 : decode cX5_isLit 14 = .ok (.iconst 1, 1) := dk_4 (dk_at dksX5_isLit_0 14 rfl rfl)
theorem dX5_isLit_15 : decode cX5_isLit 15 = .ok (.if_icmp .ne 14, 3) := dk_160 0 14 (dk_at dksX5_isLit_0 15 rfl rfl)
theorem dX5_isLit_18 : decode cX5_isLit 18 = .ok (.aload_n 0, 1) := dk_42 (dk_at dksX5_isLit_0 18 rfl rfl)
theorem dX5_isLit_19 : decode cX5_isLit 19 = .ok (.iload_n 2, 1) := dk_28 (dk_at dksX5_isLit_0 19 rfl rfl)
theorem dX5_isLit_20 : decode cX5_isLit 20 = .ok (.iload_n 1, 1) := dk_27 (dk_at dksX5_isLit_0 20 rfl rfl)
theorem dX5_isLit_21 : decode cX5_isLit 21 = .ok (.invokevirtual 209, 3) := dk_182 0 209 (dk_at dksX5_isLit_0 21 rfl rfl)
theorem dX5_isLit_24 : decode cX5_isLit 24 = .ok (.ifCond .eq 5, 3) := dk_153 0 5 (dk_at dksX5_isLit_1 0 rfl rfl)
theorem dX5_isLit_27 : decode cX5_isLit 27 = .ok (.iconst 1, 1) := dk_4 (dk_at dksX5_isLit_1 3 rfl rfl)
theorem dX5_isLit_28 : decode cX5_isLit 28 = .ok (.ireturn, 1) := dk_172 (dk_at dksX5_isLit_1 4 rfl rfl)
theorem dX5_isLit_29 : decode cX5_isLit 29 = .ok (.iinc 2 1, 3) := dk_132 2 1 (dk_at dksX5_isLit_1 5 rfl rfl)
theorem dX5_isLit_32 : decode cX5_isLit 32 = .ok (.goto (-30), 3) := dk_167 255 226 (dk_at dksX5_isLit_1 8 rfl rfl)
theorem dX5_isLit_35 : decode cX5_isLit 35 = .ok (.iconst 0, 1) := dk_3 (dk_at dksX5_isLit_1 11 rfl rfl)
theorem dX5_isLit_36 : decode cX5_isLit 36 = .ok (.ireturn, 1) := dk_172 (dk_at dksX5_isLit_1 12 rfl rfl)
abbrev cX5_many : ByteArray := prog_22_method_46_code
def yX5_many : MethodName := ⟨RX5, "many", "(I)I"⟩
def dkwX5_many_1 : List UInt8 := [28, 172]
abbrev dktX5_many_1 : List UInt8 := dkwX5_many_1 ++ []
def dkwX5_many_0 : List UInt8 := [3, 61, 3, 62, 29, 16, 7, 162, 0, 17, 28, 27, 29, 122, 4, 126, 96, 61, 132, 3, 1, 167, 255, 239]
abbrev dktX5_many_0 : List UInt8 := dkwX5_many_0 ++ dktX5_many_1
theorem dksX5_many_0 : cX5_many.data.toList.drop 0 = dktX5_many_0 := by decide +kernel
theorem dksX5_many_1 : cX5_many.data.toList.drop 24 = dktX5_many_1 := dk_seg dksX5_many_0 24 rfl rfl
theorem dX5_many_0 : decode cX5_many 0 = .ok (.iconst 0, 1) := dk_3 (dk_at dksX5_many_0 0 rfl rfl)
theorem dX5_many_1 : decode cX5_many 1 = .ok (.istore_n 2, 1) := dk_61 (dk_at dksX5_many_0 1 rfl rfl)
theorem dX5_many_2 : decode cX5_many 2 = .ok (.iconst 0, 1) := dk_3 (dk_at dksX5_many_0 2 rfl rfl)
theorem dX5_many_3 : decode cX5_many 3 = .ok (.istore_n 3, 1) := dk_62 (dk_at dksX5_many_0 3 rfl rfl)
theorem dX5_many_4 : decode cX5_many 4 = .ok (.iload_n 3, 1) := dk_29 (dk_at dksX5_many_0 4 rfl rfl)
theorem dX5_many_5 : decode cX5_many 5 = .ok (.bipush 7, 2) := dk_16 7 (dk_at dksX5_many_0 5 rfl rfl)
theorem dX5_many_7 : decode cX5_many 7 = .ok (.if_icmp .ge 17, 3) := dk_162 0 17 (dk_at dksX5_many_0 7 rfl rfl)
theorem dX5_many_10 : decode cX5_many 10 = .ok (.iload_n 2, 1) := dk_28 (dk_at dksX5_many_0 10 rfl rfl)
theorem dX5_many_11 : decode cX5_many 11 = .ok (.iload_n 1, 1) := dk_27 (dk_at dksX5_many_0 11 rfl rfl)
theorem dX5_many_12 : decode cX5_many 12 = .ok (.iload_n 3, 1) := dk_29 (dk_at dksX5_many_0 12 rfl rfl)
theorem dX5_many_13 : decode cX5_many 13 = .ok (.ishr, 1) := dk_122 (dk_at dksX5_many_0 13 rfl rfl)
theorem dX5_many_14 : decode cX5_many 14 = .ok (.iconst 1, 1) := dk_4 (dk_at dksX5_many_0 14 rfl rfl)
theorem dX5_many_15 : decode cX5_many 15 = .ok (.iand, 1) := dk_126 (dk_at dksX5_many_0 15 rfl rfl)
theorem dX5_many_16 : decode cX5_many 16 = .ok (.iadd, 1) := dk_96 (dk_at dksX5_many_0 16 rfl rfl)
theorem dX5_many_17 : decode cX5_many 17 = .ok (.istore_n 2, 1) := dk_61 (dk_at dksX5_many_0 17 rfl rfl)
theorem dX5_many_18 : decode cX5_many 18 = .ok (.iinc 3 1, 3) := dk_132 3 1 (dk_at dksX5_many_0 18 rfl rfl)
theorem dX5_many_21 : decode cX5_many 21 = .ok (.goto (-17), 3) := dk_167 255 239 (dk_at dksX5_many_0 21 rfl rfl)
theorem dX5_many_24 : decode cX5_many 24 = .ok (.iload_n 2, 1) := dk_28 (dk_at dksX5_many_1 0 rfl rfl)
theorem dX5_many_25 : decode cX5_many 25 = .ok (.ireturn, 1) := dk_172 (dk_at dksX5_many_1 1 rfl rfl)
abbrev cX5_wouldPay : ByteArray := prog_22_method_48_code
def yX5_wouldPay : MethodName := ⟨RX5, "wouldPay", "(I)I"⟩
def dkwX5_wouldPay_2 : List UInt8 := [132, 4, 1, 167, 255, 217, 42, 180, 0, 7, 29, 104, 172]
abbrev dktX5_wouldPay_2 : List UInt8 := dkwX5_wouldPay_2 ++ []
def dkwX5_wouldPay_1 : List UInt8 := [4, 126, 4, 160, 0, 20, 42, 42, 180, 0, 41, 21, 4, 46, 182, 0, 218, 153, 0, 6, 132, 3, 1]
abbrev dktX5_wouldPay_1 : List UInt8 := dkwX5_wouldPay_1 ++ dktX5_wouldPay_2
def dkwX5_wouldPay_0 : List UInt8 := [42, 27, 182, 0, 215, 61, 3, 62, 3, 54, 4, 21, 4, 42, 180, 0, 108, 162, 0, 36, 28, 21, 4, 122]
abbrev dktX5_wouldPay_0 : List UInt8 := dkwX5_wouldPay_0 ++ dktX5_wouldPay_1
theorem dksX5_wouldPay_0 : cX5_wouldPay.data.toList.drop 0 = dktX5_wouldPay_0 := by decide +kernel
theorem dksX5_wouldPay_1 : cX5_wouldPay.data.toList.drop 24 = dktX5_wouldPay_1 := dk_seg dksX5_wouldPay_0 24 rfl rfl
theorem dksX5_wouldPay_2 : cX5_wouldPay.data.toList.drop 47 = dktX5_wouldPay_2 := dk_seg dksX5_wouldPay_1 23 rfl rfl
theorem dX5_wouldPay_0 : decode cX5_wouldPay 0 = .ok (.aload_n 0, 1) := dk_42 (dk_at dksX5_wouldPay_0 0 rfl rfl)
theorem dX5_wouldPay_1 : decode cX5_wouldPay 1 = .ok (.iload_n 1, 1) := dk_27 (dk_at dksX5_wouldPay_0 1 rfl rfl)
theorem dX5_wouldPay_2 : decode cX5_wouldPay 2 = .ok (.invokevirtual 215, 3) := dk_182 0 215 (dk_at dksX5_wouldPay_0 2 rfl rfl)
theorem dX5_wouldPay_5 : decode cX5_wouldPay 5 = .ok (.istore_n 2, 1) := dk_61 (dk_at dksX5_wouldPay_0 5 rfl rfl)
theorem dX5_wouldPay_6 : decode cX5_wouldPay 6 = .ok (.iconst 0, 1) := dk_3 (dk_at dksX5_wouldPay_0 6 rfl rfl)
theorem dX5_wouldPay_7 : decode cX5_wouldPay 7 = .ok (.istore_n 3, 1) := dk_62 (dk_at dksX5_wouldPay_0 7 rfl rfl)
theorem dX5_wouldPay_8 : decode cX5_wouldPay 8 = .ok (.iconst 0, 1) := dk_3 (dk_at dksX5_wouldPay_0 8 rfl rfl)
theorem dX5_wouldPay_9 : decode cX5_wouldPay 9 = .ok (.istore 4, 2) := dk_54 4 (dk_at dksX5_wouldPay_0 9 rfl rfl)
theorem dX5_wouldPay_11 : decode cX5_wouldPay 11 = .ok (.iload 4, 2) := dk_21 4 (dk_at dksX5_wouldPay_0 11 rfl rfl)
theorem dX5_wouldPay_13 : decode cX5_wouldPay 13 = .ok (.aload_n 0, 1) := dk_42 (dk_at dksX5_wouldPay_0 13 rfl rfl)
theorem dX5_wouldPay_14 : decode cX5_wouldPay 14 = .ok (.getfield 108, 3) := dk_180 0 108 (dk_at dksX5_wouldPay_0 14 rfl rfl)
theorem dX5_wouldPay_17 : decode cX5_wouldPay 17 = .ok (.if_icmp .ge 36, 3) := dk_162 0 36 (dk_at dksX5_wouldPay_0 17 rfl rfl)
theorem dX5_wouldPay_20 : decode cX5_wouldPay 20 = .ok (.iload_n 2, 1) := dk_28 (dk_at dksX5_wouldPay_0 20 rfl rfl)
theorem dX5_wouldPay_21 : decode cX5_wouldPay 21 = .ok (.iload 4, 2) := dk_21 4 (dk_at dksX5_wouldPay_0 21 rfl rfl)
theorem dX5_wouldPay_23 : decode cX5_wouldPay 23 = .ok (.ishr, 1) := dk_122 (dk_at dksX5_wouldPay_0 23 rfl rfl)
theorem dX5_wouldPay_24 : decode cX5_wouldPay 24 = .ok (.iconst 1, 1) := dk_4 (dk_at dksX5_wouldPay_1 0 rfl rfl)
theorem dX5_wouldPay_25 : decode cX5_wouldPay 25 = .ok (.iand, 1) := dk_126 (dk_at dksX5_wouldPay_1 1 rfl rfl)
theorem dX5_wouldPay_26 : decode cX5_wouldPay 26 = .ok (.iconst 1, 1) := dk_4 (dk_at dksX5_wouldPay_1 2 rfl rfl)
theorem dX5_wouldPay_27 : decode cX5_wouldPay 27 = .ok (.if_icmp .ne 20, 3) := dk_160 0 20 (dk_at dksX5_wouldPay_1 3 rfl rfl)
theorem dX5_wouldPay_30 : decode cX5_wouldPay 30 = .ok (.aload_n 0, 1) := dk_42 (dk_at dksX5_wouldPay_1 6 rfl rfl)
theorem dX5_wouldPay_31 : decode cX5_wouldPay 31 = .ok (.aload_n 0, 1) := dk_42 (dk_at dksX5_wouldPay_1 7 rfl rfl)
theorem dX5_wouldPay_32 : decode cX5_wouldPay 32 = .ok (.getfield 41, 3) := dk_180 0 41 (dk_at dksX5_wouldPay_1 8 rfl rfl)
theorem dX5_wouldPay_35 : decode cX5_wouldPay 35 = .ok (.iload 4, 2) := dk_21 4 (dk_at dksX5_wouldPay_1 11 rfl rfl)
theorem dX5_wouldPay_37 : decode cX5_wouldPay 37 = .ok (.iaload, 1) := dk_46 (dk_at dksX5_wouldPay_1 13 rfl rfl)
theorem dX5_wouldPay_38 : decode cX5_wouldPay 38 = .ok (.invokevirtual 218, 3) := dk_182 0 218 (dk_at dksX5_wouldPay_1 14 rfl rfl)
theorem dX5_wouldPay_41 : decode cX5_wouldPay 41 = .ok (.ifCond .eq 6, 3) := dk_153 0 6 (dk_at dksX5_wouldPay_1 17 rfl rfl)
theorem dX5_wouldPay_44 : decode cX5_wouldPay 44 = .ok (.iinc 3 1, 3) := dk_132 3 1 (dk_at dksX5_wouldPay_1 20 rfl rfl)
theorem dX5_wouldPay_47 : decode cX5_wouldPay 47 = .ok (.iinc 4 1, 3) := dk_132 4 1 (dk_at dksX5_wouldPay_2 0 rfl rfl)
theorem dX5_wouldPay_50 : decode cX5_wouldPay 50 = .ok (.goto (-39), 3) := dk_167 255 217 (dk_at dksX5_wouldPay_2 3 rfl rfl)
theorem dX5_wouldPay_53 : decode cX5_wouldPay 53 = .ok (.aload_n 0, 1) := dk_42 (dk_at dksX5_wouldPay_2 6 rfl rfl)
theorem dX5_wouldPay_54 : decode cX5_wouldPay 54 = .ok (.getfield 7, 3) := dk_180 0 7 (dk_at dksX5_wouldPay_2 7 rfl rfl)
theorem dX5_wouldPay_57 : decode cX5_wouldPay 57 = .ok (.iload_n 3, 1) := dk_29 (dk_at dksX5_wouldPay_2 10 rfl rfl)
theorem dX5_wouldPay_58 : decode cX5_wouldPay 58 = .ok (.imul, 1) := dk_104 (dk_at dksX5_wouldPay_2 11 rfl rfl)
theorem dX5_wouldPay_59 : decode cX5_wouldPay 59 = .ok (.ireturn, 1) := dk_172 (dk_at dksX5_wouldPay_2 12 rfl rfl)
abbrev cX5_all : ByteArray := prog_22_method_53_code
def yX5_all : MethodName := ⟨RX5, "all", "(I)I"⟩
def dkwX5_all_4 : List UInt8 := [28, 21, 4, 154, 0, 7, 4, 167, 0, 4, 3, 96, 61, 132, 3, 1, 167, 255, 168, 28, 172]
abbrev dktX5_all_4 : List UInt8 := dkwX5_all_4 ++ []
def dkwX5_all_3 : List UInt8 := [28, 21, 4, 42, 180, 0, 38, 29, 46, 164, 0, 9, 4, 29, 120, 167, 0, 4, 3, 96, 61, 167, 0, 16]
abbrev dktX5_all_3 : List UInt8 := dkwX5_all_3 ++ dktX5_all_4
def dkwX5_all_2 : List UInt8 := [167, 0, 61, 27, 4, 160, 0, 14, 28, 42, 29, 182, 0, 230, 96, 61, 167, 0, 45, 27, 5, 160, 0, 27]
abbrev dktX5_all_2 : List UInt8 := dkwX5_all_2 ++ dktX5_all_3
def dkwX5_all_1 : List UInt8 := [180, 0, 108, 162, 0, 86, 42, 29, 182, 0, 227, 54, 4, 27, 154, 0, 11, 28, 21, 4, 96, 61]
abbrev dktX5_all_1 : List UInt8 := dkwX5_all_1 ++ dktX5_all_2
def dkwX5_all_0 : List UInt8 := [27, 155, 0, 8, 27, 6, 164, 0, 10, 42, 16, 251, 182, 0, 115, 172, 3, 61, 3, 62, 29, 42]
abbrev dktX5_all_0 : List UInt8 := dkwX5_all_0 ++ dktX5_all_1
theorem dksX5_all_0 : cX5_all.data.toList.drop 0 = dktX5_all_0 := by decide +kernel
theorem dksX5_all_1 : cX5_all.data.toList.drop 22 = dktX5_all_1 := dk_seg dksX5_all_0 22 rfl rfl
theorem dksX5_all_2 : cX5_all.data.toList.drop 44 = dktX5_all_2 := dk_seg dksX5_all_1 22 rfl rfl
theorem dksX5_all_3 : cX5_all.data.toList.drop 68 = dktX5_all_3 := dk_seg dksX5_all_2 24 rfl rfl
theorem dksX5_all_4 : cX5_all.data.toList.drop 92 = dktX5_all_4 := dk_seg dksX5_all_3 24 rfl rfl
theorem dX5_all_0 : decode cX5_all 0 = .ok (.iload_n 1, 1) := dk_27 (dk_at dksX5_all_0 0 rfl rfl)
theorem dX5_all_1 : decode cX5_all 1 = .ok (.ifCond .lt 8, 3) := dk_155 0 8 (dk_at dksX5_all_0 1 rfl rfl)
theorem dX5_all_4 : decode cX5_all 4 = .ok (.iload_n 1, 1) := dk_27 (dk_at dksX5_all_0 4 rfl rfl)
theorem dX5_all_5 : decode cX5_all 5 = .ok (.iconst 3, 1) := dk_6 (dk_at dksX5_all_0 5 rfl rfl)
theorem dX5_all_6 : decode cX5_all 6 = .ok (.if_icmp .le 10, 3) := dk_164 0 10 (dk_at dksX5_all_0 6 rfl rfl)
theorem dX5_all_9 : decode cX5_all 9 = .ok (.aload_n 0, 1) := dk_42 (dk_at dksX5_all_0 9 rfl rfl)
theorem dX5_all_10 : decode cX5_all 10 = .ok (.bipush (-5), 2) := dk_16 251 (dk_at dksX5_all_0 10 rfl rfl)
theorem dX5_all_12 : decode cX5_all 12 = .ok (.invokevirtual 115, 3) := dk_182 0 115 (dk_at dksX5_all_0 12 rfl rfl)
theorem dX5_all_15 : decode cX5_all 15 = .ok (.ireturn, 1) := dk_172 (dk_at dksX5_all_0 15 rfl rfl)
theorem dX5_all_16 : decode cX5_all 16 = .ok (.iconst 0, 1) := dk_3 (dk_at dksX5_all_0 16 rfl rfl)
theorem dX5_all_17 : decode cX5_all 17 = .ok (.istore_n 2, 1) := dk_61 (dk_at dksX5_all_0 17 rfl rfl)
theorem dX5_all_18 : decode cX5_all 18 = .ok (.iconst 0, 1) := dk_3 (dk_at dksX5_all_0 18 rfl rfl)
theorem dX5_all_19 : decode cX5_all 19 = .ok (.istore_n 3, 1) := dk_62 (dk_at dksX5_all_0 19 rfl rfl)
theorem dX5_all_20 : decode cX5_all 20 = .ok (.iload_n 3, 1) := dk_29 (dk_at dksX5_all_0 20 rfl rfl)
theorem dX5_all_21 : decode cX5_all 21 = .ok (.aload_n 0, 1) := dk_42 (dk_at dksX5_all_0 21 rfl rfl)
theorem dX5_all_22 : decode cX5_all 22 = .ok (.getfield 108, 3) := dk_180 0 108 (dk_at dksX5_all_1 0 rfl rfl)
theorem dX5_all_25 : decode cX5_all 25 = .ok (.if_icmp .ge 86, 3) := dk_162 0 86 (dk_at dksX5_all_1 3 rfl rfl)
theorem dX5_all_28 : decode cX5_all 28 = .ok (.aload_n 0, 1) := dk_42 (dk_at dksX5_all_1 6 rfl rfl)
theorem dX5_all_29 : decode cX5_all 29 = .ok (.iload_n 3, 1) := dk_29 (dk_at dksX5_all_1 7 rfl rfl)
theorem dX5_all_30 : decode cX5_all 30 = .ok (.invokevirtual 227, 3) := dk_182 0 227 (dk_at dksX5_all_1 8 rfl rfl)
theorem dX5_all_33 : decode cX5_all 33 = .ok (.istore 4, 2) := dk_54 4 (dk_at dksX5_all_1 11 rfl rfl)
theorem dX5_all_35 : decode cX5_all 35 = .ok (.iload_n 1, 1) := dk_27 (dk_at dksX5_all_1 13 rfl rfl)
theorem dX5_all_36 : decode cX5_all 36 = .ok (.ifCond .ne 11, 3) := dk_154 0 11 (dk_at dksX5_all_1 14 rfl rfl)
theorem dX5_all_39 : decode cX5_all 39 = .ok (.iload_n 2, 1) := dk_28 (dk_at dksX5_all_1 17 rfl rfl)
theorem dX5_all_40 : decode cX5_all 40 = .ok (.iload 4, 2) := dk_21 4 (dk_at dksX5_all_1 18 rfl rfl)
theorem dX5_all_42 : decode cX5_all 42 = .ok (.iadd, 1) := dk_96 (dk_at dksX5_all_1 20 rfl rfl)
theorem dX5_all_43 : decode cX5_all 43 = .ok (.istore_n 2, 1) := dk_61 (dk_at dksX5_all_1 21 rfl rfl)
theorem dX5_all_44 : decode cX5_all 44 = .ok (.goto 61, 3) := dk_167 0 61 (dk_at dksX5_all_2 0 rfl rfl)
theorem dX5_all_47 : decode cX5_all 47 = .ok (.iload_n 1, 1) := dk_27 (dk_at dksX5_all_2 3 rfl rfl)
theorem dX5_all_48 : decode cX5_all 48 = .ok (.iconst 1, 1) := dk_4 (dk_at dksX5_all_2 4 rfl rfl)
theorem dX5_all_49 : decode cX5_all 49 = .ok (.if_icmp .ne 14, 3) := dk_160 0 14 (dk_at dksX5_all_2 5 rfl rfl)
theorem dX5_all_52 : decode cX5_all 52 = .ok (.iload_n 2, 1) := dk_28 (dk_at dksX5_all_2 8 rfl rfl)
theorem dX5_all_53 : decode cX5_all 53 = .ok (.aload_n 0, 1) := dk_42 (dk_at dksX5_all_2 9 rfl rfl)
theorem dX5_all_54 : decode cX5_all 54 = .ok (.iload_n 3, 1) := dk_29 (dk_at dksX5_all_2 10 rfl rfl)
theorem dX5_all_55 : decode cX5_all 55 = .ok (.invokevirtual 230, 3) := dk_182 0 230 (dk_at dksX5_all_2 11 rfl rfl)
theorem dX5_all_58 : decode cX5_all 58 = .ok (.iadd, 1) := dk_96 (dk_at dksX5_all_2 14 rfl rfl)
theorem dX5_all_59 : decode cX5_all 59 = .ok (.istore_n 2, 1) := dk_61 (dk_at dksX5_all_2 15 rfl rfl)
theorem dX5_all_60 : decode cX5_all 60 = .ok (.goto 45, 3) := dk_167 0 45 (dk_at dksX5_all_2 16 rfl rfl)
theorem dX5_all_63 : decode cX5_all 63 = .ok (.iload_n 1, 1) := dk_27 (dk_at dksX5_all_2 19 rfl rfl)
theorem dX5_all_64 : decode cX5_all 64 = .ok (.iconst 2, 1) := dk_5 (dk_at dksX5_all_2 20 rfl rfl)
theorem dX5_all_65 : decode cX5_all 65 = .ok (.if_icmp .ne 27, 3) := dk_160 0 27 (dk_at dksX5_all_2 21 rfl rfl)
theorem dX5_all_68 : decode cX5_all 68 = .ok (.iload_n 2, 1) := dk_28 (dk_at dksX5_all_3 0 rfl rfl)
theorem dX5_all_69 : decode cX5_all 69 = .ok (.iload 4, 2) := dk_21 4 (dk_at dksX5_all_3 1 rfl rfl)
theorem dX5_all_71 : decode cX5_all 71 = .ok (.aload_n 0, 1) := dk_42 (dk_at dksX5_all_3 3 rfl rfl)
theorem dX5_all_72 : decode cX5_all 72 = .ok (.getfield 38, 3) := dk_180 0 38 (dk_at dksX5_all_3 4 rfl rfl)
theorem dX5_all_75 : decode cX5_all 75 = .ok (.iload_n 3, 1) := dk_29 (dk_at dksX5_all_3 7 rfl rfl)
theorem dX5_all_76 : decode cX5_all 76 = .ok (.iaload, 1) := dk_46 (dk_at dksX5_all_3 8 rfl rfl)
theorem dX5_all_77 : decode cX5_all 77 = .ok (.if_icmp .le 9, 3) := dk_164 0 9 (dk_at dksX5_all_3 9 rfl rfl)
theorem dX5_all_80 : decode cX5_all 80 = .ok (.iconst 1, 1) := dk_4 (dk_at dksX5_all_3 12 rfl rfl)
theorem dX5_all_81 : decode cX5_all 81 = .ok (.iload_n 3, 1) := dk_29 (dk_at dksX5_all_3 13 rfl rfl)
theorem dX5_all_82 : decode cX5_all 82 = .ok (.ishl, 1) := dk_120 (dk_at dksX5_all_3 14 rfl rfl)
theorem dX5_all_83 : decode cX5_all 83 = .ok (.goto 4, 3) := dk_167 0 4 (dk_at dksX5_all_3 15 rfl rfl)
theorem dX5_all_86 : decode cX5_all 86 = .ok (.iconst 0, 1) := dk_3 (dk_at dksX5_all_3 18 rfl rfl)
theorem dX5_all_87 : decode cX5_all 87 = .ok (.iadd, 1) := dk_96 (dk_at dksX5_all_3 19 rfl rfl)
theorem dX5_all_88 : decode cX5_all 88 = .ok (.istore_n 2, 1) := dk_61 (dk_at dksX5_all_3 20 rfl rfl)
theorem dX5_all_89 : decode cX5_all 89 = .ok (.goto 16, 3) := dk_167 0 16 (dk_at dksX5_all_3 21 rfl rfl)
theorem dX5_all_92 : decode cX5_all 92 = .ok (.iload_n 2, 1) := dk_28 (dk_at dksX5_all_4 0 rfl rfl)
theorem dX5_all_93 : decode cX5_all 93 = .ok (.iload 4, 2) := dk_21 4 (dk_at dksX5_all_4 1 rfl rfl)
theorem dX5_all_95 : decode cX5_all 95 = .ok (.ifCond .ne 7, 3) := dk_154 0 7 (dk_at dksX5_all_4 3 rfl rfl)
theorem dX5_all_98 : decode cX5_all 98 = .ok (.iconst 1, 1) := dk_4 (dk_at dksX5_all_4 6 rfl rfl)
theorem dX5_all_99 : decode cX5_all 99 = .ok (.goto 4, 3) := dk_167 0 4 (dk_at dksX5_all_4 7 rfl rfl)
theorem dX5_all_102 : decode cX5_all 102 = .ok (.iconst 0, 1) := dk_3 (dk_at dksX5_all_4 10 rfl rfl)
theorem dX5_all_103 : decode cX5_all 103 = .ok (.iadd, 1) := dk_96 (dk_at dksX5_all_4 11 rfl rfl)
theorem dX5_all_104 : decode cX5_all 104 = .ok (.istore_n 2, 1) := dk_61 (dk_at dksX5_all_4 12 rfl rfl)
theorem dX5_all_105 : decode cX5_all 105 = .ok (.iinc 3 1, 3) := dk_132 3 1 (dk_at dksX5_all_4 13 rfl rfl)
theorem dX5_all_108 : decode cX5_all 108 = .ok (.goto (-88), 3) := dk_167 255 168 (dk_at dksX5_all_4 16 rfl rfl)
theorem dX5_all_111 : decode cX5_all 111 = .ok (.iload_n 2, 1) := dk_28 (dk_at dksX5_all_4 19 rfl rfl)
theorem dX5_all_112 : decode cX5_all 112 = .ok (.ireturn, 1) := dk_172 (dk_at dksX5_all_4 20 rfl rfl)
abbrev cX5_walk : ByteArray := prog_22_method_58_code
def yX5_walk : MethodName := ⟨RX5, "walk", "(III)I"⟩
def dkwX5_walk_5 : List UInt8 := [180, 0, 41, 27, 46, 182, 0, 247, 172]
abbrev dktX5_walk_5 : List UInt8 := dkwX5_walk_5 ++ []
def dkwX5_walk_4 : List UInt8 := [17, 3, 232, 108, 167, 0, 27, 29, 4, 160, 0, 12, 21, 4, 17, 3, 232, 112, 167, 0, 13, 42, 42]
abbrev dktX5_walk_4 : List UInt8 := dkwX5_walk_4 ++ dktX5_walk_5
def dkwX5_walk_3 : List UInt8 := [180, 0, 41, 27, 46, 46, 54, 4, 21, 4, 18, 233, 160, 0, 5, 2, 172, 29, 154, 0, 12, 21, 4]
abbrev dktX5_walk_3 : List UInt8 := dkwX5_walk_3 ++ dktX5_walk_4
def dkwX5_walk_2 : List UInt8 := [42, 16, 250, 182, 0, 237, 172, 42, 27, 182, 0, 240, 42, 28, 182, 0, 244, 42, 180, 0, 99, 42]
abbrev dktX5_walk_2 : List UInt8 := dkwX5_walk_2 ++ dktX5_walk_3
def dkwX5_walk_1 : List UInt8 := [16, 251, 182, 0, 237, 172, 42, 28, 182, 0, 129, 153, 0, 13, 42, 180, 0, 47, 28, 46, 4, 160, 0, 10]
abbrev dktX5_walk_1 : List UInt8 := dkwX5_walk_1 ++ dktX5_walk_2
def dkwX5_walk_0 : List UInt8 := [42, 27, 182, 0, 119, 154, 0, 9, 42, 2, 182, 0, 237, 172, 29, 155, 0, 8, 29, 5, 164, 0, 10, 42]
abbrev dktX5_walk_0 : List UInt8 := dkwX5_walk_0 ++ dktX5_walk_1
theorem dksX5_walk_0 : cX5_walk.data.toList.drop 0 = dktX5_walk_0 := by decide +kernel
theorem dksX5_walk_1 : cX5_walk.data.toList.drop 24 = dktX5_walk_1 := dk_seg dksX5_walk_0 24 rfl rfl
theorem dksX5_walk_2 : cX5_walk.data.toList.drop 48 = dktX5_walk_2 := dk_seg dksX5_walk_1 24 rfl rfl
theorem dksX5_walk_3 : cX5_walk.data.toList.drop 70 = dktX5_walk_3 := dk_seg dksX5_walk_2 22 rfl rfl
theorem dksX5_walk_4 : cX5_walk.data.toList.drop 93 = dktX5_walk_4 := dk_seg dksX5_walk_3 23 rfl rfl
theorem dksX5_walk_5 : cX5_walk.data.toList.drop 116 = dktX5_walk_5 := dk_seg dksX5_walk_4 23 rfl rfl
theorem dX5_walk_0 : decode cX5_walk 0 = .ok (.aload_n 0, 1) := dk_42 (dk_at dksX5_walk_0 0 rfl rfl)
theorem dX5_walk_1 : decode cX5_walk 1 = .ok (.iload_n 1, 1) := dk_27 (dk_at dksX5_walk_0 1 rfl rfl)
theorem dX5_walk_2 : decode cX5_walk 2 = .ok (.invokevirtual 119, 3) := dk_182 0 119 (dk_at dksX5_walk_0 2 rfl rfl)
theorem dX5_walk_5 : decode cX5_walk 5 = .ok (.ifCond .ne 9, 3) := dk_154 0 9 (dk_at dksX5_walk_0 5 rfl rfl)
theorem dX5_walk_8 : decode cX5_walk 8 = .ok (.aload_n 0, 1) := dk_42 (dk_at dksX5_walk_0 8 rfl rfl)
theorem dX5_walk_9 : decode cX5_walk 9 = .ok (.iconst (-1), 1) := dk_2 (dk_at dksX5_walk_0 9 rfl rfl)
theorem dX5_walk_10 : decode cX5_walk 10 = .ok (.invokevirtual 237, 3) := dk_182 0 237 (dk_at dksX5_walk_0 10 rfl rfl)
theorem dX5_walk_13 : decode cX5_walk 13 = .ok (.ireturn, 1) := dk_172 (dk_at dksX5_walk_0 13 rfl rfl)
theorem dX5_walk_14 : decode cX5_walk 14 = .ok (.iload_n 3, 1) := dk_29 (dk_at dksX5_walk_0 14 rfl rfl)
theorem dX5_walk_15 : decode cX5_walk 15 = .ok (.ifCond .lt 8, 3) := dk_155 0 8 (dk_at dksX5_walk_0 15 rfl rfl)
theorem dX5_walk_18 : decode cX5_walk 18 = .ok (.iload_n 3, 1) := dk_29 (dk_at dksX5_walk_0 18 rfl rfl)
theorem dX5_walk_19 : decode cX5_walk 19 = .ok (.iconst 2, 1) := dk_5 (dk_at dksX5_walk_0 19 rfl rfl)
theorem dX5_walk_20 : decode cX5_walk 20 = .ok (.if_icmp .le 10, 3) := dk_164 0 10 (dk_at dksX5_walk_0 20 rfl rfl)
theorem dX5_walk_23 : decode cX5_walk 23 = .ok (.aload_n 0, 1) := dk_42 (dk_at dksX5_walk_0 23 rfl rfl)
theorem dX5_walk_24 : decode cX5_walk 24 = .ok (.bipush (-5), 2) := dk_16 251 (dk_at dksX5_walk_1 0 rfl rfl)
theorem dX5_walk_26 : decode cX5_walk 26 = .ok (.invokevirtual 237, 3) := dk_182 0 237 (dk_at dksX5_walk_1 2 rfl rfl)
theorem dX5_walk_29 : decode cX5_walk 29 = .ok (.ireturn, 1) := dk_172 (dk_at dksX5_walk_1 5 rfl rfl)
theorem dX5_walk_30 : decode cX5_walk 30 = .ok (.aload_n 0, 1) := dk_42 (dk_at dksX5_walk_1 6 rfl rfl)
theorem dX5_walk_31 : decode cX5_walk 31 = .ok (.iload_n 2, 1) := dk_28 (dk_at dksX5_walk_1 7 rfl rfl)
theorem dX5_walk_32 : decode cX5_walk 32 = .ok (.invokevirtual 129, 3) := dk_182 0 129 (dk_at dksX5_walk_1 8 rfl rfl)
theorem dX5_walk_35 : decode cX5_walk 35 = .ok (.ifCond .eq 13, 3) := dk_153 0 13 (dk_at dksX5_walk_1 11 rfl rfl)
theorem dX5_walk_38 : decode cX5_walk 38 = .ok (.aload_n 0, 1) := dk_42 (dk_at dksX5_walk_1 14 rfl rfl)
theorem dX5_walk_39 : decode cX5_walk 39 = .ok (.getfield 47, 3) := dk_180 0 47 (dk_at dksX5_walk_1 15 rfl rfl)
theorem dX5_walk_42 : decode cX5_walk 42 = .ok (.iload_n 2, 1) := dk_28 (dk_at dksX5_walk_1 18 rfl rfl)
theorem dX5_walk_43 : decode cX5_walk 43 = .ok (.iaload, 1) := dk_46 (dk_at dksX5_walk_1 19 rfl rfl)
theorem dX5_walk_44 : decode cX5_walk 44 = .ok (.iconst 1, 1) := dk_4 (dk_at dksX5_walk_1 20 rfl rfl)
theorem dX5_walk_45 : decode cX5_walk 45 = .ok (.if_icmp .ne 10, 3) := dk_160 0 10 (dk_at dksX5_walk_1 21 rfl rfl)
theorem dX5_walk_48 : decode cX5_walk 48 = .ok (.aload_n 0, 1) := dk_42 (dk_at dksX5_walk_2 0 rfl rfl)
theorem dX5_walk_49 : decode cX5_walk 49 = .ok (.bipush (-6), 2) := dk_16 250 (dk_at dksX5_walk_2 1 rfl rfl)
theorem dX5_walk_51 : decode cX5_walk 51 = .ok (.invokevirtual 237, 3) := dk_182 0 237 (dk_at dksX5_walk_2 3 rfl rfl)
theorem dX5_walk_54 : decode cX5_walk 54 = .ok (.ireturn, 1) := dk_172 (dk_at dksX5_walk_2 6 rfl rfl)
theorem dX5_walk_55 : decode cX5_walk 55 = .ok (.aload_n 0, 1) := dk_42 (dk_at dksX5_walk_2 7 rfl rfl)
theorem dX5_walk_56 : decode cX5_walk 56 = .ok (.iload_n 1, 1) := dk_27 (dk_at dksX5_walk_2 8 rfl rfl)
theorem dX5_walk_57 : decode cX5_walk 57 = .ok (.invokevirtual 240, 3) := dk_182 0 240 (dk_at dksX5_walk_2 9 rfl rfl)
theorem dX5_walk_60 : decode cX5_walk 60 = .ok (.aload_n 0, 1) := dk_42 (dk_at dksX5_walk_2 12 rfl rfl)
theorem dX5_walk_61 : decode cX5_walk 61 = .ok (.iload_n 2, 1) := dk_28 (dk_at dksX5_walk_2 13 rfl rfl)
theorem dX5_walk_62 : decode cX5_walk 62 = .ok (.invokevirtual 244, 3) := dk_182 0 244 (dk_at dksX5_walk_2 14 rfl rfl)
theorem dX5_walk_65 : decode cX5_walk 65 = .ok (.aload_n 0, 1) := dk_42 (dk_at dksX5_walk_2 17 rfl rfl)
theorem dX5_walk_66 : decode cX5_walk 66 = .ok (.getfield 99, 3) := dk_180 0 99 (dk_at dksX5_walk_2 18 rfl rfl)
theorem dX5_walk_69 : decode cX5_walk 69 = .ok (.aload_n 0, 1) := dk_42 (dk_at dksX5_walk_2 21 rfl rfl)
theorem dX5_walk_70 : decode cX5_walk 70 = .ok (.getfield 41, 3) := dk_180 0 41 (dk_at dksX5_walk_3 0 rfl rfl)
theorem dX5_walk_73 : decode cX5_walk 73 = .ok (.iload_n 1, 1) := dk_27 (dk_at dksX5_walk_3 3 rfl rfl)
theorem dX5_walk_74 : decode cX5_walk 74 = .ok (.iaload, 1) := dk_46 (dk_at dksX5_walk_3 4 rfl rfl)
theorem dX5_walk_75 : decode cX5_walk 75 = .ok (.iaload, 1) := dk_46 (dk_at dksX5_walk_3 5 rfl rfl)
theorem dX5_walk_76 : decode cX5_walk 76 = .ok (.istore 4, 2) := dk_54 4 (dk_at dksX5_walk_3 6 rfl rfl)
theorem dX5_walk_78 : decode cX5_walk 78 = .ok (.iload 4, 2) := dk_21 4 (dk_at dksX5_walk_3 8 rfl rfl)
theorem dX5_walk_80 : decode cX5_walk 80 = .ok (.ldc 233, 2) := dk_18 233 (dk_at dksX5_walk_3 10 rfl rfl)
theorem dX5_walk_82 : decode cX5_walk 82 = .ok (.if_icmp .ne 5, 3) := dk_160 0 5 (dk_at dksX5_walk_3 12 rfl rfl)
theorem dX5_walk_85 : decode cX5_walk 85 = .ok (.iconst (-1), 1) := dk_2 (dk_at dksX5_walk_3 15 rfl rfl)
theorem dX5_walk_86 : decode cX5_walk 86 = .ok (.ireturn, 1) := dk_172 (dk_at dksX5_walk_3 16 rfl rfl)
theorem dX5_walk_87 : decode cX5_walk 87 = .ok (.iload_n 3, 1) := dk_29 (dk_at dksX5_walk_3 17 rfl rfl)
theorem dX5_walk_88 : decode cX5_walk 88 = .ok (.ifCond .ne 12, 3) := dk_154 0 12 (dk_at dksX5_walk_3 18 rfl rfl)
theorem dX5_walk_91 : decode cX5_walk 91 = .ok (.iload 4, 2) := dk_21 4 (dk_at dksX5_walk_3 21 rfl rfl)
theorem dX5_walk_93 : decode cX5_walk 93 = .ok (.sipush 1000, 3) := dk_17 3 232 (dk_at dksX5_walk_4 0 rfl rfl)
theorem dX5_walk_96 : decode cX5_walk 96 = .ok (.idiv, 1) := dk_108 (dk_at dksX5_walk_4 3 rfl rfl)
theorem dX5_walk_97 : decode cX5_walk 97 = .ok (.goto 27, 3) := dk_167 0 27 (dk_at dksX5_walk_4 4 rfl rfl)
theorem dX5_walk_100 : decode cX5_walk 100 = .ok (.iload_n 3, 1) := dk_29 (dk_at dksX5_walk_4 7 rfl rfl)
theorem dX5_walk_101 : decode cX5_walk 101 = .ok (.iconst 1, 1) := dk_4 (dk_at dksX5_walk_4 8 rfl rfl)
theorem dX5_walk_102 : decode cX5_walk 102 = .ok (.if_icmp .ne 12, 3) := dk_160 0 12 (dk_at dksX5_walk_4 9 rfl rfl)
theorem dX5_walk_105 : decode cX5_walk 105 = .ok (.iload 4, 2) := dk_21 4 (dk_at dksX5_walk_4 12 rfl rfl)
theorem dX5_walk_107 : decode cX5_walk 107 = .ok (.sipush 1000, 3) := dk_17 3 232 (dk_at dksX5_walk_4 14 rfl rfl)
theorem dX5_walk_110 : decode cX5_walk 110 = .ok (.irem, 1) := dk_112 (dk_at dksX5_walk_4 17 rfl rfl)
theorem dX5_walk_111 : decode cX5_walk 111 = .ok (.goto 13, 3) := dk_167 0 13 (dk_at dksX5_walk_4 18 rfl rfl)
theorem dX5_walk_114 : decode cX5_walk 114 = .ok (.aload_n 0, 1) := dk_42 (dk_at dksX5_walk_4 21 rfl rfl)
theorem dX5_walk_115 : decode cX5_walk 115 = .ok (.aload_n 0, 1) := dk_42 (dk_at dksX5_walk_4 22 rfl rfl)
theorem dX5_walk_116 : decode cX5_walk 116 = .ok (.getfield 41, 3) := dk_180 0 41 (dk_at dksX5_walk_5 0 rfl rfl)
theorem dX5_walk_119 : decode cX5_walk 119 = .ok (.iload_n 1, 1) := dk_27 (dk_at dksX5_walk_5 3 rfl rfl)
theorem dX5_walk_120 : decode cX5_walk 120 = .ok (.iaload, 1) := dk_46 (dk_at dksX5_walk_5 4 rfl rfl)
theorem dX5_walk_121 : decode cX5_walk 121 = .ok (.invokevirtual 247, 3) := dk_182 0 247 (dk_at dksX5_walk_5 5 rfl rfl)
theorem dX5_walk_124 : decode cX5_walk 124 = .ok (.ireturn, 1) := dk_172 (dk_at dksX5_walk_5 8 rfl rfl)
abbrev cX5_noTen : ByteArray := prog_22_method_3_code
def yX5_noTen : MethodName := ⟨RX5, "noTen", "(I)I"⟩
def dkwX5_noTen_0 : List UInt8 := [42, 180, 0, 22, 27, 116, 92, 46, 4, 96, 79, 27, 16, 10, 100, 172]
abbrev dktX5_noTen_0 : List UInt8 := dkwX5_noTen_0 ++ []
theorem dksX5_noTen_0 : cX5_noTen.data.toList.drop 0 = dktX5_noTen_0 := by decide +kernel
theorem dX5_noTen_0 : decode cX5_noTen 0 = .ok (.aload_n 0, 1) := dk_42 (dk_at dksX5_noTen_0 0 rfl rfl)
theorem dX5_noTen_1 : decode cX5_noTen 1 = .ok (.getfield 22, 3) := dk_180 0 22 (dk_at dksX5_noTen_0 1 rfl rfl)
theorem dX5_noTen_4 : decode cX5_noTen 4 = .ok (.iload_n 1, 1) := dk_27 (dk_at dksX5_noTen_0 4 rfl rfl)
theorem dX5_noTen_5 : decode cX5_noTen 5 = .ok (.ineg, 1) := dk_116 (dk_at dksX5_noTen_0 5 rfl rfl)
theorem dX5_noTen_6 : decode cX5_noTen 6 = .ok (.dup2, 1) := dk_92 (dk_at dksX5_noTen_0 6 rfl rfl)
theorem dX5_noTen_7 : decode cX5_noTen 7 = .ok (.iaload, 1) := dk_46 (dk_at dksX5_noTen_0 7 rfl rfl)
theorem dX5_noTen_8 : decode cX5_noTen 8 = .ok (.iconst 1, 1) := dk_4 (dk_at dksX5_noTen_0 8 rfl rfl)
theorem dX5_noTen_9 : decode cX5_noTen 9 = .ok (.iadd, 1) := dk_96 (dk_at dksX5_noTen_0 9 rfl rfl)
theorem dX5_noTen_10 : decode cX5_noTen 10 = .ok (.iastore, 1) := dk_79 (dk_at dksX5_noTen_0 10 rfl rfl)
theorem dX5_noTen_11 : decode cX5_noTen 11 = .ok (.iload_n 1, 1) := dk_27 (dk_at dksX5_noTen_0 11 rfl rfl)
theorem dX5_noTen_12 : decode cX5_noTen 12 = .ok (.bipush 10, 2) := dk_16 10 (dk_at dksX5_noTen_0 12 rfl rfl)
theorem dX5_noTen_14 : decode cX5_noTen 14 = .ok (.isub, 1) := dk_100 (dk_at dksX5_noTen_0 14 rfl rfl)
theorem dX5_noTen_15 : decode cX5_noTen 15 = .ok (.ireturn, 1) := dk_172 (dk_at dksX5_noTen_0 15 rfl rfl)
abbrev cX5_tellsDuties : ByteArray := prog_22_method_55_code
def yX5_tellsDuties : MethodName := ⟨RX5, "tellsDuties", "(I)V"⟩
def dkwX5_tellsDuties_2 : List UInt8 := [79, 132, 3, 1, 167, 255, 214, 42, 180, 0, 41, 27, 28, 79, 177]
abbrev dktX5_tellsDuties_2 : List UInt8 := dkwX5_tellsDuties_2 ++ []
def dkwX5_tellsDuties_1 : List UInt8 := [180, 0, 96, 29, 42, 180, 0, 47, 29, 46, 4, 160, 0, 8, 18, 233, 167, 0, 8, 42, 27, 182, 0, 227]
abbrev dktX5_tellsDuties_1 : List UInt8 := dkwX5_tellsDuties_1 ++ dktX5_tellsDuties_2
def dkwX5_tellsDuties_0 : List UInt8 := [42, 180, 0, 41, 27, 46, 61, 3, 62, 29, 16, 36, 162, 0, 42, 42, 180, 0, 41, 27, 29, 79, 42]
abbrev dktX5_tellsDuties_0 : List UInt8 := dkwX5_tellsDuties_0 ++ dktX5_tellsDuties_1
theorem dksX5_tellsDuties_0 : cX5_tellsDuties.data.toList.drop 0 = dktX5_tellsDuties_0 := by decide +kernel
theorem dksX5_tellsDuties_1 : cX5_tellsDuties.data.toList.drop 23 = dktX5_tellsDuties_1 := dk_seg dksX5_tellsDuties_0 23 rfl rfl
theorem dksX5_tellsDuties_2 : cX5_tellsDuties.data.toList.drop 47 = dktX5_tellsDuties_2 := dk_seg dksX5_tellsDuties_1 24 rfl rfl
theorem dX5_tellsDuties_0 : decode cX5_tellsDuties 0 = .ok (.aload_n 0, 1) := dk_42 (dk_at dksX5_tellsDuties_0 0 rfl rfl)
theorem dX5_tellsDuties_1 : decode cX5_tellsDuties 1 = .ok (.getfield 41, 3) := dk_180 0 41 (dk_at dksX5_tellsDuties_0 1 rfl rfl)
theorem dX5_tellsDuties_4 : decode cX5_tellsDuties 4 = .ok (.iload_n 1, 1) := dk_27 (dk_at dksX5_tellsDuties_0 4 rfl rfl)
theorem dX5_tellsDuties_5 : decode cX5_tellsDuties 5 = .ok (.iaload, 1) := dk_46 (dk_at dksX5_tellsDuties_0 5 rfl rfl)
theorem dX5_tellsDuties_6 : decode cX5_tellsDuties 6 = .ok (.istore_n 2, 1) := dk_61 (dk_at dksX5_tellsDuties_0 6 rfl rfl)
theorem dX5_tellsDuties_7 : decode cX5_tellsDuties 7 = .ok (.iconst 0, 1) := dk_3 (dk_at dksX5_tellsDuties_0 7 rfl rfl)
theorem dX5_tellsDuties_8 : decode cX5_tellsDuties 8 = .ok (.istore_n 3, 1) := dk_62 (dk_at dksX5_tellsDuties_0 8 rfl rfl)
theorem dX5_tellsDuties_9 : decode cX5_tellsDuties 9 = .ok (.iload_n 3, 1) := dk_29 (dk_at dksX5_tellsDuties_0 9 rfl rfl)
theorem dX5_tellsDuties_10 : decode cX5_tellsDuties 10 = .ok (.bipush 36, 2) := dk_16 36 (dk_at dksX5_tellsDuties_0 10 rfl rfl)
theorem dX5_tellsDuties_12 : decode cX5_tellsDuties 12 = .ok (.if_icmp .ge 42, 3) := dk_162 0 42 (dk_at dksX5_tellsDuties_0 12 rfl rfl)
theorem dX5_tellsDuties_15 : decode cX5_tellsDuties 15 = .ok (.aload_n 0, 1) := dk_42 (dk_at dksX5_tellsDuties_0 15 rfl rfl)
theorem dX5_tellsDuties_16 : decode cX5_tellsDuties 16 = .ok (.getfield 41, 3) := dk_180 0 41 (dk_at dksX5_tellsDuties_0 16 rfl rfl)
theorem dX5_tellsDuties_19 : decode cX5_tellsDuties 19 = .ok (.iload_n 1, 1) := dk_27 (dk_at dksX5_tellsDuties_0 19 rfl rfl)
theorem dX5_tellsDuties_20 : decode cX5_tellsDuties 20 = .ok (.iload_n 3, 1) := dk_29 (dk_at dksX5_tellsDuties_0 20 rfl rfl)
theorem dX5_tellsDuties_21 : decode cX5_tellsDuties 21 = .ok (.iastore, 1) := dk_79 (dk_at dksX5_tellsDuties_0 21 rfl rfl)
theorem dX5_tellsDuties_22 : decode cX5_tellsDuties 22 = .ok (.aload_n 0, 1) := dk_42 (dk_at dksX5_tellsDuties_0 22 rfl rfl)
theorem dX5_tellsDuties_23 : decode cX5_tellsDuties 23 = .ok (.getfield 96, 3) := dk_180 0 96 (dk_at dksX5_tellsDuties_1 0 rfl rfl)
theorem dX5_tellsDuties_26 : decode cX5_tellsDuties 26 = .ok (.iload_n 3, 1) := dk_29 (dk_at dksX5_tellsDuties_1 3 rfl rfl)
theorem dX5_tellsDuties_27 : decode cX5_tellsDuties 27 = .ok (.aload_n 0, 1) := dk_42 (dk_at dksX5_tellsDuties_1 4 rfl rfl)
theorem dX5_tellsDuties_28 : decode cX5_tellsDuties 28 = .ok (.getfield 47, 3) := dk_180 0 47 (dk_at dksX5_tellsDuties_1 5 rfl rfl)
theorem dX5_tellsDuties_31 : decode cX5_tellsDuties 31 = .ok (.iload_n 3, 1) := dk_29 (dk_at dksX5_tellsDuties_1 8 rfl rfl)
theorem dX5_tellsDuties_32 : decode cX5_tellsDuties 32 = .ok (.iaload, 1) := dk_46 (dk_at dksX5_tellsDuties_1 9 rfl rfl)
theorem dX5_tellsDuties_33 : decode cX5_tellsDuties 33 = .ok (.iconst 1, 1) := dk_4 (dk_at dksX5_tellsDuties_1 10 rfl rfl)
theorem dX5_tellsDuties_34 : decode cX5_tellsDuties 34 = .ok (.if_icmp .ne 8, 3) := dk_160 0 8 (dk_at dksX5_tellsDuties_1 11 rfl rfl)
theorem dX5_tellsDuties_37 : decode cX5_tellsDuties 37 = .ok (.ldc 233, 2) := dk_18 233 (dk_at dksX5_tellsDuties_1 14 rfl rfl)
theorem dX5_tellsDuties_39 : decode cX5_tellsDuties 39 = .ok (.goto 8, 3) := dk_167 0 8 (dk_at dksX5_tellsDuties_1 16 rfl rfl)
theorem dX5_tellsDuties_42 : decode cX5_tellsDuties 42 = .ok (.aload_n 0, 1) := dk_42 (dk_at dksX5_tellsDuties_1 19 rfl rfl)
theorem dX5_tellsDuties_43 : decode cX5_tellsDuties 43 = .ok (.iload_n 1, 1) := dk_27 (dk_at dksX5_tellsDuties_1 20 rfl rfl)
theorem dX5_tellsDuties_44 : decode cX5_tellsDuties 44 = .ok (.invokevirtual 227, 3) := dk_182 0 227 (dk_at dksX5_tellsDuties_1 21 rfl rfl)
theorem dX5_tellsDuties_47 : decode cX5_tellsDuties 47 = .ok (.iastore, 1) := dk_79 (dk_at dksX5_tellsDuties_2 0 rfl rfl)
theorem dX5_tellsDuties_48 : decode cX5_tellsDuties 48 = .ok (.iinc 3 1, 3) := dk_132 3 1 (dk_at dksX5_tellsDuties_2 1 rfl rfl)
theorem dX5_tellsDuties_51 : decode cX5_tellsDuties 51 = .ok (.goto (-42), 3) := dk_167 255 214 (dk_at dksX5_tellsDuties_2 4 rfl rfl)
theorem dX5_tellsDuties_54 : decode cX5_tellsDuties 54 = .ok (.aload_n 0, 1) := dk_42 (dk_at dksX5_tellsDuties_2 7 rfl rfl)
theorem dX5_tellsDuties_55 : decode cX5_tellsDuties 55 = .ok (.getfield 41, 3) := dk_180 0 41 (dk_at dksX5_tellsDuties_2 8 rfl rfl)
theorem dX5_tellsDuties_58 : decode cX5_tellsDuties 58 = .ok (.iload_n 1, 1) := dk_27 (dk_at dksX5_tellsDuties_2 11 rfl rfl)
theorem dX5_tellsDuties_59 : decode cX5_tellsDuties 59 = .ok (.iload_n 2, 1) := dk_28 (dk_at dksX5_tellsDuties_2 12 rfl rfl)
theorem dX5_tellsDuties_60 : decode cX5_tellsDuties 60 = .ok (.iastore, 1) := dk_79 (dk_at dksX5_tellsDuties_2 13 rfl rfl)
theorem dX5_tellsDuties_61 : decode cX5_tellsDuties 61 = .ok (.return_, 1) := dk_177 (dk_at dksX5_tellsDuties_2 14 rfl rfl)
abbrev cX5_tellsWays : ByteArray := prog_22_method_56_code
def yX5_tellsWays : MethodName := ⟨RX5, "tellsWays", "(I)V"⟩
def dkwX5_tellsWays_8 : List UInt8 := [167, 255, 119, 167, 255, 108, 177]
abbrev dktX5_tellsWays_8 : List UInt8 := dkwX5_tellsWays_8 ++ []
def dkwX5_tellsWays_7 : List UInt8 := [180, 0, 96, 21, 5, 46, 104, 96, 4, 96, 79, 4, 61, 132, 4, 1, 167, 255, 147, 132, 3, 1]
abbrev dktX5_tellsWays_7 : List UInt8 := dkwX5_tellsWays_7 ++ dktX5_tellsWays_8
def dkwX5_tellsWays_6 : List UInt8 := [29, 46, 161, 0, 6, 167, 0, 32, 42, 180, 0, 99, 29, 42, 180, 0, 99, 21, 5, 46, 17, 3, 232, 42]
abbrev dktX5_tellsWays_6 : List UInt8 := dkwX5_tellsWays_6 ++ dktX5_tellsWays_7
def dkwX5_tellsWays_5 : List UInt8 := [180, 0, 99, 21, 5, 46, 17, 3, 232, 42, 180, 0, 96, 21, 5, 46, 104, 96, 4, 96, 42, 180, 0, 99]
abbrev dktX5_tellsWays_5 : List UInt8 := dkwX5_tellsWays_5 ++ dktX5_tellsWays_6
def dkwX5_tellsWays_4 : List UInt8 := [180, 0, 47, 21, 5, 46, 4, 159, 0, 77, 42, 180, 0, 99, 21, 5, 46, 18, 233, 159, 0, 65, 42]
abbrev dktX5_tellsWays_4 : List UInt8 := dkwX5_tellsWays_4 ++ dktX5_tellsWays_5
def dkwX5_tellsWays_3 : List UInt8 := [21, 4, 7, 162, 0, 109, 42, 29, 21, 4, 182, 0, 234, 54, 5, 21, 5, 2, 159, 0, 88, 42]
abbrev dktX5_tellsWays_3 : List UInt8 := dkwX5_tellsWays_3 ++ dktX5_tellsWays_4
def dkwX5_tellsWays_2 : List UInt8 := [3, 62, 29, 16, 36, 162, 0, 137, 42, 180, 0, 47, 29, 46, 4, 160, 0, 6, 167, 0, 118, 3, 54, 4]
abbrev dktX5_tellsWays_2 : List UInt8 := dkwX5_tellsWays_2 ++ dktX5_tellsWays_3
def dkwX5_tellsWays_1 : List UInt8 := [154, 0, 7, 3, 167, 0, 5, 18, 233, 79, 132, 2, 1, 167, 255, 221, 4, 61, 28, 153, 0, 150, 3, 61]
abbrev dktX5_tellsWays_1 : List UInt8 := dkwX5_tellsWays_1 ++ dktX5_tellsWays_2
def dkwX5_tellsWays_0 : List UInt8 := [3, 61, 28, 16, 36, 162, 0, 35, 42, 180, 0, 99, 28, 28, 27, 160, 0, 16, 42, 180, 0, 47, 28, 46]
abbrev dktX5_tellsWays_0 : List UInt8 := dkwX5_tellsWays_0 ++ dktX5_tellsWays_1
theorem dksX5_tellsWays_0 : cX5_tellsWays.data.toList.drop 0 = dktX5_tellsWays_0 := by decide +kernel
theorem dksX5_tellsWays_1 : cX5_tellsWays.data.toList.drop 24 = dktX5_tellsWays_1 := dk_seg dksX5_tellsWays_0 24 rfl rfl
theorem dksX5_tellsWays_2 : cX5_tellsWays.data.toList.drop 48 = dktX5_tellsWays_2 := dk_seg dksX5_tellsWays_1 24 rfl rfl
theorem dksX5_tellsWays_3 : cX5_tellsWays.data.toList.drop 72 = dktX5_tellsWays_3 := dk_seg dksX5_tellsWays_2 24 rfl rfl
theorem dksX5_tellsWays_4 : cX5_tellsWays.data.toList.drop 94 = dktX5_tellsWays_4 := dk_seg dksX5_tellsWays_3 22 rfl rfl
theorem dksX5_tellsWays_5 : cX5_tellsWays.data.toList.drop 117 = dktX5_tellsWays_5 := dk_seg dksX5_tellsWays_4 23 rfl rfl
theorem dksX5_tellsWays_6 : cX5_tellsWays.data.toList.drop 141 = dktX5_tellsWays_6 := dk_seg dksX5_tellsWays_5 24 rfl rfl
theorem dksX5_tellsWays_7 : cX5_tellsWays.data.toList.drop 165 = dktX5_tellsWays_7 := dk_seg dksX5_tellsWays_6 24 rfl rfl
theorem dksX5_tellsWays_8 : cX5_tellsWays.data.toList.drop 187 = dktX5_tellsWays_8 := dk_seg dksX5_tellsWays_7 22 rfl rfl
theorem dX5_tellsWays_0 : decode cX5_tellsWays 0 = .ok (.iconst 0, 1) := dk_3 (dk_at dksX5_tellsWays_0 0 rfl rfl)
theorem dX5_tellsWays_1 : decode cX5_tellsWays 1 = .ok (.istore_n 2, 1) := dk_61 (dk_at dksX5_tellsWays_0 1 rfl rfl)
theorem dX5_tellsWays_2 : decode cX5_tellsWays 2 = .ok (.iload_n 2, 1) := dk_28 (dk_at dksX5_tellsWays_0 2 rfl rfl)
theorem dX5_tellsWays_3 : decode cX5_tellsWays 3 = .ok (.bipush 36, 2) := dk_16 36 (dk_at dksX5_tellsWays_0 3 rfl rfl)
theorem dX5_tellsWays_5 : decode cX5_tellsWays 5 = .ok (.if_icmp .ge 35, 3) := dk_162 0 35 (dk_at dksX5_tellsWays_0 5 rfl rfl)
theorem dX5_tellsWays_8 : decode cX5_tellsWays 8 = .ok (.aload_n 0, 1) := dk_42 (dk_at dksX5_tellsWays_0 8 rfl rfl)
theorem dX5_tellsWays_9 : decode cX5_tellsWays 9 = .ok (.getfield 99, 3) := dk_180 0 99 (dk_at dksX5_tellsWays_0 9 rfl rfl)
theorem dX5_tellsWays_12 : decode cX5_tellsWays 12 = .ok (.iload_n 2, 1) := dk_28 (dk_at dksX5_tellsWays_0 12 rfl rfl)
theorem dX5_tellsWays_13 : decode cX5_tellsWays 13 = .ok (.iload_n 2, 1) := dk_28 (dk_at dksX5_tellsWays_0 13 rfl rfl)
theorem dX5_tellsWays_14 : decode cX5_tellsWays 14 = .ok (.iload_n 1, 1) := dk_27 (dk_at dksX5_tellsWays_0 14 rfl rfl)
theorem dX5_tellsWays_15 : decode cX5_tellsWays 15 = .ok (.if_icmp .ne 16, 3) := dk_160 0 16 (dk_at dksX5_tellsWays_0 15 rfl rfl)
theorem dX5_tellsWays_18 : decode cX5_tellsWays 18 = .ok (.aload_n 0, 1) := dk_42 (dk_at dksX5_tellsWays_0 18 rfl rfl)
theorem dX5_tellsWays_19 : decode cX5_tellsWays 19 = .ok (.getfield 47, 3) := dk_180 0 47 (dk_at dksX5_tellsWays_0 19 rfl rfl)
theorem dX5_tellsWays_22 : decode cX5_tellsWays 22 = .ok (.iload_n 2, 1) := dk_28 (dk_at dksX5_tellsWays_0 22 rfl rfl)
theorem dX5_tellsWays_23 : decode cX5_tellsWays 23 = .ok (.iaload, 1) := dk_46 (dk_at dksX5_tellsWays_0 23 rfl rfl)
theorem dX5_tellsWays_24 : decode cX5_tellsWays 24 = .ok (.ifCond .ne 7, 3) := dk_154 0 7 (dk_at dksX5_tellsWays_1 0 rfl rfl)
theorem dX5_tellsWays_27 : decode cX5_tellsWays 27 = .ok (.iconst 0, 1) := dk_3 (dk_at dksX5_tellsWays_1 3 rfl rfl)
theorem dX5_tellsWays_28 : decode cX5_tellsWays 28 = .ok (.goto 5, 3) := dk_167 0 5 (dk_at dksX5_tellsWays_1 4 rfl rfl)
theorem dX5_tellsWays_31 : decode cX5_tellsWays 31 = .ok (.ldc 233, 2) := dk_18 233 (dk_at dksX5_tellsWays_1 7 rfl rfl)
theorem dX5_tellsWays_33 : decode cX5_tellsWays 33 = .ok (.iastore, 1) := dk_79 (dk_at dksX5_tellsWays_1 9 rfl rfl)
theorem dX5_tellsWays_34 : decode cX5_tellsWays 34 = .ok (.iinc 2 1, 3) := dk_132 2 1 (dk_at dksX5_tellsWays_1 10 rfl rfl)
theorem dX5_tellsWays_37 : decode cX5_tellsWays 37 = .ok (.goto (-35), 3) := dk_167 255 221 (dk_at dksX5_tellsWays_1 13 rfl rfl)
theorem dX5_tellsWays_40 : decode cX5_tellsWays 40 = .ok (.iconst 1, 1) := dk_4 (dk_at dksX5_tellsWays_1 16 rfl rfl)
theorem dX5_tellsWays_41 : decode cX5_tellsWays 41 = .ok (.istore_n 2, 1) := dk_61 (dk_at dksX5_tellsWays_1 17 rfl rfl)
theorem dX5_tellsWays_42 : decode cX5_tellsWays 42 = .ok (.iload_n 2, 1) := dk_28 (dk_at dksX5_tellsWays_1 18 rfl rfl)
theorem dX5_tellsWays_43 : decode cX5_tellsWays 43 = .ok (.ifCond .eq 150, 3) := dk_153 0 150 (dk_at dksX5_tellsWays_1 19 rfl rfl)
theorem dX5_tellsWays_46 : decode cX5_tellsWays 46 = .ok (.iconst 0, 1) := dk_3 (dk_at dksX5_tellsWays_1 22 rfl rfl)
theorem dX5_tellsWays_47 : decode cX5_tellsWays 47 = .ok (.istore_n 2, 1) := dk_61 (dk_at dksX5_tellsWays_1 23 rfl rfl)
theorem dX5_tellsWays_48 : decode cX5_tellsWays 48 = .ok (.iconst 0, 1) := dk_3 (dk_at dksX5_tellsWays_2 0 rfl rfl)
theorem dX5_tellsWays_49 : decode cX5_tellsWays 49 = .ok (.istore_n 3, 1) := dk_62 (dk_at dksX5_tellsWays_2 1 rfl rfl)
theorem dX5_tellsWays_50 : decode cX5_tellsWays 50 = .ok (.iload_n 3, 1) := dk_29 (dk_at dksX5_tellsWays_2 2 rfl rfl)
theorem dX5_tellsWays_51 : decode cX5_tellsWays 51 = .ok (.bipush 36, 2) := dk_16 36 (dk_at dksX5_tellsWays_2 3 rfl rfl)
theorem dX5_tellsWays_53 : decode cX5_tellsWays 53 = .ok (.if_icmp .ge 137, 3) := dk_162 0 137 (dk_at dksX5_tellsWays_2 5 rfl rfl)
theorem dX5_tellsWays_56 : decode cX5_tellsWays 56 = .ok (.aload_n 0, 1) := dk_42 (dk_at dksX5_tellsWays_2 8 rfl rfl)
theorem dX5_tellsWays_57 : decode cX5_tellsWays 57 = .ok (.getfield 47, 3) := dk_180 0 47 (dk_at dksX5_tellsWays_2 9 rfl rfl)
theorem dX5_tellsWays_60 : decode cX5_tellsWays 60 = .ok (.iload_n 3, 1) := dk_29 (dk_at dksX5_tellsWays_2 12 rfl rfl)
theorem dX5_tellsWays_61 : decode cX5_tellsWays 61 = .ok (.iaload, 1) := dk_46 (dk_at dksX5_tellsWays_2 13 rfl rfl)
theorem dX5_tellsWays_62 : decode cX5_tellsWays 62 = .ok (.iconst 1, 1) := dk_4 (dk_at dksX5_tellsWays_2 14 rfl rfl)
theorem dX5_tellsWays_63 : decode cX5_tellsWays 63 = .ok (.if_icmp .ne 6, 3) := dk_160 0 6 (dk_at dksX5_tellsWays_2 15 rfl rfl)
theorem dX5_tellsWays_66 : decode cX5_tellsWays 66 = .ok (.goto 118, 3) := dk_167 0 118 (dk_at dksX5_tellsWays_2 18 rfl rfl)
theorem dX5_tellsWays_69 : decode cX5_tellsWays 69 = .ok (.iconst 0, 1) := dk_3 (dk_at dksX5_tellsWays_2 21 rfl rfl)
theorem dX5_tellsWays_70 : decode cX5_tellsWays 70 = .ok (.istore 4, 2) := dk_54 4 (dk_at dksX5_tellsWays_2 22 rfl rfl)
theorem dX5_tellsWays_72 : decode cX5_tellsWays 72 = .ok (.iload 4, 2) := dk_21 4 (dk_at dksX5_tellsWays_3 0 rfl rfl)
theorem dX5_tellsWays_74 : decode cX5_tellsWays 74 = .ok (.iconst 4, 1) := dk_7 (dk_at dksX5_tellsWays_3 2 rfl rfl)
theorem dX5_tellsWays_75 : decode cX5_tellsWays 75 = .ok (.if_icmp .ge 109, 3) := dk_162 0 109 (dk_at dksX5_tellsWays_3 3 rfl rfl)
theorem dX5_tellsWays_78 : decode cX5_tellsWays 78 = .ok (.aload_n 0, 1) := dk_42 (dk_at dksX5_tellsWays_3 6 rfl rfl)
theorem dX5_tellsWays_79 : decode cX5_tellsWays 79 = .ok (.iload_n 3, 1) := dk_29 (dk_at dksX5_tellsWays_3 7 rfl rfl)
theorem dX5_tellsWays_80 : decode cX5_tellsWays 80 = .ok (.iload 4, 2) := dk_21 4 (dk_at dksX5_tellsWays_3 8 rfl rfl)
theorem dX5_tellsWays_82 : decode cX5_tellsWays 82 = .ok (.invokevirtual 234, 3) := dk_182 0 234 (dk_at dksX5_tellsWays_3 10 rfl rfl)
theorem dX5_tellsWays_85 : decode cX5_tellsWays 85 = .ok (.istore 5, 2) := dk_54 5 (dk_at dksX5_tellsWays_3 13 rfl rfl)
theorem dX5_tellsWays_87 : decode cX5_tellsWays 87 = .ok (.iload 5, 2) := dk_21 5 (dk_at dksX5_tellsWays_3 15 rfl rfl)
theorem dX5_tellsWays_89 : decode cX5_tellsWays 89 = .ok (.iconst (-1), 1) := dk_2 (dk_at dksX5_tellsWays_3 17 rfl rfl)
theorem dX5_tellsWays_90 : decode cX5_tellsWays 90 = .ok (.if_icmp .eq 88, 3) := dk_159 0 88 (dk_at dksX5_tellsWays_3 18 rfl rfl)
theorem dX5_tellsWays_93 : decode cX5_tellsWays 93 = .ok (.aload_n 0, 1) := dk_42 (dk_at dksX5_tellsWays_3 21 rfl rfl)
theorem dX5_tellsWays_94 : decode cX5_tellsWays 94 = .ok (.getfield 47, 3) := dk_180 0 47 (dk_at dksX5_tellsWays_4 0 rfl rfl)
theorem dX5_tellsWays_97 : decode cX5_tellsWays 97 = .ok (.iload 5, 2) := dk_21 5 (dk_at dksX5_tellsWays_4 3 rfl rfl)
theorem dX5_tellsWays_99 : decode cX5_tellsWays 99 = .ok (.iaload, 1) := dk_46 (dk_at dksX5_tellsWays_4 5 rfl rfl)
theorem dX5_tellsWays_100 : decode cX5_tellsWays 100 = .ok (.iconst 1, 1) := dk_4 (dk_at dksX5_tellsWays_4 6 rfl rfl)
theorem dX5_tellsWays_101 : decode cX5_tellsWays 101 = .ok (.if_icmp .eq 77, 3) := dk_159 0 77 (dk_at dksX5_tellsWays_4 7 rfl rfl)
theorem dX5_tellsWays_104 : decode cX5_tellsWays 104 = .ok (.aload_n 0, 1) := dk_42 (dk_at dksX5_tellsWays_4 10 rfl rfl)
theorem dX5_tellsWays_105 : decode cX5_tellsWays 105 = .ok (.getfield 99, 3) := dk_180 0 99 (dk_at dksX5_tellsWays_4 11 rfl rfl)
theorem dX5_tellsWays_108 : decode cX5_tellsWays 108 = .ok (.iload 5, 2) := dk_21 5 (dk_at dksX5_tellsWays_4 14 rfl rfl)
theorem dX5_tellsWays_110 : decode cX5_tellsWays 110 = .ok (.iaload, 1) := dk_46 (dk_at dksX5_tellsWays_4 16 rfl rfl)
theorem dX5_tellsWays_111 : decode cX5_tellsWays 111 = .ok (.ldc 233, 2) := dk_18 233 (dk_at dksX5_tellsWays_4 17 rfl rfl)
theorem dX5_tellsWays_113 : decode cX5_tellsWays 113 = .ok (.if_icmp .eq 65, 3) := dk_159 0 65 (dk_at dksX5_tellsWays_4 19 rfl rfl)
theorem dX5_tellsWays_116 : decode cX5_tellsWays 116 = .ok (.aload_n 0, 1) := dk_42 (dk_at dksX5_tellsWays_4 22 rfl rfl)
theorem dX5_tellsWays_117 : decode cX5_tellsWays 117 = .ok (.getfield 99, 3) := dk_180 0 99 (dk_at dksX5_tellsWays_5 0 rfl rfl)
theorem dX5_tellsWays_120 : decode cX5_tellsWays 120 = .ok (.iload 5, 2) := dk_21 5 (dk_at dksX5_tellsWays_5 3 rfl rfl)
theorem dX5_tellsWays_122 : decode cX5_tellsWays 122 = .ok (.iaload, 1) := dk_46 (dk_at dksX5_tellsWays_5 5 rfl rfl)
theorem dX5_tellsWays_123 : decode cX5_tellsWays 123 = .ok (.sipush 1000, 3) := dk_17 3 232 (dk_at dksX5_tellsWays_5 6 rfl rfl)
theorem dX5_tellsWays_126 : decode cX5_tellsWays 126 = .ok (.aload_n 0, 1) := dk_42 (dk_at dksX5_tellsWays_5 9 rfl rfl)
theorem dX5_tellsWays_127 : decode cX5_tellsWays 127 = .ok (.getfield 96, 3) := dk_180 0 96 (dk_at dksX5_tellsWays_5 10 rfl rfl)
theorem dX5_tellsWays_130 : decode cX5_tellsWays 130 = .ok (.iload 5, 2) := dk_21 5 (dk_at dksX5_tellsWays_5 13 rfl rfl)
theorem dX5_tellsWays_132 : decode cX5_tellsWays 132 = .ok (.iaload, 1) := dk_46 (dk_at dksX5_tellsWays_5 15 rfl rfl)
theorem dX5_tellsWays_133 : decode cX5_tellsWays 133 = .ok (.imul, 1) := dk_104 (dk_at dksX5_tellsWays_5 16 rfl rfl)
theorem dX5_tellsWays_134 : decode cX5_tellsWays 134 = .ok (.iadd, 1) := dk_96 (dk_at dksX5_tellsWays_5 17 rfl rfl)
theorem dX5_tellsWays_135 : decode cX5_tellsWays 135 = .ok (.iconst 1, 1) := dk_4 (dk_at dksX5_tellsWays_5 18 rfl rfl)
theorem dX5_tellsWays_136 : decode cX5_tellsWays 136 = .ok (.iadd, 1) := dk_96 (dk_at dksX5_tellsWays_5 19 rfl rfl)
theorem dX5_tellsWays_137 : decode cX5_tellsWays 137 = .ok (.aload_n 0, 1) := dk_42 (dk_at dksX5_tellsWays_5 20 rfl rfl)
theorem dX5_tellsWays_138 : decode cX5_tellsWays 138 = .ok (.getfield 99, 3) := dk_180 0 99 (dk_at dksX5_tellsWays_5 21 rfl rfl)
theorem dX5_tellsWays_141 : decode cX5_tellsWays 141 = .ok (.iload_n 3, 1) := dk_29 (dk_at dksX5_tellsWays_6 0 rfl rfl)
theorem dX5_tellsWays_142 : decode cX5_tellsWays 142 = .ok (.iaload, 1) := dk_46 (dk_at dksX5_tellsWays_6 1 rfl rfl)
theorem dX5_tellsWays_143 : decode cX5_tellsWays 143 = .ok (.if_icmp .lt 6, 3) := dk_161 0 6 (dk_at dksX5_tellsWays_6 2 rfl rfl)
theorem dX5_tellsWays_146 : decode cX5_tellsWays 146 = .ok (.goto 32, 3) := dk_167 0 32 (dk_at dksX5_tellsWays_6 5 rfl rfl)
theorem dX5_tellsWays_149 : decode cX5_tellsWays 149 = .ok (.aload_n 0, 1) := dk_42 (dk_at dksX5_tellsWays_6 8 rfl rfl)
theorem dX5_tellsWays_150 : decode cX5_tellsWays 150 = .ok (.getfield 99, 3) := dk_180 0 99 (dk_at dksX5_tellsWays_6 9 rfl rfl)
theorem dX5_tellsWays_153 : decode cX5_tellsWays 153 = .ok (.iload_n 3, 1) := dk_29 (dk_at dksX5_tellsWays_6 12 rfl rfl)
theorem dX5_tellsWays_154 : decode cX5_tellsWays 154 = .ok (.aload_n 0, 1) := dk_42 (dk_at dksX5_tellsWays_6 13 rfl rfl)
theorem dX5_tellsWays_155 : decode cX5_tellsWays 155 = .ok (.getfield 99, 3) := dk_180 0 99 (dk_at dksX5_tellsWays_6 14 rfl rfl)
theorem dX5_tellsWays_158 : decode cX5_tellsWays 158 = .ok (.iload 5, 2) := dk_21 5 (dk_at dksX5_tellsWays_6 17 rfl rfl)
theorem dX5_tellsWays_160 : decode cX5_tellsWays 160 = .ok (.iaload, 1) := dk_46 (dk_at dksX5_tellsWays_6 19 rfl rfl)
theorem dX5_tellsWays_161 : decode cX5_tellsWays 161 = .ok (.sipush 1000, 3) := dk_17 3 232 (dk_at dksX5_tellsWays_6 20 rfl rfl)
theorem dX5_tellsWays_164 : decode cX5_tellsWays 164 = .ok (.aload_n 0, 1) := dk_42 (dk_at dksX5_tellsWays_6 23 rfl rfl)
theorem dX5_tellsWays_165 : decode cX5_tellsWays 165 = .ok (.getfield 96, 3) := dk_180 0 96 (dk_at dksX5_tellsWays_7 0 rfl rfl)
theorem dX5_tellsWays_168 : decode cX5_tellsWays 168 = .ok (.iload 5, 2) := dk_21 5 (dk_at dksX5_tellsWays_7 3 rfl rfl)
theorem dX5_tellsWays_170 : decode cX5_tellsWays 170 = .ok (.iaload, 1) := dk_46 (dk_at dksX5_tellsWays_7 5 rfl rfl)
theorem dX5_tellsWays_171 : decode cX5_tellsWays 171 = .ok (.imul, 1) := dk_104 (dk_at dksX5_tellsWays_7 6 rfl rfl)
theorem dX5_tellsWays_172 : decode cX5_tellsWays 172 = .ok (.iadd, 1) := dk_96 (dk_at dksX5_tellsWays_7 7 rfl rfl)
theorem dX5_tellsWays_173 : decode cX5_tellsWays 173 = .ok (.iconst 1, 1) := dk_4 (dk_at dksX5_tellsWays_7 8 rfl rfl)
theorem dX5_tellsWays_174 : decode cX5_tellsWays 174 = .ok (.iadd, 1) := dk_96 (dk_at dksX5_tellsWays_7 9 rfl rfl)
theorem dX5_tellsWays_175 : decode cX5_tellsWays 175 = .ok (.iastore, 1) := dk_79 (dk_at dksX5_tellsWays_7 10 rfl rfl)
theorem dX5_tellsWays_176 : decode cX5_tellsWays 176 = .ok (.iconst 1, 1) := dk_4 (dk_at dksX5_tellsWays_7 11 rfl rfl)
theorem dX5_tellsWays_177 : decode cX5_tellsWays 177 = .ok (.istore_n 2, 1) := dk_61 (dk_at dksX5_tellsWays_7 12 rfl rfl)
theorem dX5_tellsWays_178 : decode cX5_tellsWays 178 = .ok (.iinc 4 1, 3) := dk_132 4 1 (dk_at dksX5_tellsWays_7 13 rfl rfl)
theorem dX5_tellsWays_181 : decode cX5_tellsWays 181 = .ok (.goto (-109), 3) := dk_167 255 147 (dk_at dksX5_tellsWays_7 16 rfl rfl)
theorem dX5_tellsWays_184 : decode cX5_tellsWays 184 = .ok (.iinc 3 1, 3) := dk_132 3 1 (dk_at dksX5_tellsWays_7 19 rfl rfl)
theorem dX5_tellsWays_187 : decode cX5_tellsWays 187 = .ok (.goto (-137), 3) := dk_167 255 119 (dk_at dksX5_tellsWays_8 0 rfl rfl)
theorem dX5_tellsWays_190 : decode cX5_tellsWays 190 = .ok (.goto (-148), 3) := dk_167 255 108 (dk_at dksX5_tellsWays_8 3 rfl rfl)
theorem dX5_tellsWays_193 : decode cX5_tellsWays 193 = .ok (.return_, 1) := dk_177 (dk_at dksX5_tellsWays_8 6 rfl rfl)
abbrev cX5_beside : ByteArray := prog_22_method_54_code
def yX5_beside : MethodName := ⟨RX5, "beside", "(II)I"⟩
def dkwX5_beside_3 : List UInt8 := [167, 0, 6, 27, 4, 100, 172]
abbrev dktX5_beside_3 : List UInt8 := dkwX5_beside_3 ++ []
def dkwX5_beside_2 : List UInt8 := [5, 160, 0, 17, 29, 8, 160, 0, 7, 2, 167, 0, 7, 27, 16, 6, 96, 172, 21, 4, 154, 0, 7, 2]
abbrev dktX5_beside_2 : List UInt8 := dkwX5_beside_2 ++ dktX5_beside_3
def dkwX5_beside_1 : List UInt8 := [16, 6, 100, 172, 28, 4, 160, 0, 17, 21, 4, 8, 160, 0, 7, 2, 167, 0, 6, 27, 4, 96, 172, 28]
abbrev dktX5_beside_1 : List UInt8 := dkwX5_beside_1 ++ dktX5_beside_2
def dkwX5_beside_0 : List UInt8 := [27, 16, 6, 108, 62, 27, 16, 6, 112, 54, 4, 28, 154, 0, 16, 29, 154, 0, 7, 2, 167, 0, 7, 27]
abbrev dktX5_beside_0 : List UInt8 := dkwX5_beside_0 ++ dktX5_beside_1
theorem dksX5_beside_0 : cX5_beside.data.toList.drop 0 = dktX5_beside_0 := by decide +kernel
theorem dksX5_beside_1 : cX5_beside.data.toList.drop 24 = dktX5_beside_1 := dk_seg dksX5_beside_0 24 rfl rfl
theorem dksX5_beside_2 : cX5_beside.data.toList.drop 48 = dktX5_beside_2 := dk_seg dksX5_beside_1 24 rfl rfl
theorem dksX5_beside_3 : cX5_beside.data.toList.drop 72 = dktX5_beside_3 := dk_seg dksX5_beside_2 24 rfl rfl
theorem dX5_beside_0 : decode cX5_beside 0 = .ok (.iload_n 1, 1) := dk_27 (dk_at dksX5_beside_0 0 rfl rfl)
theorem dX5_beside_1 : decode cX5_beside 1 = .ok (.bipush 6, 2) := dk_16 6 (dk_at dksX5_beside_0 1 rfl rfl)
theorem dX5_beside_3 : decode cX5_beside 3 = .ok (.idiv, 1) := dk_108 (dk_at dksX5_beside_0 3 rfl rfl)
theorem dX5_beside_4 : decode cX5_beside 4 = .ok (.istore_n 3, 1) := dk_62 (dk_at dksX5_beside_0 4 rfl rfl)
theorem dX5_beside_5 : decode cX5_beside 5 = .ok (.iload_n 1, 1) := dk_27 (dk_at dksX5_beside_0 5 rfl rfl)
theorem dX5_beside_6 : decode cX5_beside 6 = .ok (.bipush 6, 2) := dk_16 6 (dk_at dksX5_beside_0 6 rfl rfl)
theorem dX5_beside_8 : decode cX5_beside 8 = .ok (.irem, 1) := dk_112 (dk_at dksX5_beside_0 8 rfl rfl)
theorem dX5_beside_9 : decode cX5_beside 9 = .ok (.istore 4, 2) := dk_54 4 (dk_at dksX5_beside_0 9 rfl rfl)
theorem dX5_beside_11 : decode cX5_beside 11 = .ok (.iload_n 2, 1) := dk_28 (dk_at dksX5_beside_0 11 rfl rfl)
theorem dX5_beside_12 : decode cX5_beside 12 = .ok (.ifCond .ne 16, 3) := dk_154 0 16 (dk_at dksX5_beside_0 12 rfl rfl)
theorem dX5_beside_15 : decode cX5_beside 15 = .ok (.iload_n 3, 1) := dk_29 (dk_at dksX5_beside_0 15 rfl rfl)
theorem dX5_beside_16 : decode cX5_beside 16 = .ok (.ifCond .ne 7, 3) := dk_154 0 7 (dk_at dksX5_beside_0 16 rfl rfl)
theorem dX5_beside_19 : decode cX5_beside 19 = .ok (.iconst (-1), 1) := dk_2 (dk_at dksX5_beside_0 19 rfl rfl)
theorem dX5_beside_20 : decode cX5_beside 20 = .ok (.goto 7, 3) := dk_167 0 7 (dk_at dksX5_beside_0 20 rfl rfl)
theorem dX5_beside_23 : decode cX5_beside 23 = .ok (.iload_n 1, 1) := dk_27 (dk_at dksX5_beside_0 23 rfl rfl)
theorem dX5_beside_24 : decode cX5_beside 24 = .ok (.bipush 6, 2) := dk_16 6 (dk_at dksX5_beside_1 0 rfl rfl)
theorem dX5_beside_26 : decode cX5_beside 26 = .ok (.isub, 1) := dk_100 (dk_at dksX5_beside_1 2 rfl rfl)
theorem dX5_beside_27 : decode cX5_beside 27 = .ok (.ireturn, 1) := dk_172 (dk_at dksX5_beside_1 3 rfl rfl)
theorem dX5_beside_28 : decode cX5_beside 28 = .ok (.iload_n 2, 1) := dk_28 (dk_at dksX5_beside_1 4 rfl rfl)
theorem dX5_beside_29 : decode cX5_beside 29 = .ok (.iconst 1, 1) := dk_4 (dk_at dksX5_beside_1 5 rfl rfl)
theorem dX5_beside_30 : decode cX5_beside 30 = .ok (.if_icmp .ne 17, 3) := dk_160 0 17 (dk_at dksX5_beside_1 6 rfl rfl)
theorem dX5_beside_33 : decode cX5_beside 33 = .ok (.iload 4, 2) := dk_21 4 (dk_at dksX5_beside_1 9 rfl rfl)
theorem dX5_beside_35 : decode cX5_beside 35 = .ok (.iconst 5, 1) := dk_8 (dk_at dksX5_beside_1 11 rfl rfl)
theorem dX5_beside_36 : decode cX5_beside 36 = .ok (.if_icmp .ne 7, 3) := dk_160 0 7 (dk_at dksX5_beside_1 12 rfl rfl)
theorem dX5_beside_39 : decode cX5_beside 39 = .ok (.iconst (-1), 1) := dk_2 (dk_at dksX5_beside_1 15 rfl rfl)
theorem dX5_beside_40 : decode cX5_beside 40 = .ok (.goto 6, 3) := dk_167 0 6 (dk_at dksX5_beside_1 16 rfl rfl)
theorem dX5_beside_43 : decode cX5_beside 43 = .ok (.iload_n 1, 1) := dk_27 (dk_at dksX5_beside_1 19 rfl rfl)
theorem dX5_beside_44 : decode cX5_beside 44 = .ok (.iconst 1, 1) := dk_4 (dk_at dksX5_beside_1 20 rfl rfl)
theorem dX5_beside_45 : decode cX5_beside 45 = .ok (.iadd, 1) := dk_96 (dk_at dksX5_beside_1 21 rfl rfl)
theorem dX5_beside_46 : decode cX5_beside 46 = .ok (.ireturn, 1) := dk_172 (dk_at dksX5_beside_1 22 rfl rfl)
theorem dX5_beside_47 : decode cX5_beside 47 = .ok (.iload_n 2, 1) := dk_28 (dk_at dksX5_beside_1 23 rfl rfl)
theorem dX5_beside_48 : decode cX5_beside 48 = .ok (.iconst 2, 1) := dk_5 (dk_at dksX5_beside_2 0 rfl rfl)
theorem dX5_beside_49 : decode cX5_beside 49 = .ok (.if_icmp .ne 17, 3) := dk_160 0 17 (dk_at dksX5_beside_2 1 rfl rfl)
theorem dX5_beside_52 : decode cX5_beside 52 = .ok (.iload_n 3, 1) := dk_29 (dk_at dksX5_beside_2 4 rfl rfl)
theorem dX5_beside_53 : decode cX5_beside 53 = .ok (.iconst 5, 1) := dk_8 (dk_at dksX5_beside_2 5 rfl rfl)
theorem dX5_beside_54 : decode cX5_beside 54 = .ok (.if_icmp .ne 7, 3) := dk_160 0 7 (dk_at dksX5_beside_2 6 rfl rfl)
theorem dX5_beside_57 : decode cX5_beside 57 = .ok (.iconst (-1), 1) := dk_2 (dk_at dksX5_beside_2 9 rfl rfl)
theorem dX5_beside_58 : decode cX5_beside 58 = .ok (.goto 7, 3) := dk_167 0 7 (dk_at dksX5_beside_2 10 rfl rfl)
theorem dX5_beside_61 : decode cX5_beside 61 = .ok (.iload_n 1, 1) := dk_27 (dk_at dksX5_beside_2 13 rfl rfl)
theorem dX5_beside_62 : decode cX5_beside 62 = .ok (.bipush 6, 2) := dk_16 6 (dk_at dksX5_beside_2 14 rfl rfl)
theorem dX5_beside_64 : decode cX5_beside 64 = .ok (.iadd, 1) := dk_96 (dk_at dksX5_beside_2 16 rfl rfl)
theorem dX5_beside_65 : decode cX5_beside 65 = .ok (.ireturn, 1) := dk_172 (dk_at dksX5_beside_2 17 rfl rfl)
theorem dX5_beside_66 : decode cX5_beside 66 = .ok (.iload 4, 2) := dk_21 4 (dk_at dksX5_beside_2 18 rfl rfl)
theorem dX5_beside_68 : decode cX5_beside 68 = .ok (.ifCond .ne 7, 3) := dk_154 0 7 (dk_at dksX5_beside_2 20 rfl rfl)
theorem dX5_beside_71 : decode cX5_beside 71 = .ok (.iconst (-1), 1) := dk_2 (dk_at dksX5_beside_2 23 rfl rfl)
theorem dX5_beside_72 : decode cX5_beside 72 = .ok (.goto 6, 3) := dk_167 0 6 (dk_at dksX5_beside_3 0 rfl rfl)
theorem dX5_beside_75 : decode cX5_beside 75 = .ok (.iload_n 1, 1) := dk_27 (dk_at dksX5_beside_3 3 rfl rfl)
theorem dX5_beside_76 : decode cX5_beside 76 = .ok (.iconst 1, 1) := dk_4 (dk_at dksX5_beside_3 4 rfl rfl)
theorem dX5_beside_77 : decode cX5_beside 77 = .ok (.isub, 1) := dk_100 (dk_at dksX5_beside_3 5 rfl rfl)
theorem dX5_beside_78 : decode cX5_beside 78 = .ok (.ireturn, 1) := dk_172 (dk_at dksX5_beside_3 6 rfl rfl)
abbrev cX5_firstOn : ByteArray := prog_22_method_57_code
def yX5_firstOn : MethodName := ⟨RX5, "firstOn", "(I)I"⟩
def dkwX5_firstOn_4 : List UInt8 := [159, 0, 9, 21, 4, 28, 162, 0, 6, 21, 4, 61, 132, 3, 1, 167, 255, 164, 28, 172]
abbrev dktX5_firstOn_4 : List UInt8 := dkwX5_firstOn_4 ++ []
def dkwX5_firstOn_3 : List UInt8 := [180, 0, 96, 21, 4, 46, 104, 96, 4, 96, 42, 180, 0, 99, 27, 46, 159, 0, 6, 167, 0, 17, 28, 2]
abbrev dktX5_firstOn_3 : List UInt8 := dkwX5_firstOn_3 ++ dktX5_firstOn_4
def dkwX5_firstOn_2 : List UInt8 := [180, 0, 99, 21, 4, 46, 18, 233, 159, 0, 50, 42, 180, 0, 99, 21, 4, 46, 17, 3, 232, 42]
abbrev dktX5_firstOn_2 : List UInt8 := dkwX5_firstOn_2 ++ dktX5_firstOn_3
def dkwX5_firstOn_1 : List UInt8 := [182, 0, 234, 54, 4, 21, 4, 2, 159, 0, 73, 42, 180, 0, 47, 21, 4, 46, 4, 159, 0, 62, 42]
abbrev dktX5_firstOn_1 : List UInt8 := dkwX5_firstOn_1 ++ dktX5_firstOn_2
def dkwX5_firstOn_0 : List UInt8 := [42, 180, 0, 99, 27, 46, 154, 0, 5, 27, 172, 2, 61, 3, 62, 29, 7, 162, 0, 93, 42, 27, 29]
abbrev dktX5_firstOn_0 : List UInt8 := dkwX5_firstOn_0 ++ dktX5_firstOn_1
theorem dksX5_firstOn_0 : cX5_firstOn.data.toList.drop 0 = dktX5_firstOn_0 := by decide +kernel
theorem dksX5_firstOn_1 : cX5_firstOn.data.toList.drop 23 = dktX5_firstOn_1 := dk_seg dksX5_firstOn_0 23 rfl rfl
theorem dksX5_firstOn_2 : cX5_firstOn.data.toList.drop 46 = dktX5_firstOn_2 := dk_seg dksX5_firstOn_1 23 rfl rfl
theorem dksX5_firstOn_3 : cX5_firstOn.data.toList.drop 68 = dktX5_firstOn_3 := dk_seg dksX5_firstOn_2 22 rfl rfl
theorem dksX5_firstOn_4 : cX5_firstOn.data.toList.drop 92 = dktX5_firstOn_4 := dk_seg dksX5_firstOn_3 24 rfl rfl
theorem dX5_firstOn_0 : decode cX5_firstOn 0 = .ok (.aload_n 0, 1) := dk_42 (dk_at dksX5_firstOn_0 0 rfl rfl)
theorem dX5_firstOn_1 : decode cX5_firstOn 1 = .ok (.getfield 99, 3) := dk_180 0 99 (dk_at dksX5_firstOn_0 1 rfl rfl)
theorem dX5_firstOn_4 : decode cX5_firstOn 4 = .ok (.iload_n 1, 1) := dk_27 (dk_at dksX5_firstOn_0 4 rfl rfl)
theorem dX5_firstOn_5 : decode cX5_firstOn 5 = .ok (.iaload, 1) := dk_46 (dk_at dksX5_firstOn_0 5 rfl rfl)
theorem dX5_firstOn_6 : decode cX5_firstOn 6 = .ok (.ifCond .ne 5, 3) := dk_154 0 5 (dk_at dksX5_firstOn_0 6 rfl rfl)
theorem dX5_firstOn_9 : decode cX5_firstOn 9 = .ok (.iload_n 1, 1) := dk_27 (dk_at dksX5_firstOn_0 9 rfl rfl)
theorem dX5_firstOn_10 : decode cX5_firstOn 10 = .ok (.ireturn, 1) := dk_172 (dk_at dksX5_firstOn_0 10 rfl rfl)
theorem dX5_firstOn_11 : decode cX5_firstOn 11 = .ok (.iconst (-1), 1) := dk_2 (dk_at dksX5_firstOn_0 11 rfl rfl)
theorem dX5_firstOn_12 : decode cX5_firstOn 12 = .ok (.istore_n 2, 1) := dk_61 (dk_at dksX5_firstOn_0 12 rfl rfl)
theorem dX5_firstOn_13 : decode cX5_firstOn 13 = .ok (.iconst 0, 1) := dk_3 (dk_at dksX5_firstOn_0 13 rfl rfl)
theorem dX5_firstOn_14 : decode cX5_firstOn 14 = .ok (.istore_n 3, 1) := dk_62 (dk_at dksX5_firstOn_0 14 rfl rfl)
theorem dX5_firstOn_15 : decode cX5_firstOn 15 = .ok (.iload_n 3, 1) := dk_29 (dk_at dksX5_firstOn_0 15 rfl rfl)
theorem dX5_firstOn_16 : decode cX5_firstOn 16 = .ok (.iconst 4, 1) := dk_7 (dk_at dksX5_firstOn_0 16 rfl rfl)
theorem dX5_firstOn_17 : decode cX5_firstOn 17 = .ok (.if_icmp .ge 93, 3) := dk_162 0 93 (dk_at dksX5_firstOn_0 17 rfl rfl)
theorem dX5_firstOn_20 : decode cX5_firstOn 20 = .ok (.aload_n 0, 1) := dk_42 (dk_at dksX5_firstOn_0 20 rfl rfl)
theorem dX5_firstOn_21 : decode cX5_firstOn 21 = .ok (.iload_n 1, 1) := dk_27 (dk_at dksX5_firstOn_0 21 rfl rfl)
theorem dX5_firstOn_22 : decode cX5_firstOn 22 = .ok (.iload_n 3, 1) := dk_29 (dk_at dksX5_firstOn_0 22 rfl rfl)
theorem dX5_firstOn_23 : decode cX5_firstOn 23 = .ok (.invokevirtual 234, 3) := dk_182 0 234 (dk_at dksX5_firstOn_1 0 rfl rfl)
theorem dX5_firstOn_26 : decode cX5_firstOn 26 = .ok (.istore 4, 2) := dk_54 4 (dk_at dksX5_firstOn_1 3 rfl rfl)
theorem dX5_firstOn_28 : decode cX5_firstOn 28 = .ok (.iload 4, 2) := dk_21 4 (dk_at dksX5_firstOn_1 5 rfl rfl)
theorem dX5_firstOn_30 : decode cX5_firstOn 30 = .ok (.iconst (-1), 1) := dk_2 (dk_at dksX5_firstOn_1 7 rfl rfl)
theorem dX5_firstOn_31 : decode cX5_firstOn 31 = .ok (.if_icmp .eq 73, 3) := dk_159 0 73 (dk_at dksX5_firstOn_1 8 rfl rfl)
theorem dX5_firstOn_34 : decode cX5_firstOn 34 = .ok (.aload_n 0, 1) := dk_42 (dk_at dksX5_firstOn_1 11 rfl rfl)
theorem dX5_firstOn_35 : decode cX5_firstOn 35 = .ok (.getfield 47, 3) := dk_180 0 47 (dk_at dksX5_firstOn_1 12 rfl rfl)
theorem dX5_firstOn_38 : decode cX5_firstOn 38 = .ok (.iload 4, 2) := dk_21 4 (dk_at dksX5_firstOn_1 15 rfl rfl)
theorem dX5_firstOn_40 : decode cX5_firstOn 40 = .ok (.iaload, 1) := dk_46 (dk_at dksX5_firstOn_1 17 rfl rfl)
theorem dX5_firstOn_41 : decode cX5_firstOn 41 = .ok (.iconst 1, 1) := dk_4 (dk_at dksX5_firstOn_1 18 rfl rfl)
theorem dX5_firstOn_42 : decode cX5_firstOn 42 = .ok (.if_icmp .eq 62, 3) := dk_159 0 62 (dk_at dksX5_firstOn_1 19 rfl rfl)
theorem dX5_firstOn_45 : decode cX5_firstOn 45 = .ok (.aload_n 0, 1) := dk_42 (dk_at dksX5_firstOn_1 22 rfl rfl)
theorem dX5_firstOn_46 : decode cX5_firstOn 46 = .ok (.getfield 99, 3) := dk_180 0 99 (dk_at dksX5_firstOn_2 0 rfl rfl)
theorem dX5_firstOn_49 : decode cX5_firstOn 49 = .ok (.iload 4, 2) := dk_21 4 (dk_at dksX5_firstOn_2 3 rfl rfl)
theorem dX5_firstOn_51 : decode cX5_firstOn 51 = .ok (.iaload, 1) := dk_46 (dk_at dksX5_firstOn_2 5 rfl rfl)
theorem dX5_firstOn_52 : decode cX5_firstOn 52 = .ok (.ldc 233, 2) := dk_18 233 (dk_at dksX5_firstOn_2 6 rfl rfl)
theorem dX5_firstOn_54 : decode cX5_firstOn 54 = .ok (.if_icmp .eq 50, 3) := dk_159 0 50 (dk_at dksX5_firstOn_2 8 rfl rfl)
theorem dX5_firstOn_57 : decode cX5_firstOn 57 = .ok (.aload_n 0, 1) := dk_42 (dk_at dksX5_firstOn_2 11 rfl rfl)
theorem dX5_firstOn_58 : decode cX5_firstOn 58 = .ok (.getfield 99, 3) := dk_180 0 99 (dk_at dksX5_firstOn_2 12 rfl rfl)
theorem dX5_firstOn_61 : decode cX5_firstOn 61 = .ok (.iload 4, 2) := dk_21 4 (dk_at dksX5_firstOn_2 15 rfl rfl)
theorem dX5_firstOn_63 : decode cX5_firstOn 63 = .ok (.iaload, 1) := dk_46 (dk_at dksX5_firstOn_2 17 rfl rfl)
theorem dX5_firstOn_64 : decode cX5_firstOn 64 = .ok (.sipush 1000, 3) := dk_17 3 232 (dk_at dksX5_firstOn_2 18 rfl rfl)
theorem dX5_firstOn_67 : decode cX5_firstOn 67 = .ok (.aload_n 0, 1) := dk_42 (dk_at dksX5_firstOn_2 21 rfl rfl)
theorem dX5_firstOn_68 : decode cX5_firstOn 68 = .ok (.getfield 96, 3) := dk_180 0 96 (dk_at dksX5_firstOn_3 0 rfl rfl)
theorem dX5_firstOn_71 : decode cX5_firstOn 71 = .ok (.iload 4, 2) := dk_21 4 (dk_at dksX5_firstOn_3 3 rfl rfl)
theorem dX5_firstOn_73 : decode cX5_firstOn 73 = .ok (.iaload, 1) := dk_46 (dk_at dksX5_firstOn_3 5 rfl rfl)
theorem dX5_firstOn_74 : decode cX5_firstOn 74 = .ok (.imul, 1) := dk_104 (dk_at dksX5_firstOn_3 6 rfl rfl)
theorem dX5_firstOn_75 : decode cX5_firstOn 75 = .ok (.iadd, 1) := dk_96 (dk_at dksX5_firstOn_3 7 rfl rfl)
theorem dX5_firstOn_76 : decode cX5_firstOn 76 = .ok (.iconst 1, 1) := dk_4 (dk_at dksX5_firstOn_3 8 rfl rfl)
theorem dX5_firstOn_77 : decode cX5_firstOn 77 = .ok (.iadd, 1) := dk_96 (dk_at dksX5_firstOn_3 9 rfl rfl)
theorem dX5_firstOn_78 : decode cX5_firstOn 78 = .ok (.aload_n 0, 1) := dk_42 (dk_at dksX5_firstOn_3 10 rfl rfl)
theorem dX5_firstOn_79 : decode cX5_firstOn 79 = .ok (.getfield 99, 3) := dk_180 0 99 (dk_at dksX5_firstOn_3 11 rfl rfl)
theorem dX5_firstOn_82 : decode cX5_firstOn 82 = .ok (.iload_n 1, 1) := dk_27 (dk_at dksX5_firstOn_3 14 rfl rfl)
theorem dX5_firstOn_83 : decode cX5_firstOn 83 = .ok (.iaload, 1) := dk_46 (dk_at dksX5_firstOn_3 15 rfl rfl)
theorem dX5_firstOn_84 : decode cX5_firstOn 84 = .ok (.if_icmp .eq 6, 3) := dk_159 0 6 (dk_at dksX5_firstOn_3 16 rfl rfl)
theorem dX5_firstOn_87 : decode cX5_firstOn 87 = .ok (.goto 17, 3) := dk_167 0 17 (dk_at dksX5_firstOn_3 19 rfl rfl)
theorem dX5_firstOn_90 : decode cX5_firstOn 90 = .ok (.iload_n 2, 1) := dk_28 (dk_at dksX5_firstOn_3 22 rfl rfl)
theorem dX5_firstOn_91 : decode cX5_firstOn 91 = .ok (.iconst (-1), 1) := dk_2 (dk_at dksX5_firstOn_3 23 rfl rfl)
theorem dX5_firstOn_92 : decode cX5_firstOn 92 = .ok (.if_icmp .eq 9, 3) := dk_159 0 9 (dk_at dksX5_firstOn_4 0 rfl rfl)
theorem dX5_firstOn_95 : decode cX5_firstOn 95 = .ok (.iload 4, 2) := dk_21 4 (dk_at dksX5_firstOn_4 3 rfl rfl)
theorem dX5_firstOn_97 : decode cX5_firstOn 97 = .ok (.iload_n 2, 1) := dk_28 (dk_at dksX5_firstOn_4 5 rfl rfl)
theorem dX5_firstOn_98 : decode cX5_firstOn 98 = .ok (.if_icmp .ge 6, 3) := dk_162 0 6 (dk_at dksX5_firstOn_4 6 rfl rfl)
theorem dX5_firstOn_101 : decode cX5_firstOn 101 = .ok (.iload 4, 2) := dk_21 4 (dk_at dksX5_firstOn_4 9 rfl rfl)
theorem dX5_firstOn_103 : decode cX5_firstOn 103 = .ok (.istore_n 2, 1) := dk_61 (dk_at dksX5_firstOn_4 11 rfl rfl)
theorem dX5_firstOn_104 : decode cX5_firstOn 104 = .ok (.iinc 3 1, 3) := dk_132 3 1 (dk_at dksX5_firstOn_4 12 rfl rfl)
theorem dX5_firstOn_107 : decode cX5_firstOn 107 = .ok (.goto (-92), 3) := dk_167 255 164 (dk_at dksX5_firstOn_4 15 rfl rfl)
theorem dX5_firstOn_110 : decode cX5_firstOn 110 = .ok (.iload_n 2, 1) := dk_28 (dk_at dksX5_firstOn_4 18 rfl rfl)
theorem dX5_firstOn_111 : decode cX5_firstOn 111 = .ok (.ireturn, 1) := dk_172 (dk_at dksX5_firstOn_4 19 rfl rfl)
abbrev cX5_stand : ByteArray := prog_22_method_59_code
def yX5_stand : MethodName := ⟨RX5, "stand", "(II)I"⟩
def dkwX5_stand_3 : List UInt8 := [28, 154, 0, 7, 29, 167, 0, 9, 42, 180, 0, 96, 29, 46, 172]
abbrev dktX5_stand_3 : List UInt8 := dkwX5_stand_3 ++ []
def dkwX5_stand_2 : List UInt8 := [180, 0, 96, 21, 4, 46, 42, 180, 0, 96, 29, 46, 162, 0, 6, 21, 4, 62, 132, 4, 1, 167, 255, 227]
abbrev dktX5_stand_2 : List UInt8 := dkwX5_stand_2 ++ dktX5_stand_3
def dkwX5_stand_1 : List UInt8 := [16, 251, 182, 0, 115, 172, 42, 27, 182, 0, 240, 3, 62, 4, 54, 4, 21, 4, 16, 36, 162, 0, 28, 42]
abbrev dktX5_stand_1 : List UInt8 := dkwX5_stand_1 ++ dktX5_stand_2
def dkwX5_stand_0 : List UInt8 := [42, 27, 182, 0, 119, 154, 0, 9, 42, 2, 182, 0, 115, 172, 28, 155, 0, 8, 28, 4, 164, 0, 10, 42]
abbrev dktX5_stand_0 : List UInt8 := dkwX5_stand_0 ++ dktX5_stand_1
theorem dksX5_stand_0 : cX5_stand.data.toList.drop 0 = dktX5_stand_0 := by decide +kernel
theorem dksX5_stand_1 : cX5_stand.data.toList.drop 24 = dktX5_stand_1 := dk_seg dksX5_stand_0 24 rfl rfl
theorem dksX5_stand_2 : cX5_stand.data.toList.drop 48 = dktX5_stand_2 := dk_seg dksX5_stand_1 24 rfl rfl
theorem dksX5_stand_3 : cX5_stand.data.toList.drop 72 = dktX5_stand_3 := dk_seg dksX5_stand_2 24 rfl rfl
theorem dX5_stand_0 : decode cX5_stand 0 = .ok (.aload_n 0, 1) := dk_42 (dk_at dksX5_stand_0 0 rfl rfl)
theorem dX5_stand_1 : decode cX5_stand 1 = .ok (.iload_n 1, 1) := dk_27 (dk_at dksX5_stand_0 1 rfl rfl)
theorem dX5_stand_2 : decode cX5_stand 2 = .ok (.invokevirtual 119, 3) := dk_182 0 119 (dk_at dksX5_stand_0 2 rfl rfl)
theorem dX5_stand_5 : decode cX5_stand 5 = .ok (.ifCond .ne 9, 3) := dk_154 0 9 (dk_at dksX5_stand_0 5 rfl rfl)
theorem dX5_stand_8 : decode cX5_stand 8 = .ok (.aload_n 0, 1) := dk_42 (dk_at dksX5_stand_0 8 rfl rfl)
theorem dX5_stand_9 : decode cX5_stand 9 = .ok (.iconst (-1), 1) := dk_2 (dk_at dksX5_stand_0 9 rfl rfl)
theorem dX5_stand_10 : decode cX5_stand 10 = .ok (.invokevirtual 115, 3) := dk_182 0 115 (dk_at dksX5_stand_0 10 rfl rfl)
theorem dX5_stand_13 : decode cX5_stand 13 = .ok (.ireturn, 1) := dk_172 (dk_at dksX5_stand_0 13 rfl rfl)
theorem dX5_stand_14 : decode cX5_stand 14 = .ok (.iload_n 2, 1) := dk_28 (dk_at dksX5_stand_0 14 rfl rfl)
theorem dX5_stand_15 : decode cX5_stand 15 = .ok (.ifCond .lt 8, 3) := dk_155 0 8 (dk_at dksX5_stand_0 15 rfl rfl)
theorem dX5_stand_18 : decode cX5_stand 18 = .ok (.iload_n 2, 1) := dk_28 (dk_at dksX5_stand_0 18 rfl rfl)
theorem dX5_stand_19 : decode cX5_stand 19 = .ok (.iconst 1, 1) := dk_4 (dk_at dksX5_stand_0 19 rfl rfl)
theorem dX5_stand_20 : decode cX5_stand 20 = .ok (.if_icmp .le 10, 3) := dk_164 0 10 (dk_at dksX5_stand_0 20 rfl rfl)
theorem dX5_stand_23 : decode cX5_stand 23 = .ok (.aload_n 0, 1) := dk_42 (dk_at dksX5_stand_0 23 rfl rfl)
theorem dX5_stand_24 : decode cX5_stand 24 = .ok (.bipush (-5), 2) := dk_16 251 (dk_at dksX5_stand_1 0 rfl rfl)
theorem dX5_stand_26 : decode cX5_stand 26 = .ok (.invokevirtual 115, 3) := dk_182 0 115 (dk_at dksX5_stand_1 2 rfl rfl)
theorem dX5_stand_29 : decode cX5_stand 29 = .ok (.ireturn, 1) := dk_172 (dk_at dksX5_stand_1 5 rfl rfl)
theorem dX5_stand_30 : decode cX5_stand 30 = .ok (.aload_n 0, 1) := dk_42 (dk_at dksX5_stand_1 6 rfl rfl)
theorem dX5_stand_31 : decode cX5_stand 31 = .ok (.iload_n 1, 1) := dk_27 (dk_at dksX5_stand_1 7 rfl rfl)
theorem dX5_stand_32 : decode cX5_stand 32 = .ok (.invokevirtual 240, 3) := dk_182 0 240 (dk_at dksX5_stand_1 8 rfl rfl)
theorem dX5_stand_35 : decode cX5_stand 35 = .ok (.iconst 0, 1) := dk_3 (dk_at dksX5_stand_1 11 rfl rfl)
theorem dX5_stand_36 : decode cX5_stand 36 = .ok (.istore_n 3, 1) := dk_62 (dk_at dksX5_stand_1 12 rfl rfl)
theorem dX5_stand_37 : decode cX5_stand 37 = .ok (.iconst 1, 1) := dk_4 (dk_at dksX5_stand_1 13 rfl rfl)
theorem dX5_stand_38 : decode cX5_stand 38 = .ok (.istore 4, 2) := dk_54 4 (dk_at dksX5_stand_1 14 rfl rfl)
theorem dX5_stand_40 : decode cX5_stand 40 = .ok (.iload 4, 2) := dk_21 4 (dk_at dksX5_stand_1 16 rfl rfl)
theorem dX5_stand_42 : decode cX5_stand 42 = .ok (.bipush 36, 2) := dk_16 36 (dk_at dksX5_stand_1 18 rfl rfl)
theorem dX5_stand_44 : decode cX5_stand 44 = .ok (.if_icmp .ge 28, 3) := dk_162 0 28 (dk_at dksX5_stand_1 20 rfl rfl)
theorem dX5_stand_47 : decode cX5_stand 47 = .ok (.aload_n 0, 1) := dk_42 (dk_at dksX5_stand_1 23 rfl rfl)
theorem dX5_stand_48 : decode cX5_stand 48 = .ok (.getfield 96, 3) := dk_180 0 96 (dk_at dksX5_stand_2 0 rfl rfl)
theorem dX5_stand_51 : decode cX5_stand 51 = .ok (.iload 4, 2) := dk_21 4 (dk_at dksX5_stand_2 3 rfl rfl)
theorem dX5_stand_53 : decode cX5_stand 53 = .ok (.iaload, 1) := dk_46 (dk_at dksX5_stand_2 5 rfl rfl)
theorem dX5_stand_54 : decode cX5_stand 54 = .ok (.aload_n 0, 1) := dk_42 (dk_at dksX5_stand_2 6 rfl rfl)
theorem dX5_stand_55 : decode cX5_stand 55 = .ok (.getfield 96, 3) := dk_180 0 96 (dk_at dksX5_stand_2 7 rfl rfl)
theorem dX5_stand_58 : decode cX5_stand 58 = .ok (.iload_n 3, 1) := dk_29 (dk_at dksX5_stand_2 10 rfl rfl)
theorem dX5_stand_59 : decode cX5_stand 59 = .ok (.iaload, 1) := dk_46 (dk_at dksX5_stand_2 11 rfl rfl)
theorem dX5_stand_60 : decode cX5_stand 60 = .ok (.if_icmp .ge 6, 3) := dk_162 0 6 (dk_at dksX5_stand_2 12 rfl rfl)
theorem dX5_stand_63 : decode cX5_stand 63 = .ok (.iload 4, 2) := dk_21 4 (dk_at dksX5_stand_2 15 rfl rfl)
theorem dX5_stand_65 : decode cX5_stand 65 = .ok (.istore_n 3, 1) := dk_62 (dk_at dksX5_stand_2 17 rfl rfl)
theorem dX5_stand_66 : decode cX5_stand 66 = .ok (.iinc 4 1, 3) := dk_132 4 1 (dk_at dksX5_stand_2 18 rfl rfl)
theorem dX5_stand_69 : decode cX5_stand 69 = .ok (.goto (-29), 3) := dk_167 255 227 (dk_at dksX5_stand_2 21 rfl rfl)
theorem dX5_stand_72 : decode cX5_stand 72 = .ok (.iload_n 2, 1) := dk_28 (dk_at dksX5_stand_3 0 rfl rfl)
theorem dX5_stand_73 : decode cX5_stand 73 = .ok (.ifCond .ne 7, 3) := dk_154 0 7 (dk_at dksX5_stand_3 1 rfl rfl)
theorem dX5_stand_76 : decode cX5_stand 76 = .ok (.iload_n 3, 1) := dk_29 (dk_at dksX5_stand_3 4 rfl rfl)
theorem dX5_stand_77 : decode cX5_stand 77 = .ok (.goto 9, 3) := dk_167 0 9 (dk_at dksX5_stand_3 5 rfl rfl)
theorem dX5_stand_80 : decode cX5_stand 80 = .ok (.aload_n 0, 1) := dk_42 (dk_at dksX5_stand_3 8 rfl rfl)
theorem dX5_stand_81 : decode cX5_stand 81 = .ok (.getfield 96, 3) := dk_180 0 96 (dk_at dksX5_stand_3 9 rfl rfl)
theorem dX5_stand_84 : decode cX5_stand 84 = .ok (.iload_n 3, 1) := dk_29 (dk_at dksX5_stand_3 12 rfl rfl)
theorem dX5_stand_85 : decode cX5_stand 85 = .ok (.iaload, 1) := dk_46 (dk_at dksX5_stand_3 13 rfl rfl)
theorem dX5_stand_86 : decode cX5_stand 86 = .ok (.ireturn, 1) := dk_172 (dk_at dksX5_stand_3 14 rfl rfl)
abbrev cX5_sacks : ByteArray := prog_22_method_60_code
def yX5_sacks : MethodName := ⟨RX5, "sacks", "(II)I"⟩
def dkwX5_sacks_9 : List UInt8 := [154, 0, 7, 29, 167, 0, 5, 21, 4, 172]
abbrev dktX5_sacks_9 : List UInt8 := dkwX5_sacks_9 ++ []
def dkwX5_sacks_8 : List UInt8 := [162, 0, 23, 42, 180, 0, 44, 21, 5, 42, 180, 0, 102, 21, 5, 46, 79, 132, 5, 1, 167, 255, 230, 28]
abbrev dktX5_sacks_8 : List UInt8 := dkwX5_sacks_8 ++ dktX5_sacks_9
def dkwX5_sacks_7 : List UInt8 := [21, 5, 62, 21, 6, 54, 4, 132, 5, 1, 167, 255, 154, 3, 54, 5, 21, 5, 42, 180, 0, 108]
abbrev dktX5_sacks_7 : List UInt8 := dkwX5_sacks_7 ++ dktX5_sacks_8
def dkwX5_sacks_6 : List UInt8 := [167, 255, 215, 42, 182, 0, 250, 54, 6, 29, 2, 159, 0, 13, 21, 6, 21, 4, 161, 0, 6, 167, 0, 10]
abbrev dktX5_sacks_6 : List UInt8 := dkwX5_sacks_6 ++ dktX5_sacks_7
def dkwX5_sacks_5 : List UInt8 := [21, 6, 122, 4, 126, 4, 160, 0, 7, 4, 167, 0, 10, 42, 180, 0, 102, 21, 6, 46, 79, 132, 6, 1]
abbrev dktX5_sacks_5 : List UInt8 := dkwX5_sacks_5 ++ dktX5_sacks_6
def dkwX5_sacks_4 : List UInt8 := [167, 0, 78, 3, 54, 6, 21, 6, 42, 180, 0, 108, 162, 0, 38, 42, 180, 0, 44, 21, 6, 21, 5]
abbrev dktX5_sacks_4 : List UInt8 := dkwX5_sacks_4 ++ dktX5_sacks_5
def dkwX5_sacks_3 : List UInt8 := [54, 5, 21, 5, 4, 42, 180, 0, 108, 120, 162, 0, 97, 42, 21, 5, 182, 0, 224, 27, 159, 0, 6]
abbrev dktX5_sacks_3 : List UInt8 := dkwX5_sacks_3 ++ dktX5_sacks_4
def dkwX5_sacks_2 : List UInt8 := [162, 0, 23, 42, 180, 0, 102, 21, 5, 42, 180, 0, 44, 21, 5, 46, 79, 132, 5, 1, 167, 255, 230, 3]
abbrev dktX5_sacks_2 : List UInt8 := dkwX5_sacks_2 ++ dktX5_sacks_3
def dkwX5_sacks_1 : List UInt8 := [154, 0, 10, 42, 16, 250, 182, 0, 237, 172, 2, 62, 2, 54, 4, 3, 54, 5, 21, 5, 42, 180, 0, 108]
abbrev dktX5_sacks_1 : List UInt8 := dkwX5_sacks_1 ++ dktX5_sacks_2
def dkwX5_sacks_0 : List UInt8 := [28, 155, 0, 8, 28, 4, 164, 0, 10, 42, 16, 251, 182, 0, 237, 172, 42, 27, 3, 6, 182, 0, 125]
abbrev dktX5_sacks_0 : List UInt8 := dkwX5_sacks_0 ++ dktX5_sacks_1
theorem dksX5_sacks_0 : cX5_sacks.data.toList.drop 0 = dktX5_sacks_0 := by decide +kernel
theorem dksX5_sacks_1 : cX5_sacks.data.toList.drop 23 = dktX5_sacks_1 := dk_seg dksX5_sacks_0 23 rfl rfl
theorem dksX5_sacks_2 : cX5_sacks.data.toList.drop 47 = dktX5_sacks_2 := dk_seg dksX5_sacks_1 24 rfl rfl
theorem dksX5_sacks_3 : cX5_sacks.data.toList.drop 71 = dktX5_sacks_3 := dk_seg dksX5_sacks_2 24 rfl rfl
theorem dksX5_sacks_4 : cX5_sacks.data.toList.drop 94 = dktX5_sacks_4 := dk_seg dksX5_sacks_3 23 rfl rfl
theorem dksX5_sacks_5 : cX5_sacks.data.toList.drop 117 = dktX5_sacks_5 := dk_seg dksX5_sacks_4 23 rfl rfl
theorem dksX5_sacks_6 : cX5_sacks.data.toList.drop 141 = dktX5_sacks_6 := dk_seg dksX5_sacks_5 24 rfl rfl
theorem dksX5_sacks_7 : cX5_sacks.data.toList.drop 165 = dktX5_sacks_7 := dk_seg dksX5_sacks_6 24 rfl rfl
theorem dksX5_sacks_8 : cX5_sacks.data.toList.drop 187 = dktX5_sacks_8 := dk_seg dksX5_sacks_7 22 rfl rfl
theorem dksX5_sacks_9 : cX5_sacks.data.toList.drop 211 = dktX5_sacks_9 := dk_seg dksX5_sacks_8 24 rfl rfl
theorem dX5_sacks_0 : decode cX5_sacks 0 = .ok (.iload_n 2, 1) := dk_28 (dk_at dksX5_sacks_0 0 rfl rfl)
theorem dX5_sacks_1 : decode cX5_sacks 1 = .ok (.ifCond .lt 8, 3) := dk_155 0 8 (dk_at dksX5_sacks_0 1 rfl rfl)
theorem dX5_sacks_4 : decode cX5_sacks 4 = .ok (.iload_n 2, 1) := dk_28 (dk_at dksX5_sacks_0 4 rfl rfl)
theorem dX5_sacks_5 : decode cX5_sacks 5 = .ok (.iconst 1, 1) := dk_4 (dk_at dksX5_sacks_0 5 rfl rfl)
theorem dX5_sacks_6 : decode cX5_sacks 6 = .ok (.if_icmp .le 10, 3) := dk_164 0 10 (dk_at dksX5_sacks_0 6 rfl rfl)
theorem dX5_sacks_9 : decode cX5_sacks 9 = .ok (.aload_n 0, 1) := dk_42 (dk_at dksX5_sacks_0 9 rfl rfl)
theorem dX5_sacks_10 : decode cX5_sacks 10 = .ok (.bipush (-5), 2) := dk_16 251 (dk_at dksX5_sacks_0 10 rfl rfl)
theorem dX5_sacks_12 : decode cX5_sacks 12 = .ok (.invokevirtual 237, 3) := dk_182 0 237 (dk_at dksX5_sacks_0 12 rfl rfl)
theorem dX5_sacks_15 : decode cX5_sacks 15 = .ok (.ireturn, 1) := dk_172 (dk_at dksX5_sacks_0 15 rfl rfl)
theorem dX5_sacks_16 : decode cX5_sacks 16 = .ok (.aload_n 0, 1) := dk_42 (dk_at dksX5_sacks_0 16 rfl rfl)
theorem dX5_sacks_17 : decode cX5_sacks 17 = .ok (.iload_n 1, 1) := dk_27 (dk_at dksX5_sacks_0 17 rfl rfl)
theorem dX5_sacks_18 : decode cX5_sacks 18 = .ok (.iconst 0, 1) := dk_3 (dk_at dksX5_sacks_0 18 rfl rfl)
theorem dX5_sacks_19 : decode cX5_sacks 19 = .ok (.iconst 3, 1) := dk_6 (dk_at dksX5_sacks_0 19 rfl rfl)
theorem dX5_sacks_20 : decode cX5_sacks 20 = .ok (.invokevirtual 125, 3) := dk_182 0 125 (dk_at dksX5_sacks_0 20 rfl rfl)
theorem dX5_sacks_23 : decode cX5_sacks 23 = .ok (.ifCond .ne 10, 3) := dk_154 0 10 (dk_at dksX5_sacks_1 0 rfl rfl)
theorem dX5_sacks_26 : decode cX5_sacks 26 = .ok (.aload_n 0, 1) := dk_42 (dk_at dksX5_sacks_1 3 rfl rfl)
theorem dX5_sacks_27 : decode cX5_sacks 27 = .ok (.bipush (-6), 2) := dk_16 250 (dk_at dksX5_sacks_1 4 rfl rfl)
theorem dX5_sacks_29 : decode cX5_sacks 29 = .ok (.invokevirtual 237, 3) := dk_182 0 237 (dk_at dksX5_sacks_1 6 rfl rfl)
theorem dX5_sacks_32 : decode cX5_sacks 32 = .ok (.ireturn, 1) := dk_172 (dk_at dksX5_sacks_1 9 rfl rfl)
theorem dX5_sacks_33 : decode cX5_sacks 33 = .ok (.iconst (-1), 1) := dk_2 (dk_at dksX5_sacks_1 10 rfl rfl)
theorem dX5_sacks_34 : decode cX5_sacks 34 = .ok (.istore_n 3, 1) := dk_62 (dk_at dksX5_sacks_1 11 rfl rfl)
theorem dX5_sacks_35 : decode cX5_sacks 35 = .ok (.iconst (-1), 1) := dk_2 (dk_at dksX5_sacks_1 12 rfl rfl)
theorem dX5_sacks_36 : decode cX5_sacks 36 = .ok (.istore 4, 2) := dk_54 4 (dk_at dksX5_sacks_1 13 rfl rfl)
theorem dX5_sacks_38 : decode cX5_sacks 38 = .ok (.iconst 0, 1) := dk_3 (dk_at dksX5_sacks_1 15 rfl rfl)
theorem dX5_sacks_39 : decode cX5_sacks 39 = .ok (.istore 5, 2) := dk_54 5 (dk_at dksX5_sacks_1 16 rfl rfl)
theorem dX5_sacks_41 : decode cX5_sacks 41 = .ok (.iload 5, 2) := dk_21 5 (dk_at dksX5_sacks_1 18 rfl rfl)
theorem dX5_sacks_43 : decode cX5_sacks 43 = .ok (.aload_n 0, 1) := dk_42 (dk_at dksX5_sacks_1 20 rfl rfl)
theorem dX5_sacks_44 : decode cX5_sacks 44 = .ok (.getfield 108, 3) := dk_180 0 108 (dk_at dksX5_sacks_1 21 rfl rfl)
theorem dX5_sacks_47 : decode cX5_sacks 47 = .ok (.if_icmp .ge 23, 3) := dk_162 0 23 (dk_at dksX5_sacks_2 0 rfl rfl)
theorem dX5_sacks_50 : decode cX5_sacks 50 = .ok (.aload_n 0, 1) := dk_42 (dk_at dksX5_sacks_2 3 rfl rfl)
theorem dX5_sacks_51 : decode cX5_sacks 51 = .ok (.getfield 102, 3) := dk_180 0 102 (dk_at dksX5_sacks_2 4 rfl rfl)
theorem dX5_sacks_54 : decode cX5_sacks 54 = .ok (.iload 5, 2) := dk_21 5 (dk_at dksX5_sacks_2 7 rfl rfl)
theorem dX5_sacks_56 : decode cX5_sacks 56 = .ok (.aload_n 0, 1) := dk_42 (dk_at dksX5_sacks_2 9 rfl rfl)
theorem dX5_sacks_57 : decode cX5_sacks 57 = .ok (.getfield 44, 3) := dk_180 0 44 (dk_at dksX5_sacks_2 10 rfl rfl)
theorem dX5_sacks_60 : decode cX5_sacks 60 = .ok (.iload 5, 2) := dk_21 5 (dk_at dksX5_sacks_2 13 rfl rfl)
theorem dX5_sacks_62 : decode cX5_sacks 62 = .ok (.iaload, 1) := dk_46 (dk_at dksX5_sacks_2 15 rfl rfl)
theorem dX5_sacks_63 : decode cX5_sacks 63 = .ok (.iastore, 1) := dk_79 (dk_at dksX5_sacks_2 16 rfl rfl)
theorem dX5_sacks_64 : decode cX5_sacks 64 = .ok (.iinc 5 1, 3) := dk_132 5 1 (dk_at dksX5_sacks_2 17 rfl rfl)
theorem dX5_sacks_67 : decode cX5_sacks 67 = .ok (.goto (-26), 3) := dk_167 255 230 (dk_at dksX5_sacks_2 20 rfl rfl)
theorem dX5_sacks_70 : decode cX5_sacks 70 = .ok (.iconst 0, 1) := dk_3 (dk_at dksX5_sacks_2 23 rfl rfl)
theorem dX5_sacks_71 : decode cX5_sacks 71 = .ok (.istore 5, 2) := dk_54 5 (dk_at dksX5_sacks_3 0 rfl rfl)
theorem dX5_sacks_73 : decode cX5_sacks 73 = .ok (.iload 5, 2) := dk_21 5 (dk_at dksX5_sacks_3 2 rfl rfl)
theorem dX5_sacks_75 : decode cX5_sacks 75 = .ok (.iconst 1, 1) := dk_4 (dk_at dksX5_sacks_3 4 rfl rfl)
theorem dX5_sacks_76 : decode cX5_sacks 76 = .ok (.aload_n 0, 1) := dk_42 (dk_at dksX5_sacks_3 5 rfl rfl)
theorem dX5_sacks_77 : decode cX5_sacks 77 = .ok (.getfield 108, 3) := dk_180 0 108 (dk_at dksX5_sacks_3 6 rfl rfl)
theorem dX5_sacks_80 : decode cX5_sacks 80 = .ok (.ishl, 1) := dk_120 (dk_at dksX5_sacks_3 9 rfl rfl)
theorem dX5_sacks_81 : decode cX5_sacks 81 = .ok (.if_icmp .ge 97, 3) := dk_162 0 97 (dk_at dksX5_sacks_3 10 rfl rfl)
theorem dX5_sacks_84 : decode cX5_sacks 84 = .ok (.aload_n 0, 1) := dk_42 (dk_at dksX5_sacks_3 13 rfl rfl)
theorem dX5_sacks_85 : decode cX5_sacks 85 = .ok (.iload 5, 2) := dk_21 5 (dk_at dksX5_sacks_3 14 rfl rfl)
theorem dX5_sacks_87 : decode cX5_sacks 87 = .ok (.invokevirtual 224, 3) := dk_182 0 224 (dk_at dksX5_sacks_3 16 rfl rfl)
theorem dX5_sacks_90 : decode cX5_sacks 90 = .ok (.iload_n 1, 1) := dk_27 (dk_at dksX5_sacks_3 19 rfl rfl)
theorem dX5_sacks_91 : decode cX5_sacks 91 = .ok (.if_icmp .eq 6, 3) := dk_159 0 6 (dk_at dksX5_sacks_3 20 rfl rfl)
theorem dX5_sacks_94 : decode cX5_sacks 94 = .ok (.goto 78, 3) := dk_167 0 78 (dk_at dksX5_sacks_4 0 rfl rfl)
theorem dX5_sacks_97 : decode cX5_sacks 97 = .ok (.iconst 0, 1) := dk_3 (dk_at dksX5_sacks_4 3 rfl rfl)
theorem dX5_sacks_98 : decode cX5_sacks 98 = .ok (.istore 6, 2) := dk_54 6 (dk_at dksX5_sacks_4 4 rfl rfl)
theorem dX5_sacks_100 : decode cX5_sacks 100 = .ok (.iload 6, 2) := dk_21 6 (dk_at dksX5_sacks_4 6 rfl rfl)
theorem dX5_sacks_102 : decode cX5_sacks 102 = .ok (.aload_n 0, 1) := dk_42 (dk_at dksX5_sacks_4 8 rfl rfl)
theorem dX5_sacks_103 : decode cX5_sacks 103 = .ok (.getfield 108, 3) := dk_180 0 108 (dk_at dksX5_sacks_4 9 rfl rfl)
theorem dX5_sacks_106 : decode cX5_sacks 106 = .ok (.if_icmp .ge 38, 3) := dk_162 0 38 (dk_at dksX5_sacks_4 12 rfl rfl)
theorem dX5_sacks_109 : decode cX5_sacks 109 = .ok (.aload_n 0, 1) := dk_42 (dk_at dksX5_sacks_4 15 rfl rfl)
theorem dX5_sacks_110 : decode cX5_sacks 110 = .ok (.getfield 44, 3) := dk_180 0 44 (dk_at dksX5_sacks_4 16 rfl rfl)
theorem dX5_sacks_113 : decode cX5_sacks 113 = .ok (.iload 6, 2) := dk_21 6 (dk_at dksX5_sacks_4 19 rfl rfl)
theorem dX5_sacks_115 : decode cX5_sacks 115 = .ok (.iload 5, 2) := dk_21 5 (dk_at dksX5_sacks_4 21 rfl rfl)
theorem dX5_sacks_117 : decode cX5_sacks 117 = .ok (.iload 6, 2) := dk_21 6 (dk_at dksX5_sacks_5 0 rfl rfl)
theorem dX5_sacks_119 : decode cX5_sacks 119 = .ok (.ishr, 1) := dk_122 (dk_at dksX5_sacks_5 2 rfl rfl)
theorem dX5_sacks_120 : decode cX5_sacks 120 = .ok (.iconst 1, 1) := dk_4 (dk_at dksX5_sacks_5 3 rfl rfl)
theorem dX5_sacks_121 : decode cX5_sacks 121 = .ok (.iand, 1) := dk_126 (dk_at dksX5_sacks_5 4 rfl rfl)
theorem dX5_sacks_122 : decode cX5_sacks 122 = .ok (.iconst 1, 1) := dk_4 (dk_at dksX5_sacks_5 5 rfl rfl)
theorem dX5_sacks_123 : decode cX5_sacks 123 = .ok (.if_icmp .ne 7, 3) := dk_160 0 7 (dk_at dksX5_sacks_5 6 rfl rfl)
theorem dX5_sacks_126 : decode cX5_sacks 126 = .ok (.iconst 1, 1) := dk_4 (dk_at dksX5_sacks_5 9 rfl rfl)
theorem dX5_sacks_127 : decode cX5_sacks 127 = .ok (.goto 10, 3) := dk_167 0 10 (dk_at dksX5_sacks_5 10 rfl rfl)
theorem dX5_sacks_130 : decode cX5_sacks 130 = .ok (.aload_n 0, 1) := dk_42 (dk_at dksX5_sacks_5 13 rfl rfl)
theorem dX5_sacks_131 : decode cX5_sacks 131 = .ok (.getfield 102, 3) := dk_180 0 102 (dk_at dksX5_sacks_5 14 rfl rfl)
theorem dX5_sacks_134 : decode cX5_sacks 134 = .ok (.iload 6, 2) := dk_21 6 (dk_at dksX5_sacks_5 17 rfl rfl)
theorem dX5_sacks_136 : decode cX5_sacks 136 = .ok (.iaload, 1) := dk_46 (dk_at dksX5_sacks_5 19 rfl rfl)
theorem dX5_sacks_137 : decode cX5_sacks 137 = .ok (.iastore, 1) := dk_79 (dk_at dksX5_sacks_5 20 rfl rfl)
theorem dX5_sacks_138 : decode cX5_sacks 138 = .ok (.iinc 6 1, 3) := dk_132 6 1 (dk_at dksX5_sacks_5 21 rfl rfl)
theorem dX5_sacks_141 : decode cX5_sacks 141 = .ok (.goto (-41), 3) := dk_167 255 215 (dk_at dksX5_sacks_6 0 rfl rfl)
theorem dX5_sacks_144 : decode cX5_sacks 144 = .ok (.aload_n 0, 1) := dk_42 (dk_at dksX5_sacks_6 3 rfl rfl)
theorem dX5_sacks_145 : decode cX5_sacks 145 = .ok (.invokevirtual 250, 3) := dk_182 0 250 (dk_at dksX5_sacks_6 4 rfl rfl)
theorem dX5_sacks_148 : decode cX5_sacks 148 = .ok (.istore 6, 2) := dk_54 6 (dk_at dksX5_sacks_6 7 rfl rfl)
theorem dX5_sacks_150 : decode cX5_sacks 150 = .ok (.iload_n 3, 1) := dk_29 (dk_at dksX5_sacks_6 9 rfl rfl)
theorem dX5_sacks_151 : decode cX5_sacks 151 = .ok (.iconst (-1), 1) := dk_2 (dk_at dksX5_sacks_6 10 rfl rfl)
theorem dX5_sacks_152 : decode cX5_sacks 152 = .ok (.if_icmp .eq 13, 3) := dk_159 0 13 (dk_at dksX5_sacks_6 11 rfl rfl)
theorem dX5_sacks_155 : decode cX5_sacks 155 = .ok (.iload 6, 2) := dk_21 6 (dk_at dksX5_sacks_6 14 rfl rfl)
theorem dX5_sacks_157 : decode cX5_sacks 157 = .ok (.iload 4, 2) := dk_21 4 (dk_at dksX5_sacks_6 16 rfl rfl)
theorem dX5_sacks_159 : decode cX5_sacks 159 = .ok (.if_icmp .lt 6, 3) := dk_161 0 6 (dk_at dksX5_sacks_6 18 rfl rfl)
theorem dX5_sacks_162 : decode cX5_sacks 162 = .ok (.goto 10, 3) := dk_167 0 10 (dk_at dksX5_sacks_6 21 rfl rfl)
theorem dX5_sacks_165 : decode cX5_sacks 165 = .ok (.iload 5, 2) := dk_21 5 (dk_at dksX5_sacks_7 0 rfl rfl)
theorem dX5_sacks_167 : decode cX5_sacks 167 = .ok (.istore_n 3, 1) := dk_62 (dk_at dksX5_sacks_7 2 rfl rfl)
theorem dX5_sacks_168 : decode cX5_sacks 168 = .ok (.iload 6, 2) := dk_21 6 (dk_at dksX5_sacks_7 3 rfl rfl)
theorem dX5_sacks_170 : decode cX5_sacks 170 = .ok (.istore 4, 2) := dk_54 4 (dk_at dksX5_sacks_7 5 rfl rfl)
theorem dX5_sacks_172 : decode cX5_sacks 172 = .ok (.iinc 5 1, 3) := dk_132 5 1 (dk_at dksX5_sacks_7 7 rfl rfl)
theorem dX5_sacks_175 : decode cX5_sacks 175 = .ok (.goto (-102), 3) := dk_167 255 154 (dk_at dksX5_sacks_7 10 rfl rfl)
theorem dX5_sacks_178 : decode cX5_sacks 178 = .ok (.iconst 0, 1) := dk_3 (dk_at dksX5_sacks_7 13 rfl rfl)
theorem dX5_sacks_179 : decode cX5_sacks 179 = .ok (.istore 5, 2) := dk_54 5 (dk_at dksX5_sacks_7 14 rfl rfl)
theorem dX5_sacks_181 : decode cX5_sacks 181 = .ok (.iload 5, 2) := dk_21 5 (dk_at dksX5_sacks_7 16 rfl rfl)
theorem dX5_sacks_183 : decode cX5_sacks 183 = .ok (.aload_n 0, 1) := dk_42 (dk_at dksX5_sacks_7 18 rfl rfl)
theorem dX5_sacks_184 : decode cX5_sacks 184 = .ok (.getfield 108, 3) := dk_180 0 108 (dk_at dksX5_sacks_7 19 rfl rfl)
theorem dX5_sacks_187 : decode cX5_sacks 187 = .ok (.if_icmp .ge 23, 3) := dk_162 0 23 (dk_at dksX5_sacks_8 0 rfl rfl)
theorem dX5_sacks_190 : decode cX5_sacks 190 = .ok (.aload_n 0, 1) := dk_42 (dk_at dksX5_sacks_8 3 rfl rfl)
theorem dX5_sacks_191 : decode cX5_sacks 191 = .ok (.getfield 44, 3) := dk_180 0 44 (dk_at dksX5_sacks_8 4 rfl rfl)
theorem dX5_sacks_194 : decode cX5_sacks 194 = .ok (.iload 5, 2) := dk_21 5 (dk_at dksX5_sacks_8 7 rfl rfl)
theorem dX5_sacks_196 : decode cX5_sacks 196 = .ok (.aload_n 0, 1) := dk_42 (dk_at dksX5_sacks_8 9 rfl rfl)
theorem dX5_sacks_197 : decode cX5_sacks 197 = .ok (.getfield 102, 3) := dk_180 0 102 (dk_at dksX5_sacks_8 10 rfl rfl)
theorem dX5_sacks_200 : decode cX5_sacks 200 = .ok (.iload 5, 2) := dk_21 5 (dk_at dksX5_sacks_8 13 rfl rfl)
theorem dX5_sacks_202 : decode cX5_sacks 202 = .ok (.iaload, 1) := dk_46 (dk_at dksX5_sacks_8 15 rfl rfl)
theorem dX5_sacks_203 : decode cX5_sacks 203 = .ok (.iastore, 1) := dk_79 (dk_at dksX5_sacks_8 16 rfl rfl)
theorem dX5_sacks_204 : decode cX5_sacks 204 = .ok (.iinc 5 1, 3) := dk_132 5 1 (dk_at dksX5_sacks_8 17 rfl rfl)
theorem dX5_sacks_207 : decode cX5_sacks 207 = .ok (.goto (-26), 3) := dk_167 255 230 (dk_at dksX5_sacks_8 20 rfl rfl)
theorem dX5_sacks_210 : decode cX5_sacks 210 = .ok (.iload_n 2, 1) := dk_28 (dk_at dksX5_sacks_8 23 rfl rfl)
theorem dX5_sacks_211 : decode cX5_sacks 211 = .ok (.ifCond .ne 7, 3) := dk_154 0 7 (dk_at dksX5_sacks_9 0 rfl rfl)
theorem dX5_sacks_214 : decode cX5_sacks 214 = .ok (.iload_n 3, 1) := dk_29 (dk_at dksX5_sacks_9 3 rfl rfl)
theorem dX5_sacks_215 : decode cX5_sacks 215 = .ok (.goto 5, 3) := dk_167 0 5 (dk_at dksX5_sacks_9 4 rfl rfl)
theorem dX5_sacks_218 : decode cX5_sacks 218 = .ok (.iload 4, 2) := dk_21 4 (dk_at dksX5_sacks_9 7 rfl rfl)
theorem dX5_sacks_220 : decode cX5_sacks 220 = .ok (.ireturn, 1) := dk_172 (dk_at dksX5_sacks_9 9 rfl rfl)
abbrev cX5_allDuties : ByteArray := prog_22_method_49_code
def yX5_allDuties : MethodName := ⟨RX5, "allDuties", "()I"⟩
def dkwX5_allDuties_1 : List UInt8 := [167, 255, 237, 27, 172]
abbrev dktX5_allDuties_1 : List UInt8 := dkwX5_allDuties_1 ++ []
def dkwX5_allDuties_0 : List UInt8 := [3, 60, 3, 61, 28, 42, 180, 0, 108, 162, 0, 17, 27, 42, 28, 182, 0, 227, 96, 60, 132, 2, 1]
abbrev dktX5_allDuties_0 : List UInt8 := dkwX5_allDuties_0 ++ dktX5_allDuties_1
theorem dksX5_allDuties_0 : cX5_allDuties.data.toList.drop 0 = dktX5_allDuties_0 := by decide +kernel
theorem dksX5_allDuties_1 : cX5_allDuties.data.toList.drop 23 = dktX5_allDuties_1 := dk_seg dksX5_allDuties_0 23 rfl rfl
theorem dX5_allDuties_0 : decode cX5_allDuties 0 = .ok (.iconst 0, 1) := dk_3 (dk_at dksX5_allDuties_0 0 rfl rfl)
theorem dX5_allDuties_1 : decode cX5_allDuties 1 = .ok (.istore_n 1, 1) := dk_60 (dk_at dksX5_allDuties_0 1 rfl rfl)
theorem dX5_allDuties_2 : decode cX5_allDuties 2 = .ok (.iconst 0, 1) := dk_3 (dk_at dksX5_allDuties_0 2 rfl rfl)
theorem dX5_allDuties_3 : decode cX5_allDuties 3 = .ok (.istore_n 2, 1) := dk_61 (dk_at dksX5_allDuties_0 3 rfl rfl)
theorem dX5_allDuties_4 : decode cX5_allDuties 4 = .ok (.iload_n 2, 1) := dk_28 (dk_at dksX5_allDuties_0 4 rfl rfl)
theorem dX5_allDuties_5 : decode cX5_allDuties 5 = .ok (.aload_n 0, 1) := dk_42 (dk_at dksX5_allDuties_0 5 rfl rfl)
theorem dX5_allDuties_6 : decode cX5_allDuties 6 = .ok (.getfield 108, 3) := dk_180 0 108 (dk_at dksX5_allDuties_0 6 rfl rfl)
theorem dX5_allDuties_9 : decode cX5_allDuties 9 = .ok (.if_icmp .ge 17, 3) := dk_162 0 17 (dk_at dksX5_allDuties_0 9 rfl rfl)
theorem dX5_allDuties_12 : decode cX5_allDuties 12 = .ok (.iload_n 1, 1) := dk_27 (dk_at dksX5_allDuties_0 12 rfl rfl)
theorem dX5_allDuties_13 : decode cX5_allDuties 13 = .ok (.aload_n 0, 1) := dk_42 (dk_at dksX5_allDuties_0 13 rfl rfl)
theorem dX5_allDuties_14 : decode cX5_allDuties 14 = .ok (.iload_n 2, 1) := dk_28 (dk_at dksX5_allDuties_0 14 rfl rfl)
theorem dX5_allDuties_15 : decode cX5_allDuties 15 = .ok (.invokevirtual 227, 3) := dk_182 0 227 (dk_at dksX5_allDuties_0 15 rfl rfl)
theorem dX5_allDuties_18 : decode cX5_allDuties 18 = .ok (.iadd, 1) := dk_96 (dk_at dksX5_allDuties_0 18 rfl rfl)
theorem dX5_allDuties_19 : decode cX5_allDuties 19 = .ok (.istore_n 1, 1) := dk_60 (dk_at dksX5_allDuties_0 19 rfl rfl)
theorem dX5_allDuties_20 : decode cX5_allDuties 20 = .ok (.iinc 2 1, 3) := dk_132 2 1 (dk_at dksX5_allDuties_0 20 rfl rfl)
theorem dX5_allDuties_23 : decode cX5_allDuties 23 = .ok (.goto (-19), 3) := dk_167 255 237 (dk_at dksX5_allDuties_1 0 rfl rfl)
theorem dX5_allDuties_26 : decode cX5_allDuties 26 = .ok (.iload_n 1, 1) := dk_27 (dk_at dksX5_allDuties_1 3 rfl rfl)
theorem dX5_allDuties_27 : decode cX5_allDuties 27 = .ok (.ireturn, 1) := dk_172 (dk_at dksX5_allDuties_1 4 rfl rfl)
abbrev cX5_balconies : ByteArray := prog_22_method_62_code
def yX5_balconies : MethodName := ⟨RX5, "balconies", "(I)I"⟩
def dkwX5_balconies_3 : List UInt8 := [21, 4, 61, 21, 6, 62, 132, 4, 1, 167, 255, 199, 27, 154, 0, 7, 28, 167, 0, 4, 29, 172]
abbrev dktX5_balconies_3 : List UInt8 := dkwX5_balconies_3 ++ []
def dkwX5_balconies_2 : List UInt8 := [42, 182, 0, 253, 54, 6, 42, 180, 0, 50, 21, 4, 21, 5, 79, 21, 6, 29, 163, 0, 6, 167, 0, 9]
abbrev dktX5_balconies_2 : List UInt8 := dkwX5_balconies_2 ++ dktX5_balconies_3
def dkwX5_balconies_1 : List UInt8 := [21, 4, 16, 36, 162, 0, 56, 42, 180, 0, 50, 21, 4, 46, 54, 5, 42, 180, 0, 50, 21, 4, 4, 79]
abbrev dktX5_balconies_1 : List UInt8 := dkwX5_balconies_1 ++ dktX5_balconies_2
def dkwX5_balconies_0 : List UInt8 := [27, 155, 0, 8, 27, 4, 164, 0, 10, 42, 16, 251, 182, 0, 115, 172, 2, 61, 2, 62, 3, 54, 4]
abbrev dktX5_balconies_0 : List UInt8 := dkwX5_balconies_0 ++ dktX5_balconies_1
theorem dksX5_balconies_0 : cX5_balconies.data.toList.drop 0 = dktX5_balconies_0 := by decide +kernel
theorem dksX5_balconies_1 : cX5_balconies.data.toList.drop 23 = dktX5_balconies_1 := dk_seg dksX5_balconies_0 23 rfl rfl
theorem dksX5_balconies_2 : cX5_balconies.data.toList.drop 47 = dktX5_balconies_2 := dk_seg dksX5_balconies_1 24 rfl rfl
theorem dksX5_balconies_3 : cX5_balconies.data.toList.drop 71 = dktX5_balconies_3 := dk_seg dksX5_balconies_2 24 rfl rfl
theorem dX5_balconies_0 : decode cX5_balconies 0 = .ok (.iload_n 1, 1) := dk_27 (dk_at dksX5_balconies_0 0 rfl rfl)
theorem dX5_balconies_1 : decode cX5_balconies 1 = .ok (.ifCond .lt 8, 3) := dk_155 0 8 (dk_at dksX5_balconies_0 1 rfl rfl)
theorem dX5_balconies_4 : decode cX5_balconies 4 = .ok (.iload_n 1, 1) := dk_27 (dk_at dksX5_balconies_0 4 rfl rfl)
theorem dX5_balconies_5 : decode cX5_balconies 5 = .ok (.iconst 1, 1) := dk_4 (dk_at dksX5_balconies_0 5 rfl rfl)
theorem dX5_balconies_6 : decode cX5_balconies 6 = .ok (.if_icmp .le 10, 3) := dk_164 0 10 (dk_at dksX5_balconies_0 6 rfl rfl)
theorem dX5_balconies_9 : decode cX5_balconies 9 = .ok (.aload_n 0, 1) := dk_42 (dk_at dksX5_balconies_0 9 rfl rfl)
theorem dX5_balconies_10 : decode cX5_balconies 10 = .ok (.bipush (-5), 2) := dk_16 251 (dk_at dksX5_balconies_0 10 rfl rfl)
theorem dX5_balconies_12 : decode cX5_balconies 12 = .ok (.invokevirtual 115, 3) := dk_182 0 115 (dk_at dksX5_balconies_0 12 rfl rfl)
theorem dX5_balconies_15 : decode cX5_balconies 15 = .ok (.ireturn, 1) := dk_172 (dk_at dksX5_balconies_0 15 rfl rfl)
theorem dX5_balconies_16 : decode cX5_balconies 16 = .ok (.iconst (-1), 1) := dk_2 (dk_at dksX5_balconies_0 16 rfl rfl)
theorem dX5_balconies_17 : decode cX5_balconies 17 = .ok (.istore_n 2, 1) := dk_61 (dk_at dksX5_balconies_0 17 rfl rfl)
theorem dX5_balconies_18 : decode cX5_balconies 18 = .ok (.iconst (-1), 1) := dk_2 (dk_at dksX5_balconies_0 18 rfl rfl)
theorem dX5_balconies_19 : decode cX5_balconies 19 = .ok (.istore_n 3, 1) := dk_62 (dk_at dksX5_balconies_0 19 rfl rfl)
theorem dX5_balconies_20 : decode cX5_balconies 20 = .ok (.iconst 0, 1) := dk_3 (dk_at dksX5_balconies_0 20 rfl rfl)
theorem dX5_balconies_21 : decode cX5_balconies 21 = .ok (.istore 4, 2) := dk_54 4 (dk_at dksX5_balconies_0 21 rfl rfl)
theorem dX5_balconies_23 : decode cX5_balconies 23 = .ok (.iload 4, 2) := dk_21 4 (dk_at dksX5_balconies_1 0 rfl rfl)
theorem dX5_balconies_25 : decode cX5_balconies 25 = .ok (.bipush 36, 2) := dk_16 36 (dk_at dksX5_balconies_1 2 rfl rfl)
theorem dX5_balconies_27 : decode cX5_balconies 27 = .ok (.if_icmp .ge 56, 3) := dk_162 0 56 (dk_at dksX5_balconies_1 4 rfl rfl)
theorem dX5_balconies_30 : decode cX5_balconies 30 = .ok (.aload_n 0, 1) := dk_42 (dk_at dksX5_balconies_1 7 rfl rfl)
theorem dX5_balconies_31 : decode cX5_balconies 31 = .ok (.getfield 50, 3) := dk_180 0 50 (dk_at dksX5_balconies_1 8 rfl rfl)
theorem dX5_balconies_34 : decode cX5_balconies 34 = .ok (.iload 4, 2) := dk_21 4 (dk_at dksX5_balconies_1 11 rfl rfl)
theorem dX5_balconies_36 : decode cX5_balconies 36 = .ok (.iaload, 1) := dk_46 (dk_at dksX5_balconies_1 13 rfl rfl)
theorem dX5_balconies_37 : decode cX5_balconies 37 = .ok (.istore 5, 2) := dk_54 5 (dk_at dksX5_balconies_1 14 rfl rfl)
theorem dX5_balconies_39 : decode cX5_balconies 39 = .ok (.aload_n 0, 1) := dk_42 (dk_at dksX5_balconies_1 16 rfl rfl)
theorem dX5_balconies_40 : decode cX5_balconies 40 = .ok (.getfield 50, 3) := dk_180 0 50 (dk_at dksX5_balconies_1 17 rfl rfl)
theorem dX5_balconies_43 : decode cX5_balconies 43 = .ok (.iload 4, 2) := dk_21 4 (dk_at dksX5_balconies_1 20 rfl rfl)
theorem dX5_balconies_45 : decode cX5_balconies 45 = .ok (.iconst 1, 1) := dk_4 (dk_at dksX5_balconies_1 22 rfl rfl)
theorem dX5_balconies_46 : decode cX5_balconies 46 = .ok (.iastore, 1) := dk_79 (dk_at dksX5_balconies_1 23 rfl rfl)
theorem dX5_balconies_47 : decode cX5_balconies 47 = .ok (.aload_n 0, 1) := dk_42 (dk_at dksX5_balconies_2 0 rfl rfl)
theorem dX5_balconies_48 : decode cX5_balconies 48 = .ok (.invokevirtual 253, 3) := dk_182 0 253 (dk_at dksX5_balconies_2 1 rfl rfl)
theorem dX5_balconies_51 : decode cX5_balconies 51 = .ok (.istore 6, 2) := dk_54 6 (dk_at dksX5_balconies_2 4 rfl rfl)
theorem dX5_balconies_53 : decode cX5_balconies 53 = .ok (.aload_n 0, 1) := dk_42 (dk_at dksX5_balconies_2 6 rfl rfl)
theorem dX5_balconies_54 : decode cX5_balconies 54 = .ok (.getfield 50, 3) := dk_180 0 50 (dk_at dksX5_balconies_2 7 rfl rfl)
theorem dX5_balconies_57 : decode cX5_balconies 57 = .ok (.iload 4, 2) := dk_21 4 (dk_at dksX5_balconies_2 10 rfl rfl)
theorem dX5_balconies_59 : decode cX5_balconies 59 = .ok (.iload 5, 2) := dk_21 5 (dk_at dksX5_balconies_2 12 rfl rfl)
theorem dX5_balconies_61 : decode cX5_balconies 61 = .ok (.iastore, 1) := dk_79 (dk_at dksX5_balconies_2 14 rfl rfl)
theorem dX5_balconies_62 : decode cX5_balconies 62 = .ok (.iload 6, 2) := dk_21 6 (dk_at dksX5_balconies_2 15 rfl rfl)
theorem dX5_balconies_64 : decode cX5_balconies 64 = .ok (.iload_n 3, 1) := dk_29 (dk_at dksX5_balconies_2 17 rfl rfl)
theorem dX5_balconies_65 : decode cX5_balconies 65 = .ok (.if_icmp .gt 6, 3) := dk_163 0 6 (dk_at dksX5_balconies_2 18 rfl rfl)
theorem dX5_balconies_68 : decode cX5_balconies 68 = .ok (.goto 9, 3) := dk_167 0 9 (dk_at dksX5_balconies_2 21 rfl rfl)
theorem dX5_balconies_71 : decode cX5_balconies 71 = .ok (.iload 4, 2) := dk_21 4 (dk_at dksX5_balconies_3 0 rfl rfl)
theorem dX5_balconies_73 : decode cX5_balconies 73 = .ok (.istore_n 2, 1) := dk_61 (dk_at dksX5_balconies_3 2 rfl rfl)
theorem dX5_balconies_74 : decode cX5_balconies 74 = .ok (.iload 6, 2) := dk_21 6 (dk_at dksX5_balconies_3 3 rfl rfl)
theorem dX5_balconies_76 : decode cX5_balconies 76 = .ok (.istore_n 3, 1) := dk_62 (dk_at dksX5_balconies_3 5 rfl rfl)
theorem dX5_balconies_77 : decode cX5_balconies 77 = .ok (.iinc 4 1, 3) := dk_132 4 1 (dk_at dksX5_balconies_3 6 rfl rfl)
theorem dX5_balconies_80 : decode cX5_balconies 80 = .ok (.goto (-57), 3) := dk_167 255 199 (dk_at dksX5_balconies_3 9 rfl rfl)
theorem dX5_balconies_83 : decode cX5_balconies 83 = .ok (.iload_n 1, 1) := dk_27 (dk_at dksX5_balconies_3 12 rfl rfl)
theorem dX5_balconies_84 : decode cX5_balconies 84 = .ok (.ifCond .ne 7, 3) := dk_154 0 7 (dk_at dksX5_balconies_3 13 rfl rfl)
theorem dX5_balconies_87 : decode cX5_balconies 87 = .ok (.iload_n 2, 1) := dk_28 (dk_at dksX5_balconies_3 16 rfl rfl)
theorem dX5_balconies_88 : decode cX5_balconies 88 = .ok (.goto 4, 3) := dk_167 0 4 (dk_at dksX5_balconies_3 17 rfl rfl)
theorem dX5_balconies_91 : decode cX5_balconies 91 = .ok (.iload_n 3, 1) := dk_29 (dk_at dksX5_balconies_3 20 rfl rfl)
theorem dX5_balconies_92 : decode cX5_balconies 92 = .ok (.ireturn, 1) := dk_172 (dk_at dksX5_balconies_3 21 rfl rfl)
abbrev cX5_allEntered : ByteArray := prog_22_method_61_code
def yX5_allEntered : MethodName := ⟨RX5, "allEntered", "()I"⟩
def dkwX5_allEntered_1 : List UInt8 := [153, 0, 15, 27, 42, 42, 28, 182, 0, 221, 182, 0, 224, 96, 60, 132, 2, 1, 167, 255, 220, 27, 172]
abbrev dktX5_allEntered_1 : List UInt8 := dkwX5_allEntered_1 ++ []
def dkwX5_allEntered_0 : List UInt8 := [3, 60, 3, 61, 28, 42, 180, 0, 108, 162, 0, 34, 42, 42, 180, 0, 41, 28, 46, 182, 0, 218]
abbrev dktX5_allEntered_0 : List UInt8 := dkwX5_allEntered_0 ++ dktX5_allEntered_1
theorem dksX5_allEntered_0 : cX5_allEntered.data.toList.drop 0 = dktX5_allEntered_0 := by decide +kernel
theorem dksX5_allEntered_1 : cX5_allEntered.data.toList.drop 22 = dktX5_allEntered_1 := dk_seg dksX5_allEntered_0 22 rfl rfl
theorem dX5_allEntered_0 : decode cX5_allEntered 0 = .ok (.iconst 0, 1) := dk_3 (dk_at dksX5_allEntered_0 0 rfl rfl)
theorem dX5_allEntered_1 : decode cX5_allEntered 1 = .ok (.istore_n 1, 1) := dk_60 (dk_at dksX5_allEntered_0 1 rfl rfl)
theorem dX5_allEntered_2 : decode cX5_allEntered 2 = .ok (.iconst 0, 1) := dk_3 (dk_at dksX5_allEntered_0 2 rfl rfl)
theorem dX5_allEntered_3 : decode cX5_allEntered 3 = .ok (.istore_n 2, 1) := dk_61 (dk_at dksX5_allEntered_0 3 rfl rfl)
theorem dX5_allEntered_4 : decode cX5_allEntered 4 = .ok (.iload_n 2, 1) := dk_28 (dk_at dksX5_allEntered_0 4 rfl rfl)
theorem dX5_allEntered_5 : decode cX5_allEntered 5 = .ok (.aload_n 0, 1) := dk_42 (dk_at dksX5_allEntered_0 5 rfl rfl)
theorem dX5_allEntered_6 : decode cX5_allEntered 6 = .ok (.getfield 108, 3) := dk_180 0 108 (dk_at dksX5_allEntered_0 6 rfl rfl)
theorem dX5_allEntered_9 : decode cX5_allEntered 9 = .ok (.if_icmp .ge 34, 3) := dk_162 0 34 (dk_at dksX5_allEntered_0 9 rfl rfl)
theorem dX5_allEntered_12 : decode cX5_allEntered 12 = .ok (.aload_n 0, 1) := dk_42 (dk_at dksX5_allEntered_0 12 rfl rfl)
theorem dX5_allEntered_13 : decode cX5_allEntered 13 = .ok (.aload_n 0, 1) := dk_42 (dk_at dksX5_allEntered_0 13 rfl rfl)
theorem dX5_allEntered_14 : decode cX5_allEntered 14 = .ok (.getfield 41, 3) := dk_180 0 41 (dk_at dksX5_allEntered_0 14 rfl rfl)
theorem dX5_allEntered_17 : decode cX5_allEntered 17 = .ok (.iload_n 2, 1) := dk_28 (dk_at dksX5_allEntered_0 17 rfl rfl)
theorem dX5_allEntered_18 : decode cX5_allEntered 18 = .ok (.iaload, 1) := dk_46 (dk_at dksX5_allEntered_0 18 rfl rfl)
theorem dX5_allEntered_19 : decode cX5_allEntered 19 = .ok (.invokevirtual 218, 3) := dk_182 0 218 (dk_at dksX5_allEntered_0 19 rfl rfl)
theorem dX5_allEntered_22 : decode cX5_allEntered 22 = .ok (.ifCond .eq 15, 3) := dk_153 0 15 (dk_at dksX5_allEntered_1 0 rfl rfl)
theorem dX5_allEntered_25 : decode cX5_allEntered 25 = .ok (.iload_n 1, 1) := dk_27 (dk_at dksX5_allEntered_1 3 rfl rfl)
theorem dX5_allEntered_26 : decode cX5_allEntered 26 = .ok (.aload_n 0, 1) := dk_42 (dk_at dksX5_allEntered_1 4 rfl rfl)
theorem dX5_allEntered_27 : decode cX5_allEntered 27 = .ok (.aload_n 0, 1) := dk_42 (dk_at dksX5_allEntered_1 5 rfl rfl)
theorem dX5_allEntered_28 : decode cX5_allEntered 28 = .ok (.iload_n 2, 1) := dk_28 (dk_at dksX5_allEntered_1 6 rfl rfl)
theorem dX5_allEntered_29 : decode cX5_allEntered 29 = .ok (.invokevirtual 221, 3) := dk_182 0 221 (dk_at dksX5_allEntered_1 7 rfl rfl)
theorem dX5_allEntered_32 : decode cX5_allEntered 32 = .ok (.invokevirtual 224, 3) := dk_182 0 224 (dk_at dksX5_allEntered_1 10 rfl rfl)
theorem dX5_allEntered_35 : decode cX5_allEntered 35 = .ok (.iadd, 1) := dk_96 (dk_at dksX5_allEntered_1 13 rfl rfl)
theorem dX5_allEntered_36 : decode cX5_allEntered 36 = .ok (.istore_n 1, 1) := dk_60 (dk_at dksX5_allEntered_1 14 rfl rfl)
theorem dX5_allEntered_37 : decode cX5_allEntered 37 = .ok (.iinc 2 1, 3) := dk_132 2 1 (dk_at dksX5_allEntered_1 15 rfl rfl)
theorem dX5_allEntered_40 : decode cX5_allEntered 40 = .ok (.goto (-36), 3) := dk_167 255 220 (dk_at dksX5_allEntered_1 18 rfl rfl)
theorem dX5_allEntered_43 : decode cX5_allEntered 43 = .ok (.iload_n 1, 1) := dk_27 (dk_at dksX5_allEntered_1 21 rfl rfl)
theorem dX5_allEntered_44 : decode cX5_allEntered 44 = .ok (.ireturn, 1) := dk_172 (dk_at dksX5_allEntered_1 22 rfl rfl)
abbrev cX5_fits : ByteArray := prog_22_method_63_code
def yX5_fits : MethodName := ⟨RX5, "fits", "(II)I"⟩
def dkwX5_fits_6 : List UInt8 := [132, 6, 1, 167, 255, 175, 42, 180, 0, 32, 28, 21, 4, 79, 21, 5, 172]
abbrev dktX5_fits_6 : List UInt8 := dkwX5_fits_6 ++ []
def dkwX5_fits_5 : List UInt8 := [54, 7, 132, 8, 1, 167, 255, 216, 21, 7, 153, 0, 12, 21, 5, 4, 21, 6, 120, 96, 54, 5]
abbrev dktX5_fits_5 : List UInt8 := dkwX5_fits_5 ++ dktX5_fits_6
def dkwX5_fits_4 : List UInt8 := [153, 0, 32, 42, 21, 8, 182, 0, 227, 42, 27, 21, 8, 182, 1, 0, 160, 0, 7, 4, 167, 0, 4, 3]
abbrev dktX5_fits_4 : List UInt8 := dkwX5_fits_4 ++ dktX5_fits_5
def dkwX5_fits_3 : List UInt8 := [180, 0, 32, 28, 21, 6, 79, 4, 54, 7, 3, 54, 8, 21, 8, 42, 180, 0, 108, 162, 0, 37, 21, 7]
abbrev dktX5_fits_3 : List UInt8 := dkwX5_fits_3 ++ dktX5_fits_4
def dkwX5_fits_2 : List UInt8 := [172, 42, 180, 0, 32, 28, 46, 54, 4, 3, 54, 5, 3, 54, 6, 21, 6, 16, 20, 163, 0, 80, 42]
abbrev dktX5_fits_2 : List UInt8 := dkwX5_fits_2 ++ dktX5_fits_3
def dkwX5_fits_1 : List UInt8 := [180, 0, 59, 27, 46, 42, 180, 0, 108, 162, 0, 6, 16, 251, 62, 29, 153, 0, 9, 42, 29, 182, 0, 115]
abbrev dktX5_fits_1 : List UInt8 := dkwX5_fits_1 ++ dktX5_fits_2
def dkwX5_fits_0 : List UInt8 := [42, 28, 182, 0, 119, 154, 0, 7, 2, 167, 0, 8, 42, 27, 182, 0, 195, 62, 29, 154, 0, 19, 42]
abbrev dktX5_fits_0 : List UInt8 := dkwX5_fits_0 ++ dktX5_fits_1
theorem dksX5_fits_0 : cX5_fits.data.toList.drop 0 = dktX5_fits_0 := by decide +kernel
theorem dksX5_fits_1 : cX5_fits.data.toList.drop 23 = dktX5_fits_1 := dk_seg dksX5_fits_0 23 rfl rfl
theorem dksX5_fits_2 : cX5_fits.data.toList.drop 47 = dktX5_fits_2 := dk_seg dksX5_fits_1 24 rfl rfl
theorem dksX5_fits_3 : cX5_fits.data.toList.drop 70 = dktX5_fits_3 := dk_seg dksX5_fits_2 23 rfl rfl
theorem dksX5_fits_4 : cX5_fits.data.toList.drop 94 = dktX5_fits_4 := dk_seg dksX5_fits_3 24 rfl rfl
theorem dksX5_fits_5 : cX5_fits.data.toList.drop 118 = dktX5_fits_5 := dk_seg dksX5_fits_4 24 rfl rfl
theorem dksX5_fits_6 : cX5_fits.data.toList.drop 140 = dktX5_fits_6 := dk_seg dksX5_fits_5 22 rfl rfl
theorem dX5_fits_0 : decode cX5_fits 0 = .ok (.aload_n 0, 1) := dk_42 (dk_at dksX5_fits_0 0 rfl rfl)
theorem dX5_fits_1 : decode cX5_fits 1 = .ok (.iload_n 2, 1) := dk_28 (dk_at dksX5_fits_0 1 rfl rfl)
theorem dX5_fits_2 : decode cX5_fits 2 = .ok (.invokevirtual 119, 3) := dk_182 0 119 (dk_at dksX5_fits_0 2 rfl rfl)
theorem dX5_fits_5 : decode cX5_fits 5 = .ok (.ifCond .ne 7, 3) := dk_154 0 7 (dk_at dksX5_fits_0 5 rfl rfl)
theorem dX5_fits_8 : decode cX5_fits 8 = .ok (.iconst (-1), 1) := dk_2 (dk_at dksX5_fits_0 8 rfl rfl)
theorem dX5_fits_9 : decode cX5_fits 9 = .ok (.goto 8, 3) := dk_167 0 8 (dk_at dksX5_fits_0 9 rfl rfl)
theorem dX5_fits_12 : decode cX5_fits 12 = .ok (.aload_n 0, 1) := dk_42 (dk_at dksX5_fits_0 12 rfl rfl)
theorem dX5_fits_13 : decode cX5_fits 13 = .ok (.iload_n 1, 1) := dk_27 (dk_at dksX5_fits_0 13 rfl rfl)
theorem dX5_fits_14 : decode cX5_fits 14 = .ok (.invokevirtual 195, 3) := dk_182 0 195 (dk_at dksX5_fits_0 14 rfl rfl)
theorem dX5_fits_17 : decode cX5_fits 17 = .ok (.istore_n 3, 1) := dk_62 (dk_at dksX5_fits_0 17 rfl rfl)
theorem dX5_fits_18 : decode cX5_fits 18 = .ok (.iload_n 3, 1) := dk_29 (dk_at dksX5_fits_0 18 rfl rfl)
theorem dX5_fits_19 : decode cX5_fits 19 = .ok (.ifCond .ne 19, 3) := dk_154 0 19 (dk_at dksX5_fits_0 19 rfl rfl)
theorem dX5_fits_22 : decode cX5_fits 22 = .ok (.aload_n 0, 1) := dk_42 (dk_at dksX5_fits_0 22 rfl rfl)
theorem dX5_fits_23 : decode cX5_fits 23 = .ok (.getfield 59, 3) := dk_180 0 59 (dk_at dksX5_fits_1 0 rfl rfl)
theorem dX5_fits_26 : decode cX5_fits 26 = .ok (.iload_n 1, 1) := dk_27 (dk_at dksX5_fits_1 3 rfl rfl)
theorem dX5_fits_27 : decode cX5_fits 27 = .ok (.iaload, 1) := dk_46 (dk_at dksX5_fits_1 4 rfl rfl)
theorem dX5_fits_28 : decode cX5_fits 28 = .ok (.aload_n 0, 1) := dk_42 (dk_at dksX5_fits_1 5 rfl rfl)
theorem dX5_fits_29 : decode cX5_fits 29 = .ok (.getfield 108, 3) := dk_180 0 108 (dk_at dksX5_fits_1 6 rfl rfl)
theorem dX5_fits_32 : decode cX5_fits 32 = .ok (.if_icmp .ge 6, 3) := dk_162 0 6 (dk_at dksX5_fits_1 9 rfl rfl)
theorem dX5_fits_35 : decode cX5_fits 35 = .ok (.bipush (-5), 2) := dk_16 251 (dk_at dksX5_fits_1 12 rfl rfl)
theorem dX5_fits_37 : decode cX5_fits 37 = .ok (.istore_n 3, 1) := dk_62 (dk_at dksX5_fits_1 14 rfl rfl)
theorem dX5_fits_38 : decode cX5_fits 38 = .ok (.iload_n 3, 1) := dk_29 (dk_at dksX5_fits_1 15 rfl rfl)
theorem dX5_fits_39 : decode cX5_fits 39 = .ok (.ifCond .eq 9, 3) := dk_153 0 9 (dk_at dksX5_fits_1 16 rfl rfl)
theorem dX5_fits_42 : decode cX5_fits 42 = .ok (.aload_n 0, 1) := dk_42 (dk_at dksX5_fits_1 19 rfl rfl)
theorem dX5_fits_43 : decode cX5_fits 43 = .ok (.iload_n 3, 1) := dk_29 (dk_at dksX5_fits_1 20 rfl rfl)
theorem dX5_fits_44 : decode cX5_fits 44 = .ok (.invokevirtual 115, 3) := dk_182 0 115 (dk_at dksX5_fits_1 21 rfl rfl)
theorem dX5_fits_47 : decode cX5_fits 47 = .ok (.ireturn, 1) := dk_172 (dk_at dksX5_fits_2 0 rfl rfl)
theorem dX5_fits_48 : decode cX5_fits 48 = .ok (.aload_n 0, 1) := dk_42 (dk_at dksX5_fits_2 1 rfl rfl)
theorem dX5_fits_49 : decode cX5_fits 49 = .ok (.getfield 32, 3) := dk_180 0 32 (dk_at dksX5_fits_2 2 rfl rfl)
theorem dX5_fits_52 : decode cX5_fits 52 = .ok (.iload_n 2, 1) := dk_28 (dk_at dksX5_fits_2 5 rfl rfl)
theorem dX5_fits_53 : decode cX5_fits 53 = .ok (.iaload, 1) := dk_46 (dk_at dksX5_fits_2 6 rfl rfl)
theorem dX5_fits_54 : decode cX5_fits 54 = .ok (.istore 4, 2) := dk_54 4 (dk_at dksX5_fits_2 7 rfl rfl)
theorem dX5_fits_56 : decode cX5_fits 56 = .ok (.iconst 0, 1) := dk_3 (dk_at dksX5_fits_2 9 rfl rfl)
theorem dX5_fits_57 : decode cX5_fits 57 = .ok (.istore 5, 2) := dk_54 5 (dk_at dksX5_fits_2 10 rfl rfl)
theorem dX5_fits_59 : decode cX5_fits 59 = .ok (.iconst 0, 1) := dk_3 (dk_at dksX5_fits_2 12 rfl rfl)
theorem dX5_fits_60 : decode cX5_fits 60 = .ok (.istore 6, 2) := dk_54 6 (dk_at dksX5_fits_2 13 rfl rfl)
theorem dX5_fits_62 : decode cX5_fits 62 = .ok (.iload 6, 2) := dk_21 6 (dk_at dksX5_fits_2 15 rfl rfl)
theorem dX5_fits_64 : decode cX5_fits 64 = .ok (.bipush 20, 2) := dk_16 20 (dk_at dksX5_fits_2 17 rfl rfl)
theorem dX5_fits_66 : decode cX5_fits 66 = .ok (.if_icmp .gt 80, 3) := dk_163 0 80 (dk_at dksX5_fits_2 19 rfl rfl)
theorem dX5_fits_69 : decode cX5_fits 69 = .ok (.aload_n 0, 1) := dk_42 (dk_at dksX5_fits_2 22 rfl rfl)
theorem dX5_fits_70 : decode cX5_fits 70 = .ok (.getfield 32, 3) := dk_180 0 32 (dk_at dksX5_fits_3 0 rfl rfl)
theorem dX5_fits_73 : decode cX5_fits 73 = .ok (.iload_n 2, 1) := dk_28 (dk_at dksX5_fits_3 3 rfl rfl)
theorem dX5_fits_74 : decode cX5_fits 74 = .ok (.iload 6, 2) := dk_21 6 (dk_at dksX5_fits_3 4 rfl rfl)
theorem dX5_fits_76 : decode cX5_fits 76 = .ok (.iastore, 1) := dk_79 (dk_at dksX5_fits_3 6 rfl rfl)
theorem dX5_fits_77 : decode cX5_fits 77 = .ok (.iconst 1, 1) := dk_4 (dk_at dksX5_fits_3 7 rfl rfl)
theorem dX5_fits_78 : decode cX5_fits 78 = .ok (.istore 7, 2) := dk_54 7 (dk_at dksX5_fits_3 8 rfl rfl)
theorem dX5_fits_80 : decode cX5_fits 80 = .ok (.iconst 0, 1) := dk_3 (dk_at dksX5_fits_3 10 rfl rfl)
theorem dX5_fits_81 : decode cX5_fits 81 = .ok (.istore 8, 2) := dk_54 8 (dk_at dksX5_fits_3 11 rfl rfl)
theorem dX5_fits_83 : decode cX5_fits 83 = .ok (.iload 8, 2) := dk_21 8 (dk_at dksX5_fits_3 13 rfl rfl)
theorem dX5_fits_85 : decode cX5_fits 85 = .ok (.aload_n 0, 1) := dk_42 (dk_at dksX5_fits_3 15 rfl rfl)
theorem dX5_fits_86 : decode cX5_fits 86 = .ok (.getfield 108, 3) := dk_180 0 108 (dk_at dksX5_fits_3 16 rfl rfl)
theorem dX5_fits_89 : decode cX5_fits 89 = .ok (.if_icmp .ge 37, 3) := dk_162 0 37 (dk_at dksX5_fits_3 19 rfl rfl)
theorem dX5_fits_92 : decode cX5_fits 92 = .ok (.iload 7, 2) := dk_21 7 (dk_at dksX5_fits_3 22 rfl rfl)
theorem dX5_fits_94 : decode cX5_fits 94 = .ok (.ifCond .eq 32, 3) := dk_153 0 32 (dk_at dksX5_fits_4 0 rfl rfl)
theorem dX5_fits_97 : decode cX5_fits 97 = .ok (.aload_n 0, 1) := dk_42 (dk_at dksX5_fits_4 3 rfl rfl)
theorem dX5_fits_98 : decode cX5_fits 98 = .ok (.iload 8, 2) := dk_21 8 (dk_at dksX5_fits_4 4 rfl rfl)
theorem dX5_fits_100 : decode cX5_fits 100 = .ok (.invokevirtual 227, 3) := dk_182 0 227 (dk_at dksX5_fits_4 6 rfl rfl)
theorem dX5_fits_103 : decode cX5_fits 103 = .ok (.aload_n 0, 1) := dk_42 (dk_at dksX5_fits_4 9 rfl rfl)
theorem dX5_fits_104 : decode cX5_fits 104 = .ok (.iload_n 1, 1) := dk_27 (dk_at dksX5_fits_4 10 rfl rfl)
theorem dX5_fits_105 : decode cX5_fits 105 = .ok (.iload 8, 2) := dk_21 8 (dk_at dksX5_fits_4 11 rfl rfl)
theorem dX5_fits_107 : decode cX5_fits 107 = .ok (.invokevirtual 256, 3) := dk_182 1 0 (dk_at dksX5_fits_4 13 rfl rfl)
theorem dX5_fits_110 : decode cX5_fits 110 = .ok (.if_icmp .ne 7, 3) := dk_160 0 7 (dk_at dksX5_fits_4 16 rfl rfl)
theorem dX5_fits_113 : decode cX5_fits 113 = .ok (.iconst 1, 1) := dk_4 (dk_at dksX5_fits_4 19 rfl rfl)
theorem dX5_fits_114 : decode cX5_fits 114 = .ok (.goto 4, 3) := dk_167 0 4 (dk_at dksX5_fits_4 20 rfl rfl)
theorem dX5_fits_117 : decode cX5_fits 117 = .ok (.iconst 0, 1) := dk_3 (dk_at dksX5_fits_4 23 rfl rfl)
theorem dX5_fits_118 : decode cX5_fits 118 = .ok (.istore 7, 2) := dk_54 7 (dk_at dksX5_fits_5 0 rfl rfl)
theorem dX5_fits_120 : decode cX5_fits 120 = .ok (.iinc 8 1, 3) := dk_132 8 1 (dk_at dksX5_fits_5 2 rfl rfl)
theorem dX5_fits_123 : decode cX5_fits 123 = .ok (.goto (-40), 3) := dk_167 255 216 (dk_at dksX5_fits_5 5 rfl rfl)
theorem dX5_fits_126 : decode cX5_fits 126 = .ok (.iload 7, 2) := dk_21 7 (dk_at dksX5_fits_5 8 rfl rfl)
theorem dX5_fits_128 : decode cX5_fits 128 = .ok (.ifCond .eq 12, 3) := dk_153 0 12 (dk_at dksX5_fits_5 10 rfl rfl)
theorem dX5_fits_131 : decode cX5_fits 131 = .ok (.iload 5, 2) := dk_21 5 (dk_at dksX5_fits_5 13 rfl rfl)
theorem dX5_fits_133 : decode cX5_fits 133 = .ok (.iconst 1, 1) := dk_4 (dk_at dksX5_fits_5 15 rfl rfl)
theorem dX5_fits_134 : decode cX5_fits 134 = .ok (.iload 6, 2) := dk_21 6 (dk_at dksX5_fits_5 16 rfl rfl)
theorem dX5_fits_136 : decode cX5_fits 136 = .ok (.ishl, 1) := dk_120 (dk_at dksX5_fits_5 18 rfl rfl)
theorem dX5_fits_137 : decode cX5_fits 137 = .ok (.iadd, 1) := dk_96 (dk_at dksX5_fits_5 19 rfl rfl)
theorem dX5_fits_138 : decode cX5_fits 138 = .ok (.istore 5, 2) := dk_54 5 (dk_at dksX5_fits_5 20 rfl rfl)
theorem dX5_fits_140 : decode cX5_fits 140 = .ok (.iinc 6 1, 3) := dk_132 6 1 (dk_at dksX5_fits_6 0 rfl rfl)
theorem dX5_fits_143 : decode cX5_fits 143 = .ok (.goto (-81), 3) := dk_167 255 175 (dk_at dksX5_fits_6 3 rfl rfl)
theorem dX5_fits_146 : decode cX5_fits 146 = .ok (.aload_n 0, 1) := dk_42 (dk_at dksX5_fits_6 6 rfl rfl)
theorem dX5_fits_147 : decode cX5_fits 147 = .ok (.getfield 32, 3) := dk_180 0 32 (dk_at dksX5_fits_6 7 rfl rfl)
theorem dX5_fits_150 : decode cX5_fits 150 = .ok (.iload_n 2, 1) := dk_28 (dk_at dksX5_fits_6 10 rfl rfl)
theorem dX5_fits_151 : decode cX5_fits 151 = .ok (.iload 4, 2) := dk_21 4 (dk_at dksX5_fits_6 11 rfl rfl)
theorem dX5_fits_153 : decode cX5_fits 153 = .ok (.iastore, 1) := dk_79 (dk_at dksX5_fits_6 13 rfl rfl)
theorem dX5_fits_154 : decode cX5_fits 154 = .ok (.iload 5, 2) := dk_21 5 (dk_at dksX5_fits_6 14 rfl rfl)
theorem dX5_fits_156 : decode cX5_fits 156 = .ok (.ireturn, 1) := dk_172 (dk_at dksX5_fits_6 16 rfl rfl)
abbrev cX5_intAt : ByteArray := prog_22_method_16_code
def yX5_intAt : MethodName := ⟨RX5, "intAt", "(II)I"⟩
def dkwX5_intAt_0 : List UInt8 := [42, 180, 0, 65, 17, 0, 160, 27, 104, 28, 96, 47, 136, 172]
abbrev dktX5_intAt_0 : List UInt8 := dkwX5_intAt_0 ++ []
theorem dksX5_intAt_0 : cX5_intAt.data.toList.drop 0 = dktX5_intAt_0 := by decide +kernel
theorem dX5_intAt_0 : decode cX5_intAt 0 = .ok (.aload_n 0, 1) := dk_42 (dk_at dksX5_intAt_0 0 rfl rfl)
theorem dX5_intAt_1 : decode cX5_intAt 1 = .ok (.getfield 65, 3) := dk_180 0 65 (dk_at dksX5_intAt_0 1 rfl rfl)
theorem dX5_intAt_4 : decode cX5_intAt 4 = .ok (.sipush 160, 3) := dk_17 0 160 (dk_at dksX5_intAt_0 4 rfl rfl)
theorem dX5_intAt_7 : decode cX5_intAt 7 = .ok (.iload_n 1, 1) := dk_27 (dk_at dksX5_intAt_0 7 rfl rfl)
theorem dX5_intAt_8 : decode cX5_intAt 8 = .ok (.imul, 1) := dk_104 (dk_at dksX5_intAt_0 8 rfl rfl)
theorem dX5_intAt_9 : decode cX5_intAt 9 = .ok (.iload_n 2, 1) := dk_28 (dk_at dksX5_intAt_0 9 rfl rfl)
theorem dX5_intAt_10 : decode cX5_intAt 10 = .ok (.iadd, 1) := dk_96 (dk_at dksX5_intAt_0 10 rfl rfl)
theorem dX5_intAt_11 : decode cX5_intAt 11 = .ok (.laload, 1) := dk_47 (dk_at dksX5_intAt_0 11 rfl rfl)
theorem dX5_intAt_12 : decode cX5_intAt 12 = .ok (.l2i, 1) := dk_136 (dk_at dksX5_intAt_0 12 rfl rfl)
theorem dX5_intAt_13 : decode cX5_intAt 13 = .ok (.ireturn, 1) := dk_172 (dk_at dksX5_intAt_0 13 rfl rfl)
abbrev cX5_most : ByteArray := prog_22_method_65_code
def yX5_most : MethodName := ⟨RX5, "most", "(I)I"⟩
def dkwX5_most_2 : List UInt8 := [182, 0, 227, 42, 28, 182, 0, 227, 164, 0, 5, 29, 61, 132, 3, 1, 167, 255, 230, 28, 172]
abbrev dktX5_most_2 : List UInt8 := dkwX5_most_2 ++ []
def dkwX5_most_1 : List UInt8 := [4, 160, 0, 8, 42, 182, 1, 3, 172, 3, 61, 4, 62, 29, 42, 180, 0, 108, 162, 0, 24, 42, 29]
abbrev dktX5_most_1 : List UInt8 := dkwX5_most_1 ++ dktX5_most_2
def dkwX5_most_0 : List UInt8 := [42, 180, 0, 108, 153, 0, 12, 27, 155, 0, 8, 27, 4, 164, 0, 10, 42, 16, 251, 182, 0, 115, 172, 27]
abbrev dktX5_most_0 : List UInt8 := dkwX5_most_0 ++ dktX5_most_1
theorem dksX5_most_0 : cX5_most.data.toList.drop 0 = dktX5_most_0 := by decide +kernel
theorem dksX5_most_1 : cX5_most.data.toList.drop 24 = dktX5_most_1 := dk_seg dksX5_most_0 24 rfl rfl
theorem dksX5_most_2 : cX5_most.data.toList.drop 47 = dktX5_most_2 := dk_seg dksX5_most_1 23 rfl rfl
theorem dX5_most_0 : decode cX5_most 0 = .ok (.aload_n 0, 1) := dk_42 (dk_at dksX5_most_0 0 rfl rfl)
theorem dX5_most_1 : decode cX5_most 1 = .ok (.getfield 108, 3) := dk_180 0 108 (dk_at dksX5_most_0 1 rfl rfl)
theorem dX5_most_4 : decode cX5_most 4 = .ok (.ifCond .eq 12, 3) := dk_153 0 12 (dk_at dksX5_most_0 4 rfl rfl)
theorem dX5_most_7 : decode cX5_most 7 = .ok (.iload_n 1, 1) := dk_27 (dk_at dksX5_most_0 7 rfl rfl)
theorem dX5_most_8 : decode cX5_most 8 = .ok (.ifCond .lt 8, 3) := dk_155 0 8 (dk_at dksX5_most_0 8 rfl rfl)
theorem dX5_most_11 : decode cX5_most 11 = .ok (.iload_n 1, 1) := dk_27 (dk_at dksX5_most_0 11 rfl rfl)
theorem dX5_most_12 : decode cX5_most 12 = .ok (.iconst 1, 1) := dk_4 (dk_at dksX5_most_0 12 rfl rfl)
theorem dX5_most_13 : decode cX5_most 13 = .ok (.if_icmp .le 10, 3) := dk_164 0 10 (dk_at dksX5_most_0 13 rfl rfl)
theorem dX5_most_16 : decode cX5_most 16 = .ok (.aload_n 0, 1) := dk_42 (dk_at dksX5_most_0 16 rfl rfl)
theorem dX5_most_17 : decode cX5_most 17 = .ok (.bipush (-5), 2) := dk_16 251 (dk_at dksX5_most_0 17 rfl rfl)
theorem dX5_most_19 : decode cX5_most 19 = .ok (.invokevirtual 115, 3) := dk_182 0 115 (dk_at dksX5_most_0 19 rfl rfl)
theorem dX5_most_22 : decode cX5_most 22 = .ok (.ireturn, 1) := dk_172 (dk_at dksX5_most_0 22 rfl rfl)
theorem dX5_most_23 : decode cX5_most 23 = .ok (.iload_n 1, 1) := dk_27 (dk_at dksX5_most_0 23 rfl rfl)
theorem dX5_most_24 : decode cX5_most 24 = .ok (.iconst 1, 1) := dk_4 (dk_at dksX5_most_1 0 rfl rfl)
theorem dX5_most_25 : decode cX5_most 25 = .ok (.if_icmp .ne 8, 3) := dk_160 0 8 (dk_at dksX5_most_1 1 rfl rfl)
theorem dX5_most_28 : decode cX5_most 28 = .ok (.aload_n 0, 1) := dk_42 (dk_at dksX5_most_1 4 rfl rfl)
theorem dX5_most_29 : decode cX5_most 29 = .ok (.invokevirtual 259, 3) := dk_182 1 3 (dk_at dksX5_most_1 5 rfl rfl)
theorem dX5_most_32 : decode cX5_most 32 = .ok (.ireturn, 1) := dk_172 (dk_at dksX5_most_1 8 rfl rfl)
theorem dX5_most_33 : decode cX5_most 33 = .ok (.iconst 0, 1) := dk_3 (dk_at dksX5_most_1 9 rfl rfl)
theorem dX5_most_34 : decode cX5_most 34 = .ok (.istore_n 2, 1) := dk_61 (dk_at dksX5_most_1 10 rfl rfl)
theorem dX5_most_35 : decode cX5_most 35 = .ok (.iconst 1, 1) := dk_4 (dk_at dksX5_most_1 11 rfl rfl)
theorem dX5_most_36 : decode cX5_most 36 = .ok (.istore_n 3, 1) := dk_62 (dk_at dksX5_most_1 12 rfl rfl)
theorem dX5_most_37 : decode cX5_most 37 = .ok (.iload_n 3, 1) := dk_29 (dk_at dksX5_most_1 13 rfl rfl)
theorem dX5_most_38 : decode cX5_most 38 = .ok (.aload_n 0, 1) := dk_42 (dk_at dksX5_most_1 14 rfl rfl)
theorem dX5_most_39 : decode cX5_most 39 = .ok (.getfield 108, 3) := dk_180 0 108 (dk_at dksX5_most_1 15 rfl rfl)
theorem dX5_most_42 : decode cX5_most 42 = .ok (.if_icmp .ge 24, 3) := dk_162 0 24 (dk_at dksX5_most_1 18 rfl rfl)
theorem dX5_most_45 : decode cX5_most 45 = .ok (.aload_n 0, 1) := dk_42 (dk_at dksX5_most_1 21 rfl rfl)
theorem dX5_most_46 : decode cX5_most 46 = .ok (.iload_n 3, 1) := dk_29 (dk_at dksX5_most_1 22 rfl rfl)
theorem dX5_most_47 : decode cX5_most 47 = .ok (.invokevirtual 227, 3) := dk_182 0 227 (dk_at dksX5_most_2 0 rfl rfl)
theorem dX5_most_50 : decode cX5_most 50 = .ok (.aload_n 0, 1) := dk_42 (dk_at dksX5_most_2 3 rfl rfl)
theorem dX5_most_51 : decode cX5_most 51 = .ok (.iload_n 2, 1) := dk_28 (dk_at dksX5_most_2 4 rfl rfl)
theorem dX5_most_52 : decode cX5_most 52 = .ok (.invokevirtual 227, 3) := dk_182 0 227 (dk_at dksX5_most_2 5 rfl rfl)
theorem dX5_most_55 : decode cX5_most 55 = .ok (.if_icmp .le 5, 3) := dk_164 0 5 (dk_at dksX5_most_2 8 rfl rfl)
theorem dX5_most_58 : decode cX5_most 58 = .ok (.iload_n 3, 1) := dk_29 (dk_at dksX5_most_2 11 rfl rfl)
theorem dX5_most_59 : decode cX5_most 59 = .ok (.istore_n 2, 1) := dk_61 (dk_at dksX5_most_2 12 rfl rfl)
theorem dX5_most_60 : decode cX5_most 60 = .ok (.iinc 3 1, 3) := dk_132 3 1 (dk_at dksX5_most_2 13 rfl rfl)
theorem dX5_most_63 : decode cX5_most 63 = .ok (.goto (-26), 3) := dk_167 255 230 (dk_at dksX5_most_2 16 rfl rfl)
theorem dX5_most_66 : decode cX5_most 66 = .ok (.iload_n 2, 1) := dk_28 (dk_at dksX5_most_2 19 rfl rfl)
theorem dX5_most_67 : decode cX5_most 67 = .ok (.ireturn, 1) := dk_172 (dk_at dksX5_most_2 20 rfl rfl)
abbrev cX5_without : ByteArray := prog_22_method_64_code
def yX5_without : MethodName := ⟨RX5, "without", "()I"⟩
def dkwX5_without_2 : List UInt8 := [167, 255, 215, 42, 2, 181, 0, 93, 27, 172]
abbrev dktX5_without_2 : List UInt8 := dkwX5_without_2 ++ []
def dkwX5_without_1 : List UInt8 := [54, 4, 27, 2, 159, 0, 12, 21, 4, 28, 161, 0, 6, 167, 0, 8, 29, 60, 21, 4, 61, 132, 3, 1]
abbrev dktX5_without_1 : List UInt8 := dkwX5_without_1 ++ dktX5_without_2
def dkwX5_without_0 : List UInt8 := [2, 60, 2, 61, 3, 62, 29, 42, 180, 0, 108, 162, 0, 39, 42, 29, 181, 0, 93, 42, 182, 0, 250]
abbrev dktX5_without_0 : List UInt8 := dkwX5_without_0 ++ dktX5_without_1
theorem dksX5_without_0 : cX5_without.data.toList.drop 0 = dktX5_without_0 := by decide +kernel
theorem dksX5_without_1 : cX5_without.data.toList.drop 23 = dktX5_without_1 := dk_seg dksX5_without_0 23 rfl rfl
theorem dksX5_without_2 : cX5_without.data.toList.drop 47 = dktX5_without_2 := dk_seg dksX5_without_1 24 rfl rfl
theorem dX5_without_0 : decode cX5_without 0 = .ok (.iconst (-1), 1) := dk_2 (dk_at dksX5_without_0 0 rfl rfl)
theorem dX5_without_1 : decode cX5_without 1 = .ok (.istore_n 1, 1) := dk_60 (dk_at dksX5_without_0 1 rfl rfl)
theorem dX5_without_2 : decode cX5_without 2 = .ok (.iconst (-1), 1) := dk_2 (dk_at dksX5_without_0 2 rfl rfl)
theorem dX5_without_3 : decode cX5_without 3 = .ok (.istore_n 2, 1) := dk_61 (dk_at dksX5_without_0 3 rfl rfl)
theorem dX5_without_4 : decode cX5_without 4 = .ok (.iconst 0, 1) := dk_3 (dk_at dksX5_without_0 4 rfl rfl)
theorem dX5_without_5 : decode cX5_without 5 = .ok (.istore_n 3, 1) := dk_62 (dk_at dksX5_without_0 5 rfl rfl)
theorem dX5_without_6 : decode cX5_without 6 = .ok (.iload_n 3, 1) := dk_29 (dk_at dksX5_without_0 6 rfl rfl)
theorem dX5_without_7 : decode cX5_without 7 = .ok (.aload_n 0, 1) := dk_42 (dk_at dksX5_without_0 7 rfl rfl)
theorem dX5_without_8 : decode cX5_without 8 = .ok (.getfield 108, 3) := dk_180 0 108 (dk_at dksX5_without_0 8 rfl rfl)
theorem dX5_without_11 : decode cX5_without 11 = .ok (.if_icmp .ge 39, 3) := dk_162 0 39 (dk_at dksX5_without_0 11 rfl rfl)
theorem dX5_without_14 : decode cX5_without 14 = .ok (.aload_n 0, 1) := dk_42 (dk_at dksX5_without_0 14 rfl rfl)
theorem dX5_without_15 : decode cX5_without 15 = .ok (.iload_n 3, 1) := dk_29 (dk_at dksX5_without_0 15 rfl rfl)
theorem dX5_without_16 : decode cX5_without 16 = .ok (.putfield 93, 3) := dk_181 0 93 (dk_at dksX5_without_0 16 rfl rfl)
theorem dX5_without_19 : decode cX5_without 19 = .ok (.aload_n 0, 1) := dk_42 (dk_at dksX5_without_0 19 rfl rfl)
theorem dX5_without_20 : decode cX5_without 20 = .ok (.invokevirtual 250, 3) := dk_182 0 250 (dk_at dksX5_without_0 20 rfl rfl)
theorem dX5_without_23 : decode cX5_without 23 = .ok (.istore 4, 2) := dk_54 4 (dk_at dksX5_without_1 0 rfl rfl)
theorem dX5_without_25 : decode cX5_without 25 = .ok (.iload_n 1, 1) := dk_27 (dk_at dksX5_without_1 2 rfl rfl)
theorem dX5_without_26 : decode cX5_without 26 = .ok (.iconst (-1), 1) := dk_2 (dk_at dksX5_without_1 3 rfl rfl)
theorem dX5_without_27 : decode cX5_without 27 = .ok (.if_icmp .eq 12, 3) := dk_159 0 12 (dk_at dksX5_without_1 4 rfl rfl)
theorem dX5_without_30 : decode cX5_without 30 = .ok (.iload 4, 2) := dk_21 4 (dk_at dksX5_without_1 7 rfl rfl)
theorem dX5_without_32 : decode cX5_without 32 = .ok (.iload_n 2, 1) := dk_28 (dk_at dksX5_without_1 9 rfl rfl)
theorem dX5_without_33 : decode cX5_without 33 = .ok (.if_icmp .lt 6, 3) := dk_161 0 6 (dk_at dksX5_without_1 10 rfl rfl)
theorem dX5_without_36 : decode cX5_without 36 = .ok (.goto 8, 3) := dk_167 0 8 (dk_at dksX5_without_1 13 rfl rfl)
theorem dX5_without_39 : decode cX5_without 39 = .ok (.iload_n 3, 1) := dk_29 (dk_at dksX5_without_1 16 rfl rfl)
theorem dX5_without_40 : decode cX5_without 40 = .ok (.istore_n 1, 1) := dk_60 (dk_at dksX5_without_1 17 rfl rfl)
theorem dX5_without_41 : decode cX5_without 41 = .ok (.iload 4, 2) := dk_21 4 (dk_at dksX5_without_1 18 rfl rfl)
theorem dX5_without_43 : decode cX5_without 43 = .ok (.istore_n 2, 1) := dk_61 (dk_at dksX5_without_1 20 rfl rfl)
theorem dX5_without_44 : decode cX5_without 44 = .ok (.iinc 3 1, 3) := dk_132 3 1 (dk_at dksX5_without_1 21 rfl rfl)
theorem dX5_without_47 : decode cX5_without 47 = .ok (.goto (-41), 3) := dk_167 255 215 (dk_at dksX5_without_2 0 rfl rfl)
theorem dX5_without_50 : decode cX5_without 50 = .ok (.aload_n 0, 1) := dk_42 (dk_at dksX5_without_2 3 rfl rfl)
theorem dX5_without_51 : decode cX5_without 51 = .ok (.iconst (-1), 1) := dk_2 (dk_at dksX5_without_2 4 rfl rfl)
theorem dX5_without_52 : decode cX5_without 52 = .ok (.putfield 93, 3) := dk_181 0 93 (dk_at dksX5_without_2 5 rfl rfl)
theorem dX5_without_55 : decode cX5_without 55 = .ok (.iload_n 1, 1) := dk_27 (dk_at dksX5_without_2 8 rfl rfl)
theorem dX5_without_56 : decode cX5_without 56 = .ok (.ireturn, 1) := dk_172 (dk_at dksX5_without_2 9 rfl rfl)
abbrev cX5_crowd : ByteArray := prog_22_method_67_code
def yX5_crowd : MethodName := ⟨RX5, "crowd", "(I)I"⟩
def dkwX5_crowd_3 : List UInt8 := [167, 0, 4, 29, 172]
abbrev dktX5_crowd_3 : List UInt8 := dkwX5_crowd_3 ++ []
def dkwX5_crowd_2 : List UInt8 := [42, 21, 4, 182, 0, 218, 153, 0, 6, 132, 3, 1, 132, 4, 1, 167, 255, 217, 27, 154, 0, 7, 28]
abbrev dktX5_crowd_2 : List UInt8 := dkwX5_crowd_2 ++ dktX5_crowd_3
def dkwX5_crowd_1 : List UInt8 := [21, 4, 16, 36, 162, 0, 38, 42, 21, 4, 182, 1, 6, 42, 28, 182, 1, 6, 164, 0, 6, 21, 4, 61]
abbrev dktX5_crowd_1 : List UInt8 := dkwX5_crowd_1 ++ dktX5_crowd_2
def dkwX5_crowd_0 : List UInt8 := [27, 155, 0, 8, 27, 4, 164, 0, 10, 42, 16, 251, 182, 0, 115, 172, 3, 61, 3, 62, 3, 54, 4]
abbrev dktX5_crowd_0 : List UInt8 := dkwX5_crowd_0 ++ dktX5_crowd_1
theorem dksX5_crowd_0 : cX5_crowd.data.toList.drop 0 = dktX5_crowd_0 := by decide +kernel
theorem dksX5_crowd_1 : cX5_crowd.data.toList.drop 23 = dktX5_crowd_1 := dk_seg dksX5_crowd_0 23 rfl rfl
theorem dksX5_crowd_2 : cX5_crowd.data.toList.drop 47 = dktX5_crowd_2 := dk_seg dksX5_crowd_1 24 rfl rfl
theorem dksX5_crowd_3 : cX5_crowd.data.toList.drop 70 = dktX5_crowd_3 := dk_seg dksX5_crowd_2 23 rfl rfl
theorem dX5_crowd_0 : decode cX5_crowd 0 = .ok (.iload_n 1, 1) := dk_27 (dk_at dksX5_crowd_0 0 rfl rfl)
theorem dX5_crowd_1 : decode cX5_crowd 1 = .ok (.ifCond .lt 8, 3) := dk_155 0 8 (dk_at dksX5_crowd_0 1 rfl rfl)
theorem dX5_crowd_4 : decode cX5_crowd 4 = .ok (.iload_n 1, 1) := dk_27 (dk_at dksX5_crowd_0 4 rfl rfl)
theorem dX5_crowd_5 : decode cX5_crowd 5 = .ok (.iconst 1, 1) := dk_4 (dk_at dksX5_crowd_0 5 rfl rfl)
theorem dX5_crowd_6 : decode cX5_crowd 6 = .ok (.if_icmp .le 10, 3) := dk_164 0 10 (dk_at dksX5_crowd_0 6 rfl rfl)
theorem dX5_crowd_9 : decode cX5_crowd 9 = .ok (.aload_n 0, 1) := dk_42 (dk_at dksX5_crowd_0 9 rfl rfl)
theorem dX5_crowd_10 : decode cX5_crowd 10 = .ok (.bipush (-5), 2) := dk_16 251 (dk_at dksX5_crowd_0 10 rfl rfl)
theorem dX5_crowd_12 : decode cX5_crowd 12 = .ok (.invokevirtual 115, 3) := dk_182 0 115 (dk_at dksX5_crowd_0 12 rfl rfl)
theorem dX5_crowd_15 : decode cX5_crowd 15 = .ok (.ireturn, 1) := dk_172 (dk_at dksX5_crowd_0 15 rfl rfl)
theorem dX5_crowd_16 : decode cX5_crowd 16 = .ok (.iconst 0, 1) := dk_3 (dk_at dksX5_crowd_0 16 rfl rfl)
theorem dX5_crowd_17 : decode cX5_crowd 17 = .ok (.istore_n 2, 1) := dk_61 (dk_at dksX5_crowd_0 17 rfl rfl)
theorem dX5_crowd_18 : decode cX5_crowd 18 = .ok (.iconst 0, 1) := dk_3 (dk_at dksX5_crowd_0 18 rfl rfl)
theorem dX5_crowd_19 : decode cX5_crowd 19 = .ok (.istore_n 3, 1) := dk_62 (dk_at dksX5_crowd_0 19 rfl rfl)
theorem dX5_crowd_20 : decode cX5_crowd 20 = .ok (.iconst 0, 1) := dk_3 (dk_at dksX5_crowd_0 20 rfl rfl)
theorem dX5_crowd_21 : decode cX5_crowd 21 = .ok (.istore 4, 2) := dk_54 4 (dk_at dksX5_crowd_0 21 rfl rfl)
theorem dX5_crowd_23 : decode cX5_crowd 23 = .ok (.iload 4, 2) := dk_21 4 (dk_at dksX5_crowd_1 0 rfl rfl)
theorem dX5_crowd_25 : decode cX5_crowd 25 = .ok (.bipush 36, 2) := dk_16 36 (dk_at dksX5_crowd_1 2 rfl rfl)
theorem dX5_crowd_27 : decode cX5_crowd 27 = .ok (.if_icmp .ge 38, 3) := dk_162 0 38 (dk_at dksX5_crowd_1 4 rfl rfl)
theorem dX5_crowd_30 : decode cX5_crowd 30 = .ok (.aload_n 0, 1) := dk_42 (dk_at dksX5_crowd_1 7 rfl rfl)
theorem dX5_crowd_31 : decode cX5_crowd 31 = .ok (.iload 4, 2) := dk_21 4 (dk_at dksX5_crowd_1 8 rfl rfl)
theorem dX5_crowd_33 : decode cX5_crowd 33 = .ok (.invokevirtual 262, 3) := dk_182 1 6 (dk_at dksX5_crowd_1 10 rfl rfl)
theorem dX5_crowd_36 : decode cX5_crowd 36 = .ok (.aload_n 0, 1) := dk_42 (dk_at dksX5_crowd_1 13 rfl rfl)
theorem dX5_crowd_37 : decode cX5_crowd 37 = .ok (.iload_n 2, 1) := dk_28 (dk_at dksX5_crowd_1 14 rfl rfl)
theorem dX5_crowd_38 : decode cX5_crowd 38 = .ok (.invokevirtual 262, 3) := dk_182 1 6 (dk_at dksX5_crowd_1 15 rfl rfl)
theorem dX5_crowd_41 : decode cX5_crowd 41 = .ok (.if_icmp .le 6, 3) := dk_164 0 6 (dk_at dksX5_crowd_1 18 rfl rfl)
theorem dX5_crowd_44 : decode cX5_crowd 44 = .ok (.iload 4, 2) := dk_21 4 (dk_at dksX5_crowd_1 21 rfl rfl)
theorem dX5_crowd_46 : decode cX5_crowd 46 = .ok (.istore_n 2, 1) := dk_61 (dk_at dksX5_crowd_1 23 rfl rfl)
theorem dX5_crowd_47 : decode cX5_crowd 47 = .ok (.aload_n 0, 1) := dk_42 (dk_at dksX5_crowd_2 0 rfl rfl)
theorem dX5_crowd_48 : decode cX5_crowd 48 = .ok (.iload 4, 2) := dk_21 4 (dk_at dksX5_crowd_2 1 rfl rfl)
theorem dX5_crowd_50 : decode cX5_crowd 50 = .ok (.invokevirtual 218, 3) := dk_182 0 218 (dk_at dksX5_crowd_2 3 rfl rfl)
theorem dX5_crowd_53 : decode cX5_crowd 53 = .ok (.ifCond .eq 6, 3) := dk_153 0 6 (dk_at dksX5_crowd_2 6 rfl rfl)
theorem dX5_crowd_56 : decode cX5_crowd 56 = .ok (.iinc 3 1, 3) := dk_132 3 1 (dk_at dksX5_crowd_2 9 rfl rfl)
theorem dX5_crowd_59 : decode cX5_crowd 59 = .ok (.iinc 4 1, 3) := dk_132 4 1 (dk_at dksX5_crowd_2 12 rfl rfl)
theorem dX5_crowd_62 : decode cX5_crowd 62 = .ok (.goto (-39), 3) := dk_167 255 217 (dk_at dksX5_crowd_2 15 rfl rfl)
theorem dX5_crowd_65 : decode cX5_crowd 65 = .ok (.iload_n 1, 1) := dk_27 (dk_at dksX5_crowd_2 18 rfl rfl)
theorem dX5_crowd_66 : decode cX5_crowd 66 = .ok (.ifCond .ne 7, 3) := dk_154 0 7 (dk_at dksX5_crowd_2 19 rfl rfl)
theorem dX5_crowd_69 : decode cX5_crowd 69 = .ok (.iload_n 2, 1) := dk_28 (dk_at dksX5_crowd_2 22 rfl rfl)
theorem dX5_crowd_70 : decode cX5_crowd 70 = .ok (.goto 4, 3) := dk_167 0 4 (dk_at dksX5_crowd_3 0 rfl rfl)
theorem dX5_crowd_73 : decode cX5_crowd 73 = .ok (.iload_n 3, 1) := dk_29 (dk_at dksX5_crowd_3 3 rfl rfl)
theorem dX5_crowd_74 : decode cX5_crowd 74 = .ok (.ireturn, 1) := dk_172 (dk_at dksX5_crowd_3 4 rfl rfl)
abbrev cX5_seers : ByteArray := prog_22_method_66_code
def yX5_seers : MethodName := ⟨RX5, "seers", "(I)I"⟩
def dkwX5_seers_2 : List UInt8 := [132, 2, 1, 132, 3, 1, 167, 255, 208, 28, 172]
abbrev dktX5_seers_2 : List UInt8 := dkwX5_seers_2 ++ []
def dkwX5_seers_1 : List UInt8 := [180, 0, 26, 29, 46, 8, 159, 0, 20, 42, 42, 180, 0, 41, 29, 46, 27, 182, 0, 209, 153, 0, 6]
abbrev dktX5_seers_1 : List UInt8 := dkwX5_seers_1 ++ dktX5_seers_2
def dkwX5_seers_0 : List UInt8 := [3, 61, 3, 62, 29, 42, 180, 0, 108, 162, 0, 46, 42, 180, 0, 26, 29, 46, 6, 159, 0, 30, 42]
abbrev dktX5_seers_0 : List UInt8 := dkwX5_seers_0 ++ dktX5_seers_1
theorem dksX5_seers_0 : cX5_seers.data.toList.drop 0 = dktX5_seers_0 := by decide +kernel
theorem dksX5_seers_1 : cX5_seers.data.toList.drop 23 = dktX5_seers_1 := dk_seg dksX5_seers_0 23 rfl rfl
theorem dksX5_seers_2 : cX5_seers.data.toList.drop 46 = dktX5_seers_2 := dk_seg dksX5_seers_1 23 rfl rfl
theorem dX5_seers_0 : decode cX5_seers 0 = .ok (.iconst 0, 1) := dk_3 (dk_at dksX5_seers_0 0 rfl rfl)
theorem dX5_seers_1 : decode cX5_seers 1 = .ok (.istore_n 2, 1) := dk_61 (dk_at dksX5_seers_0 1 rfl rfl)
theorem dX5_seers_2 : decode cX5_seers 2 = .ok (.iconst 0, 1) := dk_3 (dk_at dksX5_seers_0 2 rfl rfl)
theorem dX5_seers_3 : decode cX5_seers 3 = .ok (.istore_n 3, 1) := dk_62 (dk_at dksX5_seers_0 3 rfl rfl)
theorem dX5_seers_4 : decode cX5_seers 4 = .ok (.iload_n 3, 1) := dk_29 (dk_at dksX5_seers_0 4 rfl rfl)
theorem dX5_seers_5 : decode cX5_seers 5 = .ok (.aload_n 0, 1) := dk_42 (dk_at dksX5_seers_0 5 rfl rfl)
theorem dX5_seers_6 : decode cX5_seers 6 = .ok (.getfield 108, 3) := dk_180 0 108 (dk_at dksX5_seers_0 6 rfl rfl)
theorem dX5_seers_9 : decode cX5_seers 9 = .ok (.if_icmp .ge 46, 3) := dk_162 0 46 (dk_at dksX5_seers_0 9 rfl rfl)
theorem dX5_seers_12 : decode cX5_seers 12 = .ok (.aload_n 0, 1) := dk_42 (dk_at dksX5_seers_0 12 rfl rfl)
theorem dX5_seers_13 : decode cX5_seers 13 = .ok (.getfield 26, 3) := dk_180 0 26 (dk_at dksX5_seers_0 13 rfl rfl)
theorem dX5_seers_16 : decode cX5_seers 16 = .ok (.iload_n 3, 1) := dk_29 (dk_at dksX5_seers_0 16 rfl rfl)
theorem dX5_seers_17 : decode cX5_seers 17 = .ok (.iaload, 1) := dk_46 (dk_at dksX5_seers_0 17 rfl rfl)
theorem dX5_seers_18 : decode cX5_seers 18 = .ok (.iconst 3, 1) := dk_6 (dk_at dksX5_seers_0 18 rfl rfl)
theorem dX5_seers_19 : decode cX5_seers 19 = .ok (.if_icmp .eq 30, 3) := dk_159 0 30 (dk_at dksX5_seers_0 19 rfl rfl)
theorem dX5_seers_22 : decode cX5_seers 22 = .ok (.aload_n 0, 1) := dk_42 (dk_at dksX5_seers_0 22 rfl rfl)
theorem dX5_seers_23 : decode cX5_seers 23 = .ok (.getfield 26, 3) := dk_180 0 26 (dk_at dksX5_seers_1 0 rfl rfl)
theorem dX5_seers_26 : decode cX5_seers 26 = .ok (.iload_n 3, 1) := dk_29 (dk_at dksX5_seers_1 3 rfl rfl)
theorem dX5_seers_27 : decode cX5_seers 27 = .ok (.iaload, 1) := dk_46 (dk_at dksX5_seers_1 4 rfl rfl)
theorem dX5_seers_28 : decode cX5_seers 28 = .ok (.iconst 5, 1) := dk_8 (dk_at dksX5_seers_1 5 rfl rfl)
theorem dX5_seers_29 : decode cX5_seers 29 = .ok (.if_icmp .eq 20, 3) := dk_159 0 20 (dk_at dksX5_seers_1 6 rfl rfl)
theorem dX5_seers_32 : decode cX5_seers 32 = .ok (.aload_n 0, 1) := dk_42 (dk_at dksX5_seers_1 9 rfl rfl)
theorem dX5_seers_33 : decode cX5_seers 33 = .ok (.aload_n 0, 1) := dk_42 (dk_at dksX5_seers_1 10 rfl rfl)
theorem dX5_seers_34 : decode cX5_seers 34 = .ok (.getfield 41, 3) := dk_180 0 41 (dk_at dksX5_seers_1 11 rfl rfl)
theorem dX5_seers_37 : decode cX5_seers 37 = .ok (.iload_n 3, 1) := dk_29 (dk_at dksX5_seers_1 14 rfl rfl)
theorem dX5_seers_38 : decode cX5_seers 38 = .ok (.iaload, 1) := dk_46 (dk_at dksX5_seers_1 15 rfl rfl)
theorem dX5_seers_39 : decode cX5_seers 39 = .ok (.iload_n 1, 1) := dk_27 (dk_at dksX5_seers_1 16 rfl rfl)
theorem dX5_seers_40 : decode cX5_seers 40 = .ok (.invokevirtual 209, 3) := dk_182 0 209 (dk_at dksX5_seers_1 17 rfl rfl)
theorem dX5_seers_43 : decode cX5_seers 43 = .ok (.ifCond .eq 6, 3) := dk_153 0 6 (dk_at dksX5_seers_1 20 rfl rfl)
theorem dX5_seers_46 : decode cX5_seers 46 = .ok (.iinc 2 1, 3) := dk_132 2 1 (dk_at dksX5_seers_2 0 rfl rfl)
theorem dX5_seers_49 : decode cX5_seers 49 = .ok (.iinc 3 1, 3) := dk_132 3 1 (dk_at dksX5_seers_2 3 rfl rfl)
theorem dX5_seers_52 : decode cX5_seers 52 = .ok (.goto (-48), 3) := dk_167 255 208 (dk_at dksX5_seers_2 6 rfl rfl)
theorem dX5_seers_55 : decode cX5_seers 55 = .ok (.iload_n 2, 1) := dk_28 (dk_at dksX5_seers_2 9 rfl rfl)
theorem dX5_seers_56 : decode cX5_seers 56 = .ok (.ireturn, 1) := dk_172 (dk_at dksX5_seers_2 10 rfl rfl)
abbrev cX5_judge : ByteArray := prog_22_method_71_code
def yX5_judge : MethodName := ⟨RX5, "judge", "(II)I"⟩
def dkwX5_judge_1 : List UInt8 := [182, 0, 198, 42, 27, 28, 182, 1, 18, 54, 4, 42, 42, 180, 0, 90, 4, 182, 0, 198, 21, 4, 172]
abbrev dktX5_judge_1 : List UInt8 := dkwX5_judge_1 ++ []
def dkwX5_judge_0 : List UInt8 := [42, 27, 28, 182, 1, 15, 62, 29, 153, 0, 9, 42, 29, 182, 0, 237, 172, 42, 42, 180, 0, 90, 3]
abbrev dktX5_judge_0 : List UInt8 := dkwX5_judge_0 ++ dktX5_judge_1
theorem dksX5_judge_0 : cX5_judge.data.toList.drop 0 = dktX5_judge_0 := by decide +kernel
theorem dksX5_judge_1 : cX5_judge.data.toList.drop 23 = dktX5_judge_1 := dk_seg dksX5_judge_0 23 rfl rfl
theorem dX5_judge_0 : decode cX5_judge 0 = .ok (.aload_n 0, 1) := dk_42 (dk_at dksX5_judge_0 0 rfl rfl)
theorem dX5_judge_1 : decode cX5_judge 1 = .ok (.iload_n 1, 1) := dk_27 (dk_at dksX5_judge_0 1 rfl rfl)
theorem dX5_judge_2 : decode cX5_judge 2 = .ok (.iload_n 2, 1) := dk_28 (dk_at dksX5_judge_0 2 rfl rfl)
theorem dX5_judge_3 : decode cX5_judge 3 = .ok (.invokevirtual 271, 3) := dk_182 1 15 (dk_at dksX5_judge_0 3 rfl rfl)
theorem dX5_judge_6 : decode cX5_judge 6 = .ok (.istore_n 3, 1) := dk_62 (dk_at dksX5_judge_0 6 rfl rfl)
theorem dX5_judge_7 : decode cX5_judge 7 = .ok (.iload_n 3, 1) := dk_29 (dk_at dksX5_judge_0 7 rfl rfl)
theorem dX5_judge_8 : decode cX5_judge 8 = .ok (.ifCond .eq 9, 3) := dk_153 0 9 (dk_at dksX5_judge_0 8 rfl rfl)
theorem dX5_judge_11 : decode cX5_judge 11 = .ok (.aload_n 0, 1) := dk_42 (dk_at dksX5_judge_0 11 rfl rfl)
theorem dX5_judge_12 : decode cX5_judge 12 = .ok (.iload_n 3, 1) := dk_29 (dk_at dksX5_judge_0 12 rfl rfl)
theorem dX5_judge_13 : decode cX5_judge 13 = .ok (.invokevirtual 237, 3) := dk_182 0 237 (dk_at dksX5_judge_0 13 rfl rfl)
theorem dX5_judge_16 : decode cX5_judge 16 = .ok (.ireturn, 1) := dk_172 (dk_at dksX5_judge_0 16 rfl rfl)
theorem dX5_judge_17 : decode cX5_judge 17 = .ok (.aload_n 0, 1) := dk_42 (dk_at dksX5_judge_0 17 rfl rfl)
theorem dX5_judge_18 : decode cX5_judge 18 = .ok (.aload_n 0, 1) := dk_42 (dk_at dksX5_judge_0 18 rfl rfl)
theorem dX5_judge_19 : decode cX5_judge 19 = .ok (.getfield 90, 3) := dk_180 0 90 (dk_at dksX5_judge_0 19 rfl rfl)
theorem dX5_judge_22 : decode cX5_judge 22 = .ok (.iconst 0, 1) := dk_3 (dk_at dksX5_judge_0 22 rfl rfl)
theorem dX5_judge_23 : decode cX5_judge 23 = .ok (.invokevirtual 198, 3) := dk_182 0 198 (dk_at dksX5_judge_1 0 rfl rfl)
theorem dX5_judge_26 : decode cX5_judge 26 = .ok (.aload_n 0, 1) := dk_42 (dk_at dksX5_judge_1 3 rfl rfl)
theorem dX5_judge_27 : decode cX5_judge 27 = .ok (.iload_n 1, 1) := dk_27 (dk_at dksX5_judge_1 4 rfl rfl)
theorem dX5_judge_28 : decode cX5_judge 28 = .ok (.iload_n 2, 1) := dk_28 (dk_at dksX5_judge_1 5 rfl rfl)
theorem dX5_judge_29 : decode cX5_judge 29 = .ok (.invokevirtual 274, 3) := dk_182 1 18 (dk_at dksX5_judge_1 6 rfl rfl)
theorem dX5_judge_32 : decode cX5_judge 32 = .ok (.istore 4, 2) := dk_54 4 (dk_at dksX5_judge_1 9 rfl rfl)
theorem dX5_judge_34 : decode cX5_judge 34 = .ok (.aload_n 0, 1) := dk_42 (dk_at dksX5_judge_1 11 rfl rfl)
theorem dX5_judge_35 : decode cX5_judge 35 = .ok (.aload_n 0, 1) := dk_42 (dk_at dksX5_judge_1 12 rfl rfl)
theorem dX5_judge_36 : decode cX5_judge 36 = .ok (.getfield 90, 3) := dk_180 0 90 (dk_at dksX5_judge_1 13 rfl rfl)
theorem dX5_judge_39 : decode cX5_judge 39 = .ok (.iconst 1, 1) := dk_4 (dk_at dksX5_judge_1 16 rfl rfl)
theorem dX5_judge_40 : decode cX5_judge 40 = .ok (.invokevirtual 198, 3) := dk_182 0 198 (dk_at dksX5_judge_1 17 rfl rfl)
theorem dX5_judge_43 : decode cX5_judge 43 = .ok (.iload 4, 2) := dk_21 4 (dk_at dksX5_judge_1 20 rfl rfl)
theorem dX5_judge_45 : decode cX5_judge 45 = .ok (.ireturn, 1) := dk_172 (dk_at dksX5_judge_1 22 rfl rfl)
abbrev cX5_barsOf : ByteArray := prog_22_method_70_code
def yX5_barsOf : MethodName := ⟨RX5, "barsOf", "(II)I"⟩
def dkwX5_barsOf_2 : List UInt8 := [167, 0, 4, 3, 172]
abbrev dktX5_barsOf_2 : List UInt8 := dkwX5_barsOf_2 ++ []
def dkwX5_barsOf_1 : List UInt8 := [42, 180, 0, 59, 27, 46, 164, 0, 8, 16, 251, 167, 0, 15, 28, 16, 40, 164, 0, 8, 16, 250]
abbrev dktX5_barsOf_1 : List UInt8 := dkwX5_barsOf_1 ++ dktX5_barsOf_2
def dkwX5_barsOf_0 : List UInt8 := [42, 27, 182, 0, 195, 62, 29, 153, 0, 7, 29, 167, 0, 39, 28, 156, 0, 8, 16, 252, 167, 0, 30, 28]
abbrev dktX5_barsOf_0 : List UInt8 := dkwX5_barsOf_0 ++ dktX5_barsOf_1
theorem dksX5_barsOf_0 : cX5_barsOf.data.toList.drop 0 = dktX5_barsOf_0 := by decide +kernel
theorem dksX5_barsOf_1 : cX5_barsOf.data.toList.drop 24 = dktX5_barsOf_1 := dk_seg dksX5_barsOf_0 24 rfl rfl
theorem dksX5_barsOf_2 : cX5_barsOf.data.toList.drop 46 = dktX5_barsOf_2 := dk_seg dksX5_barsOf_1 22 rfl rfl
theorem dX5_barsOf_0 : decode cX5_barsOf 0 = .ok (.aload_n 0, 1) := dk_42 (dk_at dksX5_barsOf_0 0 rfl rfl)
theorem dX5_barsOf_1 : decode cX5_barsOf 1 = .ok (.iload_n 1, 1) := dk_27 (dk_at dksX5_barsOf_0 1 rfl rfl)
theorem dX5_barsOf_2 : decode cX5_barsOf 2 = .ok (.invokevirtual 195, 3) := dk_182 0 195 (dk_at dksX5_barsOf_0 2 rfl rfl)
theorem dX5_barsOf_5 : decode cX5_barsOf 5 = .ok (.istore_n 3, 1) := dk_62 (dk_at dksX5_barsOf_0 5 rfl rfl)
theorem dX5_barsOf_6 : decode cX5_barsOf 6 = .ok (.iload_n 3, 1) := dk_29 (dk_at dksX5_barsOf_0 6 rfl rfl)
theorem dX5_barsOf_7 : decode cX5_barsOf 7 = .ok (.ifCond .eq 7, 3) := dk_153 0 7 (dk_at dksX5_barsOf_0 7 rfl rfl)
theorem dX5_barsOf_10 : decode cX5_barsOf 10 = .ok (.iload_n 3, 1) := dk_29 (dk_at dksX5_barsOf_0 10 rfl rfl)
theorem dX5_barsOf_11 : decode cX5_barsOf 11 = .ok (.goto 39, 3) := dk_167 0 39 (dk_at dksX5_barsOf_0 11 rfl rfl)
theorem dX5_barsOf_14 : decode cX5_barsOf 14 = .ok (.iload_n 2, 1) := dk_28 (dk_at dksX5_barsOf_0 14 rfl rfl)
theorem dX5_barsOf_15 : decode cX5_barsOf 15 = .ok (.ifCond .ge 8, 3) := dk_156 0 8 (dk_at dksX5_barsOf_0 15 rfl rfl)
theorem dX5_barsOf_18 : decode cX5_barsOf 18 = .ok (.bipush (-4), 2) := dk_16 252 (dk_at dksX5_barsOf_0 18 rfl rfl)
theorem dX5_barsOf_20 : decode cX5_barsOf 20 = .ok (.goto 30, 3) := dk_167 0 30 (dk_at dksX5_barsOf_0 20 rfl rfl)
theorem dX5_barsOf_23 : decode cX5_barsOf 23 = .ok (.iload_n 2, 1) := dk_28 (dk_at dksX5_barsOf_0 23 rfl rfl)
theorem dX5_barsOf_24 : decode cX5_barsOf 24 = .ok (.aload_n 0, 1) := dk_42 (dk_at dksX5_barsOf_1 0 rfl rfl)
theorem dX5_barsOf_25 : decode cX5_barsOf 25 = .ok (.getfield 59, 3) := dk_180 0 59 (dk_at dksX5_barsOf_1 1 rfl rfl)
theorem dX5_barsOf_28 : decode cX5_barsOf 28 = .ok (.iload_n 1, 1) := dk_27 (dk_at dksX5_barsOf_1 4 rfl rfl)
theorem dX5_barsOf_29 : decode cX5_barsOf 29 = .ok (.iaload, 1) := dk_46 (dk_at dksX5_barsOf_1 5 rfl rfl)
theorem dX5_barsOf_30 : decode cX5_barsOf 30 = .ok (.if_icmp .le 8, 3) := dk_164 0 8 (dk_at dksX5_barsOf_1 6 rfl rfl)
theorem dX5_barsOf_33 : decode cX5_barsOf 33 = .ok (.bipush (-5), 2) := dk_16 251 (dk_at dksX5_barsOf_1 9 rfl rfl)
theorem dX5_barsOf_35 : decode cX5_barsOf 35 = .ok (.goto 15, 3) := dk_167 0 15 (dk_at dksX5_barsOf_1 11 rfl rfl)
theorem dX5_barsOf_38 : decode cX5_barsOf 38 = .ok (.iload_n 2, 1) := dk_28 (dk_at dksX5_barsOf_1 14 rfl rfl)
theorem dX5_barsOf_39 : decode cX5_barsOf 39 = .ok (.bipush 40, 2) := dk_16 40 (dk_at dksX5_barsOf_1 15 rfl rfl)
theorem dX5_barsOf_41 : decode cX5_barsOf 41 = .ok (.if_icmp .le 8, 3) := dk_164 0 8 (dk_at dksX5_barsOf_1 17 rfl rfl)
theorem dX5_barsOf_44 : decode cX5_barsOf 44 = .ok (.bipush (-6), 2) := dk_16 250 (dk_at dksX5_barsOf_1 20 rfl rfl)
theorem dX5_barsOf_46 : decode cX5_barsOf 46 = .ok (.goto 4, 3) := dk_167 0 4 (dk_at dksX5_barsOf_2 0 rfl rfl)
theorem dX5_barsOf_49 : decode cX5_barsOf 49 = .ok (.iconst 0, 1) := dk_3 (dk_at dksX5_barsOf_2 3 rfl rfl)
theorem dX5_barsOf_50 : decode cX5_barsOf 50 = .ok (.ireturn, 1) := dk_172 (dk_at dksX5_barsOf_2 4 rfl rfl)
abbrev cX5_strolls : ByteArray := prog_22_method_69_code
def yX5_strolls : MethodName := ⟨RX5, "strolls", "(II)I"⟩
def dkwX5_strolls_4 : List UInt8 := [180, 0, 41, 21, 5, 21, 6, 79, 42, 21, 5, 182, 1, 12, 132, 3, 1, 167, 255, 154, 2, 172]
abbrev dktX5_strolls_4 : List UInt8 := dkwX5_strolls_4 ++ []
def dkwX5_strolls_3 : List UInt8 := [54, 6, 21, 6, 2, 159, 0, 14, 42, 180, 0, 47, 21, 6, 46, 4, 160, 0, 5, 29, 172, 42]
abbrev dktX5_strolls_3 : List UInt8 := dkwX5_strolls_3 ++ dktX5_strolls_4
def dkwX5_strolls_2 : List UInt8 := [164, 0, 7, 2, 167, 0, 19, 42, 42, 180, 0, 41, 21, 5, 46, 21, 4, 16, 10, 112, 182, 0, 234]
abbrev dktX5_strolls_2 : List UInt8 := dkwX5_strolls_2 ++ dktX5_strolls_3
def dkwX5_strolls_1 : List UInt8 := [108, 54, 5, 21, 4, 155, 0, 21, 21, 5, 42, 180, 0, 108, 162, 0, 12, 21, 4, 16, 10, 112, 6]
abbrev dktX5_strolls_1 : List UInt8 := dkwX5_strolls_1 ++ dktX5_strolls_2
def dkwX5_strolls_0 : List UInt8 := [42, 3, 181, 1, 9, 3, 62, 29, 28, 162, 0, 103, 42, 27, 29, 182, 1, 0, 54, 4, 21, 4, 16, 10]
abbrev dktX5_strolls_0 : List UInt8 := dkwX5_strolls_0 ++ dktX5_strolls_1
theorem dksX5_strolls_0 : cX5_strolls.data.toList.drop 0 = dktX5_strolls_0 := by decide +kernel
theorem dksX5_strolls_1 : cX5_strolls.data.toList.drop 24 = dktX5_strolls_1 := dk_seg dksX5_strolls_0 24 rfl rfl
theorem dksX5_strolls_2 : cX5_strolls.data.toList.drop 47 = dktX5_strolls_2 := dk_seg dksX5_strolls_1 23 rfl rfl
theorem dksX5_strolls_3 : cX5_strolls.data.toList.drop 70 = dktX5_strolls_3 := dk_seg dksX5_strolls_2 23 rfl rfl
theorem dksX5_strolls_4 : cX5_strolls.data.toList.drop 92 = dktX5_strolls_4 := dk_seg dksX5_strolls_3 22 rfl rfl
theorem dX5_strolls_0 : decode cX5_strolls 0 = .ok (.aload_n 0, 1) := dk_42 (dk_at dksX5_strolls_0 0 rfl rfl)
theorem dX5_strolls_1 : decode cX5_strolls 1 = .ok (.iconst 0, 1) := dk_3 (dk_at dksX5_strolls_0 1 rfl rfl)
theorem dX5_strolls_2 : decode cX5_strolls 2 = .ok (.putfield 265, 3) := dk_181 1 9 (dk_at dksX5_strolls_0 2 rfl rfl)
theorem dX5_strolls_5 : decode cX5_strolls 5 = .ok (.iconst 0, 1) := dk_3 (dk_at dksX5_strolls_0 5 rfl rfl)
theorem dX5_strolls_6 : decode cX5_strolls 6 = .ok (.istore_n 3, 1) := dk_62 (dk_at dksX5_strolls_0 6 rfl rfl)
theorem dX5_strolls_7 : decode cX5_strolls 7 = .ok (.iload_n 3, 1) := dk_29 (dk_at dksX5_strolls_0 7 rfl rfl)
theorem dX5_strolls_8 : decode cX5_strolls 8 = .ok (.iload_n 2, 1) := dk_28 (dk_at dksX5_strolls_0 8 rfl rfl)
theorem dX5_strolls_9 : decode cX5_strolls 9 = .ok (.if_icmp .ge 103, 3) := dk_162 0 103 (dk_at dksX5_strolls_0 9 rfl rfl)
theorem dX5_strolls_12 : decode cX5_strolls 12 = .ok (.aload_n 0, 1) := dk_42 (dk_at dksX5_strolls_0 12 rfl rfl)
theorem dX5_strolls_13 : decode cX5_strolls 13 = .ok (.iload_n 1, 1) := dk_27 (dk_at dksX5_strolls_0 13 rfl rfl)
theorem dX5_strolls_14 : decode cX5_strolls 14 = .ok (.iload_n 3, 1) := dk_29 (dk_at dksX5_strolls_0 14 rfl rfl)
theorem dX5_strolls_15 : decode cX5_strolls 15 = .ok (.invokevirtual 256, 3) := dk_182 1 0 (dk_at dksX5_strolls_0 15 rfl rfl)
theorem dX5_strolls_18 : decode cX5_strolls 18 = .ok (.istore 4, 2) := dk_54 4 (dk_at dksX5_strolls_0 18 rfl rfl)
theorem dX5_strolls_20 : decode cX5_strolls 20 = .ok (.iload 4, 2) := dk_21 4 (dk_at dksX5_strolls_0 20 rfl rfl)
theorem dX5_strolls_22 : decode cX5_strolls 22 = .ok (.bipush 10, 2) := dk_16 10 (dk_at dksX5_strolls_0 22 rfl rfl)
theorem dX5_strolls_24 : decode cX5_strolls 24 = .ok (.idiv, 1) := dk_108 (dk_at dksX5_strolls_1 0 rfl rfl)
theorem dX5_strolls_25 : decode cX5_strolls 25 = .ok (.istore 5, 2) := dk_54 5 (dk_at dksX5_strolls_1 1 rfl rfl)
theorem dX5_strolls_27 : decode cX5_strolls 27 = .ok (.iload 4, 2) := dk_21 4 (dk_at dksX5_strolls_1 3 rfl rfl)
theorem dX5_strolls_29 : decode cX5_strolls 29 = .ok (.ifCond .lt 21, 3) := dk_155 0 21 (dk_at dksX5_strolls_1 5 rfl rfl)
theorem dX5_strolls_32 : decode cX5_strolls 32 = .ok (.iload 5, 2) := dk_21 5 (dk_at dksX5_strolls_1 8 rfl rfl)
theorem dX5_strolls_34 : decode cX5_strolls 34 = .ok (.aload_n 0, 1) := dk_42 (dk_at dksX5_strolls_1 10 rfl rfl)
theorem dX5_strolls_35 : decode cX5_strolls 35 = .ok (.getfield 108, 3) := dk_180 0 108 (dk_at dksX5_strolls_1 11 rfl rfl)
theorem dX5_strolls_38 : decode cX5_strolls 38 = .ok (.if_icmp .ge 12, 3) := dk_162 0 12 (dk_at dksX5_strolls_1 14 rfl rfl)
theorem dX5_strolls_41 : decode cX5_strolls 41 = .ok (.iload 4, 2) := dk_21 4 (dk_at dksX5_strolls_1 17 rfl rfl)
theorem dX5_strolls_43 : decode cX5_strolls 43 = .ok (.bipush 10, 2) := dk_16 10 (dk_at dksX5_strolls_1 19 rfl rfl)
theorem dX5_strolls_45 : decode cX5_strolls 45 = .ok (.irem, 1) := dk_112 (dk_at dksX5_strolls_1 21 rfl rfl)
theorem dX5_strolls_46 : decode cX5_strolls 46 = .ok (.iconst 3, 1) := dk_6 (dk_at dksX5_strolls_1 22 rfl rfl)
theorem dX5_strolls_47 : decode cX5_strolls 47 = .ok (.if_icmp .le 7, 3) := dk_164 0 7 (dk_at dksX5_strolls_2 0 rfl rfl)
theorem dX5_strolls_50 : decode cX5_strolls 50 = .ok (.iconst (-1), 1) := dk_2 (dk_at dksX5_strolls_2 3 rfl rfl)
theorem dX5_strolls_51 : decode cX5_strolls 51 = .ok (.goto 19, 3) := dk_167 0 19 (dk_at dksX5_strolls_2 4 rfl rfl)
theorem dX5_strolls_54 : decode cX5_strolls 54 = .ok (.aload_n 0, 1) := dk_42 (dk_at dksX5_strolls_2 7 rfl rfl)
theorem dX5_strolls_55 : decode cX5_strolls 55 = .ok (.aload_n 0, 1) := dk_42 (dk_at dksX5_strolls_2 8 rfl rfl)
theorem dX5_strolls_56 : decode cX5_strolls 56 = .ok (.getfield 41, 3) := dk_180 0 41 (dk_at dksX5_strolls_2 9 rfl rfl)
theorem dX5_strolls_59 : decode cX5_strolls 59 = .ok (.iload 5, 2) := dk_21 5 (dk_at dksX5_strolls_2 12 rfl rfl)
theorem dX5_strolls_61 : decode cX5_strolls 61 = .ok (.iaload, 1) := dk_46 (dk_at dksX5_strolls_2 14 rfl rfl)
theorem dX5_strolls_62 : decode cX5_strolls 62 = .ok (.iload 4, 2) := dk_21 4 (dk_at dksX5_strolls_2 15 rfl rfl)
theorem dX5_strolls_64 : decode cX5_strolls 64 = .ok (.bipush 10, 2) := dk_16 10 (dk_at dksX5_strolls_2 17 rfl rfl)
theorem dX5_strolls_66 : decode cX5_strolls 66 = .ok (.irem, 1) := dk_112 (dk_at dksX5_strolls_2 19 rfl rfl)
theorem dX5_strolls_67 : decode cX5_strolls 67 = .ok (.invokevirtual 234, 3) := dk_182 0 234 (dk_at dksX5_strolls_2 20 rfl rfl)
theorem dX5_strolls_70 : decode cX5_strolls 70 = .ok (.istore 6, 2) := dk_54 6 (dk_at dksX5_strolls_3 0 rfl rfl)
theorem dX5_strolls_72 : decode cX5_strolls 72 = .ok (.iload 6, 2) := dk_21 6 (dk_at dksX5_strolls_3 2 rfl rfl)
theorem dX5_strolls_74 : decode cX5_strolls 74 = .ok (.iconst (-1), 1) := dk_2 (dk_at dksX5_strolls_3 4 rfl rfl)
theorem dX5_strolls_75 : decode cX5_strolls 75 = .ok (.if_icmp .eq 14, 3) := dk_159 0 14 (dk_at dksX5_strolls_3 5 rfl rfl)
theorem dX5_strolls_78 : decode cX5_strolls 78 = .ok (.aload_n 0, 1) := dk_42 (dk_at dksX5_strolls_3 8 rfl rfl)
theorem dX5_strolls_79 : decode cX5_strolls 79 = .ok (.getfield 47, 3) := dk_180 0 47 (dk_at dksX5_strolls_3 9 rfl rfl)
theorem dX5_strolls_82 : decode cX5_strolls 82 = .ok (.iload 6, 2) := dk_21 6 (dk_at dksX5_strolls_3 12 rfl rfl)
theorem dX5_strolls_84 : decode cX5_strolls 84 = .ok (.iaload, 1) := dk_46 (dk_at dksX5_strolls_3 14 rfl rfl)
theorem dX5_strolls_85 : decode cX5_strolls 85 = .ok (.iconst 1, 1) := dk_4 (dk_at dksX5_strolls_3 15 rfl rfl)
theorem dX5_strolls_86 : decode cX5_strolls 86 = .ok (.if_icmp .ne 5, 3) := dk_160 0 5 (dk_at dksX5_strolls_3 16 rfl rfl)
theorem dX5_strolls_89 : decode cX5_strolls 89 = .ok (.iload_n 3, 1) := dk_29 (dk_at dksX5_strolls_3 19 rfl rfl)
theorem dX5_strolls_90 : decode cX5_strolls 90 = .ok (.ireturn, 1) := dk_172 (dk_at dksX5_strolls_3 20 rfl rfl)
theorem dX5_strolls_91 : decode cX5_strolls 91 = .ok (.aload_n 0, 1) := dk_42 (dk_at dksX5_strolls_3 21 rfl rfl)
theorem dX5_strolls_92 : decode cX5_strolls 92 = .ok (.getfield 41, 3) := dk_180 0 41 (dk_at dksX5_strolls_4 0 rfl rfl)
theorem dX5_strolls_95 : decode cX5_strolls 95 = .ok (.iload 5, 2) := dk_21 5 (dk_at dksX5_strolls_4 3 rfl rfl)
theorem dX5_strolls_97 : decode cX5_strolls 97 = .ok (.iload 6, 2) := dk_21 6 (dk_at dksX5_strolls_4 5 rfl rfl)
theorem dX5_strolls_99 : decode cX5_strolls 99 = .ok (.iastore, 1) := dk_79 (dk_at dksX5_strolls_4 7 rfl rfl)
theorem dX5_strolls_100 : decode cX5_strolls 100 = .ok (.aload_n 0, 1) := dk_42 (dk_at dksX5_strolls_4 8 rfl rfl)
theorem dX5_strolls_101 : decode cX5_strolls 101 = .ok (.iload 5, 2) := dk_21 5 (dk_at dksX5_strolls_4 9 rfl rfl)
theorem dX5_strolls_103 : decode cX5_strolls 103 = .ok (.invokevirtual 268, 3) := dk_182 1 12 (dk_at dksX5_strolls_4 11 rfl rfl)
theorem dX5_strolls_106 : decode cX5_strolls 106 = .ok (.iinc 3 1, 3) := dk_132 3 1 (dk_at dksX5_strolls_4 14 rfl rfl)
theorem dX5_strolls_109 : decode cX5_strolls 109 = .ok (.goto (-102), 3) := dk_167 255 154 (dk_at dksX5_strolls_4 17 rfl rfl)
theorem dX5_strolls_112 : decode cX5_strolls 112 = .ok (.iconst (-1), 1) := dk_2 (dk_at dksX5_strolls_4 20 rfl rfl)
theorem dX5_strolls_113 : decode cX5_strolls 113 = .ok (.ireturn, 1) := dk_172 (dk_at dksX5_strolls_4 21 rfl rfl)
abbrev cX5_pays : ByteArray := prog_22_method_68_code
def yX5_pays : MethodName := ⟨RX5, "pays", "(I)V"⟩
def dkwX5_pays_1 : List UInt8 := [180, 0, 38, 27, 92, 46, 28, 100, 79, 42, 89, 180, 1, 9, 28, 96, 181, 1, 9, 177]
abbrev dktX5_pays_1 : List UInt8 := dkwX5_pays_1 ++ []
def dkwX5_pays_0 : List UInt8 := [42, 27, 182, 0, 227, 61, 28, 42, 180, 0, 38, 27, 46, 164, 0, 10, 42, 180, 0, 38, 27, 46, 61, 42]
abbrev dktX5_pays_0 : List UInt8 := dkwX5_pays_0 ++ dktX5_pays_1
theorem dksX5_pays_0 : cX5_pays.data.toList.drop 0 = dktX5_pays_0 := by decide +kernel
theorem dksX5_pays_1 : cX5_pays.data.toList.drop 24 = dktX5_pays_1 := dk_seg dksX5_pays_0 24 rfl rfl
theorem dX5_pays_0 : decode cX5_pays 0 = .ok (.aload_n 0, 1) := dk_42 (dk_at dksX5_pays_0 0 rfl rfl)
theorem dX5_pays_1 : decode cX5_pays 1 = .ok (.iload_n 1, 1) := dk_27 (dk_at dksX5_pays_0 1 rfl rfl)
theorem dX5_pays_2 : decode cX5_pays 2 = .ok (.invokevirtual 227, 3) := dk_182 0 227 (dk_at dksX5_pays_0 2 rfl rfl)
theorem dX5_pays_5 : decode cX5_pays 5 = .ok (.istore_n 2, 1) := dk_61 (dk_at dksX5_pays_0 5 rfl rfl)
theorem dX5_pays_6 : decode cX5_pays 6 = .ok (.iload_n 2, 1) := dk_28 (dk_at dksX5_pays_0 6 rfl rfl)
theorem dX5_pays_7 : decode cX5_pays 7 = .ok (.aload_n 0, 1) := dk_42 (dk_at dksX5_pays_0 7 rfl rfl)
theorem dX5_pays_8 : decode cX5_pays 8 = .ok (.getfield 38, 3) := dk_180 0 38 (dk_at dksX5_pays_0 8 rfl rfl)
theorem dX5_pays_11 : decode cX5_pays 11 = .ok (.iload_n 1, 1) := dk_27 (dk_at dksX5_pays_0 11 rfl rfl)
theorem dX5_pays_12 : decode cX5_pays 12 = .ok (.iaload, 1) := dk_46 (dk_at dksX5_pays_0 12 rfl rfl)
theorem dX5_pays_13 : decode cX5_pays 13 = .ok (.if_icmp .le 10, 3) := dk_164 0 10 (dk_at dksX5_pays_0 13 rfl rfl)
theorem dX5_pays_16 : decode cX5_pays 16 = .ok (.aload_n 0, 1) := dk_42 (dk_at dksX5_pays_0 16 rfl rfl)
theorem dX5_pays_17 : decode cX5_pays 17 = .ok (.getfield 38, 3) := dk_180 0 38 (dk_at dksX5_pays_0 17 rfl rfl)
theorem dX5_pays_20 : decode cX5_pays 20 = .ok (.iload_n 1, 1) := dk_27 (dk_at dksX5_pays_0 20 rfl rfl)
theorem dX5_pays_21 : decode cX5_pays 21 = .ok (.iaload, 1) := dk_46 (dk_at dksX5_pays_0 21 rfl rfl)
theorem dX5_pays_22 : decode cX5_pays 22 = .ok (.istore_n 2, 1) := dk_61 (dk_at dksX5_pays_0 22 rfl rfl)
theorem dX5_pays_23 : decode cX5_pays 23 = .ok (.aload_n 0, 1) := dk_42 (dk_at dksX5_pays_0 23 rfl rfl)
theorem dX5_pays_24 : decode cX5_pays 24 = .ok (.getfield 38, 3) := dk_180 0 38 (dk_at dksX5_pays_1 0 rfl rfl)
theorem dX5_pays_27 : decode cX5_pays 27 = .ok (.iload_n 1, 1) := dk_27 (dk_at dksX5_pays_1 3 rfl rfl)
theorem dX5_pays_28 : decode cX5_pays 28 = .ok (.dup2, 1) := dk_92 (dk_at dksX5_pays_1 4 rfl rfl)
theorem dX5_pays_29 : decode cX5_pays 29 = .ok (.iaload, 1) := dk_46 (dk_at dksX5_pays_1 5 rfl rfl)
theorem dX5_pays_30 : decode cX5_pays 30 = .ok (.iload_n 2, 1) := dk_28 (dk_at dksX5_pays_1 6 rfl rfl)
theorem dX5_pays_31 : decode cX5_pays 31 = .ok (.isub, 1) := dk_100 (dk_at dksX5_pays_1 7 rfl rfl)
theorem dX5_pays_32 : decode cX5_pays 32 = .ok (.iastore, 1) := dk_79 (dk_at dksX5_pays_1 8 rfl rfl)
theorem dX5_pays_33 : decode cX5_pays 33 = .ok (.aload_n 0, 1) := dk_42 (dk_at dksX5_pays_1 9 rfl rfl)
theorem dX5_pays_34 : decode cX5_pays 34 = .ok (.dup, 1) := dk_89 (dk_at dksX5_pays_1 10 rfl rfl)
theorem dX5_pays_35 : decode cX5_pays 35 = .ok (.getfield 265, 3) := dk_180 1 9 (dk_at dksX5_pays_1 11 rfl rfl)
theorem dX5_pays_38 : decode cX5_pays 38 = .ok (.iload_n 2, 1) := dk_28 (dk_at dksX5_pays_1 14 rfl rfl)
theorem dX5_pays_39 : decode cX5_pays 39 = .ok (.iadd, 1) := dk_96 (dk_at dksX5_pays_1 15 rfl rfl)
theorem dX5_pays_40 : decode cX5_pays 40 = .ok (.putfield 265, 3) := dk_181 1 9 (dk_at dksX5_pays_1 16 rfl rfl)
theorem dX5_pays_43 : decode cX5_pays 43 = .ok (.return_, 1) := dk_177 (dk_at dksX5_pays_1 19 rfl rfl)
abbrev cX5_behind : ByteArray := prog_22_method_73_code
def yX5_behind : MethodName := ⟨RX5, "behind", "(III)I"⟩
def dkwX5_behind_5 : List UInt8 := [21, 5, 2, 160, 0, 8, 21, 6, 167, 0, 9, 42, 16, 250, 182, 0, 115, 172]
abbrev dktX5_behind_5 : List UInt8 := dkwX5_behind_5 ++ []
def dkwX5_behind_4 : List UInt8 := [180, 0, 41, 3, 46, 167, 0, 7, 42, 182, 1, 21, 54, 6, 42, 42, 180, 0, 90, 4, 182, 0, 198]
abbrev dktX5_behind_4 : List UInt8 := dkwX5_behind_4 ++ dktX5_behind_5
def dkwX5_behind_3 : List UInt8 := [182, 1, 18, 54, 5, 29, 154, 0, 10, 42, 180, 1, 9, 167, 0, 21, 29, 4, 160, 0, 12, 42]
abbrev dktX5_behind_3 : List UInt8 := dkwX5_behind_3 ++ dktX5_behind_4
def dkwX5_behind_2 : List UInt8 := [153, 0, 10, 42, 21, 4, 182, 0, 115, 172, 42, 42, 180, 0, 90, 3, 182, 0, 198, 42, 27, 28]
abbrev dktX5_behind_2 : List UInt8 := dkwX5_behind_2 ++ dktX5_behind_3
def dkwX5_behind_1 : List UInt8 := [29, 5, 163, 0, 15, 29, 4, 160, 0, 14, 42, 180, 0, 108, 154, 0, 7, 16, 251, 54, 4, 21, 4]
abbrev dktX5_behind_1 : List UInt8 := dkwX5_behind_1 ++ dktX5_behind_2
def dkwX5_behind_0 : List UInt8 := [42, 27, 28, 182, 1, 15, 54, 4, 21, 4, 153, 0, 10, 21, 4, 16, 250, 160, 0, 28, 29, 155, 0, 20]
abbrev dktX5_behind_0 : List UInt8 := dkwX5_behind_0 ++ dktX5_behind_1
theorem dksX5_behind_0 : cX5_behind.data.toList.drop 0 = dktX5_behind_0 := by decide +kernel
theorem dksX5_behind_1 : cX5_behind.data.toList.drop 24 = dktX5_behind_1 := dk_seg dksX5_behind_0 24 rfl rfl
theorem dksX5_behind_2 : cX5_behind.data.toList.drop 47 = dktX5_behind_2 := dk_seg dksX5_behind_1 23 rfl rfl
theorem dksX5_behind_3 : cX5_behind.data.toList.drop 69 = dktX5_behind_3 := dk_seg dksX5_behind_2 22 rfl rfl
theorem dksX5_behind_4 : cX5_behind.data.toList.drop 91 = dktX5_behind_4 := dk_seg dksX5_behind_3 22 rfl rfl
theorem dksX5_behind_5 : cX5_behind.data.toList.drop 114 = dktX5_behind_5 := dk_seg dksX5_behind_4 23 rfl rfl
theorem dX5_behind_0 : decode cX5_behind 0 = .ok (.aload_n 0, 1) := dk_42 (dk_at dksX5_behind_0 0 rfl rfl)
theorem dX5_behind_1 : decode cX5_behind 1 = .ok (.iload_n 1, 1) := dk_27 (dk_at dksX5_behind_0 1 rfl rfl)
theorem dX5_behind_2 : decode cX5_behind 2 = .ok (.iload_n 2, 1) := dk_28 (dk_at dksX5_behind_0 2 rfl rfl)
theorem dX5_behind_3 : decode cX5_behind 3 = .ok (.invokevirtual 271, 3) := dk_182 1 15 (dk_at dksX5_behind_0 3 rfl rfl)
theorem dX5_behind_6 : decode cX5_behind 6 = .ok (.istore 4, 2) := dk_54 4 (dk_at dksX5_behind_0 6 rfl rfl)
theorem dX5_behind_8 : decode cX5_behind 8 = .ok (.iload 4, 2) := dk_21 4 (dk_at dksX5_behind_0 8 rfl rfl)
theorem dX5_behind_10 : decode cX5_behind 10 = .ok (.ifCond .eq 10, 3) := dk_153 0 10 (dk_at dksX5_behind_0 10 rfl rfl)
theorem dX5_behind_13 : decode cX5_behind 13 = .ok (.iload 4, 2) := dk_21 4 (dk_at dksX5_behind_0 13 rfl rfl)
theorem dX5_behind_15 : decode cX5_behind 15 = .ok (.bipush (-6), 2) := dk_16 250 (dk_at dksX5_behind_0 15 rfl rfl)
theorem dX5_behind_17 : decode cX5_behind 17 = .ok (.if_icmp .ne 28, 3) := dk_160 0 28 (dk_at dksX5_behind_0 17 rfl rfl)
theorem dX5_behind_20 : decode cX5_behind 20 = .ok (.iload_n 3, 1) := dk_29 (dk_at dksX5_behind_0 20 rfl rfl)
theorem dX5_behind_21 : decode cX5_behind 21 = .ok (.ifCond .lt 20, 3) := dk_155 0 20 (dk_at dksX5_behind_0 21 rfl rfl)
theorem dX5_behind_24 : decode cX5_behind 24 = .ok (.iload_n 3, 1) := dk_29 (dk_at dksX5_behind_1 0 rfl rfl)
theorem dX5_behind_25 : decode cX5_behind 25 = .ok (.iconst 2, 1) := dk_5 (dk_at dksX5_behind_1 1 rfl rfl)
theorem dX5_behind_26 : decode cX5_behind 26 = .ok (.if_icmp .gt 15, 3) := dk_163 0 15 (dk_at dksX5_behind_1 2 rfl rfl)
theorem dX5_behind_29 : decode cX5_behind 29 = .ok (.iload_n 3, 1) := dk_29 (dk_at dksX5_behind_1 5 rfl rfl)
theorem dX5_behind_30 : decode cX5_behind 30 = .ok (.iconst 1, 1) := dk_4 (dk_at dksX5_behind_1 6 rfl rfl)
theorem dX5_behind_31 : decode cX5_behind 31 = .ok (.if_icmp .ne 14, 3) := dk_160 0 14 (dk_at dksX5_behind_1 7 rfl rfl)
theorem dX5_behind_34 : decode cX5_behind 34 = .ok (.aload_n 0, 1) := dk_42 (dk_at dksX5_behind_1 10 rfl rfl)
theorem dX5_behind_35 : decode cX5_behind 35 = .ok (.getfield 108, 3) := dk_180 0 108 (dk_at dksX5_behind_1 11 rfl rfl)
theorem dX5_behind_38 : decode cX5_behind 38 = .ok (.ifCond .ne 7, 3) := dk_154 0 7 (dk_at dksX5_behind_1 14 rfl rfl)
theorem dX5_behind_41 : decode cX5_behind 41 = .ok (.bipush (-5), 2) := dk_16 251 (dk_at dksX5_behind_1 17 rfl rfl)
theorem dX5_behind_43 : decode cX5_behind 43 = .ok (.istore 4, 2) := dk_54 4 (dk_at dksX5_behind_1 19 rfl rfl)
theorem dX5_behind_45 : decode cX5_behind 45 = .ok (.iload 4, 2) := dk_21 4 (dk_at dksX5_behind_1 21 rfl rfl)
theorem dX5_behind_47 : decode cX5_behind 47 = .ok (.ifCond .eq 10, 3) := dk_153 0 10 (dk_at dksX5_behind_2 0 rfl rfl)
theorem dX5_behind_50 : decode cX5_behind 50 = .ok (.aload_n 0, 1) := dk_42 (dk_at dksX5_behind_2 3 rfl rfl)
theorem dX5_behind_51 : decode cX5_behind 51 = .ok (.iload 4, 2) := dk_21 4 (dk_at dksX5_behind_2 4 rfl rfl)
theorem dX5_behind_53 : decode cX5_behind 53 = .ok (.invokevirtual 115, 3) := dk_182 0 115 (dk_at dksX5_behind_2 6 rfl rfl)
theorem dX5_behind_56 : decode cX5_behind 56 = .ok (.ireturn, 1) := dk_172 (dk_at dksX5_behind_2 9 rfl rfl)
theorem dX5_behind_57 : decode cX5_behind 57 = .ok (.aload_n 0, 1) := dk_42 (dk_at dksX5_behind_2 10 rfl rfl)
theorem dX5_behind_58 : decode cX5_behind 58 = .ok (.aload_n 0, 1) := dk_42 (dk_at dksX5_behind_2 11 rfl rfl)
theorem dX5_behind_59 : decode cX5_behind 59 = .ok (.getfield 90, 3) := dk_180 0 90 (dk_at dksX5_behind_2 12 rfl rfl)
theorem dX5_behind_62 : decode cX5_behind 62 = .ok (.iconst 0, 1) := dk_3 (dk_at dksX5_behind_2 15 rfl rfl)
theorem dX5_behind_63 : decode cX5_behind 63 = .ok (.invokevirtual 198, 3) := dk_182 0 198 (dk_at dksX5_behind_2 16 rfl rfl)
theorem dX5_behind_66 : decode cX5_behind 66 = .ok (.aload_n 0, 1) := dk_42 (dk_at dksX5_behind_2 19 rfl rfl)
theorem dX5_behind_67 : decode cX5_behind 67 = .ok (.iload_n 1, 1) := dk_27 (dk_at dksX5_behind_2 20 rfl rfl)
theorem dX5_behind_68 : decode cX5_behind 68 = .ok (.iload_n 2, 1) := dk_28 (dk_at dksX5_behind_2 21 rfl rfl)
theorem dX5_behind_69 : decode cX5_behind 69 = .ok (.invokevirtual 274, 3) := dk_182 1 18 (dk_at dksX5_behind_3 0 rfl rfl)
theorem dX5_behind_72 : decode cX5_behind 72 = .ok (.istore 5, 2) := dk_54 5 (dk_at dksX5_behind_3 3 rfl rfl)
theorem dX5_behind_74 : decode cX5_behind 74 = .ok (.iload_n 3, 1) := dk_29 (dk_at dksX5_behind_3 5 rfl rfl)
theorem dX5_behind_75 : decode cX5_behind 75 = .ok (.ifCond .ne 10, 3) := dk_154 0 10 (dk_at dksX5_behind_3 6 rfl rfl)
theorem dX5_behind_78 : decode cX5_behind 78 = .ok (.aload_n 0, 1) := dk_42 (dk_at dksX5_behind_3 9 rfl rfl)
theorem dX5_behind_79 : decode cX5_behind 79 = .ok (.getfield 265, 3) := dk_180 1 9 (dk_at dksX5_behind_3 10 rfl rfl)
theorem dX5_behind_82 : decode cX5_behind 82 = .ok (.goto 21, 3) := dk_167 0 21 (dk_at dksX5_behind_3 13 rfl rfl)
theorem dX5_behind_85 : decode cX5_behind 85 = .ok (.iload_n 3, 1) := dk_29 (dk_at dksX5_behind_3 16 rfl rfl)
theorem dX5_behind_86 : decode cX5_behind 86 = .ok (.iconst 1, 1) := dk_4 (dk_at dksX5_behind_3 17 rfl rfl)
theorem dX5_behind_87 : decode cX5_behind 87 = .ok (.if_icmp .ne 12, 3) := dk_160 0 12 (dk_at dksX5_behind_3 18 rfl rfl)
theorem dX5_behind_90 : decode cX5_behind 90 = .ok (.aload_n 0, 1) := dk_42 (dk_at dksX5_behind_3 21 rfl rfl)
theorem dX5_behind_91 : decode cX5_behind 91 = .ok (.getfield 41, 3) := dk_180 0 41 (dk_at dksX5_behind_4 0 rfl rfl)
theorem dX5_behind_94 : decode cX5_behind 94 = .ok (.iconst 0, 1) := dk_3 (dk_at dksX5_behind_4 3 rfl rfl)
theorem dX5_behind_95 : decode cX5_behind 95 = .ok (.iaload, 1) := dk_46 (dk_at dksX5_behind_4 4 rfl rfl)
theorem dX5_behind_96 : decode cX5_behind 96 = .ok (.goto 7, 3) := dk_167 0 7 (dk_at dksX5_behind_4 5 rfl rfl)
theorem dX5_behind_99 : decode cX5_behind 99 = .ok (.aload_n 0, 1) := dk_42 (dk_at dksX5_behind_4 8 rfl rfl)
theorem dX5_behind_100 : decode cX5_behind 100 = .ok (.invokevirtual 277, 3) := dk_182 1 21 (dk_at dksX5_behind_4 9 rfl rfl)
theorem dX5_behind_103 : decode cX5_behind 103 = .ok (.istore 6, 2) := dk_54 6 (dk_at dksX5_behind_4 12 rfl rfl)
theorem dX5_behind_105 : decode cX5_behind 105 = .ok (.aload_n 0, 1) := dk_42 (dk_at dksX5_behind_4 14 rfl rfl)
theorem dX5_behind_106 : decode cX5_behind 106 = .ok (.aload_n 0, 1) := dk_42 (dk_at dksX5_behind_4 15 rfl rfl)
theorem dX5_behind_107 : decode cX5_behind 107 = .ok (.getfield 90, 3) := dk_180 0 90 (dk_at dksX5_behind_4 16 rfl rfl)
theorem dX5_behind_110 : decode cX5_behind 110 = .ok (.iconst 1, 1) := dk_4 (dk_at dksX5_behind_4 19 rfl rfl)
theorem dX5_behind_111 : decode cX5_behind 111 = .ok (.invokevirtual 198, 3) := dk_182 0 198 (dk_at dksX5_behind_4 20 rfl rfl)
theorem dX5_behind_114 : decode cX5_behind 114 = .ok (.iload 5, 2) := dk_21 5 (dk_at dksX5_behind_5 0 rfl rfl)
theorem dX5_behind_116 : decode cX5_behind 116 = .ok (.iconst (-1), 1) := dk_2 (dk_at dksX5_behind_5 2 rfl rfl)
theorem dX5_behind_117 : decode cX5_behind 117 = .ok (.if_icmp .ne 8, 3) := dk_160 0 8 (dk_at dksX5_behind_5 3 rfl rfl)
theorem dX5_behind_120 : decode cX5_behind 120 = .ok (.iload 6, 2) := dk_21 6 (dk_at dksX5_behind_5 6 rfl rfl)
theorem dX5_behind_122 : decode cX5_behind 122 = .ok (.goto 9, 3) := dk_167 0 9 (dk_at dksX5_behind_5 8 rfl rfl)
theorem dX5_behind_125 : decode cX5_behind 125 = .ok (.aload_n 0, 1) := dk_42 (dk_at dksX5_behind_5 11 rfl rfl)
theorem dX5_behind_126 : decode cX5_behind 126 = .ok (.bipush (-6), 2) := dk_16 250 (dk_at dksX5_behind_5 12 rfl rfl)
theorem dX5_behind_128 : decode cX5_behind 128 = .ok (.invokevirtual 115, 3) := dk_182 0 115 (dk_at dksX5_behind_5 14 rfl rfl)
theorem dX5_behind_131 : decode cX5_behind 131 = .ok (.ireturn, 1) := dk_172 (dk_at dksX5_behind_5 17 rfl rfl)
abbrev cX5_empty : ByteArray := prog_22_method_72_code
def yX5_empty : MethodName := ⟨RX5, "empty", "()I"⟩
def dkwX5_empty_1 : List UInt8 := [132, 2, 1, 167, 255, 233, 27, 172]
abbrev dktX5_empty_1 : List UInt8 := dkwX5_empty_1 ++ []
def dkwX5_empty_0 : List UInt8 := [3, 60, 3, 61, 28, 42, 180, 0, 108, 162, 0, 21, 42, 180, 0, 38, 28, 46, 154, 0, 6, 132, 1, 1]
abbrev dktX5_empty_0 : List UInt8 := dkwX5_empty_0 ++ dktX5_empty_1
theorem dksX5_empty_0 : cX5_empty.data.toList.drop 0 = dktX5_empty_0 := by decide +kernel
theorem dksX5_empty_1 : cX5_empty.data.toList.drop 24 = dktX5_empty_1 := dk_seg dksX5_empty_0 24 rfl rfl
theorem dX5_empty_0 : decode cX5_empty 0 = .ok (.iconst 0, 1) := dk_3 (dk_at dksX5_empty_0 0 rfl rfl)
theorem dX5_empty_1 : decode cX5_empty 1 = .ok (.istore_n 1, 1) := dk_60 (dk_at dksX5_empty_0 1 rfl rfl)
theorem dX5_empty_2 : decode cX5_empty 2 = .ok (.iconst 0, 1) := dk_3 (dk_at dksX5_empty_0 2 rfl rfl)
theorem dX5_empty_3 : decode cX5_empty 3 = .ok (.istore_n 2, 1) := dk_61 (dk_at dksX5_empty_0 3 rfl rfl)
theorem dX5_empty_4 : decode cX5_empty 4 = .ok (.iload_n 2, 1) := dk_28 (dk_at dksX5_empty_0 4 rfl rfl)
theorem dX5_empty_5 : decode cX5_empty 5 = .ok (.aload_n 0, 1) := dk_42 (dk_at dksX5_empty_0 5 rfl rfl)
theorem dX5_empty_6 : decode cX5_empty 6 = .ok (.getfield 108, 3) := dk_180 0 108 (dk_at dksX5_empty_0 6 rfl rfl)
theorem dX5_empty_9 : decode cX5_empty 9 = .ok (.if_icmp .ge 21, 3) := dk_162 0 21 (dk_at dksX5_empty_0 9 rfl rfl)
theorem dX5_empty_12 : decode cX5_empty 12 = .ok (.aload_n 0, 1) := dk_42 (dk_at dksX5_empty_0 12 rfl rfl)
theorem dX5_empty_13 : decode cX5_empty 13 = .ok (.getfield 38, 3) := dk_180 0 38 (dk_at dksX5_empty_0 13 rfl rfl)
theorem dX5_empty_16 : decode cX5_empty 16 = .ok (.iload_n 2, 1) := dk_28 (dk_at dksX5_empty_0 16 rfl rfl)
theorem dX5_empty_17 : decode cX5_empty 17 = .ok (.iaload, 1) := dk_46 (dk_at dksX5_empty_0 17 rfl rfl)
theorem dX5_empty_18 : decode cX5_empty 18 = .ok (.ifCond .ne 6, 3) := dk_154 0 6 (dk_at dksX5_empty_0 18 rfl rfl)
theorem dX5_empty_21 : decode cX5_empty 21 = .ok (.iinc 1 1, 3) := dk_132 1 1 (dk_at dksX5_empty_0 21 rfl rfl)
theorem dX5_empty_24 : decode cX5_empty 24 = .ok (.iinc 2 1, 3) := dk_132 2 1 (dk_at dksX5_empty_1 0 rfl rfl)
theorem dX5_empty_27 : decode cX5_empty 27 = .ok (.goto (-23), 3) := dk_167 255 233 (dk_at dksX5_empty_1 3 rfl rfl)
theorem dX5_empty_30 : decode cX5_empty 30 = .ok (.iload_n 1, 1) := dk_27 (dk_at dksX5_empty_1 6 rfl rfl)
theorem dX5_empty_31 : decode cX5_empty 31 = .ok (.ireturn, 1) := dk_172 (dk_at dksX5_empty_1 7 rfl rfl)
abbrev cX5_done : ByteArray := prog_22_method_74_code
def yX5_done : MethodName := ⟨RX5, "done", "(II)I"⟩
def dkwX5_done_3 : List UInt8 := [4, 96, 181, 0, 189, 42, 180, 0, 192, 172]
abbrev dktX5_done_3 : List UInt8 := dkwX5_done_3 ++ []
def dkwX5_done_2 : List UInt8 := [16, 250, 182, 0, 115, 172, 42, 89, 180, 0, 192, 42, 180, 1, 9, 96, 181, 0, 192, 42, 89, 180, 0, 189]
abbrev dktX5_done_2 : List UInt8 := dkwX5_done_2 ++ dktX5_done_3
def dkwX5_done_1 : List UInt8 := [182, 0, 198, 42, 27, 28, 182, 1, 18, 2, 159, 0, 19, 42, 42, 180, 0, 90, 4, 182, 0, 198, 42]
abbrev dktX5_done_1 : List UInt8 := dkwX5_done_1 ++ dktX5_done_2
def dkwX5_done_0 : List UInt8 := [42, 27, 28, 182, 1, 15, 62, 29, 153, 0, 9, 42, 29, 182, 0, 115, 172, 42, 42, 180, 0, 90, 3]
abbrev dktX5_done_0 : List UInt8 := dkwX5_done_0 ++ dktX5_done_1
theorem dksX5_done_0 : cX5_done.data.toList.drop 0 = dktX5_done_0 := by decide +kernel
theorem dksX5_done_1 : cX5_done.data.toList.drop 23 = dktX5_done_1 := dk_seg dksX5_done_0 23 rfl rfl
theorem dksX5_done_2 : cX5_done.data.toList.drop 46 = dktX5_done_2 := dk_seg dksX5_done_1 23 rfl rfl
theorem dksX5_done_3 : cX5_done.data.toList.drop 70 = dktX5_done_3 := dk_seg dksX5_done_2 24 rfl rfl
theorem dX5_done_0 : decode cX5_done 0 = .ok (.aload_n 0, 1) := dk_42 (dk_at dksX5_done_0 0 rfl rfl)
theorem dX5_done_1 : decode cX5_done 1 = .ok (.iload_n 1, 1) := dk_27 (dk_at dksX5_done_0 1 rfl rfl)
theorem dX5_done_2 : decode cX5_done 2 = .ok (.iload_n 2, 1) := dk_28 (dk_at dksX5_done_0 2 rfl rfl)
theorem dX5_done_3 : decode cX5_done 3 = .ok (.invokevirtual 271, 3) := dk_182 1 15 (dk_at dksX5_done_0 3 rfl rfl)
theorem dX5_done_6 : decode cX5_done 6 = .ok (.istore_n 3, 1) := dk_62 (dk_at dksX5_done_0 6 rfl rfl)
theorem dX5_done_7 : decode cX5_done 7 = .ok (.iload_n 3, 1) := dk_29 (dk_at dksX5_done_0 7 rfl rfl)
theorem dX5_done_8 : decode cX5_done 8 = .ok (.ifCond .eq 9, 3) := dk_153 0 9 (dk_at dksX5_done_0 8 rfl rfl)
theorem dX5_done_11 : decode cX5_done 11 = .ok (.aload_n 0, 1) := dk_42 (dk_at dksX5_done_0 11 rfl rfl)
theorem dX5_done_12 : decode cX5_done 12 = .ok (.iload_n 3, 1) := dk_29 (dk_at dksX5_done_0 12 rfl rfl)
theorem dX5_done_13 : decode cX5_done 13 = .ok (.invokevirtual 115, 3) := dk_182 0 115 (dk_at dksX5_done_0 13 rfl rfl)
theorem dX5_done_16 : decode cX5_done 16 = .ok (.ireturn, 1) := dk_172 (dk_at dksX5_done_0 16 rfl rfl)
theorem dX5_done_17 : decode cX5_done 17 = .ok (.aload_n 0, 1) := dk_42 (dk_at dksX5_done_0 17 rfl rfl)
theorem dX5_done_18 : decode cX5_done 18 = .ok (.aload_n 0, 1) := dk_42 (dk_at dksX5_done_0 18 rfl rfl)
theorem dX5_done_19 : decode cX5_done 19 = .ok (.getfield 90, 3) := dk_180 0 90 (dk_at dksX5_done_0 19 rfl rfl)
theorem dX5_done_22 : decode cX5_done 22 = .ok (.iconst 0, 1) := dk_3 (dk_at dksX5_done_0 22 rfl rfl)
theorem dX5_done_23 : decode cX5_done 23 = .ok (.invokevirtual 198, 3) := dk_182 0 198 (dk_at dksX5_done_1 0 rfl rfl)
theorem dX5_done_26 : decode cX5_done 26 = .ok (.aload_n 0, 1) := dk_42 (dk_at dksX5_done_1 3 rfl rfl)
theorem dX5_done_27 : decode cX5_done 27 = .ok (.iload_n 1, 1) := dk_27 (dk_at dksX5_done_1 4 rfl rfl)
theorem dX5_done_28 : decode cX5_done 28 = .ok (.iload_n 2, 1) := dk_28 (dk_at dksX5_done_1 5 rfl rfl)
theorem dX5_done_29 : decode cX5_done 29 = .ok (.invokevirtual 274, 3) := dk_182 1 18 (dk_at dksX5_done_1 6 rfl rfl)
theorem dX5_done_32 : decode cX5_done 32 = .ok (.iconst (-1), 1) := dk_2 (dk_at dksX5_done_1 9 rfl rfl)
theorem dX5_done_33 : decode cX5_done 33 = .ok (.if_icmp .eq 19, 3) := dk_159 0 19 (dk_at dksX5_done_1 10 rfl rfl)
theorem dX5_done_36 : decode cX5_done 36 = .ok (.aload_n 0, 1) := dk_42 (dk_at dksX5_done_1 13 rfl rfl)
theorem dX5_done_37 : decode cX5_done 37 = .ok (.aload_n 0, 1) := dk_42 (dk_at dksX5_done_1 14 rfl rfl)
theorem dX5_done_38 : decode cX5_done 38 = .ok (.getfield 90, 3) := dk_180 0 90 (dk_at dksX5_done_1 15 rfl rfl)
theorem dX5_done_41 : decode cX5_done 41 = .ok (.iconst 1, 1) := dk_4 (dk_at dksX5_done_1 18 rfl rfl)
theorem dX5_done_42 : decode cX5_done 42 = .ok (.invokevirtual 198, 3) := dk_182 0 198 (dk_at dksX5_done_1 19 rfl rfl)
theorem dX5_done_45 : decode cX5_done 45 = .ok (.aload_n 0, 1) := dk_42 (dk_at dksX5_done_1 22 rfl rfl)
theorem dX5_done_46 : decode cX5_done 46 = .ok (.bipush (-6), 2) := dk_16 250 (dk_at dksX5_done_2 0 rfl rfl)
theorem dX5_done_48 : decode cX5_done 48 = .ok (.invokevirtual 115, 3) := dk_182 0 115 (dk_at dksX5_done_2 2 rfl rfl)
theorem dX5_done_51 : decode cX5_done 51 = .ok (.ireturn, 1) := dk_172 (dk_at dksX5_done_2 5 rfl rfl)
theorem dX5_done_52 : decode cX5_done 52 = .ok (.aload_n 0, 1) := dk_42 (dk_at dksX5_done_2 6 rfl rfl)
theorem dX5_done_53 : decode cX5_done 53 = .ok (.dup, 1) := dk_89 (dk_at dksX5_done_2 7 rfl rfl)
theorem dX5_done_54 : decode cX5_done 54 = .ok (.getfield 192, 3) := dk_180 0 192 (dk_at dksX5_done_2 8 rfl rfl)
theorem dX5_done_57 : decode cX5_done 57 = .ok (.aload_n 0, 1) := dk_42 (dk_at dksX5_done_2 11 rfl rfl)
theorem dX5_done_58 : decode cX5_done 58 = .ok (.getfield 265, 3) := dk_180 1 9 (dk_at dksX5_done_2 12 rfl rfl)
theorem dX5_done_61 : decode cX5_done 61 = .ok (.iadd, 1) := dk_96 (dk_at dksX5_done_2 15 rfl rfl)
theorem dX5_done_62 : decode cX5_done 62 = .ok (.putfield 192, 3) := dk_181 0 192 (dk_at dksX5_done_2 16 rfl rfl)
theorem dX5_done_65 : decode cX5_done 65 = .ok (.aload_n 0, 1) := dk_42 (dk_at dksX5_done_2 19 rfl rfl)
theorem dX5_done_66 : decode cX5_done 66 = .ok (.dup, 1) := dk_89 (dk_at dksX5_done_2 20 rfl rfl)
theorem dX5_done_67 : decode cX5_done 67 = .ok (.getfield 189, 3) := dk_180 0 189 (dk_at dksX5_done_2 21 rfl rfl)
theorem dX5_done_70 : decode cX5_done 70 = .ok (.iconst 1, 1) := dk_4 (dk_at dksX5_done_3 0 rfl rfl)
theorem dX5_done_71 : decode cX5_done 71 = .ok (.iadd, 1) := dk_96 (dk_at dksX5_done_3 1 rfl rfl)
theorem dX5_done_72 : decode cX5_done 72 = .ok (.putfield 189, 3) := dk_181 0 189 (dk_at dksX5_done_3 2 rfl rfl)
theorem dX5_done_75 : decode cX5_done 75 = .ok (.aload_n 0, 1) := dk_42 (dk_at dksX5_done_3 5 rfl rfl)
theorem dX5_done_76 : decode cX5_done 76 = .ok (.getfield 192, 3) := dk_180 0 192 (dk_at dksX5_done_3 6 rfl rfl)
theorem dX5_done_79 : decode cX5_done 79 = .ok (.ireturn, 1) := dk_172 (dk_at dksX5_done_3 9 rfl rfl)
abbrev cX5_hours : ByteArray := prog_22_method_76_code
def yX5_hours : MethodName := ⟨RX5, "hours", "(I)I"⟩
def dkwX5_hours_7 : List UInt8 := [132, 2, 1, 167, 255, 111, 42, 180, 0, 192, 172]
abbrev dktX5_hours_7 : List UInt8 := dkwX5_hours_7 ++ []
def dkwX5_hours_6 : List UInt8 := [42, 89, 180, 0, 192, 42, 180, 1, 9, 96, 181, 0, 192, 42, 89, 180, 0, 189, 4, 96, 181, 0, 189]
abbrev dktX5_hours_6 : List UInt8 := dkwX5_hours_6 ++ dktX5_hours_7
def dkwX5_hours_5 : List UInt8 := [181, 1, 9, 3, 62, 29, 42, 180, 0, 108, 162, 0, 14, 42, 29, 182, 1, 12, 132, 3, 1, 167, 255, 240]
abbrev dktX5_hours_5 : List UInt8 := dkwX5_hours_5 ++ dktX5_hours_6
def dkwX5_hours_4 : List UInt8 := [21, 5, 46, 154, 0, 11, 42, 180, 0, 41, 29, 21, 5, 79, 132, 3, 1, 167, 255, 190, 42, 3]
abbrev dktX5_hours_4 : List UInt8 := dkwX5_hours_4 ++ dktX5_hours_5
def dkwX5_hours_3 : List UInt8 := [42, 180, 0, 41, 29, 46, 21, 4, 182, 0, 234, 54, 5, 21, 5, 2, 159, 0, 21, 42, 180, 0, 47]
abbrev dktX5_hours_3 : List UInt8 := dkwX5_hours_3 ++ dktX5_hours_4
def dkwX5_hours_2 : List UInt8 := [180, 0, 108, 162, 0, 64, 42, 8, 182, 1, 25, 54, 4, 21, 4, 7, 160, 0, 7, 2, 167, 0, 15, 42]
abbrev dktX5_hours_2 : List UInt8 := dkwX5_hours_2 ++ dktX5_hours_3
def dkwX5_hours_1 : List UInt8 := [162, 0, 146, 42, 42, 7, 182, 1, 25, 154, 0, 7, 4, 167, 0, 4, 3, 181, 0, 139, 3, 62, 29, 42]
abbrev dktX5_hours_1 : List UInt8 := dkwX5_hours_1 ++ dktX5_hours_2
def dkwX5_hours_0 : List UInt8 := [42, 27, 4, 16, 40, 182, 0, 125, 154, 0, 10, 42, 16, 250, 182, 0, 115, 172, 3, 61, 28, 27]
abbrev dktX5_hours_0 : List UInt8 := dkwX5_hours_0 ++ dktX5_hours_1
theorem dksX5_hours_0 : cX5_hours.data.toList.drop 0 = dktX5_hours_0 := by decide +kernel
theorem dksX5_hours_1 : cX5_hours.data.toList.drop 22 = dktX5_hours_1 := dk_seg dksX5_hours_0 22 rfl rfl
theorem dksX5_hours_2 : cX5_hours.data.toList.drop 46 = dktX5_hours_2 := dk_seg dksX5_hours_1 24 rfl rfl
theorem dksX5_hours_3 : cX5_hours.data.toList.drop 70 = dktX5_hours_3 := dk_seg dksX5_hours_2 24 rfl rfl
theorem dksX5_hours_4 : cX5_hours.data.toList.drop 93 = dktX5_hours_4 := dk_seg dksX5_hours_3 23 rfl rfl
theorem dksX5_hours_5 : cX5_hours.data.toList.drop 115 = dktX5_hours_5 := dk_seg dksX5_hours_4 22 rfl rfl
theorem dksX5_hours_6 : cX5_hours.data.toList.drop 139 = dktX5_hours_6 := dk_seg dksX5_hours_5 24 rfl rfl
theorem dksX5_hours_7 : cX5_hours.data.toList.drop 162 = dktX5_hours_7 := dk_seg dksX5_hours_6 23 rfl rfl
theorem dX5_hours_0 : decode cX5_hours 0 = .ok (.aload_n 0, 1) := dk_42 (dk_at dksX5_hours_0 0 rfl rfl)
theorem dX5_hours_1 : decode cX5_hours 1 = .ok (.iload_n 1, 1) := dk_27 (dk_at dksX5_hours_0 1 rfl rfl)
theorem dX5_hours_2 : decode cX5_hours 2 = .ok (.iconst 1, 1) := dk_4 (dk_at dksX5_hours_0 2 rfl rfl)
theorem dX5_hours_3 : decode cX5_hours 3 = .ok (.bipush 40, 2) := dk_16 40 (dk_at dksX5_hours_0 3 rfl rfl)
theorem dX5_hours_5 : decode cX5_hours 5 = .ok (.invokevirtual 125, 3) := dk_182 0 125 (dk_at dksX5_hours_0 5 rfl rfl)
theorem dX5_hours_8 : decode cX5_hours 8 = .ok (.ifCond .ne 10, 3) := dk_154 0 10 (dk_at dksX5_hours_0 8 rfl rfl)
theorem dX5_hours_11 : decode cX5_hours 11 = .ok (.aload_n 0, 1) := dk_42 (dk_at dksX5_hours_0 11 rfl rfl)
theorem dX5_hours_12 : decode cX5_hours 12 = .ok (.bipush (-6), 2) := dk_16 250 (dk_at dksX5_hours_0 12 rfl rfl)
theorem dX5_hours_14 : decode cX5_hours 14 = .ok (.invokevirtual 115, 3) := dk_182 0 115 (dk_at dksX5_hours_0 14 rfl rfl)
theorem dX5_hours_17 : decode cX5_hours 17 = .ok (.ireturn, 1) := dk_172 (dk_at dksX5_hours_0 17 rfl rfl)
theorem dX5_hours_18 : decode cX5_hours 18 = .ok (.iconst 0, 1) := dk_3 (dk_at dksX5_hours_0 18 rfl rfl)
theorem dX5_hours_19 : decode cX5_hours 19 = .ok (.istore_n 2, 1) := dk_61 (dk_at dksX5_hours_0 19 rfl rfl)
theorem dX5_hours_20 : decode cX5_hours 20 = .ok (.iload_n 2, 1) := dk_28 (dk_at dksX5_hours_0 20 rfl rfl)
theorem dX5_hours_21 : decode cX5_hours 21 = .ok (.iload_n 1, 1) := dk_27 (dk_at dksX5_hours_0 21 rfl rfl)
theorem dX5_hours_22 : decode cX5_hours 22 = .ok (.if_icmp .ge 146, 3) := dk_162 0 146 (dk_at dksX5_hours_1 0 rfl rfl)
theorem dX5_hours_25 : decode cX5_hours 25 = .ok (.aload_n 0, 1) := dk_42 (dk_at dksX5_hours_1 3 rfl rfl)
theorem dX5_hours_26 : decode cX5_hours 26 = .ok (.aload_n 0, 1) := dk_42 (dk_at dksX5_hours_1 4 rfl rfl)
theorem dX5_hours_27 : decode cX5_hours 27 = .ok (.iconst 4, 1) := dk_7 (dk_at dksX5_hours_1 5 rfl rfl)
theorem dX5_hours_28 : decode cX5_hours 28 = .ok (.invokevirtual 281, 3) := dk_182 1 25 (dk_at dksX5_hours_1 6 rfl rfl)
theorem dX5_hours_31 : decode cX5_hours 31 = .ok (.ifCond .ne 7, 3) := dk_154 0 7 (dk_at dksX5_hours_1 9 rfl rfl)
theorem dX5_hours_34 : decode cX5_hours 34 = .ok (.iconst 1, 1) := dk_4 (dk_at dksX5_hours_1 12 rfl rfl)
theorem dX5_hours_35 : decode cX5_hours 35 = .ok (.goto 4, 3) := dk_167 0 4 (dk_at dksX5_hours_1 13 rfl rfl)
theorem dX5_hours_38 : decode cX5_hours 38 = .ok (.iconst 0, 1) := dk_3 (dk_at dksX5_hours_1 16 rfl rfl)
theorem dX5_hours_39 : decode cX5_hours 39 = .ok (.putfield 139, 3) := dk_181 0 139 (dk_at dksX5_hours_1 17 rfl rfl)
theorem dX5_hours_42 : decode cX5_hours 42 = .ok (.iconst 0, 1) := dk_3 (dk_at dksX5_hours_1 20 rfl rfl)
theorem dX5_hours_43 : decode cX5_hours 43 = .ok (.istore_n 3, 1) := dk_62 (dk_at dksX5_hours_1 21 rfl rfl)
theorem dX5_hours_44 : decode cX5_hours 44 = .ok (.iload_n 3, 1) := dk_29 (dk_at dksX5_hours_1 22 rfl rfl)
theorem dX5_hours_45 : decode cX5_hours 45 = .ok (.aload_n 0, 1) := dk_42 (dk_at dksX5_hours_1 23 rfl rfl)
theorem dX5_hours_46 : decode cX5_hours 46 = .ok (.getfield 108, 3) := dk_180 0 108 (dk_at dksX5_hours_2 0 rfl rfl)
theorem dX5_hours_49 : decode cX5_hours 49 = .ok (.if_icmp .ge 64, 3) := dk_162 0 64 (dk_at dksX5_hours_2 3 rfl rfl)
theorem dX5_hours_52 : decode cX5_hours 52 = .ok (.aload_n 0, 1) := dk_42 (dk_at dksX5_hours_2 6 rfl rfl)
theorem dX5_hours_53 : decode cX5_hours 53 = .ok (.iconst 5, 1) := dk_8 (dk_at dksX5_hours_2 7 rfl rfl)
theorem dX5_hours_54 : decode cX5_hours 54 = .ok (.invokevirtual 281, 3) := dk_182 1 25 (dk_at dksX5_hours_2 8 rfl rfl)
theorem dX5_hours_57 : decode cX5_hours 57 = .ok (.istore 4, 2) := dk_54 4 (dk_at dksX5_hours_2 11 rfl rfl)
theorem dX5_hours_59 : decode cX5_hours 59 = .ok (.iload 4, 2) := dk_21 4 (dk_at dksX5_hours_2 13 rfl rfl)
theorem dX5_hours_61 : decode cX5_hours 61 = .ok (.iconst 4, 1) := dk_7 (dk_at dksX5_hours_2 15 rfl rfl)
theorem dX5_hours_62 : decode cX5_hours 62 = .ok (.if_icmp .ne 7, 3) := dk_160 0 7 (dk_at dksX5_hours_2 16 rfl rfl)
theorem dX5_hours_65 : decode cX5_hours 65 = .ok (.iconst (-1), 1) := dk_2 (dk_at dksX5_hours_2 19 rfl rfl)
theorem dX5_hours_66 : decode cX5_hours 66 = .ok (.goto 15, 3) := dk_167 0 15 (dk_at dksX5_hours_2 20 rfl rfl)
theorem dX5_hours_69 : decode cX5_hours 69 = .ok (.aload_n 0, 1) := dk_42 (dk_at dksX5_hours_2 23 rfl rfl)
theorem dX5_hours_70 : decode cX5_hours 70 = .ok (.aload_n 0, 1) := dk_42 (dk_at dksX5_hours_3 0 rfl rfl)
theorem dX5_hours_71 : decode cX5_hours 71 = .ok (.getfield 41, 3) := dk_180 0 41 (dk_at dksX5_hours_3 1 rfl rfl)
theorem dX5_hours_74 : decode cX5_hours 74 = .ok (.iload_n 3, 1) := dk_29 (dk_at dksX5_hours_3 4 rfl rfl)
theorem dX5_hours_75 : decode cX5_hours 75 = .ok (.iaload, 1) := dk_46 (dk_at dksX5_hours_3 5 rfl rfl)
theorem dX5_hours_76 : decode cX5_hours 76 = .ok (.iload 4, 2) := dk_21 4 (dk_at dksX5_hours_3 6 rfl rfl)
theorem dX5_hours_78 : decode cX5_hours 78 = .ok (.invokevirtual 234, 3) := dk_182 0 234 (dk_at dksX5_hours_3 8 rfl rfl)
theorem dX5_hours_81 : decode cX5_hours 81 = .ok (.istore 5, 2) := dk_54 5 (dk_at dksX5_hours_3 11 rfl rfl)
theorem dX5_hours_83 : decode cX5_hours 83 = .ok (.iload 5, 2) := dk_21 5 (dk_at dksX5_hours_3 13 rfl rfl)
theorem dX5_hours_85 : decode cX5_hours 85 = .ok (.iconst (-1), 1) := dk_2 (dk_at dksX5_hours_3 15 rfl rfl)
theorem dX5_hours_86 : decode cX5_hours 86 = .ok (.if_icmp .eq 21, 3) := dk_159 0 21 (dk_at dksX5_hours_3 16 rfl rfl)
theorem dX5_hours_89 : decode cX5_hours 89 = .ok (.aload_n 0, 1) := dk_42 (dk_at dksX5_hours_3 19 rfl rfl)
theorem dX5_hours_90 : decode cX5_hours 90 = .ok (.getfield 47, 3) := dk_180 0 47 (dk_at dksX5_hours_3 20 rfl rfl)
theorem dX5_hours_93 : decode cX5_hours 93 = .ok (.iload 5, 2) := dk_21 5 (dk_at dksX5_hours_4 0 rfl rfl)
theorem dX5_hours_95 : decode cX5_hours 95 = .ok (.iaload, 1) := dk_46 (dk_at dksX5_hours_4 2 rfl rfl)
theorem dX5_hours_96 : decode cX5_hours 96 = .ok (.ifCond .ne 11, 3) := dk_154 0 11 (dk_at dksX5_hours_4 3 rfl rfl)
theorem dX5_hours_99 : decode cX5_hours 99 = .ok (.aload_n 0, 1) := dk_42 (dk_at dksX5_hours_4 6 rfl rfl)
theorem dX5_hours_100 : decode cX5_hours 100 = .ok (.getfield 41, 3) := dk_180 0 41 (dk_at dksX5_hours_4 7 rfl rfl)
theorem dX5_hours_103 : decode cX5_hours 103 = .ok (.iload_n 3, 1) := dk_29 (dk_at dksX5_hours_4 10 rfl rfl)
theorem dX5_hours_104 : decode cX5_hours 104 = .ok (.iload 5, 2) := dk_21 5 (dk_at dksX5_hours_4 11 rfl rfl)
theorem dX5_hours_106 : decode cX5_hours 106 = .ok (.iastore, 1) := dk_79 (dk_at dksX5_hours_4 13 rfl rfl)
theorem dX5_hours_107 : decode cX5_hours 107 = .ok (.iinc 3 1, 3) := dk_132 3 1 (dk_at dksX5_hours_4 14 rfl rfl)
theorem dX5_hours_110 : decode cX5_hours 110 = .ok (.goto (-66), 3) := dk_167 255 190 (dk_at dksX5_hours_4 17 rfl rfl)
theorem dX5_hours_113 : decode cX5_hours 113 = .ok (.aload_n 0, 1) := dk_42 (dk_at dksX5_hours_4 20 rfl rfl)
theorem dX5_hours_114 : decode cX5_hours 114 = .ok (.iconst 0, 1) := dk_3 (dk_at dksX5_hours_4 21 rfl rfl)
theorem dX5_hours_115 : decode cX5_hours 115 = .ok (.putfield 265, 3) := dk_181 1 9 (dk_at dksX5_hours_5 0 rfl rfl)
theorem dX5_hours_118 : decode cX5_hours 118 = .ok (.iconst 0, 1) := dk_3 (dk_at dksX5_hours_5 3 rfl rfl)
theorem dX5_hours_119 : decode cX5_hours 119 = .ok (.istore_n 3, 1) := dk_62 (dk_at dksX5_hours_5 4 rfl rfl)
theorem dX5_hours_120 : decode cX5_hours 120 = .ok (.iload_n 3, 1) := dk_29 (dk_at dksX5_hours_5 5 rfl rfl)
theorem dX5_hours_121 : decode cX5_hours 121 = .ok (.aload_n 0, 1) := dk_42 (dk_at dksX5_hours_5 6 rfl rfl)
theorem dX5_hours_122 : decode cX5_hours 122 = .ok (.getfield 108, 3) := dk_180 0 108 (dk_at dksX5_hours_5 7 rfl rfl)
theorem dX5_hours_125 : decode cX5_hours 125 = .ok (.if_icmp .ge 14, 3) := dk_162 0 14 (dk_at dksX5_hours_5 10 rfl rfl)
theorem dX5_hours_128 : decode cX5_hours 128 = .ok (.aload_n 0, 1) := dk_42 (dk_at dksX5_hours_5 13 rfl rfl)
theorem dX5_hours_129 : decode cX5_hours 129 = .ok (.iload_n 3, 1) := dk_29 (dk_at dksX5_hours_5 14 rfl rfl)
theorem dX5_hours_130 : decode cX5_hours 130 = .ok (.invokevirtual 268, 3) := dk_182 1 12 (dk_at dksX5_hours_5 15 rfl rfl)
theorem dX5_hours_133 : decode cX5_hours 133 = .ok (.iinc 3 1, 3) := dk_132 3 1 (dk_at dksX5_hours_5 18 rfl rfl)
theorem dX5_hours_136 : decode cX5_hours 136 = .ok (.goto (-16), 3) := dk_167 255 240 (dk_at dksX5_hours_5 21 rfl rfl)
theorem dX5_hours_139 : decode cX5_hours 139 = .ok (.aload_n 0, 1) := dk_42 (dk_at dksX5_hours_6 0 rfl rfl)
theorem dX5_hours_140 : decode cX5_hours 140 = .ok (.dup, 1) := dk_89 (dk_at dksX5_hours_6 1 rfl rfl)
theorem dX5_hours_141 : decode cX5_hours 141 = .ok (.getfield 192, 3) := dk_180 0 192 (dk_at dksX5_hours_6 2 rfl rfl)
theorem dX5_hours_144 : decode cX5_hours 144 = .ok (.aload_n 0, 1) := dk_42 (dk_at dksX5_hours_6 5 rfl rfl)
theorem dX5_hours_145 : decode cX5_hours 145 = .ok (.getfield 265, 3) := dk_180 1 9 (dk_at dksX5_hours_6 6 rfl rfl)
theorem dX5_hours_148 : decode cX5_hours 148 = .ok (.iadd, 1) := dk_96 (dk_at dksX5_hours_6 9 rfl rfl)
theorem dX5_hours_149 : decode cX5_hours 149 = .ok (.putfield 192, 3) := dk_181 0 192 (dk_at dksX5_hours_6 10 rfl rfl)
theorem dX5_hours_152 : decode cX5_hours 152 = .ok (.aload_n 0, 1) := dk_42 (dk_at dksX5_hours_6 13 rfl rfl)
theorem dX5_hours_153 : decode cX5_hours 153 = .ok (.dup, 1) := dk_89 (dk_at dksX5_hours_6 14 rfl rfl)
theorem dX5_hours_154 : decode cX5_hours 154 = .ok (.getfield 189, 3) := dk_180 0 189 (dk_at dksX5_hours_6 15 rfl rfl)
theorem dX5_hours_157 : decode cX5_hours 157 = .ok (.iconst 1, 1) := dk_4 (dk_at dksX5_hours_6 18 rfl rfl)
theorem dX5_hours_158 : decode cX5_hours 158 = .ok (.iadd, 1) := dk_96 (dk_at dksX5_hours_6 19 rfl rfl)
theorem dX5_hours_159 : decode cX5_hours 159 = .ok (.putfield 189, 3) := dk_181 0 189 (dk_at dksX5_hours_6 20 rfl rfl)
theorem dX5_hours_162 : decode cX5_hours 162 = .ok (.iinc 2 1, 3) := dk_132 2 1 (dk_at dksX5_hours_7 0 rfl rfl)
theorem dX5_hours_165 : decode cX5_hours 165 = .ok (.goto (-145), 3) := dk_167 255 111 (dk_at dksX5_hours_7 3 rfl rfl)
theorem dX5_hours_168 : decode cX5_hours 168 = .ok (.aload_n 0, 1) := dk_42 (dk_at dksX5_hours_7 6 rfl rfl)
theorem dX5_hours_169 : decode cX5_hours 169 = .ok (.getfield 192, 3) := dk_180 0 192 (dk_at dksX5_hours_7 7 rfl rfl)
theorem dX5_hours_172 : decode cX5_hours 172 = .ok (.ireturn, 1) := dk_172 (dk_at dksX5_hours_7 10 rfl rfl)
abbrev cX5_draw : ByteArray := prog_22_method_75_code
def yX5_draw : MethodName := ⟨RX5, "draw", "(I)I"⟩
def dkwX5_draw_1 : List UInt8 := [112, 172]
abbrev dktX5_draw_1 : List UInt8 := dkwX5_draw_1 ++ []
def dkwX5_draw_0 : List UInt8 := [42, 42, 180, 0, 16, 19, 1, 24, 104, 17, 48, 57, 96, 181, 0, 16, 42, 180, 0, 16, 16, 16, 124, 27]
abbrev dktX5_draw_0 : List UInt8 := dkwX5_draw_0 ++ dktX5_draw_1
theorem dksX5_draw_0 : cX5_draw.data.toList.drop 0 = dktX5_draw_0 := by decide +kernel
theorem dksX5_draw_1 : cX5_draw.data.toList.drop 24 = dktX5_draw_1 := dk_seg dksX5_draw_0 24 rfl rfl
theorem dX5_draw_0 : decode cX5_draw 0 = .ok (.aload_n 0, 1) := dk_42 (dk_at dksX5_draw_0 0 rfl rfl)
theorem dX5_draw_1 : decode cX5_draw 1 = .ok (.aload_n 0, 1) := dk_42 (dk_at dksX5_draw_0 1 rfl rfl)
theorem dX5_draw_2 : decode cX5_draw 2 = .ok (.getfield 16, 3) := dk_180 0 16 (dk_at dksX5_draw_0 2 rfl rfl)
theorem dX5_draw_5 : decode cX5_draw 5 = .ok (.ldc_w 280, 3) := dk_19 1 24 (dk_at dksX5_draw_0 5 rfl rfl)
theorem dX5_draw_8 : decode cX5_draw 8 = .ok (.imul, 1) := dk_104 (dk_at dksX5_draw_0 8 rfl rfl)
theorem dX5_draw_9 : decode cX5_draw 9 = .ok (.sipush 12345, 3) := dk_17 48 57 (dk_at dksX5_draw_0 9 rfl rfl)
theorem dX5_draw_12 : decode cX5_draw 12 = .ok (.iadd, 1) := dk_96 (dk_at dksX5_draw_0 12 rfl rfl)
theorem dX5_draw_13 : decode cX5_draw 13 = .ok (.putfield 16, 3) := dk_181 0 16 (dk_at dksX5_draw_0 13 rfl rfl)
theorem dX5_draw_16 : decode cX5_draw 16 = .ok (.aload_n 0, 1) := dk_42 (dk_at dksX5_draw_0 16 rfl rfl)
theorem dX5_draw_17 : decode cX5_draw 17 = .ok (.getfield 16, 3) := dk_180 0 16 (dk_at dksX5_draw_0 17 rfl rfl)
theorem dX5_draw_20 : decode cX5_draw 20 = .ok (.bipush 16, 2) := dk_16 16 (dk_at dksX5_draw_0 20 rfl rfl)
theorem dX5_draw_22 : decode cX5_draw 22 = .ok (.iushr, 1) := dk_124 (dk_at dksX5_draw_0 22 rfl rfl)
theorem dX5_draw_23 : decode cX5_draw 23 = .ok (.iload_n 1, 1) := dk_27 (dk_at dksX5_draw_0 23 rfl rfl)
theorem dX5_draw_24 : decode cX5_draw 24 = .ok (.irem, 1) := dk_112 (dk_at dksX5_draw_1 0 rfl rfl)
theorem dX5_draw_25 : decode cX5_draw 25 = .ok (.ireturn, 1) := dk_172 (dk_at dksX5_draw_1 1 rfl rfl)
abbrev cX5_seed : ByteArray := prog_22_method_77_code
def yX5_seed : MethodName := ⟨RX5, "seed", "(I)I"⟩
def dkwX5_seed_0 : List UInt8 := [42, 180, 0, 16, 61, 42, 27, 181, 0, 16, 28, 172]
abbrev dktX5_seed_0 : List UInt8 := dkwX5_seed_0 ++ []
theorem dksX5_seed_0 : cX5_seed.data.toList.drop 0 = dktX5_seed_0 := by decide +kernel
theorem dX5_seed_0 : decode cX5_seed 0 = .ok (.aload_n 0, 1) := dk_42 (dk_at dksX5_seed_0 0 rfl rfl)
theorem dX5_seed_1 : decode cX5_seed 1 = .ok (.getfield 16, 3) := dk_180 0 16 (dk_at dksX5_seed_0 1 rfl rfl)
theorem dX5_seed_4 : decode cX5_seed 4 = .ok (.istore_n 2, 1) := dk_61 (dk_at dksX5_seed_0 4 rfl rfl)
theorem dX5_seed_5 : decode cX5_seed 5 = .ok (.aload_n 0, 1) := dk_42 (dk_at dksX5_seed_0 5 rfl rfl)
theorem dX5_seed_6 : decode cX5_seed 6 = .ok (.iload_n 1, 1) := dk_27 (dk_at dksX5_seed_0 6 rfl rfl)
theorem dX5_seed_7 : decode cX5_seed 7 = .ok (.putfield 16, 3) := dk_181 0 16 (dk_at dksX5_seed_0 7 rfl rfl)
theorem dX5_seed_10 : decode cX5_seed 10 = .ok (.iload_n 2, 1) := dk_28 (dk_at dksX5_seed_0 10 rfl rfl)
theorem dX5_seed_11 : decode cX5_seed 11 = .ok (.ireturn, 1) := dk_172 (dk_at dksX5_seed_0 11 rfl rfl)
abbrev cX5_act : ByteArray := prog_22_method_82_code
def yX5_act : MethodName := ⟨RX5, "act", "(III)I"⟩
def dkwX5_act_2 : List UInt8 := [167, 0, 9, 42, 27, 29, 182, 1, 40, 172]
abbrev dktX5_act_2 : List UInt8 := dkwX5_act_2 ++ []
def dkwX5_act_1 : List UInt8 := [28, 154, 0, 12, 42, 27, 29, 182, 1, 34, 167, 0, 23, 28, 4, 160, 0, 12, 42, 27, 29, 182, 1, 37]
abbrev dktX5_act_1 : List UInt8 := dkwX5_act_1 ++ dktX5_act_2
def dkwX5_act_0 : List UInt8 := [42, 3, 181, 1, 28, 42, 27, 182, 0, 119, 153, 0, 12, 28, 155, 0, 8, 28, 5, 164, 0, 5, 3, 172]
abbrev dktX5_act_0 : List UInt8 := dkwX5_act_0 ++ dktX5_act_1
theorem dksX5_act_0 : cX5_act.data.toList.drop 0 = dktX5_act_0 := by decide +kernel
theorem dksX5_act_1 : cX5_act.data.toList.drop 24 = dktX5_act_1 := dk_seg dksX5_act_0 24 rfl rfl
theorem dksX5_act_2 : cX5_act.data.toList.drop 48 = dktX5_act_2 := dk_seg dksX5_act_1 24 rfl rfl
theorem dX5_act_0 : decode cX5_act 0 = .ok (.aload_n 0, 1) := dk_42 (dk_at dksX5_act_0 0 rfl rfl)
theorem dX5_act_1 : decode cX5_act 1 = .ok (.iconst 0, 1) := dk_3 (dk_at dksX5_act_0 1 rfl rfl)
theorem dX5_act_2 : decode cX5_act 2 = .ok (.putfield 284, 3) := dk_181 1 28 (dk_at dksX5_act_0 2 rfl rfl)
theorem dX5_act_5 : decode cX5_act 5 = .ok (.aload_n 0, 1) := dk_42 (dk_at dksX5_act_0 5 rfl rfl)
theorem dX5_act_6 : decode cX5_act 6 = .ok (.iload_n 1, 1) := dk_27 (dk_at dksX5_act_0 6 rfl rfl)
theorem dX5_act_7 : decode cX5_act 7 = .ok (.invokevirtual 119, 3) := dk_182 0 119 (dk_at dksX5_act_0 7 rfl rfl)
theorem dX5_act_10 : decode cX5_act 10 = .ok (.ifCond .eq 12, 3) := dk_153 0 12 (dk_at dksX5_act_0 10 rfl rfl)
theorem dX5_act_13 : decode cX5_act 13 = .ok (.iload_n 2, 1) := dk_28 (dk_at dksX5_act_0 13 rfl rfl)
theorem dX5_act_14 : decode cX5_act 14 = .ok (.ifCond .lt 8, 3) := dk_155 0 8 (dk_at dksX5_act_0 14 rfl rfl)
theorem dX5_act_17 : decode cX5_act 17 = .ok (.iload_n 2, 1) := dk_28 (dk_at dksX5_act_0 17 rfl rfl)
theorem dX5_act_18 : decode cX5_act 18 = .ok (.iconst 2, 1) := dk_5 (dk_at dksX5_act_0 18 rfl rfl)
theorem dX5_act_19 : decode cX5_act 19 = .ok (.if_icmp .le 5, 3) := dk_164 0 5 (dk_at dksX5_act_0 19 rfl rfl)
theorem dX5_act_22 : decode cX5_act 22 = .ok (.iconst 0, 1) := dk_3 (dk_at dksX5_act_0 22 rfl rfl)
theorem dX5_act_23 : decode cX5_act 23 = .ok (.ireturn, 1) := dk_172 (dk_at dksX5_act_0 23 rfl rfl)
theorem dX5_act_24 : decode cX5_act 24 = .ok (.iload_n 2, 1) := dk_28 (dk_at dksX5_act_1 0 rfl rfl)
theorem dX5_act_25 : decode cX5_act 25 = .ok (.ifCond .ne 12, 3) := dk_154 0 12 (dk_at dksX5_act_1 1 rfl rfl)
theorem dX5_act_28 : decode cX5_act 28 = .ok (.aload_n 0, 1) := dk_42 (dk_at dksX5_act_1 4 rfl rfl)
theorem dX5_act_29 : decode cX5_act 29 = .ok (.iload_n 1, 1) := dk_27 (dk_at dksX5_act_1 5 rfl rfl)
theorem dX5_act_30 : decode cX5_act 30 = .ok (.iload_n 3, 1) := dk_29 (dk_at dksX5_act_1 6 rfl rfl)
theorem dX5_act_31 : decode cX5_act 31 = .ok (.invokevirtual 290, 3) := dk_182 1 34 (dk_at dksX5_act_1 7 rfl rfl)
theorem dX5_act_34 : decode cX5_act 34 = .ok (.goto 23, 3) := dk_167 0 23 (dk_at dksX5_act_1 10 rfl rfl)
theorem dX5_act_37 : decode cX5_act 37 = .ok (.iload_n 2, 1) := dk_28 (dk_at dksX5_act_1 13 rfl rfl)
theorem dX5_act_38 : decode cX5_act 38 = .ok (.iconst 1, 1) := dk_4 (dk_at dksX5_act_1 14 rfl rfl)
theorem dX5_act_39 : decode cX5_act 39 = .ok (.if_icmp .ne 12, 3) := dk_160 0 12 (dk_at dksX5_act_1 15 rfl rfl)
theorem dX5_act_42 : decode cX5_act 42 = .ok (.aload_n 0, 1) := dk_42 (dk_at dksX5_act_1 18 rfl rfl)
theorem dX5_act_43 : decode cX5_act 43 = .ok (.iload_n 1, 1) := dk_27 (dk_at dksX5_act_1 19 rfl rfl)
theorem dX5_act_44 : decode cX5_act 44 = .ok (.iload_n 3, 1) := dk_29 (dk_at dksX5_act_1 20 rfl rfl)
theorem dX5_act_45 : decode cX5_act 45 = .ok (.invokevirtual 293, 3) := dk_182 1 37 (dk_at dksX5_act_1 21 rfl rfl)
theorem dX5_act_48 : decode cX5_act 48 = .ok (.goto 9, 3) := dk_167 0 9 (dk_at dksX5_act_2 0 rfl rfl)
theorem dX5_act_51 : decode cX5_act 51 = .ok (.aload_n 0, 1) := dk_42 (dk_at dksX5_act_2 3 rfl rfl)
theorem dX5_act_52 : decode cX5_act 52 = .ok (.iload_n 1, 1) := dk_27 (dk_at dksX5_act_2 4 rfl rfl)
theorem dX5_act_53 : decode cX5_act 53 = .ok (.iload_n 3, 1) := dk_29 (dk_at dksX5_act_2 5 rfl rfl)
theorem dX5_act_54 : decode cX5_act 54 = .ok (.invokevirtual 296, 3) := dk_182 1 40 (dk_at dksX5_act_2 6 rfl rfl)
theorem dX5_act_57 : decode cX5_act 57 = .ok (.ireturn, 1) := dk_172 (dk_at dksX5_act_2 9 rfl rfl)
abbrev cX5_looking : ByteArray := prog_22_method_79_code
def yX5_looking : MethodName := ⟨RX5, "looking", "(II)I"⟩
def dkwX5_looking_6 : List UInt8 := [104, 167, 0, 5, 21, 7, 172]
abbrev dktX5_looking_6 : List UInt8 := dkwX5_looking_6 ++ []
def dkwX5_looking_5 : List UInt8 := [46, 96, 54, 7, 21, 6, 153, 0, 9, 21, 7, 27, 100, 54, 7, 29, 16, 6, 160, 0, 10, 21, 7, 5]
abbrev dktX5_looking_5 : List UInt8 := dkwX5_looking_5 ++ dktX5_looking_6
def dkwX5_looking_4 : List UInt8 := [42, 16, 10, 182, 1, 31, 21, 4, 27, 96, 54, 7, 21, 5, 153, 0, 14, 21, 7, 42, 180, 0, 29, 27]
abbrev dktX5_looking_4 : List UInt8 := dkwX5_looking_4 ++ dktX5_looking_5
def dkwX5_looking_3 : List UInt8 := [54, 4, 21, 5, 153, 0, 9, 42, 16, 20, 182, 1, 31, 21, 6, 153, 0, 9, 42, 16, 51, 182, 1, 31]
abbrev dktX5_looking_3 : List UInt8 := dkwX5_looking_3 ++ dktX5_looking_4
def dkwX5_looking_2 : List UInt8 := [160, 0, 9, 42, 16, 70, 182, 1, 31, 29, 5, 160, 0, 14, 42, 16, 40, 182, 1, 31, 28, 4, 96]
abbrev dktX5_looking_2 : List UInt8 := dkwX5_looking_2 ++ dktX5_looking_3
def dkwX5_looking_1 : List UInt8 := [3, 54, 5, 29, 7, 159, 0, 9, 29, 16, 6, 160, 0, 7, 4, 167, 0, 4, 3, 54, 6, 29, 16, 6]
abbrev dktX5_looking_1 : List UInt8 := dkwX5_looking_1 ++ dktX5_looking_2
def dkwX5_looking_0 : List UInt8 := [42, 180, 0, 26, 27, 46, 62, 28, 54, 4, 29, 4, 159, 0, 8, 29, 5, 160, 0, 7, 4, 167, 0, 4]
abbrev dktX5_looking_0 : List UInt8 := dkwX5_looking_0 ++ dktX5_looking_1
theorem dksX5_looking_0 : cX5_looking.data.toList.drop 0 = dktX5_looking_0 := by decide +kernel
theorem dksX5_looking_1 : cX5_looking.data.toList.drop 24 = dktX5_looking_1 := dk_seg dksX5_looking_0 24 rfl rfl
theorem dksX5_looking_2 : cX5_looking.data.toList.drop 48 = dktX5_looking_2 := dk_seg dksX5_looking_1 24 rfl rfl
theorem dksX5_looking_3 : cX5_looking.data.toList.drop 71 = dktX5_looking_3 := dk_seg dksX5_looking_2 23 rfl rfl
theorem dksX5_looking_4 : cX5_looking.data.toList.drop 95 = dktX5_looking_4 := dk_seg dksX5_looking_3 24 rfl rfl
theorem dksX5_looking_5 : cX5_looking.data.toList.drop 119 = dktX5_looking_5 := dk_seg dksX5_looking_4 24 rfl rfl
theorem dksX5_looking_6 : cX5_looking.data.toList.drop 143 = dktX5_looking_6 := dk_seg dksX5_looking_5 24 rfl rfl
theorem dX5_looking_0 : decode cX5_looking 0 = .ok (.aload_n 0, 1) := dk_42 (dk_at dksX5_looking_0 0 rfl rfl)
theorem dX5_looking_1 : decode cX5_looking 1 = .ok (.getfield 26, 3) := dk_180 0 26 (dk_at dksX5_looking_0 1 rfl rfl)
theorem dX5_looking_4 : decode cX5_looking 4 = .ok (.iload_n 1, 1) := dk_27 (dk_at dksX5_looking_0 4 rfl rfl)
theorem dX5_looking_5 : decode cX5_looking 5 = .ok (.iaload, 1) := dk_46 (dk_at dksX5_looking_0 5 rfl rfl)
theorem dX5_looking_6 : decode cX5_looking 6 = .ok (.istore_n 3, 1) := dk_62 (dk_at dksX5_looking_0 6 rfl rfl)
theorem dX5_looking_7 : decode cX5_looking 7 = .ok (.iload_n 2, 1) := dk_28 (dk_at dksX5_looking_0 7 rfl rfl)
theorem dX5_looking_8 : decode cX5_looking 8 = .ok (.istore 4, 2) := dk_54 4 (dk_at dksX5_looking_0 8 rfl rfl)
theorem dX5_looking_10 : decode cX5_looking 10 = .ok (.iload_n 3, 1) := dk_29 (dk_at dksX5_looking_0 10 rfl rfl)
theorem dX5_looking_11 : decode cX5_looking 11 = .ok (.iconst 1, 1) := dk_4 (dk_at dksX5_looking_0 11 rfl rfl)
theorem dX5_looking_12 : decode cX5_looking 12 = .ok (.if_icmp .eq 8, 3) := dk_159 0 8 (dk_at dksX5_looking_0 12 rfl rfl)
theorem dX5_looking_15 : decode cX5_looking 15 = .ok (.iload_n 3, 1) := dk_29 (dk_at dksX5_looking_0 15 rfl rfl)
theorem dX5_looking_16 : decode cX5_looking 16 = .ok (.iconst 2, 1) := dk_5 (dk_at dksX5_looking_0 16 rfl rfl)
theorem dX5_looking_17 : decode cX5_looking 17 = .ok (.if_icmp .ne 7, 3) := dk_160 0 7 (dk_at dksX5_looking_0 17 rfl rfl)
theorem dX5_looking_20 : decode cX5_looking 20 = .ok (.iconst 1, 1) := dk_4 (dk_at dksX5_looking_0 20 rfl rfl)
theorem dX5_looking_21 : decode cX5_looking 21 = .ok (.goto 4, 3) := dk_167 0 4 (dk_at dksX5_looking_0 21 rfl rfl)
theorem dX5_looking_24 : decode cX5_looking 24 = .ok (.iconst 0, 1) := dk_3 (dk_at dksX5_looking_1 0 rfl rfl)
theorem dX5_looking_25 : decode cX5_looking 25 = .ok (.istore 5, 2) := dk_54 5 (dk_at dksX5_looking_1 1 rfl rfl)
theorem dX5_looking_27 : decode cX5_looking 27 = .ok (.iload_n 3, 1) := dk_29 (dk_at dksX5_looking_1 3 rfl rfl)
theorem dX5_looking_28 : decode cX5_looking 28 = .ok (.iconst 4, 1) := dk_7 (dk_at dksX5_looking_1 4 rfl rfl)
theorem dX5_looking_29 : decode cX5_looking 29 = .ok (.if_icmp .eq 9, 3) := dk_159 0 9 (dk_at dksX5_looking_1 5 rfl rfl)
theorem dX5_looking_32 : decode cX5_looking 32 = .ok (.iload_n 3, 1) := dk_29 (dk_at dksX5_looking_1 8 rfl rfl)
theorem dX5_looking_33 : decode cX5_looking 33 = .ok (.bipush 6, 2) := dk_16 6 (dk_at dksX5_looking_1 9 rfl rfl)
theorem dX5_looking_35 : decode cX5_looking 35 = .ok (.if_icmp .ne 7, 3) := dk_160 0 7 (dk_at dksX5_looking_1 11 rfl rfl)
theorem dX5_looking_38 : decode cX5_looking 38 = .ok (.iconst 1, 1) := dk_4 (dk_at dksX5_looking_1 14 rfl rfl)
theorem dX5_looking_39 : decode cX5_looking 39 = .ok (.goto 4, 3) := dk_167 0 4 (dk_at dksX5_looking_1 15 rfl rfl)
theorem dX5_looking_42 : decode cX5_looking 42 = .ok (.iconst 0, 1) := dk_3 (dk_at dksX5_looking_1 18 rfl rfl)
theorem dX5_looking_43 : decode cX5_looking 43 = .ok (.istore 6, 2) := dk_54 6 (dk_at dksX5_looking_1 19 rfl rfl)
theorem dX5_looking_45 : decode cX5_looking 45 = .ok (.iload_n 3, 1) := dk_29 (dk_at dksX5_looking_1 21 rfl rfl)
theorem dX5_looking_46 : decode cX5_looking 46 = .ok (.bipush 6, 2) := dk_16 6 (dk_at dksX5_looking_1 22 rfl rfl)
theorem dX5_looking_48 : decode cX5_looking 48 = .ok (.if_icmp .ne 9, 3) := dk_160 0 9 (dk_at dksX5_looking_2 0 rfl rfl)
theorem dX5_looking_51 : decode cX5_looking 51 = .ok (.aload_n 0, 1) := dk_42 (dk_at dksX5_looking_2 3 rfl rfl)
theorem dX5_looking_52 : decode cX5_looking 52 = .ok (.bipush 70, 2) := dk_16 70 (dk_at dksX5_looking_2 4 rfl rfl)
theorem dX5_looking_54 : decode cX5_looking 54 = .ok (.invokevirtual 287, 3) := dk_182 1 31 (dk_at dksX5_looking_2 6 rfl rfl)
theorem dX5_looking_57 : decode cX5_looking 57 = .ok (.iload_n 3, 1) := dk_29 (dk_at dksX5_looking_2 9 rfl rfl)
theorem dX5_looking_58 : decode cX5_looking 58 = .ok (.iconst 2, 1) := dk_5 (dk_at dksX5_looking_2 10 rfl rfl)
theorem dX5_looking_59 : decode cX5_looking 59 = .ok (.if_icmp .ne 14, 3) := dk_160 0 14 (dk_at dksX5_looking_2 11 rfl rfl)
theorem dX5_looking_62 : decode cX5_looking 62 = .ok (.aload_n 0, 1) := dk_42 (dk_at dksX5_looking_2 14 rfl rfl)
theorem dX5_looking_63 : decode cX5_looking 63 = .ok (.bipush 40, 2) := dk_16 40 (dk_at dksX5_looking_2 15 rfl rfl)
theorem dX5_looking_65 : decode cX5_looking 65 = .ok (.invokevirtual 287, 3) := dk_182 1 31 (dk_at dksX5_looking_2 17 rfl rfl)
theorem dX5_looking_68 : decode cX5_looking 68 = .ok (.iload_n 2, 1) := dk_28 (dk_at dksX5_looking_2 20 rfl rfl)
theorem dX5_looking_69 : decode cX5_looking 69 = .ok (.iconst 1, 1) := dk_4 (dk_at dksX5_looking_2 21 rfl rfl)
theorem dX5_looking_70 : decode cX5_looking 70 = .ok (.iadd, 1) := dk_96 (dk_at dksX5_looking_2 22 rfl rfl)
theorem dX5_looking_71 : decode cX5_looking 71 = .ok (.istore 4, 2) := dk_54 4 (dk_at dksX5_looking_3 0 rfl rfl)
theorem dX5_looking_73 : decode cX5_looking 73 = .ok (.iload 5, 2) := dk_21 5 (dk_at dksX5_looking_3 2 rfl rfl)
theorem dX5_looking_75 : decode cX5_looking 75 = .ok (.ifCond .eq 9, 3) := dk_153 0 9 (dk_at dksX5_looking_3 4 rfl rfl)
theorem dX5_looking_78 : decode cX5_looking 78 = .ok (.aload_n 0, 1) := dk_42 (dk_at dksX5_looking_3 7 rfl rfl)
theorem dX5_looking_79 : decode cX5_looking 79 = .ok (.bipush 20, 2) := dk_16 20 (dk_at dksX5_looking_3 8 rfl rfl)
theorem dX5_looking_81 : decode cX5_looking 81 = .ok (.invokevirtual 287, 3) := dk_182 1 31 (dk_at dksX5_looking_3 10 rfl rfl)
theorem dX5_looking_84 : decode cX5_looking 84 = .ok (.iload 6, 2) := dk_21 6 (dk_at dksX5_looking_3 13 rfl rfl)
theorem dX5_looking_86 : decode cX5_looking 86 = .ok (.ifCond .eq 9, 3) := dk_153 0 9 (dk_at dksX5_looking_3 15 rfl rfl)
theorem dX5_looking_89 : decode cX5_looking 89 = .ok (.aload_n 0, 1) := dk_42 (dk_at dksX5_looking_3 18 rfl rfl)
theorem dX5_looking_90 : decode cX5_looking 90 = .ok (.bipush 51, 2) := dk_16 51 (dk_at dksX5_looking_3 19 rfl rfl)
theorem dX5_looking_92 : decode cX5_looking 92 = .ok (.invokevirtual 287, 3) := dk_182 1 31 (dk_at dksX5_looking_3 21 rfl rfl)
theorem dX5_looking_95 : decode cX5_looking 95 = .ok (.aload_n 0, 1) := dk_42 (dk_at dksX5_looking_4 0 rfl rfl)
theorem dX5_looking_96 : decode cX5_looking 96 = .ok (.bipush 10, 2) := dk_16 10 (dk_at dksX5_looking_4 1 rfl rfl)
theorem dX5_looking_98 : decode cX5_looking 98 = .ok (.invokevirtual 287, 3) := dk_182 1 31 (dk_at dksX5_looking_4 3 rfl rfl)
theorem dX5_looking_101 : decode cX5_looking 101 = .ok (.iload 4, 2) := dk_21 4 (dk_at dksX5_looking_4 6 rfl rfl)
theorem dX5_looking_103 : decode cX5_looking 103 = .ok (.iload_n 1, 1) := dk_27 (dk_at dksX5_looking_4 8 rfl rfl)
theorem dX5_looking_104 : decode cX5_looking 104 = .ok (.iadd, 1) := dk_96 (dk_at dksX5_looking_4 9 rfl rfl)
theorem dX5_looking_105 : decode cX5_looking 105 = .ok (.istore 7, 2) := dk_54 7 (dk_at dksX5_looking_4 10 rfl rfl)
theorem dX5_looking_107 : decode cX5_looking 107 = .ok (.iload 5, 2) := dk_21 5 (dk_at dksX5_looking_4 12 rfl rfl)
theorem dX5_looking_109 : decode cX5_looking 109 = .ok (.ifCond .eq 14, 3) := dk_153 0 14 (dk_at dksX5_looking_4 14 rfl rfl)
theorem dX5_looking_112 : decode cX5_looking 112 = .ok (.iload 7, 2) := dk_21 7 (dk_at dksX5_looking_4 17 rfl rfl)
theorem dX5_looking_114 : decode cX5_looking 114 = .ok (.aload_n 0, 1) := dk_42 (dk_at dksX5_looking_4 19 rfl rfl)
theorem dX5_looking_115 : decode cX5_looking 115 = .ok (.getfield 29, 3) := dk_180 0 29 (dk_at dksX5_looking_4 20 rfl rfl)
theorem dX5_looking_118 : decode cX5_looking 118 = .ok (.iload_n 1, 1) := dk_27 (dk_at dksX5_looking_4 23 rfl rfl)
theorem dX5_looking_119 : decode cX5_looking 119 = .ok (.iaload, 1) := dk_46 (dk_at dksX5_looking_5 0 rfl rfl)
theorem dX5_looking_120 : decode cX5_looking 120 = .ok (.iadd, 1) := dk_96 (dk_at dksX5_looking_5 1 rfl rfl)
theorem dX5_looking_121 : decode cX5_looking 121 = .ok (.istore 7, 2) := dk_54 7 (dk_at dksX5_looking_5 2 rfl rfl)
theorem dX5_looking_123 : decode cX5_looking 123 = .ok (.iload 6, 2) := dk_21 6 (dk_at dksX5_looking_5 4 rfl rfl)
theorem dX5_looking_125 : decode cX5_looking 125 = .ok (.ifCond .eq 9, 3) := dk_153 0 9 (dk_at dksX5_looking_5 6 rfl rfl)
theorem dX5_looking_128 : decode cX5_looking 128 = .ok (.iload 7, 2) := dk_21 7 (dk_at dksX5_looking_5 9 rfl rfl)
theorem dX5_looking_130 : decode cX5_looking 130 = .ok (.iload_n 1, 1) := dk_27 (dk_at dksX5_looking_5 11 rfl rfl)
theorem dX5_looking_131 : decode cX5_looking 131 = .ok (.isub, 1) := dk_100 (dk_at dksX5_looking_5 12 rfl rfl)
theorem dX5_looking_132 : decode cX5_looking 132 = .ok (.istore 7, 2) := dk_54 7 (dk_at dksX5_looking_5 13 rfl rfl)
theorem dX5_looking_134 : decode cX5_looking 134 = .ok (.iload_n 3, 1) := dk_29 (dk_at dksX5_looking_5 15 rfl rfl)
theorem dX5_looking_135 : decode cX5_looking 135 = .ok (.bipush 6, 2) := dk_16 6 (dk_at dksX5_looking_5 16 rfl rfl)
theorem dX5_looking_137 : decode cX5_looking 137 = .ok (.if_icmp .ne 10, 3) := dk_160 0 10 (dk_at dksX5_looking_5 18 rfl rfl)
theorem dX5_looking_140 : decode cX5_looking 140 = .ok (.iload 7, 2) := dk_21 7 (dk_at dksX5_looking_5 21 rfl rfl)
theorem dX5_looking_142 : decode cX5_looking 142 = .ok (.iconst 2, 1) := dk_5 (dk_at dksX5_looking_5 23 rfl rfl)
theorem dX5_looking_143 : decode cX5_looking 143 = .ok (.imul, 1) := dk_104 (dk_at dksX5_looking_6 0 rfl rfl)
theorem dX5_looking_144 : decode cX5_looking 144 = .ok (.goto 5, 3) := dk_167 0 5 (dk_at dksX5_looking_6 1 rfl rfl)
theorem dX5_looking_147 : decode cX5_looking 147 = .ok (.iload 7, 2) := dk_21 7 (dk_at dksX5_looking_6 4 rfl rfl)
theorem dX5_looking_149 : decode cX5_looking 149 = .ok (.ireturn, 1) := dk_172 (dk_at dksX5_looking_6 6 rfl rfl)
abbrev cX5_body : ByteArray := prog_22_method_78_code
def yX5_body : MethodName := ⟨RX5, "body", "(I)V"⟩
def dkwX5_body_1 : List UInt8 := [4, 96, 181, 1, 28, 177]
abbrev dktX5_body_1 : List UInt8 := dkwX5_body_1 ++ []
def dkwX5_body_0 : List UInt8 := [42, 180, 1, 28, 16, 20, 162, 0, 13, 42, 180, 0, 105, 42, 180, 1, 28, 27, 79, 42, 89, 180, 1, 28]
abbrev dktX5_body_0 : List UInt8 := dkwX5_body_0 ++ dktX5_body_1
theorem dksX5_body_0 : cX5_body.data.toList.drop 0 = dktX5_body_0 := by decide +kernel
theorem dksX5_body_1 : cX5_body.data.toList.drop 24 = dktX5_body_1 := dk_seg dksX5_body_0 24 rfl rfl
theorem dX5_body_0 : decode cX5_body 0 = .ok (.aload_n 0, 1) := dk_42 (dk_at dksX5_body_0 0 rfl rfl)
theorem dX5_body_1 : decode cX5_body 1 = .ok (.getfield 284, 3) := dk_180 1 28 (dk_at dksX5_body_0 1 rfl rfl)
theorem dX5_body_4 : decode cX5_body 4 = .ok (.bipush 20, 2) := dk_16 20 (dk_at dksX5_body_0 4 rfl rfl)
theorem dX5_body_6 : decode cX5_body 6 = .ok (.if_icmp .ge 13, 3) := dk_162 0 13 (dk_at dksX5_body_0 6 rfl rfl)
theorem dX5_body_9 : decode cX5_body 9 = .ok (.aload_n 0, 1) := dk_42 (dk_at dksX5_body_0 9 rfl rfl)
theorem dX5_body_10 : decode cX5_body 10 = .ok (.getfield 105, 3) := dk_180 0 105 (dk_at dksX5_body_0 10 rfl rfl)
theorem dX5_body_13 : decode cX5_body 13 = .ok (.aload_n 0, 1) := dk_42 (dk_at dksX5_body_0 13 rfl rfl)
theorem dX5_body_14 : decode cX5_body 14 = .ok (.getfield 284, 3) := dk_180 1 28 (dk_at dksX5_body_0 14 rfl rfl)
theorem dX5_body_17 : decode cX5_body 17 = .ok (.iload_n 1, 1) := dk_27 (dk_at dksX5_body_0 17 rfl rfl)
theorem dX5_body_18 : decode cX5_body 18 = .ok (.iastore, 1) := dk_79 (dk_at dksX5_body_0 18 rfl rfl)
theorem dX5_body_19 : decode cX5_body 19 = .ok (.aload_n 0, 1) := dk_42 (dk_at dksX5_body_0 19 rfl rfl)
theorem dX5_body_20 : decode cX5_body 20 = .ok (.dup, 1) := dk_89 (dk_at dksX5_body_0 20 rfl rfl)
theorem dX5_body_21 : decode cX5_body 21 = .ok (.getfield 284, 3) := dk_180 1 28 (dk_at dksX5_body_0 21 rfl rfl)
theorem dX5_body_24 : decode cX5_body 24 = .ok (.iconst 1, 1) := dk_4 (dk_at dksX5_body_1 0 rfl rfl)
theorem dX5_body_25 : decode cX5_body 25 = .ok (.iadd, 1) := dk_96 (dk_at dksX5_body_1 1 rfl rfl)
theorem dX5_body_26 : decode cX5_body 26 = .ok (.putfield 284, 3) := dk_181 1 28 (dk_at dksX5_body_1 2 rfl rfl)
theorem dX5_body_29 : decode cX5_body 29 = .ok (.return_, 1) := dk_177 (dk_at dksX5_body_1 5 rfl rfl)
abbrev cX5_walking : ByteArray := prog_22_method_80_code
def yX5_walking : MethodName := ⟨RX5, "walking", "(II)I"⟩
def dkwX5_walking_3 : List UInt8 := [182, 1, 34, 5, 104, 54, 6, 21, 5, 153, 0, 10, 21, 6, 6, 104, 167, 0, 5, 21, 6, 172]
abbrev dktX5_walking_3 : List UInt8 := dkwX5_walking_3 ++ []
def dkwX5_walking_2 : List UInt8 := [54, 5, 21, 5, 153, 0, 9, 42, 16, 30, 182, 1, 31, 42, 16, 11, 182, 1, 31, 42, 27, 21, 4]
abbrev dktX5_walking_2 : List UInt8 := dkwX5_walking_2 ++ dktX5_walking_3
def dkwX5_walking_1 : List UInt8 := [180, 0, 29, 27, 46, 100, 54, 4, 29, 6, 159, 0, 8, 29, 8, 160, 0, 7, 4, 167, 0, 4, 3]
abbrev dktX5_walking_1 : List UInt8 := dkwX5_walking_1 ++ dktX5_walking_2
def dkwX5_walking_0 : List UInt8 := [42, 180, 0, 26, 27, 46, 62, 28, 54, 4, 29, 16, 6, 160, 0, 19, 42, 16, 71, 182, 1, 31, 28, 42]
abbrev dktX5_walking_0 : List UInt8 := dkwX5_walking_0 ++ dktX5_walking_1
theorem dksX5_walking_0 : cX5_walking.data.toList.drop 0 = dktX5_walking_0 := by decide +kernel
theorem dksX5_walking_1 : cX5_walking.data.toList.drop 24 = dktX5_walking_1 := dk_seg dksX5_walking_0 24 rfl rfl
theorem dksX5_walking_2 : cX5_walking.data.toList.drop 47 = dktX5_walking_2 := dk_seg dksX5_walking_1 23 rfl rfl
theorem dksX5_walking_3 : cX5_walking.data.toList.drop 70 = dktX5_walking_3 := dk_seg dksX5_walking_2 23 rfl rfl
theorem dX5_walking_0 : decode cX5_walking 0 = .ok (.aload_n 0, 1) := dk_42 (dk_at dksX5_walking_0 0 rfl rfl)
theorem dX5_walking_1 : decode cX5_walking 1 = .ok (.getfield 26, 3) := dk_180 0 26 (dk_at dksX5_walking_0 1 rfl rfl)
theorem dX5_walking_4 : decode cX5_walking 4 = .ok (.iload_n 1, 1) := dk_27 (dk_at dksX5_walking_0 4 rfl rfl)
theorem dX5_walking_5 : decode cX5_walking 5 = .ok (.iaload, 1) := dk_46 (dk_at dksX5_walking_0 5 rfl rfl)
theorem dX5_walking_6 : decode cX5_walking 6 = .ok (.istore_n 3, 1) := dk_62 (dk_at dksX5_walking_0 6 rfl rfl)
theorem dX5_walking_7 : decode cX5_walking 7 = .ok (.iload_n 2, 1) := dk_28 (dk_at dksX5_walking_0 7 rfl rfl)
theorem dX5_walking_8 : decode cX5_walking 8 = .ok (.istore 4, 2) := dk_54 4 (dk_at dksX5_walking_0 8 rfl rfl)
theorem dX5_walking_10 : decode cX5_walking 10 = .ok (.iload_n 3, 1) := dk_29 (dk_at dksX5_walking_0 10 rfl rfl)
theorem dX5_walking_11 : decode cX5_walking 11 = .ok (.bipush 6, 2) := dk_16 6 (dk_at dksX5_walking_0 11 rfl rfl)
theorem dX5_walking_13 : decode cX5_walking 13 = .ok (.if_icmp .ne 19, 3) := dk_160 0 19 (dk_at dksX5_walking_0 13 rfl rfl)
theorem dX5_walking_16 : decode cX5_walking 16 = .ok (.aload_n 0, 1) := dk_42 (dk_at dksX5_walking_0 16 rfl rfl)
theorem dX5_walking_17 : decode cX5_walking 17 = .ok (.bipush 71, 2) := dk_16 71 (dk_at dksX5_walking_0 17 rfl rfl)
theorem dX5_walking_19 : decode cX5_walking 19 = .ok (.invokevirtual 287, 3) := dk_182 1 31 (dk_at dksX5_walking_0 19 rfl rfl)
theorem dX5_walking_22 : decode cX5_walking 22 = .ok (.iload_n 2, 1) := dk_28 (dk_at dksX5_walking_0 22 rfl rfl)
theorem dX5_walking_23 : decode cX5_walking 23 = .ok (.aload_n 0, 1) := dk_42 (dk_at dksX5_walking_0 23 rfl rfl)
theorem dX5_walking_24 : decode cX5_walking 24 = .ok (.getfield 29, 3) := dk_180 0 29 (dk_at dksX5_walking_1 0 rfl rfl)
theorem dX5_walking_27 : decode cX5_walking 27 = .ok (.iload_n 1, 1) := dk_27 (dk_at dksX5_walking_1 3 rfl rfl)
theorem dX5_walking_28 : decode cX5_walking 28 = .ok (.iaload, 1) := dk_46 (dk_at dksX5_walking_1 4 rfl rfl)
theorem dX5_walking_29 : decode cX5_walking 29 = .ok (.isub, 1) := dk_100 (dk_at dksX5_walking_1 5 rfl rfl)
theorem dX5_walking_30 : decode cX5_walking 30 = .ok (.istore 4, 2) := dk_54 4 (dk_at dksX5_walking_1 6 rfl rfl)
theorem dX5_walking_32 : decode cX5_walking 32 = .ok (.iload_n 3, 1) := dk_29 (dk_at dksX5_walking_1 8 rfl rfl)
theorem dX5_walking_33 : decode cX5_walking 33 = .ok (.iconst 3, 1) := dk_6 (dk_at dksX5_walking_1 9 rfl rfl)
theorem dX5_walking_34 : decode cX5_walking 34 = .ok (.if_icmp .eq 8, 3) := dk_159 0 8 (dk_at dksX5_walking_1 10 rfl rfl)
theorem dX5_walking_37 : decode cX5_walking 37 = .ok (.iload_n 3, 1) := dk_29 (dk_at dksX5_walking_1 13 rfl rfl)
theorem dX5_walking_38 : decode cX5_walking 38 = .ok (.iconst 5, 1) := dk_8 (dk_at dksX5_walking_1 14 rfl rfl)
theorem dX5_walking_39 : decode cX5_walking 39 = .ok (.if_icmp .ne 7, 3) := dk_160 0 7 (dk_at dksX5_walking_1 15 rfl rfl)
theorem dX5_walking_42 : decode cX5_walking 42 = .ok (.iconst 1, 1) := dk_4 (dk_at dksX5_walking_1 18 rfl rfl)
theorem dX5_walking_43 : decode cX5_walking 43 = .ok (.goto 4, 3) := dk_167 0 4 (dk_at dksX5_walking_1 19 rfl rfl)
theorem dX5_walking_46 : decode cX5_walking 46 = .ok (.iconst 0, 1) := dk_3 (dk_at dksX5_walking_1 22 rfl rfl)
theorem dX5_walking_47 : decode cX5_walking 47 = .ok (.istore 5, 2) := dk_54 5 (dk_at dksX5_walking_2 0 rfl rfl)
theorem dX5_walking_49 : decode cX5_walking 49 = .ok (.iload 5, 2) := dk_21 5 (dk_at dksX5_walking_2 2 rfl rfl)
theorem dX5_walking_51 : decode cX5_walking 51 = .ok (.ifCond .eq 9, 3) := dk_153 0 9 (dk_at dksX5_walking_2 4 rfl rfl)
theorem dX5_walking_54 : decode cX5_walking 54 = .ok (.aload_n 0, 1) := dk_42 (dk_at dksX5_walking_2 7 rfl rfl)
theorem dX5_walking_55 : decode cX5_walking 55 = .ok (.bipush 30, 2) := dk_16 30 (dk_at dksX5_walking_2 8 rfl rfl)
theorem dX5_walking_57 : decode cX5_walking 57 = .ok (.invokevirtual 287, 3) := dk_182 1 31 (dk_at dksX5_walking_2 10 rfl rfl)
theorem dX5_walking_60 : decode cX5_walking 60 = .ok (.aload_n 0, 1) := dk_42 (dk_at dksX5_walking_2 13 rfl rfl)
theorem dX5_walking_61 : decode cX5_walking 61 = .ok (.bipush 11, 2) := dk_16 11 (dk_at dksX5_walking_2 14 rfl rfl)
theorem dX5_walking_63 : decode cX5_walking 63 = .ok (.invokevirtual 287, 3) := dk_182 1 31 (dk_at dksX5_walking_2 16 rfl rfl)
theorem dX5_walking_66 : decode cX5_walking 66 = .ok (.aload_n 0, 1) := dk_42 (dk_at dksX5_walking_2 19 rfl rfl)
theorem dX5_walking_67 : decode cX5_walking 67 = .ok (.iload_n 1, 1) := dk_27 (dk_at dksX5_walking_2 20 rfl rfl)
theorem dX5_walking_68 : decode cX5_walking 68 = .ok (.iload 4, 2) := dk_21 4 (dk_at dksX5_walking_2 21 rfl rfl)
theorem dX5_walking_70 : decode cX5_walking 70 = .ok (.invokevirtual 290, 3) := dk_182 1 34 (dk_at dksX5_walking_3 0 rfl rfl)
theorem dX5_walking_73 : decode cX5_walking 73 = .ok (.iconst 2, 1) := dk_5 (dk_at dksX5_walking_3 3 rfl rfl)
theorem dX5_walking_74 : decode cX5_walking 74 = .ok (.imul, 1) := dk_104 (dk_at dksX5_walking_3 4 rfl rfl)
theorem dX5_walking_75 : decode cX5_walking 75 = .ok (.istore 6, 2) := dk_54 6 (dk_at dksX5_walking_3 5 rfl rfl)
theorem dX5_walking_77 : decode cX5_walking 77 = .ok (.iload 5, 2) := dk_21 5 (dk_at dksX5_walking_3 7 rfl rfl)
theorem dX5_walking_79 : decode cX5_walking 79 = .ok (.ifCond .eq 10, 3) := dk_153 0 10 (dk_at dksX5_walking_3 9 rfl rfl)
theorem dX5_walking_82 : decode cX5_walking 82 = .ok (.iload 6, 2) := dk_21 6 (dk_at dksX5_walking_3 12 rfl rfl)
theorem dX5_walking_84 : decode cX5_walking 84 = .ok (.iconst 3, 1) := dk_6 (dk_at dksX5_walking_3 14 rfl rfl)
theorem dX5_walking_85 : decode cX5_walking 85 = .ok (.imul, 1) := dk_104 (dk_at dksX5_walking_3 15 rfl rfl)
theorem dX5_walking_86 : decode cX5_walking 86 = .ok (.goto 5, 3) := dk_167 0 5 (dk_at dksX5_walking_3 16 rfl rfl)
theorem dX5_walking_89 : decode cX5_walking 89 = .ok (.iload 6, 2) := dk_21 6 (dk_at dksX5_walking_3 19 rfl rfl)
theorem dX5_walking_91 : decode cX5_walking 91 = .ok (.ireturn, 1) := dk_172 (dk_at dksX5_walking_3 21 rfl rfl)
abbrev cX5_paying : ByteArray := prog_22_method_81_code
def yX5_paying : MethodName := ⟨RX5, "paying", "(II)I"⟩
def dkwX5_paying_4 : List UInt8 := [21, 5, 8, 130, 167, 0, 5, 21, 5, 172]
abbrev dktX5_paying_4 : List UInt8 := dkwX5_paying_4 ++ []
def dkwX5_paying_3 : List UInt8 := [46, 100, 182, 1, 34, 130, 54, 5, 21, 4, 153, 0, 9, 21, 5, 116, 167, 0, 17, 29, 8, 160, 0, 10]
abbrev dktX5_paying_3 : List UInt8 := dkwX5_paying_3 ++ dktX5_paying_4
def dkwX5_paying_2 : List UInt8 := [42, 16, 12, 182, 1, 31, 42, 27, 28, 182, 1, 37, 54, 5, 21, 5, 42, 27, 28, 42, 180, 0, 29, 27]
abbrev dktX5_paying_2 : List UInt8 := dkwX5_paying_2 ++ dktX5_paying_3
def dkwX5_paying_1 : List UInt8 := [54, 4, 29, 8, 160, 0, 9, 42, 16, 60, 182, 1, 31, 21, 4, 153, 0, 9, 42, 16, 50, 182, 1, 31]
abbrev dktX5_paying_1 : List UInt8 := dkwX5_paying_1 ++ dktX5_paying_2
def dkwX5_paying_0 : List UInt8 := [42, 180, 0, 26, 27, 46, 62, 29, 7, 159, 0, 9, 29, 16, 6, 160, 0, 7, 4, 167, 0, 4, 3]
abbrev dktX5_paying_0 : List UInt8 := dkwX5_paying_0 ++ dktX5_paying_1
theorem dksX5_paying_0 : cX5_paying.data.toList.drop 0 = dktX5_paying_0 := by decide +kernel
theorem dksX5_paying_1 : cX5_paying.data.toList.drop 23 = dktX5_paying_1 := dk_seg dksX5_paying_0 23 rfl rfl
theorem dksX5_paying_2 : cX5_paying.data.toList.drop 47 = dktX5_paying_2 := dk_seg dksX5_paying_1 24 rfl rfl
theorem dksX5_paying_3 : cX5_paying.data.toList.drop 71 = dktX5_paying_3 := dk_seg dksX5_paying_2 24 rfl rfl
theorem dksX5_paying_4 : cX5_paying.data.toList.drop 95 = dktX5_paying_4 := dk_seg dksX5_paying_3 24 rfl rfl
theorem dX5_paying_0 : decode cX5_paying 0 = .ok (.aload_n 0, 1) := dk_42 (dk_at dksX5_paying_0 0 rfl rfl)
theorem dX5_paying_1 : decode cX5_paying 1 = .ok (.getfield 26, 3) := dk_180 0 26 (dk_at dksX5_paying_0 1 rfl rfl)
theorem dX5_paying_4 : decode cX5_paying 4 = .ok (.iload_n 1, 1) := dk_27 (dk_at dksX5_paying_0 4 rfl rfl)
theorem dX5_paying_5 : decode cX5_paying 5 = .ok (.iaload, 1) := dk_46 (dk_at dksX5_paying_0 5 rfl rfl)
theorem dX5_paying_6 : decode cX5_paying 6 = .ok (.istore_n 3, 1) := dk_62 (dk_at dksX5_paying_0 6 rfl rfl)
theorem dX5_paying_7 : decode cX5_paying 7 = .ok (.iload_n 3, 1) := dk_29 (dk_at dksX5_paying_0 7 rfl rfl)
theorem dX5_paying_8 : decode cX5_paying 8 = .ok (.iconst 4, 1) := dk_7 (dk_at dksX5_paying_0 8 rfl rfl)
theorem dX5_paying_9 : decode cX5_paying 9 = .ok (.if_icmp .eq 9, 3) := dk_159 0 9 (dk_at dksX5_paying_0 9 rfl rfl)
theorem dX5_paying_12 : decode cX5_paying 12 = .ok (.iload_n 3, 1) := dk_29 (dk_at dksX5_paying_0 12 rfl rfl)
theorem dX5_paying_13 : decode cX5_paying 13 = .ok (.bipush 6, 2) := dk_16 6 (dk_at dksX5_paying_0 13 rfl rfl)
theorem dX5_paying_15 : decode cX5_paying 15 = .ok (.if_icmp .ne 7, 3) := dk_160 0 7 (dk_at dksX5_paying_0 15 rfl rfl)
theorem dX5_paying_18 : decode cX5_paying 18 = .ok (.iconst 1, 1) := dk_4 (dk_at dksX5_paying_0 18 rfl rfl)
theorem dX5_paying_19 : decode cX5_paying 19 = .ok (.goto 4, 3) := dk_167 0 4 (dk_at dksX5_paying_0 19 rfl rfl)
theorem dX5_paying_22 : decode cX5_paying 22 = .ok (.iconst 0, 1) := dk_3 (dk_at dksX5_paying_0 22 rfl rfl)
theorem dX5_paying_23 : decode cX5_paying 23 = .ok (.istore 4, 2) := dk_54 4 (dk_at dksX5_paying_1 0 rfl rfl)
theorem dX5_paying_25 : decode cX5_paying 25 = .ok (.iload_n 3, 1) := dk_29 (dk_at dksX5_paying_1 2 rfl rfl)
theorem dX5_paying_26 : decode cX5_paying 26 = .ok (.iconst 5, 1) := dk_8 (dk_at dksX5_paying_1 3 rfl rfl)
theorem dX5_paying_27 : decode cX5_paying 27 = .ok (.if_icmp .ne 9, 3) := dk_160 0 9 (dk_at dksX5_paying_1 4 rfl rfl)
theorem dX5_paying_30 : decode cX5_paying 30 = .ok (.aload_n 0, 1) := dk_42 (dk_at dksX5_paying_1 7 rfl rfl)
theorem dX5_paying_31 : decode cX5_paying 31 = .ok (.bipush 60, 2) := dk_16 60 (dk_at dksX5_paying_1 8 rfl rfl)
theorem dX5_paying_33 : decode cX5_paying 33 = .ok (.invokevirtual 287, 3) := dk_182 1 31 (dk_at dksX5_paying_1 10 rfl rfl)
theorem dX5_paying_36 : decode cX5_paying 36 = .ok (.iload 4, 2) := dk_21 4 (dk_at dksX5_paying_1 13 rfl rfl)
theorem dX5_paying_38 : decode cX5_paying 38 = .ok (.ifCond .eq 9, 3) := dk_153 0 9 (dk_at dksX5_paying_1 15 rfl rfl)
theorem dX5_paying_41 : decode cX5_paying 41 = .ok (.aload_n 0, 1) := dk_42 (dk_at dksX5_paying_1 18 rfl rfl)
theorem dX5_paying_42 : decode cX5_paying 42 = .ok (.bipush 50, 2) := dk_16 50 (dk_at dksX5_paying_1 19 rfl rfl)
theorem dX5_paying_44 : decode cX5_paying 44 = .ok (.invokevirtual 287, 3) := dk_182 1 31 (dk_at dksX5_paying_1 21 rfl rfl)
theorem dX5_paying_47 : decode cX5_paying 47 = .ok (.aload_n 0, 1) := dk_42 (dk_at dksX5_paying_2 0 rfl rfl)
theorem dX5_paying_48 : decode cX5_paying 48 = .ok (.bipush 12, 2) := dk_16 12 (dk_at dksX5_paying_2 1 rfl rfl)
theorem dX5_paying_50 : decode cX5_paying 50 = .ok (.invokevirtual 287, 3) := dk_182 1 31 (dk_at dksX5_paying_2 3 rfl rfl)
theorem dX5_paying_53 : decode cX5_paying 53 = .ok (.aload_n 0, 1) := dk_42 (dk_at dksX5_paying_2 6 rfl rfl)
theorem dX5_paying_54 : decode cX5_paying 54 = .ok (.iload_n 1, 1) := dk_27 (dk_at dksX5_paying_2 7 rfl rfl)
theorem dX5_paying_55 : decode cX5_paying 55 = .ok (.iload_n 2, 1) := dk_28 (dk_at dksX5_paying_2 8 rfl rfl)
theorem dX5_paying_56 : decode cX5_paying 56 = .ok (.invokevirtual 293, 3) := dk_182 1 37 (dk_at dksX5_paying_2 9 rfl rfl)
theorem dX5_paying_59 : decode cX5_paying 59 = .ok (.istore 5, 2) := dk_54 5 (dk_at dksX5_paying_2 12 rfl rfl)
theorem dX5_paying_61 : decode cX5_paying 61 = .ok (.iload 5, 2) := dk_21 5 (dk_at dksX5_paying_2 14 rfl rfl)
theorem dX5_paying_63 : decode cX5_paying 63 = .ok (.aload_n 0, 1) := dk_42 (dk_at dksX5_paying_2 16 rfl rfl)
theorem dX5_paying_64 : decode cX5_paying 64 = .ok (.iload_n 1, 1) := dk_27 (dk_at dksX5_paying_2 17 rfl rfl)
theorem dX5_paying_65 : decode cX5_paying 65 = .ok (.iload_n 2, 1) := dk_28 (dk_at dksX5_paying_2 18 rfl rfl)
theorem dX5_paying_66 : decode cX5_paying 66 = .ok (.aload_n 0, 1) := dk_42 (dk_at dksX5_paying_2 19 rfl rfl)
theorem dX5_paying_67 : decode cX5_paying 67 = .ok (.getfield 29, 3) := dk_180 0 29 (dk_at dksX5_paying_2 20 rfl rfl)
theorem dX5_paying_70 : decode cX5_paying 70 = .ok (.iload_n 1, 1) := dk_27 (dk_at dksX5_paying_2 23 rfl rfl)
theorem dX5_paying_71 : decode cX5_paying 71 = .ok (.iaload, 1) := dk_46 (dk_at dksX5_paying_3 0 rfl rfl)
theorem dX5_paying_72 : decode cX5_paying 72 = .ok (.isub, 1) := dk_100 (dk_at dksX5_paying_3 1 rfl rfl)
theorem dX5_paying_73 : decode cX5_paying 73 = .ok (.invokevirtual 290, 3) := dk_182 1 34 (dk_at dksX5_paying_3 2 rfl rfl)
theorem dX5_paying_76 : decode cX5_paying 76 = .ok (.ixor, 1) := dk_130 (dk_at dksX5_paying_3 5 rfl rfl)
theorem dX5_paying_77 : decode cX5_paying 77 = .ok (.istore 5, 2) := dk_54 5 (dk_at dksX5_paying_3 6 rfl rfl)
theorem dX5_paying_79 : decode cX5_paying 79 = .ok (.iload 4, 2) := dk_21 4 (dk_at dksX5_paying_3 8 rfl rfl)
theorem dX5_paying_81 : decode cX5_paying 81 = .ok (.ifCond .eq 9, 3) := dk_153 0 9 (dk_at dksX5_paying_3 10 rfl rfl)
theorem dX5_paying_84 : decode cX5_paying 84 = .ok (.iload 5, 2) := dk_21 5 (dk_at dksX5_paying_3 13 rfl rfl)
theorem dX5_paying_86 : decode cX5_paying 86 = .ok (.ineg, 1) := dk_116 (dk_at dksX5_paying_3 15 rfl rfl)
theorem dX5_paying_87 : decode cX5_paying 87 = .ok (.goto 17, 3) := dk_167 0 17 (dk_at dksX5_paying_3 16 rfl rfl)
theorem dX5_paying_90 : decode cX5_paying 90 = .ok (.iload_n 3, 1) := dk_29 (dk_at dksX5_paying_3 19 rfl rfl)
theorem dX5_paying_91 : decode cX5_paying 91 = .ok (.iconst 5, 1) := dk_8 (dk_at dksX5_paying_3 20 rfl rfl)
theorem dX5_paying_92 : decode cX5_paying 92 = .ok (.if_icmp .ne 10, 3) := dk_160 0 10 (dk_at dksX5_paying_3 21 rfl rfl)
theorem dX5_paying_95 : decode cX5_paying 95 = .ok (.iload 5, 2) := dk_21 5 (dk_at dksX5_paying_4 0 rfl rfl)
theorem dX5_paying_97 : decode cX5_paying 97 = .ok (.iconst 5, 1) := dk_8 (dk_at dksX5_paying_4 2 rfl rfl)
theorem dX5_paying_98 : decode cX5_paying 98 = .ok (.ixor, 1) := dk_130 (dk_at dksX5_paying_4 3 rfl rfl)
theorem dX5_paying_99 : decode cX5_paying 99 = .ok (.goto 5, 3) := dk_167 0 5 (dk_at dksX5_paying_4 4 rfl rfl)
theorem dX5_paying_102 : decode cX5_paying 102 = .ok (.iload 5, 2) := dk_21 5 (dk_at dksX5_paying_4 7 rfl rfl)
theorem dX5_paying_104 : decode cX5_paying 104 = .ok (.ireturn, 1) := dk_172 (dk_at dksX5_paying_4 9 rfl rfl)
abbrev cX5_trace : ByteArray := prog_22_method_83_code
def yX5_trace : MethodName := ⟨RX5, "trace", "(I)I"⟩
def dkwX5_trace_1 : List UInt8 := [167, 0, 4, 2, 172]
abbrev dktX5_trace_1 : List UInt8 := dkwX5_trace_1 ++ []
def dkwX5_trace_0 : List UInt8 := [27, 155, 0, 26, 27, 16, 20, 162, 0, 20, 27, 42, 180, 1, 28, 162, 0, 12, 42, 180, 0, 105, 27, 46]
abbrev dktX5_trace_0 : List UInt8 := dkwX5_trace_0 ++ dktX5_trace_1
theorem dksX5_trace_0 : cX5_trace.data.toList.drop 0 = dktX5_trace_0 := by decide +kernel
theorem dksX5_trace_1 : cX5_trace.data.toList.drop 24 = dktX5_trace_1 := dk_seg dksX5_trace_0 24 rfl rfl
theorem dX5_trace_0 : decode cX5_trace 0 = .ok (.iload_n 1, 1) := dk_27 (dk_at dksX5_trace_0 0 rfl rfl)
theorem dX5_trace_1 : decode cX5_trace 1 = .ok (.ifCond .lt 26, 3) := dk_155 0 26 (dk_at dksX5_trace_0 1 rfl rfl)
theorem dX5_trace_4 : decode cX5_trace 4 = .ok (.iload_n 1, 1) := dk_27 (dk_at dksX5_trace_0 4 rfl rfl)
theorem dX5_trace_5 : decode cX5_trace 5 = .ok (.bipush 20, 2) := dk_16 20 (dk_at dksX5_trace_0 5 rfl rfl)
theorem dX5_trace_7 : decode cX5_trace 7 = .ok (.if_icmp .ge 20, 3) := dk_162 0 20 (dk_at dksX5_trace_0 7 rfl rfl)
theorem dX5_trace_10 : decode cX5_trace 10 = .ok (.iload_n 1, 1) := dk_27 (dk_at dksX5_trace_0 10 rfl rfl)
theorem dX5_trace_11 : decode cX5_trace 11 = .ok (.aload_n 0, 1) := dk_42 (dk_at dksX5_trace_0 11 rfl rfl)
theorem dX5_trace_12 : decode cX5_trace 12 = .ok (.getfield 284, 3) := dk_180 1 28 (dk_at dksX5_trace_0 12 rfl rfl)
theorem dX5_trace_15 : decode cX5_trace 15 = .ok (.if_icmp .ge 12, 3) := dk_162 0 12 (dk_at dksX5_trace_0 15 rfl rfl)
theorem dX5_trace_18 : decode cX5_trace 18 = .ok (.aload_n 0, 1) := dk_42 (dk_at dksX5_trace_0 18 rfl rfl)
theorem dX5_trace_19 : decode cX5_trace 19 = .ok (.getfield 105, 3) := dk_180 0 105 (dk_at dksX5_trace_0 19 rfl rfl)
theorem dX5_trace_22 : decode cX5_trace 22 = .ok (.iload_n 1, 1) := dk_27 (dk_at dksX5_trace_0 22 rfl rfl)
theorem dX5_trace_23 : decode cX5_trace 23 = .ok (.iaload, 1) := dk_46 (dk_at dksX5_trace_0 23 rfl rfl)
theorem dX5_trace_24 : decode cX5_trace 24 = .ok (.goto 4, 3) := dk_167 0 4 (dk_at dksX5_trace_1 0 rfl rfl)
theorem dX5_trace_27 : decode cX5_trace 27 = .ok (.iconst (-1), 1) := dk_2 (dk_at dksX5_trace_1 3 rfl rfl)
theorem dX5_trace_28 : decode cX5_trace 28 = .ok (.ireturn, 1) := dk_172 (dk_at dksX5_trace_1 4 rfl rfl)
abbrev cX5_image : ByteArray := prog_22_method_84_code
def yX5_image : MethodName := ⟨RX5, "image", "()I"⟩
def dkwX5_image_0 : List UInt8 := [42, 4, 181, 1, 43, 42, 42, 180, 0, 87, 3, 182, 0, 198, 42, 180, 0, 108, 172]
abbrev dktX5_image_0 : List UInt8 := dkwX5_image_0 ++ []
theorem dksX5_image_0 : cX5_image.data.toList.drop 0 = dktX5_image_0 := by decide +kernel
theorem dX5_image_0 : decode cX5_image 0 = .ok (.aload_n 0, 1) := dk_42 (dk_at dksX5_image_0 0 rfl rfl)
theorem dX5_image_1 : decode cX5_image 1 = .ok (.iconst 1, 1) := dk_4 (dk_at dksX5_image_0 1 rfl rfl)
theorem dX5_image_2 : decode cX5_image 2 = .ok (.putfield 299, 3) := dk_181 1 43 (dk_at dksX5_image_0 2 rfl rfl)
theorem dX5_image_5 : decode cX5_image 5 = .ok (.aload_n 0, 1) := dk_42 (dk_at dksX5_image_0 5 rfl rfl)
theorem dX5_image_6 : decode cX5_image 6 = .ok (.aload_n 0, 1) := dk_42 (dk_at dksX5_image_0 6 rfl rfl)
theorem dX5_image_7 : decode cX5_image 7 = .ok (.getfield 87, 3) := dk_180 0 87 (dk_at dksX5_image_0 7 rfl rfl)
theorem dX5_image_10 : decode cX5_image 10 = .ok (.iconst 0, 1) := dk_3 (dk_at dksX5_image_0 10 rfl rfl)
theorem dX5_image_11 : decode cX5_image 11 = .ok (.invokevirtual 198, 3) := dk_182 0 198 (dk_at dksX5_image_0 11 rfl rfl)
theorem dX5_image_14 : decode cX5_image 14 = .ok (.aload_n 0, 1) := dk_42 (dk_at dksX5_image_0 14 rfl rfl)
theorem dX5_image_15 : decode cX5_image 15 = .ok (.getfield 108, 3) := dk_180 0 108 (dk_at dksX5_image_0 15 rfl rfl)
theorem dX5_image_18 : decode cX5_image 18 = .ok (.ireturn, 1) := dk_172 (dk_at dksX5_image_0 18 rfl rfl)
abbrev cX5_restore : ByteArray := prog_22_method_85_code
def yX5_restore : MethodName := ⟨RX5, "restore", "()I"⟩
def dkwX5_restore_2 : List UInt8 := [180, 0, 108, 161, 0, 10, 42, 180, 0, 53, 27, 3, 79, 132, 1, 1, 167, 255, 217, 42, 180, 0, 108, 172]
abbrev dktX5_restore_2 : List UInt8 := dkwX5_restore_2 ++ []
def dkwX5_restore_1 : List UInt8 := [60, 27, 16, 8, 162, 0, 39, 42, 180, 0, 53, 27, 46, 5, 160, 0, 23, 42, 180, 0, 62, 27, 46, 42]
abbrev dktX5_restore_1 : List UInt8 := dkwX5_restore_1 ++ dktX5_restore_2
def dkwX5_restore_0 : List UInt8 := [42, 180, 1, 43, 154, 0, 10, 42, 16, 250, 182, 0, 115, 172, 42, 42, 180, 0, 87, 4, 182, 0, 198, 3]
abbrev dktX5_restore_0 : List UInt8 := dkwX5_restore_0 ++ dktX5_restore_1
theorem dksX5_restore_0 : cX5_restore.data.toList.drop 0 = dktX5_restore_0 := by decide +kernel
theorem dksX5_restore_1 : cX5_restore.data.toList.drop 24 = dktX5_restore_1 := dk_seg dksX5_restore_0 24 rfl rfl
theorem dksX5_restore_2 : cX5_restore.data.toList.drop 48 = dktX5_restore_2 := dk_seg dksX5_restore_1 24 rfl rfl
theorem dX5_restore_0 : decode cX5_restore 0 = .ok (.aload_n 0, 1) := dk_42 (dk_at dksX5_restore_0 0 rfl rfl)
theorem dX5_restore_1 : decode cX5_restore 1 = .ok (.getfield 299, 3) := dk_180 1 43 (dk_at dksX5_restore_0 1 rfl rfl)
theorem dX5_restore_4 : decode cX5_restore 4 = .ok (.ifCond .ne 10, 3) := dk_154 0 10 (dk_at dksX5_restore_0 4 rfl rfl)
theorem dX5_restore_7 : decode cX5_restore 7 = .ok (.aload_n 0, 1) := dk_42 (dk_at dksX5_restore_0 7 rfl rfl)
theorem dX5_restore_8 : decode cX5_restore 8 = .ok (.bipush (-6), 2) := dk_16 250 (dk_at dksX5_restore_0 8 rfl rfl)
theorem dX5_restore_10 : decode cX5_restore 10 = .ok (.invokevirtual 115, 3) := dk_182 0 115 (dk_at dksX5_restore_0 10 rfl rfl)
theorem dX5_restore_13 : decode cX5_restore 13 = .ok (.ireturn, 1) := dk_172 (dk_at dksX5_restore_0 13 rfl rfl)
theorem dX5_restore_14 : decode cX5_restore 14 = .ok (.aload_n 0, 1) := dk_42 (dk_at dksX5_restore_0 14 rfl rfl)
theorem dX5_restore_15 : decode cX5_restore 15 = .ok (.aload_n 0, 1) := dk_42 (dk_at dksX5_restore_0 15 rfl rfl)
theorem dX5_restore_16 : decode cX5_restore 16 = .ok (.getfield 87, 3) := dk_180 0 87 (dk_at dksX5_restore_0 16 rfl rfl)
theorem dX5_restore_19 : decode cX5_restore 19 = .ok (.iconst 1, 1) := dk_4 (dk_at dksX5_restore_0 19 rfl rfl)
theorem dX5_restore_20 : decode cX5_restore 20 = .ok (.invokevirtual 198, 3) := dk_182 0 198 (dk_at dksX5_restore_0 20 rfl rfl)
theorem dX5_restore_23 : decode cX5_restore 23 = .ok (.iconst 0, 1) := dk_3 (dk_at dksX5_restore_0 23 rfl rfl)
theorem dX5_restore_24 : decode cX5_restore 24 = .ok (.istore_n 1, 1) := dk_60 (dk_at dksX5_restore_1 0 rfl rfl)
theorem dX5_restore_25 : decode cX5_restore 25 = .ok (.iload_n 1, 1) := dk_27 (dk_at dksX5_restore_1 1 rfl rfl)
theorem dX5_restore_26 : decode cX5_restore 26 = .ok (.bipush 8, 2) := dk_16 8 (dk_at dksX5_restore_1 2 rfl rfl)
theorem dX5_restore_28 : decode cX5_restore 28 = .ok (.if_icmp .ge 39, 3) := dk_162 0 39 (dk_at dksX5_restore_1 4 rfl rfl)
theorem dX5_restore_31 : decode cX5_restore 31 = .ok (.aload_n 0, 1) := dk_42 (dk_at dksX5_restore_1 7 rfl rfl)
theorem dX5_restore_32 : decode cX5_restore 32 = .ok (.getfield 53, 3) := dk_180 0 53 (dk_at dksX5_restore_1 8 rfl rfl)
theorem dX5_restore_35 : decode cX5_restore 35 = .ok (.iload_n 1, 1) := dk_27 (dk_at dksX5_restore_1 11 rfl rfl)
theorem dX5_restore_36 : decode cX5_restore 36 = .ok (.iaload, 1) := dk_46 (dk_at dksX5_restore_1 12 rfl rfl)
theorem dX5_restore_37 : decode cX5_restore 37 = .ok (.iconst 2, 1) := dk_5 (dk_at dksX5_restore_1 13 rfl rfl)
theorem dX5_restore_38 : decode cX5_restore 38 = .ok (.if_icmp .ne 23, 3) := dk_160 0 23 (dk_at dksX5_restore_1 14 rfl rfl)
theorem dX5_restore_41 : decode cX5_restore 41 = .ok (.aload_n 0, 1) := dk_42 (dk_at dksX5_restore_1 17 rfl rfl)
theorem dX5_restore_42 : decode cX5_restore 42 = .ok (.getfield 62, 3) := dk_180 0 62 (dk_at dksX5_restore_1 18 rfl rfl)
theorem dX5_restore_45 : decode cX5_restore 45 = .ok (.iload_n 1, 1) := dk_27 (dk_at dksX5_restore_1 21 rfl rfl)
theorem dX5_restore_46 : decode cX5_restore 46 = .ok (.iaload, 1) := dk_46 (dk_at dksX5_restore_1 22 rfl rfl)
theorem dX5_restore_47 : decode cX5_restore 47 = .ok (.aload_n 0, 1) := dk_42 (dk_at dksX5_restore_1 23 rfl rfl)
theorem dX5_restore_48 : decode cX5_restore 48 = .ok (.getfield 108, 3) := dk_180 0 108 (dk_at dksX5_restore_2 0 rfl rfl)
theorem dX5_restore_51 : decode cX5_restore 51 = .ok (.if_icmp .lt 10, 3) := dk_161 0 10 (dk_at dksX5_restore_2 3 rfl rfl)
theorem dX5_restore_54 : decode cX5_restore 54 = .ok (.aload_n 0, 1) := dk_42 (dk_at dksX5_restore_2 6 rfl rfl)
theorem dX5_restore_55 : decode cX5_restore 55 = .ok (.getfield 53, 3) := dk_180 0 53 (dk_at dksX5_restore_2 7 rfl rfl)
theorem dX5_restore_58 : decode cX5_restore 58 = .ok (.iload_n 1, 1) := dk_27 (dk_at dksX5_restore_2 10 rfl rfl)
theorem dX5_restore_59 : decode cX5_restore 59 = .ok (.iconst 0, 1) := dk_3 (dk_at dksX5_restore_2 11 rfl rfl)
theorem dX5_restore_60 : decode cX5_restore 60 = .ok (.iastore, 1) := dk_79 (dk_at dksX5_restore_2 12 rfl rfl)
theorem dX5_restore_61 : decode cX5_restore 61 = .ok (.iinc 1 1, 3) := dk_132 1 1 (dk_at dksX5_restore_2 13 rfl rfl)
theorem dX5_restore_64 : decode cX5_restore 64 = .ok (.goto (-39), 3) := dk_167 255 217 (dk_at dksX5_restore_2 16 rfl rfl)
theorem dX5_restore_67 : decode cX5_restore 67 = .ok (.aload_n 0, 1) := dk_42 (dk_at dksX5_restore_2 19 rfl rfl)
theorem dX5_restore_68 : decode cX5_restore 68 = .ok (.getfield 108, 3) := dk_180 0 108 (dk_at dksX5_restore_2 20 rfl rfl)
theorem dX5_restore_71 : decode cX5_restore 71 = .ok (.ireturn, 1) := dk_172 (dk_at dksX5_restore_2 23 rfl rfl)
abbrev cX5_status : ByteArray := prog_22_method_87_code
def yX5_status : MethodName := ⟨RX5, "status", "(I)I"⟩
def dkwX5_status_5 : List UInt8 := [180, 1, 28, 172, 2, 172]
abbrev dktX5_status_5 : List UInt8 := dkwX5_status_5 ++ []
def dkwX5_status_4 : List UInt8 := [42, 180, 0, 192, 172, 42, 42, 180, 0, 38, 42, 180, 0, 108, 182, 1, 47, 172, 42, 180, 0, 16, 172, 42]
abbrev dktX5_status_4 : List UInt8 := dkwX5_status_4 ++ dktX5_status_5
def dkwX5_status_3 : List UInt8 := [182, 1, 47, 172, 42, 180, 0, 7, 172, 42, 180, 0, 13, 172, 42, 180, 0, 139, 172, 42, 180, 0, 189, 172]
abbrev dktX5_status_3 : List UInt8 := dkwX5_status_3 ++ dktX5_status_4
def dkwX5_status_2 : List UInt8 := [42, 180, 0, 108, 172, 42, 42, 180, 0, 47, 16, 36, 182, 1, 47, 172, 42, 42, 180, 0, 50, 16, 36]
abbrev dktX5_status_2 : List UInt8 := dkwX5_status_2 ++ dktX5_status_3
def dkwX5_status_1 : List UInt8 := [170, 0, 0, 0, 132, 0, 0, 0, 0, 0, 0, 0, 10, 0, 0, 0, 57, 0, 0, 0, 62, 0, 0, 0, 73, 0, 0, 0, 84, 0, 0, 0, 89, 0, 0, 0, 94, 0, 0, 0, 99, 0, 0, 0, 104, 0, 0, 0, 109, 0, 0, 0, 122, 0, 0, 0, 127]
abbrev dktX5_status_1 : List UInt8 := dkwX5_status_1 ++ dktX5_status_2
def dkwX5_status_0 : List UInt8 := [27, 16, 11, 161, 0, 19, 27, 16, 17, 163, 0, 13, 42, 180, 0, 22, 27, 16, 10, 100, 46, 172, 27]
abbrev dktX5_status_0 : List UInt8 := dkwX5_status_0 ++ dktX5_status_1
theorem dksX5_status_0 : cX5_status.data.toList.drop 0 = dktX5_status_0 := by decide +kernel
theorem dksX5_status_1 : cX5_status.data.toList.drop 23 = dktX5_status_1 := dk_seg dksX5_status_0 23 rfl rfl
theorem dksX5_status_2 : cX5_status.data.toList.drop 80 = dktX5_status_2 := dk_seg dksX5_status_1 57 rfl rfl
theorem dksX5_status_3 : cX5_status.data.toList.drop 103 = dktX5_status_3 := dk_seg dksX5_status_2 23 rfl rfl
theorem dksX5_status_4 : cX5_status.data.toList.drop 127 = dktX5_status_4 := dk_seg dksX5_status_3 24 rfl rfl
theorem dksX5_status_5 : cX5_status.data.toList.drop 151 = dktX5_status_5 := dk_seg dksX5_status_4 24 rfl rfl
theorem dX5_status_0 : decode cX5_status 0 = .ok (.iload_n 1, 1) := dk_27 (dk_at dksX5_status_0 0 rfl rfl)
theorem dX5_status_1 : decode cX5_status 1 = .ok (.bipush 11, 2) := dk_16 11 (dk_at dksX5_status_0 1 rfl rfl)
theorem dX5_status_3 : decode cX5_status 3 = .ok (.if_icmp .lt 19, 3) := dk_161 0 19 (dk_at dksX5_status_0 3 rfl rfl)
theorem dX5_status_6 : decode cX5_status 6 = .ok (.iload_n 1, 1) := dk_27 (dk_at dksX5_status_0 6 rfl rfl)
theorem dX5_status_7 : decode cX5_status 7 = .ok (.bipush 17, 2) := dk_16 17 (dk_at dksX5_status_0 7 rfl rfl)
theorem dX5_status_9 : decode cX5_status 9 = .ok (.if_icmp .gt 13, 3) := dk_163 0 13 (dk_at dksX5_status_0 9 rfl rfl)
theorem dX5_status_12 : decode cX5_status 12 = .ok (.aload_n 0, 1) := dk_42 (dk_at dksX5_status_0 12 rfl rfl)
theorem dX5_status_13 : decode cX5_status 13 = .ok (.getfield 22, 3) := dk_180 0 22 (dk_at dksX5_status_0 13 rfl rfl)
theorem dX5_status_16 : decode cX5_status 16 = .ok (.iload_n 1, 1) := dk_27 (dk_at dksX5_status_0 16 rfl rfl)
theorem dX5_status_17 : decode cX5_status 17 = .ok (.bipush 10, 2) := dk_16 10 (dk_at dksX5_status_0 17 rfl rfl)
theorem dX5_status_19 : decode cX5_status 19 = .ok (.isub, 1) := dk_100 (dk_at dksX5_status_0 19 rfl rfl)
theorem dX5_status_20 : decode cX5_status 20 = .ok (.iaload, 1) := dk_46 (dk_at dksX5_status_0 20 rfl rfl)
theorem dX5_status_21 : decode cX5_status 21 = .ok (.ireturn, 1) := dk_172 (dk_at dksX5_status_0 21 rfl rfl)
theorem dX5_status_22 : decode cX5_status 22 = .ok (.iload_n 1, 1) := dk_27 (dk_at dksX5_status_0 22 rfl rfl)
theorem dX5_status_23 : decode cX5_status 23 = .ok (.tableswitch 132 0 10 #[57, 62, 73, 84, 89, 94, 99, 104, 109, 122, 127], 57) := by decide +kernel
theorem dX5_status_80 : decode cX5_status 80 = .ok (.aload_n 0, 1) := dk_42 (dk_at dksX5_status_2 0 rfl rfl)
theorem dX5_status_81 : decode cX5_status 81 = .ok (.getfield 108, 3) := dk_180 0 108 (dk_at dksX5_status_2 1 rfl rfl)
theorem dX5_status_84 : decode cX5_status 84 = .ok (.ireturn, 1) := dk_172 (dk_at dksX5_status_2 4 rfl rfl)
theorem dX5_status_85 : decode cX5_status 85 = .ok (.aload_n 0, 1) := dk_42 (dk_at dksX5_status_2 5 rfl rfl)
theorem dX5_status_86 : decode cX5_status 86 = .ok (.aload_n 0, 1) := dk_42 (dk_at dksX5_status_2 6 rfl rfl)
theorem dX5_status_87 : decode cX5_status 87 = .ok (.getfield 47, 3) := dk_180 0 47 (dk_at dksX5_status_2 7 rfl rfl)
theorem dX5_status_90 : decode cX5_status 90 = .ok (.bipush 36, 2) := dk_16 36 (dk_at dksX5_status_2 10 rfl rfl)
theorem dX5_status_92 : decode cX5_status 92 = .ok (.invokevirtual 303, 3) := dk_182 1 47 (dk_at dksX5_status_2 12 rfl rfl)
theorem dX5_status_95 : decode cX5_status 95 = .ok (.ireturn, 1) := dk_172 (dk_at dksX5_status_2 15 rfl rfl)
theorem dX5_status_96 : decode cX5_status 96 = .ok (.aload_n 0, 1) := dk_42 (dk_at dksX5_status_2 16 rfl rfl)
theorem dX5_status_97 : decode cX5_status 97 = .ok (.aload_n 0, 1) := dk_42 (dk_at dksX5_status_2 17 rfl rfl)
theorem dX5_status_98 : decode cX5_status 98 = .ok (.getfield 50, 3) := dk_180 0 50 (dk_at dksX5_status_2 18 rfl rfl)
theorem dX5_status_101 : decode cX5_status 101 = .ok (.bipush 36, 2) := dk_16 36 (dk_at dksX5_status_2 21 rfl rfl)
theorem dX5_status_103 : decode cX5_status 103 = .ok (.invokevirtual 303, 3) := dk_182 1 47 (dk_at dksX5_status_3 0 rfl rfl)
theorem dX5_status_106 : decode cX5_status 106 = .ok (.ireturn, 1) := dk_172 (dk_at dksX5_status_3 3 rfl rfl)
theorem dX5_status_107 : decode cX5_status 107 = .ok (.aload_n 0, 1) := dk_42 (dk_at dksX5_status_3 4 rfl rfl)
theorem dX5_status_108 : decode cX5_status 108 = .ok (.getfield 7, 3) := dk_180 0 7 (dk_at dksX5_status_3 5 rfl rfl)
theorem dX5_status_111 : decode cX5_status 111 = .ok (.ireturn, 1) := dk_172 (dk_at dksX5_status_3 8 rfl rfl)
theorem dX5_status_112 : decode cX5_status 112 = .ok (.aload_n 0, 1) := dk_42 (dk_at dksX5_status_3 9 rfl rfl)
theorem dX5_status_113 : decode cX5_status 113 = .ok (.getfield 13, 3) := dk_180 0 13 (dk_at dksX5_status_3 10 rfl rfl)
theorem dX5_status_116 : decode cX5_status 116 = .ok (.ireturn, 1) := dk_172 (dk_at dksX5_status_3 13 rfl rfl)
theorem dX5_status_117 : decode cX5_status 117 = .ok (.aload_n 0, 1) := dk_42 (dk_at dksX5_status_3 14 rfl rfl)
theorem dX5_status_118 : decode cX5_status 118 = .ok (.getfield 139, 3) := dk_180 0 139 (dk_at dksX5_status_3 15 rfl rfl)
theorem dX5_status_121 : decode cX5_status 121 = .ok (.ireturn, 1) := dk_172 (dk_at dksX5_status_3 18 rfl rfl)
theorem dX5_status_122 : decode cX5_status 122 = .ok (.aload_n 0, 1) := dk_42 (dk_at dksX5_status_3 19 rfl rfl)
theorem dX5_status_123 : decode cX5_status 123 = .ok (.getfield 189, 3) := dk_180 0 189 (dk_at dksX5_status_3 20 rfl rfl)
theorem dX5_status_126 : decode cX5_status 126 = .ok (.ireturn, 1) := dk_172 (dk_at dksX5_status_3 23 rfl rfl)
theorem dX5_status_127 : decode cX5_status 127 = .ok (.aload_n 0, 1) := dk_42 (dk_at dksX5_status_4 0 rfl rfl)
theorem dX5_status_128 : decode cX5_status 128 = .ok (.getfield 192, 3) := dk_180 0 192 (dk_at dksX5_status_4 1 rfl rfl)
theorem dX5_status_131 : decode cX5_status 131 = .ok (.ireturn, 1) := dk_172 (dk_at dksX5_status_4 4 rfl rfl)
theorem dX5_status_132 : decode cX5_status 132 = .ok (.aload_n 0, 1) := dk_42 (dk_at dksX5_status_4 5 rfl rfl)
theorem dX5_status_133 : decode cX5_status 133 = .ok (.aload_n 0, 1) := dk_42 (dk_at dksX5_status_4 6 rfl rfl)
theorem dX5_status_134 : decode cX5_status 134 = .ok (.getfield 38, 3) := dk_180 0 38 (dk_at dksX5_status_4 7 rfl rfl)
theorem dX5_status_137 : decode cX5_status 137 = .ok (.aload_n 0, 1) := dk_42 (dk_at dksX5_status_4 10 rfl rfl)
theorem dX5_status_138 : decode cX5_status 138 = .ok (.getfield 108, 3) := dk_180 0 108 (dk_at dksX5_status_4 11 rfl rfl)
theorem dX5_status_141 : decode cX5_status 141 = .ok (.invokevirtual 303, 3) := dk_182 1 47 (dk_at dksX5_status_4 14 rfl rfl)
theorem dX5_status_144 : decode cX5_status 144 = .ok (.ireturn, 1) := dk_172 (dk_at dksX5_status_4 17 rfl rfl)
theorem dX5_status_145 : decode cX5_status 145 = .ok (.aload_n 0, 1) := dk_42 (dk_at dksX5_status_4 18 rfl rfl)
theorem dX5_status_146 : decode cX5_status 146 = .ok (.getfield 16, 3) := dk_180 0 16 (dk_at dksX5_status_4 19 rfl rfl)
theorem dX5_status_149 : decode cX5_status 149 = .ok (.ireturn, 1) := dk_172 (dk_at dksX5_status_4 22 rfl rfl)
theorem dX5_status_150 : decode cX5_status 150 = .ok (.aload_n 0, 1) := dk_42 (dk_at dksX5_status_4 23 rfl rfl)
theorem dX5_status_151 : decode cX5_status 151 = .ok (.getfield 284, 3) := dk_180 1 28 (dk_at dksX5_status_5 0 rfl rfl)
theorem dX5_status_154 : decode cX5_status 154 = .ok (.ireturn, 1) := dk_172 (dk_at dksX5_status_5 3 rfl rfl)
theorem dX5_status_155 : decode cX5_status 155 = .ok (.iconst (-1), 1) := dk_2 (dk_at dksX5_status_5 4 rfl rfl)
theorem dX5_status_156 : decode cX5_status 156 = .ok (.ireturn, 1) := dk_172 (dk_at dksX5_status_5 5 rfl rfl)
abbrev cX5_together : ByteArray := prog_22_method_86_code
def yX5_together : MethodName := ⟨RX5, "together", "([II)I"⟩
def dkwX5_together_1 : List UInt8 := [29, 172]
abbrev dktX5_together_1 : List UInt8 := dkwX5_together_1 ++ []
def dkwX5_together_0 : List UInt8 := [3, 62, 3, 54, 4, 21, 4, 28, 162, 0, 16, 29, 43, 21, 4, 46, 96, 62, 132, 4, 1, 167, 255, 240]
abbrev dktX5_together_0 : List UInt8 := dkwX5_together_0 ++ dktX5_together_1
theorem dksX5_together_0 : cX5_together.data.toList.drop 0 = dktX5_together_0 := by decide +kernel
theorem dksX5_together_1 : cX5_together.data.toList.drop 24 = dktX5_together_1 := dk_seg dksX5_together_0 24 rfl rfl
theorem dX5_together_0 : decode cX5_together 0 = .ok (.iconst 0, 1) := dk_3 (dk_at dksX5_together_0 0 rfl rfl)
theorem dX5_together_1 : decode cX5_together 1 = .ok (.istore_n 3, 1) := dk_62 (dk_at dksX5_together_0 1 rfl rfl)
theorem dX5_together_2 : decode cX5_together 2 = .ok (.iconst 0, 1) := dk_3 (dk_at dksX5_together_0 2 rfl rfl)
theorem dX5_together_3 : decode cX5_together 3 = .ok (.istore 4, 2) := dk_54 4 (dk_at dksX5_together_0 3 rfl rfl)
theorem dX5_together_5 : decode cX5_together 5 = .ok (.iload 4, 2) := dk_21 4 (dk_at dksX5_together_0 5 rfl rfl)
theorem dX5_together_7 : decode cX5_together 7 = .ok (.iload_n 2, 1) := dk_28 (dk_at dksX5_together_0 7 rfl rfl)
theorem dX5_together_8 : decode cX5_together 8 = .ok (.if_icmp .ge 16, 3) := dk_162 0 16 (dk_at dksX5_together_0 8 rfl rfl)
theorem dX5_together_11 : decode cX5_together 11 = .ok (.iload_n 3, 1) := dk_29 (dk_at dksX5_together_0 11 rfl rfl)
theorem dX5_together_12 : decode cX5_together 12 = .ok (.aload_n 1, 1) := dk_43 (dk_at dksX5_together_0 12 rfl rfl)
theorem dX5_together_13 : decode cX5_together 13 = .ok (.iload 4, 2) := dk_21 4 (dk_at dksX5_together_0 13 rfl rfl)
theorem dX5_together_15 : decode cX5_together 15 = .ok (.iaload, 1) := dk_46 (dk_at dksX5_together_0 15 rfl rfl)
theorem dX5_together_16 : decode cX5_together 16 = .ok (.iadd, 1) := dk_96 (dk_at dksX5_together_0 16 rfl rfl)
theorem dX5_together_17 : decode cX5_together 17 = .ok (.istore_n 3, 1) := dk_62 (dk_at dksX5_together_0 17 rfl rfl)
theorem dX5_together_18 : decode cX5_together 18 = .ok (.iinc 4 1, 3) := dk_132 4 1 (dk_at dksX5_together_0 18 rfl rfl)
theorem dX5_together_21 : decode cX5_together 21 = .ok (.goto (-16), 3) := dk_167 255 240 (dk_at dksX5_together_0 21 rfl rfl)
theorem dX5_together_24 : decode cX5_together 24 = .ok (.iload_n 3, 1) := dk_29 (dk_at dksX5_together_1 0 rfl rfl)
theorem dX5_together_25 : decode cX5_together 25 = .ok (.ireturn, 1) := dk_172 (dk_at dksX5_together_1 1 rfl rfl)
theorem q87 : (Jvm.Cond.initialized "TaxOnLooksModel") ∈ lw_all := lw_g (lw_at lw_m1 6 rfl) rfl
theorem q1377 : (Jvm.Cond.instantiable "TaxOnLooksModel" (44 : Nat)) ∈ lw_all := lw_g (lw_at lw_m6 96 rfl) rfl
theorem q1379 : (Jvm.Cond.instanceMethod ({ cls := "TaxOnLooksModel", name := "<init>", desc := "()V" } : Jvm.MethodName)) ∈ lw_all := lw_g (lw_at lw_m6 98 rfl) rfl
theorem q1380 : (Jvm.Cond.code ({ cls := "TaxOnLooksModel", name := "<init>", desc := "()V" } : Jvm.MethodName) prog_22_method_1_code (1 : Nat) (Option.none : Option Jvm.ClassFile.FieldType)) ∈ lw_all := lw_g (lw_at lw_m6 99 rfl) rfl
theorem q1381 : (Jvm.Cond.methodLink "TaxOnLooksModel" (1 : Nat) ({ cls := "java/lang/Object", name := "<init>", desc := "()V" } : Jvm.MethodName)) ∈ lw_all := lw_g (lw_at lw_m6 100 rfl) rfl
theorem q1382 : (Jvm.Cond.fieldLink "TaxOnLooksModel" (108 : Nat) "TaxOnLooksModel" "people" "I") ∈ lw_all := lw_g (lw_at lw_m6 101 rfl) rfl
theorem q1383 : (Jvm.Cond.fieldLink "TaxOnLooksModel" (7 : Nat) "TaxOnLooksModel" "mite" "I") ∈ lw_all := lw_g (lw_at lw_m6 102 rfl) rfl
theorem q1384 : (Jvm.Cond.fieldLink "TaxOnLooksModel" (13 : Nat) "TaxOnLooksModel" "reach" "I") ∈ lw_all := lw_g (lw_at lw_m6 103 rfl) rfl
theorem q1385 : (Jvm.Cond.fieldLink "TaxOnLooksModel" (139 : Nat) "TaxOnLooksModel" "rain" "I") ∈ lw_all := lw_g (lw_at lw_m6 104 rfl) rfl
theorem q1386 : (Jvm.Cond.fieldLink "TaxOnLooksModel" (189 : Nat) "TaxOnLooksModel" "gone" "I") ∈ lw_all := lw_g (lw_at lw_m6 105 rfl) rfl
theorem q1387 : (Jvm.Cond.fieldLink "TaxOnLooksModel" (192 : Nat) "TaxOnLooksModel" "taken" "I") ∈ lw_all := lw_g (lw_at lw_m6 106 rfl) rfl
theorem q1388 : (Jvm.Cond.fieldLink "TaxOnLooksModel" (16 : Nat) "TaxOnLooksModel" "seed" "I") ∈ lw_all := lw_g (lw_at lw_m6 107 rfl) rfl
theorem q1389 : (Jvm.Cond.fieldLink "TaxOnLooksModel" (19 : Nat) "TaxOnLooksModel" "fault" "I") ∈ lw_all := lw_g (lw_at lw_m6 108 rfl) rfl
theorem q1390 : (Jvm.Cond.fieldLink "TaxOnLooksModel" (22 : Nat) "TaxOnLooksModel" "refused" "[I") ∈ lw_all := lw_g (lw_at lw_m6 109 rfl) rfl
theorem q1391 : (Jvm.Cond.fieldLink "TaxOnLooksModel" (26 : Nat) "TaxOnLooksModel" "kind" "[I") ∈ lw_all := lw_g (lw_at lw_m6 110 rfl) rfl
theorem q1392 : (Jvm.Cond.fieldLink "TaxOnLooksModel" (29 : Nat) "TaxOnLooksModel" "part" "[I") ∈ lw_all := lw_g (lw_at lw_m6 111 rfl) rfl
theorem q1393 : (Jvm.Cond.fieldLink "TaxOnLooksModel" (32 : Nat) "TaxOnLooksModel" "looks" "[I") ∈ lw_all := lw_g (lw_at lw_m6 112 rfl) rfl
theorem q1394 : (Jvm.Cond.fieldLink "TaxOnLooksModel" (35 : Nat) "TaxOnLooksModel" "shame" "[I") ∈ lw_all := lw_g (lw_at lw_m6 113 rfl) rfl
theorem q1395 : (Jvm.Cond.fieldLink "TaxOnLooksModel" (38 : Nat) "TaxOnLooksModel" "purse" "[I") ∈ lw_all := lw_g (lw_at lw_m6 114 rfl) rfl
theorem q1396 : (Jvm.Cond.fieldLink "TaxOnLooksModel" (41 : Nat) "TaxOnLooksModel" "at" "[I") ∈ lw_all := lw_g (lw_at lw_m6 115 rfl) rfl
theorem q1397 : (Jvm.Cond.fieldLink "TaxOnLooksModel" (44 : Nat) "TaxOnLooksModel" "sacked" "[I") ∈ lw_all := lw_g (lw_at lw_m6 116 rfl) rfl
theorem q1398 : (Jvm.Cond.fieldLink "TaxOnLooksModel" (47 : Nat) "TaxOnLooksModel" "wall" "[I") ∈ lw_all := lw_g (lw_at lw_m6 117 rfl) rfl
theorem q1399 : (Jvm.Cond.fieldLink "TaxOnLooksModel" (50 : Nat) "TaxOnLooksModel" "balcony" "[I") ∈ lw_all := lw_g (lw_at lw_m6 118 rfl) rfl
theorem q1400 : (Jvm.Cond.fieldLink "TaxOnLooksModel" (53 : Nat) "TaxOnLooksModel" "held" "[I") ∈ lw_all := lw_g (lw_at lw_m6 119 rfl) rfl
theorem q1401 : (Jvm.Cond.fieldLink "TaxOnLooksModel" (56 : Nat) "TaxOnLooksModel" "sort" "[I") ∈ lw_all := lw_g (lw_at lw_m6 120 rfl) rfl
theorem q1402 : (Jvm.Cond.fieldLink "TaxOnLooksModel" (59 : Nat) "TaxOnLooksModel" "size" "[I") ∈ lw_all := lw_g (lw_at lw_m6 121 rfl) rfl
theorem q1403 : (Jvm.Cond.fieldLink "TaxOnLooksModel" (62 : Nat) "TaxOnLooksModel" "shown" "[I") ∈ lw_all := lw_g (lw_at lw_m6 122 rfl) rfl
theorem q1404 : (Jvm.Cond.fieldLink "TaxOnLooksModel" (65 : Nat) "TaxOnLooksModel" "cells" "[J") ∈ lw_all := lw_g (lw_at lw_m6 123 rfl) rfl
theorem q1405 : (Jvm.Cond.fieldLink "TaxOnLooksModel" (69 : Nat) "TaxOnLooksModel" "carried" "[J") ∈ lw_all := lw_g (lw_at lw_m6 124 rfl) rfl
theorem q1406 : (Jvm.Cond.fieldLink "TaxOnLooksModel" (72 : Nat) "TaxOnLooksModel" "words" "[I") ∈ lw_all := lw_g (lw_at lw_m6 125 rfl) rfl
theorem q1407 : (Jvm.Cond.fieldLink "TaxOnLooksModel" (75 : Nat) "TaxOnLooksModel" "numbers" "[I") ∈ lw_all := lw_g (lw_at lw_m6 126 rfl) rfl
theorem q1408 : (Jvm.Cond.fieldLink "TaxOnLooksModel" (78 : Nat) "TaxOnLooksModel" "mosts" "[I") ∈ lw_all := lw_g (lw_at lw_m6 127 rfl) rfl
theorem q1409 : (Jvm.Cond.fieldLink "TaxOnLooksModel" (81 : Nat) "TaxOnLooksModel" "told" "[I") ∈ lw_all := lw_g (lw_at lw_m6 128 rfl) rfl
theorem q1410 : (Jvm.Cond.fieldLink "TaxOnLooksModel" (159 : Nat) "TaxOnLooksModel" "base" "I") ∈ lw_all := lw_g (lw_at lw_m6 129 rfl) rfl
theorem q1411 : (Jvm.Cond.fieldLink "TaxOnLooksModel" (153 : Nat) "TaxOnLooksModel" "place" "I") ∈ lw_all := lw_g (lw_at lw_m6 130 rfl) rfl
theorem q1412 : (Jvm.Cond.fieldLink "TaxOnLooksModel" (156 : Nat) "TaxOnLooksModel" "end" "I") ∈ lw_all := lw_g (lw_at lw_m6 131 rfl) rfl
theorem q1413 : (Jvm.Cond.fieldLink "TaxOnLooksModel" (162 : Nat) "TaxOnLooksModel" "number" "I") ∈ lw_all := lw_g (lw_at lw_m6 132 rfl) rfl
theorem q1414 : (Jvm.Cond.fieldLink "TaxOnLooksModel" (150 : Nat) "TaxOnLooksModel" "wrongAt" "I") ∈ lw_all := lw_g (lw_at lw_m6 133 rfl) rfl
theorem q1415 : (Jvm.Cond.fieldLink "TaxOnLooksModel" (84 : Nat) "TaxOnLooksModel" "was" "[I") ∈ lw_all := lw_g (lw_at lw_m6 134 rfl) rfl
theorem q1416 : (Jvm.Cond.fieldLink "TaxOnLooksModel" (87 : Nat) "TaxOnLooksModel" "kept" "[I") ∈ lw_all := lw_g (lw_at lw_m6 135 rfl) rfl
theorem q1417 : (Jvm.Cond.fieldLink "TaxOnLooksModel" (90 : Nat) "TaxOnLooksModel" "later" "[I") ∈ lw_all := lw_g (lw_at lw_m6 136 rfl) rfl
theorem q1418 : (Jvm.Cond.fieldLink "TaxOnLooksModel" (93 : Nat) "TaxOnLooksModel" "missing" "I") ∈ lw_all := lw_g (lw_at lw_m6 137 rfl) rfl
theorem q1419 : (Jvm.Cond.fieldLink "TaxOnLooksModel" (96 : Nat) "TaxOnLooksModel" "dutyAt" "[I") ∈ lw_all := lw_g (lw_at lw_m6 138 rfl) rfl
theorem q1420 : (Jvm.Cond.fieldLink "TaxOnLooksModel" (99 : Nat) "TaxOnLooksModel" "wayOn" "[I") ∈ lw_all := lw_g (lw_at lw_m6 139 rfl) rfl
theorem q1421 : (Jvm.Cond.fieldLink "TaxOnLooksModel" (102 : Nat) "TaxOnLooksModel" "wasSo" "[I") ∈ lw_all := lw_g (lw_at lw_m6 140 rfl) rfl
theorem q1422 : (Jvm.Cond.fieldLink "TaxOnLooksModel" (265 : Nat) "TaxOnLooksModel" "paidThen" "I") ∈ lw_all := lw_g (lw_at lw_m6 141 rfl) rfl
theorem q1423 : (Jvm.Cond.fieldLink "TaxOnLooksModel" (105 : Nat) "TaxOnLooksModel" "trace" "[I") ∈ lw_all := lw_g (lw_at lw_m6 142 rfl) rfl
theorem q1424 : (Jvm.Cond.fieldLink "TaxOnLooksModel" (284 : Nat) "TaxOnLooksModel" "ran" "I") ∈ lw_all := lw_g (lw_at lw_m6 143 rfl) rfl
theorem q1425 : (Jvm.Cond.fieldLink "TaxOnLooksModel" (299 : Nat) "TaxOnLooksModel" "isThere" "Z") ∈ lw_all := lw_g (lw_at lw_m6 144 rfl) rfl
theorem q1426 : (Jvm.Cond.lays "TaxOnLooksModel" "TaxOnLooksModel" "people" "I") ∈ lw_all := lw_g (lw_at lw_m6 145 rfl) rfl
theorem q1427 : (Jvm.Cond.soleField "TaxOnLooksModel" "people") ∈ lw_all := lw_g (lw_at lw_m6 146 rfl) rfl
theorem q1428 : (Jvm.Cond.lays "TaxOnLooksModel" "TaxOnLooksModel" "mite" "I") ∈ lw_all := lw_g (lw_at lw_m6 147 rfl) rfl
theorem q1429 : (Jvm.Cond.soleField "TaxOnLooksModel" "mite") ∈ lw_all := lw_g (lw_at lw_m6 148 rfl) rfl
theorem q1430 : (Jvm.Cond.lays "TaxOnLooksModel" "TaxOnLooksModel" "reach" "I") ∈ lw_all := lw_g (lw_at lw_m6 149 rfl) rfl
theorem q1431 : (Jvm.Cond.soleField "TaxOnLooksModel" "reach") ∈ lw_all := lw_g (lw_at lw_m6 150 rfl) rfl
theorem q1432 : (Jvm.Cond.lays "TaxOnLooksModel" "TaxOnLooksModel" "rain" "I") ∈ lw_all := lw_g (lw_at lw_m6 151 rfl) rfl
theorem q1433 : (Jvm.Cond.soleField "TaxOnLooksModel" "rain") ∈ lw_all := lw_g (lw_at lw_m6 152 rfl) rfl
theorem q1434 : (Jvm.Cond.lays "TaxOnLooksModel" "TaxOnLooksModel" "gone" "I") ∈ lw_all := lw_g (lw_at lw_m6 153 rfl) rfl
theorem q1435 : (Jvm.Cond.soleField "TaxOnLooksModel" "gone") ∈ lw_all := lw_g (lw_at lw_m6 154 rfl) rfl
theorem q1436 : (Jvm.Cond.lays "TaxOnLooksModel" "TaxOnLooksModel" "taken" "I") ∈ lw_all := lw_g (lw_at lw_m6 155 rfl) rfl
theorem q1437 : (Jvm.Cond.soleField "TaxOnLooksModel" "taken") ∈ lw_all := lw_g (lw_at lw_m6 156 rfl) rfl
theorem q1438 : (Jvm.Cond.lays "TaxOnLooksModel" "TaxOnLooksModel" "seed" "I") ∈ lw_all := lw_g (lw_at lw_m6 157 rfl) rfl
theorem q1439 : (Jvm.Cond.soleField "TaxOnLooksModel" "seed") ∈ lw_all := lw_g (lw_at lw_m6 158 rfl) rfl
theorem q1440 : (Jvm.Cond.lays "TaxOnLooksModel" "TaxOnLooksModel" "fault" "I") ∈ lw_all := lw_g (lw_at lw_m6 159 rfl) rfl
theorem q1441 : (Jvm.Cond.soleField "TaxOnLooksModel" "fault") ∈ lw_all := lw_g (lw_at lw_m6 160 rfl) rfl
theorem q1442 : (Jvm.Cond.laysFinal "TaxOnLooksModel" "TaxOnLooksModel" "refused" "[I") ∈ lw_all := lw_g (lw_at lw_m6 161 rfl) rfl
theorem q1443 : (Jvm.Cond.soleField "TaxOnLooksModel" "refused") ∈ lw_all := lw_g (lw_at lw_m6 162 rfl) rfl
theorem q1444 : (Jvm.Cond.laysFinal "TaxOnLooksModel" "TaxOnLooksModel" "kind" "[I") ∈ lw_all := lw_g (lw_at lw_m6 163 rfl) rfl
theorem q1445 : (Jvm.Cond.soleField "TaxOnLooksModel" "kind") ∈ lw_all := lw_g (lw_at lw_m6 164 rfl) rfl
theorem q1446 : (Jvm.Cond.laysFinal "TaxOnLooksModel" "TaxOnLooksModel" "part" "[I") ∈ lw_all := lw_g (lw_at lw_m6 165 rfl) rfl
theorem q1447 : (Jvm.Cond.soleField "TaxOnLooksModel" "part") ∈ lw_all := lw_g (lw_at lw_m6 166 rfl) rfl
theorem q1448 : (Jvm.Cond.laysFinal "TaxOnLooksModel" "TaxOnLooksModel" "looks" "[I") ∈ lw_all := lw_g (lw_at lw_m6 167 rfl) rfl
theorem q1449 : (Jvm.Cond.soleField "TaxOnLooksModel" "looks") ∈ lw_all := lw_g (lw_at lw_m6 168 rfl) rfl
theorem q1450 : (Jvm.Cond.laysFinal "TaxOnLooksModel" "TaxOnLooksModel" "shame" "[I") ∈ lw_all := lw_g (lw_at lw_m6 169 rfl) rfl
theorem q1451 : (Jvm.Cond.soleField "TaxOnLooksModel" "shame") ∈ lw_all := lw_g (lw_at lw_m6 170 rfl) rfl
theorem q1452 : (Jvm.Cond.laysFinal "TaxOnLooksModel" "TaxOnLooksModel" "purse" "[I") ∈ lw_all := lw_g (lw_at lw_m6 171 rfl) rfl
theorem q1453 : (Jvm.Cond.soleField "TaxOnLooksModel" "purse") ∈ lw_all := lw_g (lw_at lw_m6 172 rfl) rfl
theorem q1454 : (Jvm.Cond.laysFinal "TaxOnLooksModel" "TaxOnLooksModel" "at" "[I") ∈ lw_all := lw_g (lw_at lw_m6 173 rfl) rfl
theorem q1455 : (Jvm.Cond.soleField "TaxOnLooksModel" "at") ∈ lw_all := lw_g (lw_at lw_m6 174 rfl) rfl
theorem q1456 : (Jvm.Cond.laysFinal "TaxOnLooksModel" "TaxOnLooksModel" "sacked" "[I") ∈ lw_all := lw_g (lw_at lw_m6 175 rfl) rfl
theorem q1457 : (Jvm.Cond.soleField "TaxOnLooksModel" "sacked") ∈ lw_all := lw_g (lw_at lw_m6 176 rfl) rfl
theorem q1458 : (Jvm.Cond.laysFinal "TaxOnLooksModel" "TaxOnLooksModel" "wall" "[I") ∈ lw_all := lw_g (lw_at lw_m6 177 rfl) rfl
theorem q1459 : (Jvm.Cond.soleField "TaxOnLooksModel" "wall") ∈ lw_all := lw_g (lw_at lw_m6 178 rfl) rfl
theorem q1460 : (Jvm.Cond.laysFinal "TaxOnLooksModel" "TaxOnLooksModel" "balcony" "[I") ∈ lw_all := lw_g (lw_at lw_m6 179 rfl) rfl
theorem q1461 : (Jvm.Cond.soleField "TaxOnLooksModel" "balcony") ∈ lw_all := lw_g (lw_at lw_m6 180 rfl) rfl
theorem q1462 : (Jvm.Cond.laysFinal "TaxOnLooksModel" "TaxOnLooksModel" "held" "[I") ∈ lw_all := lw_g (lw_at lw_m6 181 rfl) rfl
theorem q1463 : (Jvm.Cond.soleField "TaxOnLooksModel" "held") ∈ lw_all := lw_g (lw_at lw_m6 182 rfl) rfl
theorem q1464 : (Jvm.Cond.laysFinal "TaxOnLooksModel" "TaxOnLooksModel" "sort" "[I") ∈ lw_all := lw_g (lw_at lw_m6 183 rfl) rfl
theorem q1465 : (Jvm.Cond.soleField "TaxOnLooksModel" "sort") ∈ lw_all := lw_g (lw_at lw_m6 184 rfl) rfl
theorem q1466 : (Jvm.Cond.laysFinal "TaxOnLooksModel" "TaxOnLooksModel" "size" "[I") ∈ lw_all := lw_g (lw_at lw_m6 185 rfl) rfl
theorem q1467 : (Jvm.Cond.soleField "TaxOnLooksModel" "size") ∈ lw_all := lw_g (lw_at lw_m6 186 rfl) rfl
theorem q1468 : (Jvm.Cond.laysFinal "TaxOnLooksModel" "TaxOnLooksModel" "shown" "[I") ∈ lw_all := lw_g (lw_at lw_m6 187 rfl) rfl
theorem q1469 : (Jvm.Cond.soleField "TaxOnLooksModel" "shown") ∈ lw_all := lw_g (lw_at lw_m6 188 rfl) rfl
theorem q1470 : (Jvm.Cond.laysFinal "TaxOnLooksModel" "TaxOnLooksModel" "cells" "[J") ∈ lw_all := lw_g (lw_at lw_m6 189 rfl) rfl
theorem q1471 : (Jvm.Cond.soleField "TaxOnLooksModel" "cells") ∈ lw_all := lw_g (lw_at lw_m6 190 rfl) rfl
theorem q1472 : (Jvm.Cond.laysFinal "TaxOnLooksModel" "TaxOnLooksModel" "carried" "[J") ∈ lw_all := lw_g (lw_at lw_m6 191 rfl) rfl
theorem q1473 : (Jvm.Cond.soleField "TaxOnLooksModel" "carried") ∈ lw_all := lw_g (lw_at lw_m6 192 rfl) rfl
theorem q1474 : (Jvm.Cond.laysFinal "TaxOnLooksModel" "TaxOnLooksModel" "words" "[I") ∈ lw_all := lw_g (lw_at lw_m6 193 rfl) rfl
theorem q1475 : (Jvm.Cond.soleField "TaxOnLooksModel" "words") ∈ lw_all := lw_g (lw_at lw_m6 194 rfl) rfl
theorem q1476 : (Jvm.Cond.laysFinal "TaxOnLooksModel" "TaxOnLooksModel" "numbers" "[I") ∈ lw_all := lw_g (lw_at lw_m6 195 rfl) rfl
theorem q1477 : (Jvm.Cond.soleField "TaxOnLooksModel" "numbers") ∈ lw_all := lw_g (lw_at lw_m6 196 rfl) rfl
theorem q1478 : (Jvm.Cond.laysFinal "TaxOnLooksModel" "TaxOnLooksModel" "mosts" "[I") ∈ lw_all := lw_g (lw_at lw_m6 197 rfl) rfl
theorem q1479 : (Jvm.Cond.soleField "TaxOnLooksModel" "mosts") ∈ lw_all := lw_g (lw_at lw_m6 198 rfl) rfl
theorem q1480 : (Jvm.Cond.laysFinal "TaxOnLooksModel" "TaxOnLooksModel" "told" "[I") ∈ lw_all := lw_g (lw_at lw_m6 199 rfl) rfl
theorem q1481 : (Jvm.Cond.soleField "TaxOnLooksModel" "told") ∈ lw_all := lw_g (lw_at lw_m6 200 rfl) rfl
theorem q1482 : (Jvm.Cond.lays "TaxOnLooksModel" "TaxOnLooksModel" "base" "I") ∈ lw_all := lw_g (lw_at lw_m6 201 rfl) rfl
theorem q1483 : (Jvm.Cond.soleField "TaxOnLooksModel" "base") ∈ lw_all := lw_g (lw_at lw_m6 202 rfl) rfl
theorem q1484 : (Jvm.Cond.lays "TaxOnLooksModel" "TaxOnLooksModel" "place" "I") ∈ lw_all := lw_g (lw_at lw_m6 203 rfl) rfl
theorem q1485 : (Jvm.Cond.soleField "TaxOnLooksModel" "place") ∈ lw_all := lw_g (lw_at lw_m6 204 rfl) rfl
theorem q1486 : (Jvm.Cond.lays "TaxOnLooksModel" "TaxOnLooksModel" "end" "I") ∈ lw_all := lw_g (lw_at lw_m6 205 rfl) rfl
theorem q1487 : (Jvm.Cond.soleField "TaxOnLooksModel" "end") ∈ lw_all := lw_g (lw_at lw_m6 206 rfl) rfl
theorem q1488 : (Jvm.Cond.lays "TaxOnLooksModel" "TaxOnLooksModel" "number" "I") ∈ lw_all := lw_g (lw_at lw_m6 207 rfl) rfl
theorem q1489 : (Jvm.Cond.soleField "TaxOnLooksModel" "number") ∈ lw_all := lw_g (lw_at lw_m6 208 rfl) rfl
theorem q1490 : (Jvm.Cond.lays "TaxOnLooksModel" "TaxOnLooksModel" "wrongAt" "I") ∈ lw_all := lw_g (lw_at lw_m6 209 rfl) rfl
theorem q1491 : (Jvm.Cond.soleField "TaxOnLooksModel" "wrongAt") ∈ lw_all := lw_g (lw_at lw_m6 210 rfl) rfl
theorem q1492 : (Jvm.Cond.laysFinal "TaxOnLooksModel" "TaxOnLooksModel" "was" "[I") ∈ lw_all := lw_g (lw_at lw_m6 211 rfl) rfl
theorem q1493 : (Jvm.Cond.soleField "TaxOnLooksModel" "was") ∈ lw_all := lw_g (lw_at lw_m6 212 rfl) rfl
theorem q1494 : (Jvm.Cond.laysFinal "TaxOnLooksModel" "TaxOnLooksModel" "kept" "[I") ∈ lw_all := lw_g (lw_at lw_m6 213 rfl) rfl
theorem q1495 : (Jvm.Cond.soleField "TaxOnLooksModel" "kept") ∈ lw_all := lw_g (lw_at lw_m6 214 rfl) rfl
theorem q1496 : (Jvm.Cond.laysFinal "TaxOnLooksModel" "TaxOnLooksModel" "later" "[I") ∈ lw_all := lw_g (lw_at lw_m6 215 rfl) rfl
theorem q1497 : (Jvm.Cond.soleField "TaxOnLooksModel" "later") ∈ lw_all := lw_g (lw_at lw_m6 216 rfl) rfl
theorem q1498 : (Jvm.Cond.lays "TaxOnLooksModel" "TaxOnLooksModel" "missing" "I") ∈ lw_all := lw_g (lw_at lw_m6 217 rfl) rfl
theorem q1499 : (Jvm.Cond.soleField "TaxOnLooksModel" "missing") ∈ lw_all := lw_g (lw_at lw_m6 218 rfl) rfl
theorem q1500 : (Jvm.Cond.laysFinal "TaxOnLooksModel" "TaxOnLooksModel" "dutyAt" "[I") ∈ lw_all := lw_g (lw_at lw_m6 219 rfl) rfl
theorem q1501 : (Jvm.Cond.soleField "TaxOnLooksModel" "dutyAt") ∈ lw_all := lw_g (lw_at lw_m6 220 rfl) rfl
theorem q1502 : (Jvm.Cond.laysFinal "TaxOnLooksModel" "TaxOnLooksModel" "wayOn" "[I") ∈ lw_all := lw_g (lw_at lw_m6 221 rfl) rfl
theorem q1503 : (Jvm.Cond.soleField "TaxOnLooksModel" "wayOn") ∈ lw_all := lw_g (lw_at lw_m6 222 rfl) rfl
theorem q1504 : (Jvm.Cond.laysFinal "TaxOnLooksModel" "TaxOnLooksModel" "wasSo" "[I") ∈ lw_all := lw_g (lw_at lw_m6 223 rfl) rfl
theorem q1505 : (Jvm.Cond.soleField "TaxOnLooksModel" "wasSo") ∈ lw_all := lw_g (lw_at lw_m6 224 rfl) rfl
theorem q1506 : (Jvm.Cond.lays "TaxOnLooksModel" "TaxOnLooksModel" "paidThen" "I") ∈ lw_all := lw_g (lw_at lw_m6 225 rfl) rfl
theorem q1507 : (Jvm.Cond.soleField "TaxOnLooksModel" "paidThen") ∈ lw_all := lw_g (lw_at lw_m6 226 rfl) rfl
theorem q1508 : (Jvm.Cond.laysFinal "TaxOnLooksModel" "TaxOnLooksModel" "trace" "[I") ∈ lw_all := lw_g (lw_at lw_m6 227 rfl) rfl
theorem q1509 : (Jvm.Cond.soleField "TaxOnLooksModel" "trace") ∈ lw_all := lw_g (lw_at lw_m6 228 rfl) rfl
theorem q1510 : (Jvm.Cond.lays "TaxOnLooksModel" "TaxOnLooksModel" "ran" "I") ∈ lw_all := lw_g (lw_at lw_m6 229 rfl) rfl
theorem q1511 : (Jvm.Cond.soleField "TaxOnLooksModel" "ran") ∈ lw_all := lw_g (lw_at lw_m6 230 rfl) rfl
theorem q1512 : (Jvm.Cond.lays "TaxOnLooksModel" "TaxOnLooksModel" "isThere" "Z") ∈ lw_all := lw_g (lw_at lw_m6 231 rfl) rfl
theorem q1513 : (Jvm.Cond.soleField "TaxOnLooksModel" "isThere") ∈ lw_all := lw_g (lw_at lw_m6 232 rfl) rfl
theorem q1514 : (Jvm.Cond.superclass "TaxOnLooksModel" "java/lang/Object") ∈ lw_all := lw_g (lw_at lw_m6 233 rfl) rfl
theorem q1516 : (Jvm.Cond.instanceMethod ({ cls := "TaxOnLooksModel", name := "row", desc := "(III)I" } : Jvm.MethodName)) ∈ lw_all := lw_g (lw_at lw_m6 235 rfl) rfl
theorem q1517 : (Jvm.Cond.selects "TaxOnLooksModel" ({ cls := "TaxOnLooksModel", name := "row", desc := "(III)I" } : Jvm.MethodName) ({ cls := "TaxOnLooksModel", name := "row", desc := "(III)I" } : Jvm.MethodName)) ∈ lw_all := lw_g (lw_at lw_m6 236 rfl) rfl
theorem q1518 : (Jvm.Cond.code ({ cls := "TaxOnLooksModel", name := "row", desc := "(III)I" } : Jvm.MethodName) prog_22_method_8_code (5 : Nat) (Option.some Jvm.ClassFile.FieldType.int)) ∈ lw_all := lw_g (lw_at lw_m6 237 rfl) rfl
theorem q1519 : (Jvm.Cond.methodLink "TaxOnLooksModel" (111 : Nat) ({ cls := "TaxOnLooksModel", name := "isShelf", desc := "(I)Z" } : Jvm.MethodName)) ∈ lw_all := lw_g (lw_at lw_m6 238 rfl) rfl
theorem q1520 : (Jvm.Cond.privateMethod ({ cls := "TaxOnLooksModel", name := "isShelf", desc := "(I)Z" } : Jvm.MethodName)) ∈ lw_tbl := lw_at lw_m6 239 rfl
theorem q1521 : (Jvm.Cond.instanceMethod ({ cls := "TaxOnLooksModel", name := "isShelf", desc := "(I)Z" } : Jvm.MethodName)) ∈ lw_all := lw_g (lw_at lw_m7 0 rfl) rfl
theorem q1522 : (Jvm.Cond.code ({ cls := "TaxOnLooksModel", name := "isShelf", desc := "(I)Z" } : Jvm.MethodName) prog_22_method_4_code (2 : Nat) (Option.some Jvm.ClassFile.FieldType.boolean)) ∈ lw_all := lw_g (lw_at lw_m7 1 rfl) rfl
theorem q1523 : (Jvm.Cond.methodLink "TaxOnLooksModel" (115 : Nat) ({ cls := "TaxOnLooksModel", name := "no", desc := "(I)I" } : Jvm.MethodName)) ∈ lw_all := lw_g (lw_at lw_m7 2 rfl) rfl
theorem q1524 : (Jvm.Cond.privateMethod ({ cls := "TaxOnLooksModel", name := "no", desc := "(I)I" } : Jvm.MethodName)) ∈ lw_tbl := lw_at lw_m7 3 rfl
theorem q1525 : (Jvm.Cond.instanceMethod ({ cls := "TaxOnLooksModel", name := "no", desc := "(I)I" } : Jvm.MethodName)) ∈ lw_all := lw_g (lw_at lw_m7 4 rfl) rfl
theorem q1526 : (Jvm.Cond.code ({ cls := "TaxOnLooksModel", name := "no", desc := "(I)I" } : Jvm.MethodName) prog_22_method_2_code (2 : Nat) (Option.some Jvm.ClassFile.FieldType.int)) ∈ lw_all := lw_g (lw_at lw_m7 5 rfl) rfl
theorem q1528 : (Jvm.Cond.instanceMethod ({ cls := "TaxOnLooksModel", name := "set", desc := "(IIJ)I" } : Jvm.MethodName)) ∈ lw_all := lw_g (lw_at lw_m7 7 rfl) rfl
theorem q1529 : (Jvm.Cond.selects "TaxOnLooksModel" ({ cls := "TaxOnLooksModel", name := "set", desc := "(IIJ)I" } : Jvm.MethodName) ({ cls := "TaxOnLooksModel", name := "set", desc := "(IIJ)I" } : Jvm.MethodName)) ∈ lw_all := lw_g (lw_at lw_m7 8 rfl) rfl
theorem q1530 : (Jvm.Cond.code ({ cls := "TaxOnLooksModel", name := "set", desc := "(IIJ)I" } : Jvm.MethodName) prog_22_method_9_code (5 : Nat) (Option.some Jvm.ClassFile.FieldType.int)) ∈ lw_all := lw_g (lw_at lw_m7 9 rfl) rfl
theorem q1532 : (Jvm.Cond.instanceMethod ({ cls := "TaxOnLooksModel", name := "copy", desc := "(IIIII)I" } : Jvm.MethodName)) ∈ lw_all := lw_g (lw_at lw_m7 11 rfl) rfl
theorem q1533 : (Jvm.Cond.selects "TaxOnLooksModel" ({ cls := "TaxOnLooksModel", name := "copy", desc := "(IIIII)I" } : Jvm.MethodName) ({ cls := "TaxOnLooksModel", name := "copy", desc := "(IIIII)I" } : Jvm.MethodName)) ∈ lw_all := lw_g (lw_at lw_m7 12 rfl) rfl
theorem q1534 : (Jvm.Cond.code ({ cls := "TaxOnLooksModel", name := "copy", desc := "(IIIII)I" } : Jvm.MethodName) prog_22_method_10_code (7 : Nat) (Option.some Jvm.ClassFile.FieldType.int)) ∈ lw_all := lw_g (lw_at lw_m7 13 rfl) rfl
theorem q1536 : (Jvm.Cond.instanceMethod ({ cls := "TaxOnLooksModel", name := "element", desc := "(II)J" } : Jvm.MethodName)) ∈ lw_all := lw_g (lw_at lw_m7 15 rfl) rfl
theorem q1537 : (Jvm.Cond.selects "TaxOnLooksModel" ({ cls := "TaxOnLooksModel", name := "element", desc := "(II)J" } : Jvm.MethodName) ({ cls := "TaxOnLooksModel", name := "element", desc := "(II)J" } : Jvm.MethodName)) ∈ lw_all := lw_g (lw_at lw_m7 16 rfl) rfl
theorem q1538 : (Jvm.Cond.code ({ cls := "TaxOnLooksModel", name := "element", desc := "(II)J" } : Jvm.MethodName) prog_22_method_11_code (3 : Nat) (Option.some Jvm.ClassFile.FieldType.long)) ∈ lw_all := lw_g (lw_at lw_m7 17 rfl) rfl
theorem q1540 : (Jvm.Cond.instanceMethod ({ cls := "TaxOnLooksModel", name := "show", desc := "(II)I" } : Jvm.MethodName)) ∈ lw_all := lw_g (lw_at lw_m7 19 rfl) rfl
theorem q1541 : (Jvm.Cond.selects "TaxOnLooksModel" ({ cls := "TaxOnLooksModel", name := "show", desc := "(II)I" } : Jvm.MethodName) ({ cls := "TaxOnLooksModel", name := "show", desc := "(II)I" } : Jvm.MethodName)) ∈ lw_all := lw_g (lw_at lw_m7 20 rfl) rfl
theorem q1542 : (Jvm.Cond.code ({ cls := "TaxOnLooksModel", name := "show", desc := "(II)I" } : Jvm.MethodName) prog_22_method_12_code (3 : Nat) (Option.some Jvm.ClassFile.FieldType.int)) ∈ lw_all := lw_g (lw_at lw_m7 21 rfl) rfl
theorem q1543 : (Jvm.Cond.methodLink "TaxOnLooksModel" (119 : Nat) ({ cls := "TaxOnLooksModel", name := "isOne", desc := "(I)Z" } : Jvm.MethodName)) ∈ lw_all := lw_g (lw_at lw_m7 22 rfl) rfl
theorem q1544 : (Jvm.Cond.privateMethod ({ cls := "TaxOnLooksModel", name := "isOne", desc := "(I)Z" } : Jvm.MethodName)) ∈ lw_tbl := lw_at lw_m7 23 rfl
theorem q1545 : (Jvm.Cond.instanceMethod ({ cls := "TaxOnLooksModel", name := "isOne", desc := "(I)Z" } : Jvm.MethodName)) ∈ lw_all := lw_g (lw_at lw_m7 24 rfl) rfl
theorem q1546 : (Jvm.Cond.code ({ cls := "TaxOnLooksModel", name := "isOne", desc := "(I)Z" } : Jvm.MethodName) prog_22_method_5_code (2 : Nat) (Option.some Jvm.ClassFile.FieldType.boolean)) ∈ lw_all := lw_g (lw_at lw_m7 25 rfl) rfl
theorem q1548 : (Jvm.Cond.instanceMethod ({ cls := "TaxOnLooksModel", name := "holds", desc := "(I)I" } : Jvm.MethodName)) ∈ lw_all := lw_g (lw_at lw_m7 27 rfl) rfl
theorem q1549 : (Jvm.Cond.selects "TaxOnLooksModel" ({ cls := "TaxOnLooksModel", name := "holds", desc := "(I)I" } : Jvm.MethodName) ({ cls := "TaxOnLooksModel", name := "holds", desc := "(I)I" } : Jvm.MethodName)) ∈ lw_all := lw_g (lw_at lw_m7 28 rfl) rfl
theorem q1550 : (Jvm.Cond.code ({ cls := "TaxOnLooksModel", name := "holds", desc := "(I)I" } : Jvm.MethodName) prog_22_method_13_code (2 : Nat) (Option.some Jvm.ClassFile.FieldType.int)) ∈ lw_all := lw_g (lw_at lw_m7 29 rfl) rfl
theorem q1552 : (Jvm.Cond.instanceMethod ({ cls := "TaxOnLooksModel", name := "says", desc := "(II)I" } : Jvm.MethodName)) ∈ lw_all := lw_g (lw_at lw_m7 31 rfl) rfl
theorem q1553 : (Jvm.Cond.selects "TaxOnLooksModel" ({ cls := "TaxOnLooksModel", name := "says", desc := "(II)I" } : Jvm.MethodName) ({ cls := "TaxOnLooksModel", name := "says", desc := "(II)I" } : Jvm.MethodName)) ∈ lw_all := lw_g (lw_at lw_m7 32 rfl) rfl
theorem q1554 : (Jvm.Cond.code ({ cls := "TaxOnLooksModel", name := "says", desc := "(II)I" } : Jvm.MethodName) prog_22_method_14_code (6 : Nat) (Option.some Jvm.ClassFile.FieldType.int)) ∈ lw_all := lw_g (lw_at lw_m7 33 rfl) rfl
theorem q1555 : (Jvm.Cond.methodLink "TaxOnLooksModel" (122 : Nat) ({ cls := "TaxOnLooksModel", name := "shows", desc := "(I)I" } : Jvm.MethodName)) ∈ lw_all := lw_g (lw_at lw_m7 34 rfl) rfl
theorem q1556 : (Jvm.Cond.privateMethod ({ cls := "TaxOnLooksModel", name := "shows", desc := "(I)I" } : Jvm.MethodName)) ∈ lw_tbl := lw_at lw_m7 35 rfl
theorem q1557 : (Jvm.Cond.instanceMethod ({ cls := "TaxOnLooksModel", name := "shows", desc := "(I)I" } : Jvm.MethodName)) ∈ lw_all := lw_g (lw_at lw_m7 36 rfl) rfl
theorem q1558 : (Jvm.Cond.code ({ cls := "TaxOnLooksModel", name := "shows", desc := "(I)I" } : Jvm.MethodName) prog_22_method_42_code (3 : Nat) (Option.some Jvm.ClassFile.FieldType.int)) ∈ lw_all := lw_g (lw_at lw_m7 37 rfl) rfl
theorem q1560 : (Jvm.Cond.instanceMethod ({ cls := "TaxOnLooksModel", name := "person", desc := "(IIIIII)I" } : Jvm.MethodName)) ∈ lw_all := lw_g (lw_at lw_m7 39 rfl) rfl
theorem q1561 : (Jvm.Cond.selects "TaxOnLooksModel" ({ cls := "TaxOnLooksModel", name := "person", desc := "(IIIIII)I" } : Jvm.MethodName) ({ cls := "TaxOnLooksModel", name := "person", desc := "(IIIIII)I" } : Jvm.MethodName)) ∈ lw_all := lw_g (lw_at lw_m7 40 rfl) rfl
theorem q1562 : (Jvm.Cond.code ({ cls := "TaxOnLooksModel", name := "person", desc := "(IIIIII)I" } : Jvm.MethodName) prog_22_method_19_code (7 : Nat) (Option.some Jvm.ClassFile.FieldType.int)) ∈ lw_all := lw_g (lw_at lw_m7 41 rfl) rfl
theorem q1563 : (Jvm.Cond.methodLink "TaxOnLooksModel" (125 : Nat) ({ cls := "TaxOnLooksModel", name := "isFrom", desc := "(III)Z" } : Jvm.MethodName)) ∈ lw_all := lw_g (lw_at lw_m7 42 rfl) rfl
theorem q1564 : (Jvm.Cond.privateMethod ({ cls := "TaxOnLooksModel", name := "isFrom", desc := "(III)Z" } : Jvm.MethodName)) ∈ lw_tbl := lw_at lw_m7 43 rfl
theorem q1565 : (Jvm.Cond.instanceMethod ({ cls := "TaxOnLooksModel", name := "isFrom", desc := "(III)Z" } : Jvm.MethodName)) ∈ lw_all := lw_g (lw_at lw_m7 44 rfl) rfl
theorem q1566 : (Jvm.Cond.code ({ cls := "TaxOnLooksModel", name := "isFrom", desc := "(III)Z" } : Jvm.MethodName) prog_22_method_7_code (4 : Nat) (Option.some Jvm.ClassFile.FieldType.boolean)) ∈ lw_all := lw_g (lw_at lw_m7 45 rfl) rfl
theorem q1567 : (Jvm.Cond.methodLink "TaxOnLooksModel" (129 : Nat) ({ cls := "TaxOnLooksModel", name := "isSquare", desc := "(I)Z" } : Jvm.MethodName)) ∈ lw_all := lw_g (lw_at lw_m7 46 rfl) rfl
theorem q1568 : (Jvm.Cond.privateMethod ({ cls := "TaxOnLooksModel", name := "isSquare", desc := "(I)Z" } : Jvm.MethodName)) ∈ lw_tbl := lw_at lw_m7 47 rfl
theorem q1569 : (Jvm.Cond.instanceMethod ({ cls := "TaxOnLooksModel", name := "isSquare", desc := "(I)Z" } : Jvm.MethodName)) ∈ lw_all := lw_g (lw_at lw_m7 48 rfl) rfl
theorem q1570 : (Jvm.Cond.code ({ cls := "TaxOnLooksModel", name := "isSquare", desc := "(I)Z" } : Jvm.MethodName) prog_22_method_6_code (2 : Nat) (Option.some Jvm.ClassFile.FieldType.boolean)) ∈ lw_all := lw_g (lw_at lw_m7 49 rfl) rfl
theorem q1571 : (Jvm.Cond.methodLink "TaxOnLooksModel" (132 : Nat) ({ cls := "TaxOnLooksModel", name := "adds", desc := "(IIIIII)I" } : Jvm.MethodName)) ∈ lw_all := lw_g (lw_at lw_m7 50 rfl) rfl
theorem q1572 : (Jvm.Cond.privateMethod ({ cls := "TaxOnLooksModel", name := "adds", desc := "(IIIIII)I" } : Jvm.MethodName)) ∈ lw_tbl := lw_at lw_m7 51 rfl
theorem q1573 : (Jvm.Cond.instanceMethod ({ cls := "TaxOnLooksModel", name := "adds", desc := "(IIIIII)I" } : Jvm.MethodName)) ∈ lw_all := lw_g (lw_at lw_m7 52 rfl) rfl
theorem q1574 : (Jvm.Cond.code ({ cls := "TaxOnLooksModel", name := "adds", desc := "(IIIIII)I" } : Jvm.MethodName) prog_22_method_18_code (7 : Nat) (Option.some Jvm.ClassFile.FieldType.int)) ∈ lw_all := lw_g (lw_at lw_m7 53 rfl) rfl
theorem q1576 : (Jvm.Cond.instanceMethod ({ cls := "TaxOnLooksModel", name := "build", desc := "(IIZ)I" } : Jvm.MethodName)) ∈ lw_all := lw_g (lw_at lw_m7 55 rfl) rfl
theorem q1577 : (Jvm.Cond.selects "TaxOnLooksModel" ({ cls := "TaxOnLooksModel", name := "build", desc := "(IIZ)I" } : Jvm.MethodName) ({ cls := "TaxOnLooksModel", name := "build", desc := "(IIZ)I" } : Jvm.MethodName)) ∈ lw_all := lw_g (lw_at lw_m7 56 rfl) rfl
theorem q1578 : (Jvm.Cond.code ({ cls := "TaxOnLooksModel", name := "build", desc := "(IIZ)I" } : Jvm.MethodName) prog_22_method_20_code (5 : Nat) (Option.some Jvm.ClassFile.FieldType.int)) ∈ lw_all := lw_g (lw_at lw_m7 57 rfl) rfl
theorem q1579 : (Jvm.Cond.methodLink "TaxOnLooksModel" (136 : Nat) ({ cls := "TaxOnLooksModel", name := "thereAt", desc := "(I)I" } : Jvm.MethodName)) ∈ lw_all := lw_g (lw_at lw_m7 58 rfl) rfl
theorem q1580 : (Jvm.Cond.privateMethod ({ cls := "TaxOnLooksModel", name := "thereAt", desc := "(I)I" } : Jvm.MethodName)) ∈ lw_tbl := lw_at lw_m7 59 rfl
theorem q1581 : (Jvm.Cond.instanceMethod ({ cls := "TaxOnLooksModel", name := "thereAt", desc := "(I)I" } : Jvm.MethodName)) ∈ lw_all := lw_g (lw_at lw_m7 60 rfl) rfl
theorem q1582 : (Jvm.Cond.code ({ cls := "TaxOnLooksModel", name := "thereAt", desc := "(I)I" } : Jvm.MethodName) prog_22_method_17_code (4 : Nat) (Option.some Jvm.ClassFile.FieldType.int)) ∈ lw_all := lw_g (lw_at lw_m7 61 rfl) rfl
theorem q1584 : (Jvm.Cond.instanceMethod ({ cls := "TaxOnLooksModel", name := "put", desc := "(II)I" } : Jvm.MethodName)) ∈ lw_all := lw_g (lw_at lw_m7 63 rfl) rfl
theorem q1585 : (Jvm.Cond.selects "TaxOnLooksModel" ({ cls := "TaxOnLooksModel", name := "put", desc := "(II)I" } : Jvm.MethodName) ({ cls := "TaxOnLooksModel", name := "put", desc := "(II)I" } : Jvm.MethodName)) ∈ lw_all := lw_g (lw_at lw_m7 64 rfl) rfl
theorem q1586 : (Jvm.Cond.code ({ cls := "TaxOnLooksModel", name := "put", desc := "(II)I" } : Jvm.MethodName) prog_22_method_21_code (4 : Nat) (Option.some Jvm.ClassFile.FieldType.int)) ∈ lw_all := lw_g (lw_at lw_m7 65 rfl) rfl
theorem q1588 : (Jvm.Cond.instanceMethod ({ cls := "TaxOnLooksModel", name := "sack", desc := "(IZ)I" } : Jvm.MethodName)) ∈ lw_all := lw_g (lw_at lw_m7 67 rfl) rfl
theorem q1589 : (Jvm.Cond.selects "TaxOnLooksModel" ({ cls := "TaxOnLooksModel", name := "sack", desc := "(IZ)I" } : Jvm.MethodName) ({ cls := "TaxOnLooksModel", name := "sack", desc := "(IZ)I" } : Jvm.MethodName)) ∈ lw_all := lw_g (lw_at lw_m7 68 rfl) rfl
theorem q1590 : (Jvm.Cond.code ({ cls := "TaxOnLooksModel", name := "sack", desc := "(IZ)I" } : Jvm.MethodName) prog_22_method_22_code (4 : Nat) (Option.some Jvm.ClassFile.FieldType.int)) ∈ lw_all := lw_g (lw_at lw_m7 69 rfl) rfl
theorem q1592 : (Jvm.Cond.instanceMethod ({ cls := "TaxOnLooksModel", name := "ask", desc := "(II)I" } : Jvm.MethodName)) ∈ lw_all := lw_g (lw_at lw_m7 71 rfl) rfl
theorem q1593 : (Jvm.Cond.selects "TaxOnLooksModel" ({ cls := "TaxOnLooksModel", name := "ask", desc := "(II)I" } : Jvm.MethodName) ({ cls := "TaxOnLooksModel", name := "ask", desc := "(II)I" } : Jvm.MethodName)) ∈ lw_all := lw_g (lw_at lw_m7 72 rfl) rfl
theorem q1594 : (Jvm.Cond.code ({ cls := "TaxOnLooksModel", name := "ask", desc := "(II)I" } : Jvm.MethodName) prog_22_method_25_code (4 : Nat) (Option.some Jvm.ClassFile.FieldType.int)) ∈ lw_all := lw_g (lw_at lw_m7 73 rfl) rfl
theorem q1595 : (Jvm.Cond.methodLink "TaxOnLooksModel" (142 : Nat) ({ cls := "TaxOnLooksModel", name := "isAsked", desc := "(II)Z" } : Jvm.MethodName)) ∈ lw_all := lw_g (lw_at lw_m7 74 rfl) rfl
theorem q1596 : (Jvm.Cond.privateMethod ({ cls := "TaxOnLooksModel", name := "isAsked", desc := "(II)Z" } : Jvm.MethodName)) ∈ lw_tbl := lw_at lw_m7 75 rfl
theorem q1597 : (Jvm.Cond.instanceMethod ({ cls := "TaxOnLooksModel", name := "isAsked", desc := "(II)Z" } : Jvm.MethodName)) ∈ lw_all := lw_g (lw_at lw_m7 76 rfl) rfl
theorem q1598 : (Jvm.Cond.code ({ cls := "TaxOnLooksModel", name := "isAsked", desc := "(II)Z" } : Jvm.MethodName) prog_22_method_23_code (3 : Nat) (Option.some Jvm.ClassFile.FieldType.boolean)) ∈ lw_all := lw_g (lw_at lw_m7 77 rfl) rfl
theorem q1599 : (Jvm.Cond.methodLink "TaxOnLooksModel" (146 : Nat) ({ cls := "TaxOnLooksModel", name := "asks", desc := "(II)V" } : Jvm.MethodName)) ∈ lw_all := lw_g (lw_at lw_m7 78 rfl) rfl
theorem q1600 : (Jvm.Cond.privateMethod ({ cls := "TaxOnLooksModel", name := "asks", desc := "(II)V" } : Jvm.MethodName)) ∈ lw_tbl := lw_at lw_m7 79 rfl
theorem q1601 : (Jvm.Cond.instanceMethod ({ cls := "TaxOnLooksModel", name := "asks", desc := "(II)V" } : Jvm.MethodName)) ∈ lw_all := lw_g (lw_at lw_m7 80 rfl) rfl
theorem q1602 : (Jvm.Cond.code ({ cls := "TaxOnLooksModel", name := "asks", desc := "(II)V" } : Jvm.MethodName) prog_22_method_24_code (3 : Nat) (Option.none : Option Jvm.ClassFile.FieldType)) ∈ lw_all := lw_g (lw_at lw_m7 81 rfl) rfl
theorem q1604 : (Jvm.Cond.instanceMethod ({ cls := "TaxOnLooksModel", name := "personOf", desc := "(II)I" } : Jvm.MethodName)) ∈ lw_all := lw_g (lw_at lw_m7 83 rfl) rfl
theorem q1605 : (Jvm.Cond.selects "TaxOnLooksModel" ({ cls := "TaxOnLooksModel", name := "personOf", desc := "(II)I" } : Jvm.MethodName) ({ cls := "TaxOnLooksModel", name := "personOf", desc := "(II)I" } : Jvm.MethodName)) ∈ lw_all := lw_g (lw_at lw_m7 84 rfl) rfl
theorem q1606 : (Jvm.Cond.code ({ cls := "TaxOnLooksModel", name := "personOf", desc := "(II)I" } : Jvm.MethodName) prog_22_method_26_code (3 : Nat) (Option.some Jvm.ClassFile.FieldType.int)) ∈ lw_all := lw_g (lw_at lw_m7 85 rfl) rfl
theorem q1608 : (Jvm.Cond.instanceMethod ({ cls := "TaxOnLooksModel", name := "squareOf", desc := "(II)I" } : Jvm.MethodName)) ∈ lw_all := lw_g (lw_at lw_m7 87 rfl) rfl
theorem q1609 : (Jvm.Cond.selects "TaxOnLooksModel" ({ cls := "TaxOnLooksModel", name := "squareOf", desc := "(II)I" } : Jvm.MethodName) ({ cls := "TaxOnLooksModel", name := "squareOf", desc := "(II)I" } : Jvm.MethodName)) ∈ lw_all := lw_g (lw_at lw_m7 88 rfl) rfl
theorem q1610 : (Jvm.Cond.code ({ cls := "TaxOnLooksModel", name := "squareOf", desc := "(II)I" } : Jvm.MethodName) prog_22_method_27_code (3 : Nat) (Option.some Jvm.ClassFile.FieldType.int)) ∈ lw_all := lw_g (lw_at lw_m7 89 rfl) rfl
theorem q1612 : (Jvm.Cond.instanceMethod ({ cls := "TaxOnLooksModel", name := "town", desc := "(I)I" } : Jvm.MethodName)) ∈ lw_all := lw_g (lw_at lw_m7 91 rfl) rfl
theorem q1613 : (Jvm.Cond.selects "TaxOnLooksModel" ({ cls := "TaxOnLooksModel", name := "town", desc := "(I)I" } : Jvm.MethodName) ({ cls := "TaxOnLooksModel", name := "town", desc := "(I)I" } : Jvm.MethodName)) ∈ lw_all := lw_g (lw_at lw_m7 92 rfl) rfl
theorem q1614 : (Jvm.Cond.code ({ cls := "TaxOnLooksModel", name := "town", desc := "(I)I" } : Jvm.MethodName) prog_22_method_37_code (5 : Nat) (Option.some Jvm.ClassFile.FieldType.int)) ∈ lw_all := lw_g (lw_at lw_m7 93 rfl) rfl
theorem q1615 : (Jvm.Cond.methodLink "TaxOnLooksModel" (195 : Nat) ({ cls := "TaxOnLooksModel", name := "wanted", desc := "(I)I" } : Jvm.MethodName)) ∈ lw_all := lw_g (lw_at lw_m7 94 rfl) rfl
theorem q1616 : (Jvm.Cond.privateMethod ({ cls := "TaxOnLooksModel", name := "wanted", desc := "(I)I" } : Jvm.MethodName)) ∈ lw_tbl := lw_at lw_m7 95 rfl
theorem q1617 : (Jvm.Cond.instanceMethod ({ cls := "TaxOnLooksModel", name := "wanted", desc := "(I)I" } : Jvm.MethodName)) ∈ lw_all := lw_g (lw_at lw_m7 96 rfl) rfl
theorem q1618 : (Jvm.Cond.code ({ cls := "TaxOnLooksModel", name := "wanted", desc := "(I)I" } : Jvm.MethodName) prog_22_method_15_code (2 : Nat) (Option.some Jvm.ClassFile.FieldType.int)) ∈ lw_all := lw_g (lw_at lw_m7 97 rfl) rfl
theorem q1619 : (Jvm.Cond.methodLink "TaxOnLooksModel" (198 : Nat) ({ cls := "TaxOnLooksModel", name := "carriesAll", desc := "([IZ)V" } : Jvm.MethodName)) ∈ lw_all := lw_g (lw_at lw_m7 98 rfl) rfl
theorem q1620 : (Jvm.Cond.privateMethod ({ cls := "TaxOnLooksModel", name := "carriesAll", desc := "([IZ)V" } : Jvm.MethodName)) ∈ lw_tbl := lw_at lw_m7 99 rfl
theorem q1621 : (Jvm.Cond.instanceMethod ({ cls := "TaxOnLooksModel", name := "carriesAll", desc := "([IZ)V" } : Jvm.MethodName)) ∈ lw_all := lw_g (lw_at lw_m7 100 rfl) rfl
theorem q1622 : (Jvm.Cond.code ({ cls := "TaxOnLooksModel", name := "carriesAll", desc := "([IZ)V" } : Jvm.MethodName) prog_22_method_36_code (4 : Nat) (Option.none : Option Jvm.ClassFile.FieldType)) ∈ lw_all := lw_g (lw_at lw_m7 101 rfl) rfl
theorem q1623 : (Jvm.Cond.methodLink "TaxOnLooksModel" (185 : Nat) ({ cls := "TaxOnLooksModel", name := "carries", desc := "([II[IIZ)I" } : Jvm.MethodName)) ∈ lw_all := lw_g (lw_at lw_m7 102 rfl) rfl
theorem q1624 : (Jvm.Cond.privateMethod ({ cls := "TaxOnLooksModel", name := "carries", desc := "([II[IIZ)I" } : Jvm.MethodName)) ∈ lw_tbl := lw_at lw_m7 103 rfl
theorem q1625 : (Jvm.Cond.instanceMethod ({ cls := "TaxOnLooksModel", name := "carries", desc := "([II[IIZ)I" } : Jvm.MethodName)) ∈ lw_all := lw_g (lw_at lw_m7 104 rfl) rfl
theorem q1626 : (Jvm.Cond.code ({ cls := "TaxOnLooksModel", name := "carries", desc := "([II[IIZ)I" } : Jvm.MethodName) prog_22_method_35_code (7 : Nat) (Option.some Jvm.ClassFile.FieldType.int)) ∈ lw_all := lw_g (lw_at lw_m7 105 rfl) rfl
theorem q1627 : (Jvm.Cond.methodLink "TaxOnLooksModel" (202 : Nat) ({ cls := "TaxOnLooksModel", name := "item", desc := "()Z" } : Jvm.MethodName)) ∈ lw_all := lw_g (lw_at lw_m7 106 rfl) rfl
theorem q1628 : (Jvm.Cond.privateMethod ({ cls := "TaxOnLooksModel", name := "item", desc := "()Z" } : Jvm.MethodName)) ∈ lw_tbl := lw_at lw_m7 107 rfl
theorem q1629 : (Jvm.Cond.instanceMethod ({ cls := "TaxOnLooksModel", name := "item", desc := "()Z" } : Jvm.MethodName)) ∈ lw_all := lw_g (lw_at lw_m7 108 rfl) rfl
theorem q1630 : (Jvm.Cond.code ({ cls := "TaxOnLooksModel", name := "item", desc := "()Z" } : Jvm.MethodName) prog_22_method_34_code (4 : Nat) (Option.some Jvm.ClassFile.FieldType.boolean)) ∈ lw_all := lw_g (lw_at lw_m7 109 rfl) rfl
theorem q1631 : (Jvm.Cond.methodLink "TaxOnLooksModel" (172 : Nat) ({ cls := "TaxOnLooksModel", name := "stands", desc := "(I)Z" } : Jvm.MethodName)) ∈ lw_all := lw_g (lw_at lw_m7 110 rfl) rfl
theorem q1632 : (Jvm.Cond.privateMethod ({ cls := "TaxOnLooksModel", name := "stands", desc := "(I)Z" } : Jvm.MethodName)) ∈ lw_tbl := lw_at lw_m7 111 rfl
theorem q1633 : (Jvm.Cond.instanceMethod ({ cls := "TaxOnLooksModel", name := "stands", desc := "(I)Z" } : Jvm.MethodName)) ∈ lw_all := lw_g (lw_at lw_m7 112 rfl) rfl
theorem q1634 : (Jvm.Cond.code ({ cls := "TaxOnLooksModel", name := "stands", desc := "(I)Z" } : Jvm.MethodName) prog_22_method_29_code (4 : Nat) (Option.some Jvm.ClassFile.FieldType.boolean)) ∈ lw_all := lw_g (lw_at lw_m7 113 rfl) rfl
theorem q1635 : (Jvm.Cond.methodLink "TaxOnLooksModel" (169 : Nat) ({ cls := "TaxOnLooksModel", name := "wrong", desc := "(I)Z" } : Jvm.MethodName)) ∈ lw_all := lw_g (lw_at lw_m7 114 rfl) rfl
theorem q1636 : (Jvm.Cond.privateMethod ({ cls := "TaxOnLooksModel", name := "wrong", desc := "(I)Z" } : Jvm.MethodName)) ∈ lw_tbl := lw_at lw_m7 115 rfl
theorem q1637 : (Jvm.Cond.instanceMethod ({ cls := "TaxOnLooksModel", name := "wrong", desc := "(I)Z" } : Jvm.MethodName)) ∈ lw_all := lw_g (lw_at lw_m7 116 rfl) rfl
theorem q1638 : (Jvm.Cond.code ({ cls := "TaxOnLooksModel", name := "wrong", desc := "(I)Z" } : Jvm.MethodName) prog_22_method_28_code (2 : Nat) (Option.some Jvm.ClassFile.FieldType.boolean)) ∈ lw_all := lw_g (lw_at lw_m7 117 rfl) rfl
theorem q1639 : (Jvm.Cond.methodLink "TaxOnLooksModel" (175 : Nat) ({ cls := "TaxOnLooksModel", name := "word", desc := "()I" } : Jvm.MethodName)) ∈ lw_all := lw_g (lw_at lw_m7 118 rfl) rfl
theorem q1640 : (Jvm.Cond.privateMethod ({ cls := "TaxOnLooksModel", name := "word", desc := "()I" } : Jvm.MethodName)) ∈ lw_tbl := lw_at lw_m7 119 rfl
theorem q1641 : (Jvm.Cond.instanceMethod ({ cls := "TaxOnLooksModel", name := "word", desc := "()I" } : Jvm.MethodName)) ∈ lw_all := lw_g (lw_at lw_m7 120 rfl) rfl
theorem q1642 : (Jvm.Cond.code ({ cls := "TaxOnLooksModel", name := "word", desc := "()I" } : Jvm.MethodName) prog_22_method_30_code (6 : Nat) (Option.some Jvm.ClassFile.FieldType.int)) ∈ lw_all := lw_g (lw_at lw_m7 121 rfl) rfl
theorem q1643 : (Jvm.Cond.methodLink "TaxOnLooksModel" (179 : Nat) ({ cls := "TaxOnLooksModel", name := "reads", desc := "()Z" } : Jvm.MethodName)) ∈ lw_all := lw_g (lw_at lw_m7 122 rfl) rfl
theorem q1644 : (Jvm.Cond.privateMethod ({ cls := "TaxOnLooksModel", name := "reads", desc := "()Z" } : Jvm.MethodName)) ∈ lw_tbl := lw_at lw_m7 123 rfl
theorem q1645 : (Jvm.Cond.instanceMethod ({ cls := "TaxOnLooksModel", name := "reads", desc := "()Z" } : Jvm.MethodName)) ∈ lw_all := lw_g (lw_at lw_m7 124 rfl) rfl
theorem q1646 : (Jvm.Cond.code ({ cls := "TaxOnLooksModel", name := "reads", desc := "()Z" } : Jvm.MethodName) prog_22_method_32_code (2 : Nat) (Option.some Jvm.ClassFile.FieldType.boolean)) ∈ lw_all := lw_g (lw_at lw_m7 125 rfl) rfl
theorem q1647 : (Jvm.Cond.methodLink "TaxOnLooksModel" (165 : Nat) ({ cls := "TaxOnLooksModel", name := "isDigit", desc := "()Z" } : Jvm.MethodName)) ∈ lw_all := lw_g (lw_at lw_m7 126 rfl) rfl
theorem q1648 : (Jvm.Cond.privateMethod ({ cls := "TaxOnLooksModel", name := "isDigit", desc := "()Z" } : Jvm.MethodName)) ∈ lw_tbl := lw_at lw_m7 127 rfl
theorem q1649 : (Jvm.Cond.instanceMethod ({ cls := "TaxOnLooksModel", name := "isDigit", desc := "()Z" } : Jvm.MethodName)) ∈ lw_all := lw_g (lw_at lw_m7 128 rfl) rfl
theorem q1650 : (Jvm.Cond.code ({ cls := "TaxOnLooksModel", name := "isDigit", desc := "()Z" } : Jvm.MethodName) prog_22_method_31_code (1 : Nat) (Option.some Jvm.ClassFile.FieldType.boolean)) ∈ lw_all := lw_g (lw_at lw_m7 129 rfl) rfl
theorem q1651 : (Jvm.Cond.methodLink "TaxOnLooksModel" (182 : Nat) ({ cls := "TaxOnLooksModel", name := "isSo", desc := "(II)Z" } : Jvm.MethodName)) ∈ lw_all := lw_g (lw_at lw_m7 130 rfl) rfl
theorem q1652 : (Jvm.Cond.privateMethod ({ cls := "TaxOnLooksModel", name := "isSo", desc := "(II)Z" } : Jvm.MethodName)) ∈ lw_tbl := lw_at lw_m7 131 rfl
theorem q1653 : (Jvm.Cond.instanceMethod ({ cls := "TaxOnLooksModel", name := "isSo", desc := "(II)Z" } : Jvm.MethodName)) ∈ lw_all := lw_g (lw_at lw_m7 132 rfl) rfl
theorem q1654 : (Jvm.Cond.code ({ cls := "TaxOnLooksModel", name := "isSo", desc := "(II)Z" } : Jvm.MethodName) prog_22_method_33_code (3 : Nat) (Option.some Jvm.ClassFile.FieldType.boolean)) ∈ lw_all := lw_g (lw_at lw_m7 133 rfl) rfl
theorem q1656 : (Jvm.Cond.instanceMethod ({ cls := "TaxOnLooksModel", name := "fault", desc := "()I" } : Jvm.MethodName)) ∈ lw_all := lw_g (lw_at lw_m7 135 rfl) rfl
theorem q1657 : (Jvm.Cond.selects "TaxOnLooksModel" ({ cls := "TaxOnLooksModel", name := "fault", desc := "()I" } : Jvm.MethodName) ({ cls := "TaxOnLooksModel", name := "fault", desc := "()I" } : Jvm.MethodName)) ∈ lw_all := lw_g (lw_at lw_m7 136 rfl) rfl
theorem q1658 : (Jvm.Cond.code ({ cls := "TaxOnLooksModel", name := "fault", desc := "()I" } : Jvm.MethodName) prog_22_method_38_code (1 : Nat) (Option.some Jvm.ClassFile.FieldType.int)) ∈ lw_all := lw_g (lw_at lw_m7 137 rfl) rfl
theorem q1660 : (Jvm.Cond.instanceMethod ({ cls := "TaxOnLooksModel", name := "view", desc := "(II)I" } : Jvm.MethodName)) ∈ lw_all := lw_g (lw_at lw_m7 139 rfl) rfl
theorem q1661 : (Jvm.Cond.selects "TaxOnLooksModel" ({ cls := "TaxOnLooksModel", name := "view", desc := "(II)I" } : Jvm.MethodName) ({ cls := "TaxOnLooksModel", name := "view", desc := "(II)I" } : Jvm.MethodName)) ∈ lw_all := lw_g (lw_at lw_m7 140 rfl) rfl
theorem q1662 : (Jvm.Cond.code ({ cls := "TaxOnLooksModel", name := "view", desc := "(II)I" } : Jvm.MethodName) prog_22_method_50_code (3 : Nat) (Option.some Jvm.ClassFile.FieldType.int)) ∈ lw_all := lw_g (lw_at lw_m7 141 rfl) rfl
theorem q1663 : (Jvm.Cond.methodLink "TaxOnLooksModel" (209 : Nat) ({ cls := "TaxOnLooksModel", name := "sees", desc := "(II)Z" } : Jvm.MethodName)) ∈ lw_all := lw_g (lw_at lw_m7 142 rfl) rfl
theorem q1664 : (Jvm.Cond.privateMethod ({ cls := "TaxOnLooksModel", name := "sees", desc := "(II)Z" } : Jvm.MethodName)) ∈ lw_tbl := lw_at lw_m7 143 rfl
theorem q1665 : (Jvm.Cond.instanceMethod ({ cls := "TaxOnLooksModel", name := "sees", desc := "(II)Z" } : Jvm.MethodName)) ∈ lw_all := lw_g (lw_at lw_m7 144 rfl) rfl
theorem q1666 : (Jvm.Cond.code ({ cls := "TaxOnLooksModel", name := "sees", desc := "(II)Z" } : Jvm.MethodName) prog_22_method_40_code (7 : Nat) (Option.some Jvm.ClassFile.FieldType.boolean)) ∈ lw_all := lw_g (lw_at lw_m7 145 rfl) rfl
theorem q1667 : (Jvm.Cond.methodLink "TaxOnLooksModel" (205 : Nat) ({ cls := "TaxOnLooksModel", name := "distance", desc := "(II)I" } : Jvm.MethodName)) ∈ lw_all := lw_g (lw_at lw_m7 146 rfl) rfl
theorem q1668 : (Jvm.Cond.privateMethod ({ cls := "TaxOnLooksModel", name := "distance", desc := "(II)I" } : Jvm.MethodName)) ∈ lw_tbl := lw_at lw_m7 147 rfl
theorem q1669 : (Jvm.Cond.instanceMethod ({ cls := "TaxOnLooksModel", name := "distance", desc := "(II)I" } : Jvm.MethodName)) ∈ lw_all := lw_g (lw_at lw_m7 148 rfl) rfl
theorem q1670 : (Jvm.Cond.code ({ cls := "TaxOnLooksModel", name := "distance", desc := "(II)I" } : Jvm.MethodName) prog_22_method_39_code (6 : Nat) (Option.some Jvm.ClassFile.FieldType.int)) ∈ lw_all := lw_g (lw_at lw_m7 149 rfl) rfl
theorem q1672 : (Jvm.Cond.instanceMethod ({ cls := "TaxOnLooksModel", name := "glances", desc := "(II)I" } : Jvm.MethodName)) ∈ lw_all := lw_g (lw_at lw_m7 151 rfl) rfl
theorem q1673 : (Jvm.Cond.selects "TaxOnLooksModel" ({ cls := "TaxOnLooksModel", name := "glances", desc := "(II)I" } : Jvm.MethodName) ({ cls := "TaxOnLooksModel", name := "glances", desc := "(II)I" } : Jvm.MethodName)) ∈ lw_all := lw_g (lw_at lw_m7 152 rfl) rfl
theorem q1674 : (Jvm.Cond.code ({ cls := "TaxOnLooksModel", name := "glances", desc := "(II)I" } : Jvm.MethodName) prog_22_method_51_code (3 : Nat) (Option.some Jvm.ClassFile.FieldType.int)) ∈ lw_all := lw_g (lw_at lw_m7 153 rfl) rfl
theorem q1675 : (Jvm.Cond.methodLink "TaxOnLooksModel" (221 : Nat) ({ cls := "TaxOnLooksModel", name := "lookers", desc := "(I)I" } : Jvm.MethodName)) ∈ lw_all := lw_g (lw_at lw_m7 154 rfl) rfl
theorem q1676 : (Jvm.Cond.privateMethod ({ cls := "TaxOnLooksModel", name := "lookers", desc := "(I)I" } : Jvm.MethodName)) ∈ lw_tbl := lw_at lw_m7 155 rfl
theorem q1677 : (Jvm.Cond.instanceMethod ({ cls := "TaxOnLooksModel", name := "lookers", desc := "(I)I" } : Jvm.MethodName)) ∈ lw_all := lw_g (lw_at lw_m7 156 rfl) rfl
theorem q1678 : (Jvm.Cond.code ({ cls := "TaxOnLooksModel", name := "lookers", desc := "(I)I" } : Jvm.MethodName) prog_22_method_45_code (4 : Nat) (Option.some Jvm.ClassFile.FieldType.int)) ∈ lw_all := lw_g (lw_at lw_m7 157 rfl) rfl
theorem q1679 : (Jvm.Cond.methodLink "TaxOnLooksModel" (215 : Nat) ({ cls := "TaxOnLooksModel", name := "lookedAt", desc := "(I)I" } : Jvm.MethodName)) ∈ lw_all := lw_g (lw_at lw_m7 158 rfl) rfl
theorem q1680 : (Jvm.Cond.privateMethod ({ cls := "TaxOnLooksModel", name := "lookedAt", desc := "(I)I" } : Jvm.MethodName)) ∈ lw_tbl := lw_at lw_m7 159 rfl
theorem q1681 : (Jvm.Cond.instanceMethod ({ cls := "TaxOnLooksModel", name := "lookedAt", desc := "(I)I" } : Jvm.MethodName)) ∈ lw_all := lw_g (lw_at lw_m7 160 rfl) rfl
theorem q1682 : (Jvm.Cond.code ({ cls := "TaxOnLooksModel", name := "lookedAt", desc := "(I)I" } : Jvm.MethodName) prog_22_method_44_code (6 : Nat) (Option.some Jvm.ClassFile.FieldType.int)) ∈ lw_all := lw_g (lw_at lw_m7 161 rfl) rfl
theorem q1683 : (Jvm.Cond.methodLink "TaxOnLooksModel" (212 : Nat) ({ cls := "TaxOnLooksModel", name := "would", desc := "(II)Z" } : Jvm.MethodName)) ∈ lw_all := lw_g (lw_at lw_m7 162 rfl) rfl
theorem q1684 : (Jvm.Cond.privateMethod ({ cls := "TaxOnLooksModel", name := "would", desc := "(II)Z" } : Jvm.MethodName)) ∈ lw_tbl := lw_at lw_m7 163 rfl
theorem q1685 : (Jvm.Cond.instanceMethod ({ cls := "TaxOnLooksModel", name := "would", desc := "(II)Z" } : Jvm.MethodName)) ∈ lw_all := lw_g (lw_at lw_m7 164 rfl) rfl
theorem q1686 : (Jvm.Cond.code ({ cls := "TaxOnLooksModel", name := "would", desc := "(II)Z" } : Jvm.MethodName) prog_22_method_43_code (3 : Nat) (Option.some Jvm.ClassFile.FieldType.boolean)) ∈ lw_all := lw_g (lw_at lw_m7 165 rfl) rfl
theorem q1688 : (Jvm.Cond.instanceMethod ({ cls := "TaxOnLooksModel", name := "duty", desc := "(II)I" } : Jvm.MethodName)) ∈ lw_all := lw_g (lw_at lw_m7 167 rfl) rfl
theorem q1689 : (Jvm.Cond.selects "TaxOnLooksModel" ({ cls := "TaxOnLooksModel", name := "duty", desc := "(II)I" } : Jvm.MethodName) ({ cls := "TaxOnLooksModel", name := "duty", desc := "(II)I" } : Jvm.MethodName)) ∈ lw_all := lw_g (lw_at lw_m7 168 rfl) rfl
theorem q1690 : (Jvm.Cond.code ({ cls := "TaxOnLooksModel", name := "duty", desc := "(II)I" } : Jvm.MethodName) prog_22_method_52_code (3 : Nat) (Option.some Jvm.ClassFile.FieldType.int)) ∈ lw_all := lw_g (lw_at lw_m7 169 rfl) rfl
theorem q1691 : (Jvm.Cond.methodLink "TaxOnLooksModel" (227 : Nat) ({ cls := "TaxOnLooksModel", name := "owes", desc := "(I)I" } : Jvm.MethodName)) ∈ lw_all := lw_g (lw_at lw_m7 170 rfl) rfl
theorem q1692 : (Jvm.Cond.privateMethod ({ cls := "TaxOnLooksModel", name := "owes", desc := "(I)I" } : Jvm.MethodName)) ∈ lw_tbl := lw_at lw_m7 171 rfl
theorem q1693 : (Jvm.Cond.instanceMethod ({ cls := "TaxOnLooksModel", name := "owes", desc := "(I)I" } : Jvm.MethodName)) ∈ lw_all := lw_g (lw_at lw_m7 172 rfl) rfl
theorem q1694 : (Jvm.Cond.code ({ cls := "TaxOnLooksModel", name := "owes", desc := "(I)I" } : Jvm.MethodName) prog_22_method_47_code (3 : Nat) (Option.some Jvm.ClassFile.FieldType.int)) ∈ lw_all := lw_g (lw_at lw_m7 173 rfl) rfl
theorem q1695 : (Jvm.Cond.methodLink "TaxOnLooksModel" (218 : Nat) ({ cls := "TaxOnLooksModel", name := "isLit", desc := "(I)Z" } : Jvm.MethodName)) ∈ lw_all := lw_g (lw_at lw_m7 174 rfl) rfl
theorem q1696 : (Jvm.Cond.privateMethod ({ cls := "TaxOnLooksModel", name := "isLit", desc := "(I)Z" } : Jvm.MethodName)) ∈ lw_tbl := lw_at lw_m7 175 rfl
theorem q1697 : (Jvm.Cond.instanceMethod ({ cls := "TaxOnLooksModel", name := "isLit", desc := "(I)Z" } : Jvm.MethodName)) ∈ lw_all := lw_g (lw_at lw_m7 176 rfl) rfl
theorem q1698 : (Jvm.Cond.code ({ cls := "TaxOnLooksModel", name := "isLit", desc := "(I)Z" } : Jvm.MethodName) prog_22_method_41_code (3 : Nat) (Option.some Jvm.ClassFile.FieldType.boolean)) ∈ lw_all := lw_g (lw_at lw_m7 177 rfl) rfl
theorem q1699 : (Jvm.Cond.methodLink "TaxOnLooksModel" (224 : Nat) ({ cls := "TaxOnLooksModel", name := "many", desc := "(I)I" } : Jvm.MethodName)) ∈ lw_all := lw_g (lw_at lw_m7 178 rfl) rfl
theorem q1700 : (Jvm.Cond.privateMethod ({ cls := "TaxOnLooksModel", name := "many", desc := "(I)I" } : Jvm.MethodName)) ∈ lw_tbl := lw_at lw_m7 179 rfl
theorem q1701 : (Jvm.Cond.instanceMethod ({ cls := "TaxOnLooksModel", name := "many", desc := "(I)I" } : Jvm.MethodName)) ∈ lw_all := lw_g (lw_at lw_m7 180 rfl) rfl
theorem q1702 : (Jvm.Cond.code ({ cls := "TaxOnLooksModel", name := "many", desc := "(I)I" } : Jvm.MethodName) prog_22_method_46_code (4 : Nat) (Option.some Jvm.ClassFile.FieldType.int)) ∈ lw_all := lw_g (lw_at lw_m7 181 rfl) rfl
theorem q1703 : (Jvm.Cond.methodLink "TaxOnLooksModel" (230 : Nat) ({ cls := "TaxOnLooksModel", name := "wouldPay", desc := "(I)I" } : Jvm.MethodName)) ∈ lw_all := lw_g (lw_at lw_m7 182 rfl) rfl
theorem q1704 : (Jvm.Cond.privateMethod ({ cls := "TaxOnLooksModel", name := "wouldPay", desc := "(I)I" } : Jvm.MethodName)) ∈ lw_tbl := lw_at lw_m7 183 rfl
theorem q1705 : (Jvm.Cond.instanceMethod ({ cls := "TaxOnLooksModel", name := "wouldPay", desc := "(I)I" } : Jvm.MethodName)) ∈ lw_all := lw_g (lw_at lw_m7 184 rfl) rfl
theorem q1706 : (Jvm.Cond.code ({ cls := "TaxOnLooksModel", name := "wouldPay", desc := "(I)I" } : Jvm.MethodName) prog_22_method_48_code (5 : Nat) (Option.some Jvm.ClassFile.FieldType.int)) ∈ lw_all := lw_g (lw_at lw_m7 185 rfl) rfl
theorem q1708 : (Jvm.Cond.instanceMethod ({ cls := "TaxOnLooksModel", name := "all", desc := "(I)I" } : Jvm.MethodName)) ∈ lw_all := lw_g (lw_at lw_m7 187 rfl) rfl
theorem q1709 : (Jvm.Cond.selects "TaxOnLooksModel" ({ cls := "TaxOnLooksModel", name := "all", desc := "(I)I" } : Jvm.MethodName) ({ cls := "TaxOnLooksModel", name := "all", desc := "(I)I" } : Jvm.MethodName)) ∈ lw_all := lw_g (lw_at lw_m7 188 rfl) rfl
theorem q1710 : (Jvm.Cond.code ({ cls := "TaxOnLooksModel", name := "all", desc := "(I)I" } : Jvm.MethodName) prog_22_method_53_code (5 : Nat) (Option.some Jvm.ClassFile.FieldType.int)) ∈ lw_all := lw_g (lw_at lw_m7 189 rfl) rfl
theorem q1712 : (Jvm.Cond.instanceMethod ({ cls := "TaxOnLooksModel", name := "walk", desc := "(III)I" } : Jvm.MethodName)) ∈ lw_all := lw_g (lw_at lw_m7 191 rfl) rfl
theorem q1713 : (Jvm.Cond.selects "TaxOnLooksModel" ({ cls := "TaxOnLooksModel", name := "walk", desc := "(III)I" } : Jvm.MethodName) ({ cls := "TaxOnLooksModel", name := "walk", desc := "(III)I" } : Jvm.MethodName)) ∈ lw_all := lw_g (lw_at lw_m7 192 rfl) rfl
theorem q1714 : (Jvm.Cond.code ({ cls := "TaxOnLooksModel", name := "walk", desc := "(III)I" } : Jvm.MethodName) prog_22_method_58_code (5 : Nat) (Option.some Jvm.ClassFile.FieldType.int)) ∈ lw_all := lw_g (lw_at lw_m7 193 rfl) rfl
theorem q1715 : (Jvm.Cond.methodLink "TaxOnLooksModel" (237 : Nat) ({ cls := "TaxOnLooksModel", name := "noTen", desc := "(I)I" } : Jvm.MethodName)) ∈ lw_all := lw_g (lw_at lw_m7 194 rfl) rfl
theorem q1716 : (Jvm.Cond.privateMethod ({ cls := "TaxOnLooksModel", name := "noTen", desc := "(I)I" } : Jvm.MethodName)) ∈ lw_tbl := lw_at lw_m7 195 rfl
theorem q1717 : (Jvm.Cond.instanceMethod ({ cls := "TaxOnLooksModel", name := "noTen", desc := "(I)I" } : Jvm.MethodName)) ∈ lw_all := lw_g (lw_at lw_m7 196 rfl) rfl
theorem q1718 : (Jvm.Cond.code ({ cls := "TaxOnLooksModel", name := "noTen", desc := "(I)I" } : Jvm.MethodName) prog_22_method_3_code (2 : Nat) (Option.some Jvm.ClassFile.FieldType.int)) ∈ lw_all := lw_g (lw_at lw_m7 197 rfl) rfl
theorem q1719 : (Jvm.Cond.methodLink "TaxOnLooksModel" (240 : Nat) ({ cls := "TaxOnLooksModel", name := "tellsDuties", desc := "(I)V" } : Jvm.MethodName)) ∈ lw_all := lw_g (lw_at lw_m7 198 rfl) rfl
theorem q1720 : (Jvm.Cond.privateMethod ({ cls := "TaxOnLooksModel", name := "tellsDuties", desc := "(I)V" } : Jvm.MethodName)) ∈ lw_tbl := lw_at lw_m7 199 rfl
theorem q1721 : (Jvm.Cond.instanceMethod ({ cls := "TaxOnLooksModel", name := "tellsDuties", desc := "(I)V" } : Jvm.MethodName)) ∈ lw_all := lw_g (lw_at lw_m7 200 rfl) rfl
theorem q1722 : (Jvm.Cond.code ({ cls := "TaxOnLooksModel", name := "tellsDuties", desc := "(I)V" } : Jvm.MethodName) prog_22_method_55_code (4 : Nat) (Option.none : Option Jvm.ClassFile.FieldType)) ∈ lw_all := lw_g (lw_at lw_m7 201 rfl) rfl
theorem q1723 : (Jvm.Cond.constant "TaxOnLooksModel" (233 : Nat) (100000000 : Int32)) ∈ lw_all := lw_g (lw_at lw_m7 202 rfl) rfl
theorem q1724 : (Jvm.Cond.methodLink "TaxOnLooksModel" (244 : Nat) ({ cls := "TaxOnLooksModel", name := "tellsWays", desc := "(I)V" } : Jvm.MethodName)) ∈ lw_all := lw_g (lw_at lw_m7 203 rfl) rfl
theorem q1725 : (Jvm.Cond.privateMethod ({ cls := "TaxOnLooksModel", name := "tellsWays", desc := "(I)V" } : Jvm.MethodName)) ∈ lw_tbl := lw_at lw_m7 204 rfl
theorem q1726 : (Jvm.Cond.instanceMethod ({ cls := "TaxOnLooksModel", name := "tellsWays", desc := "(I)V" } : Jvm.MethodName)) ∈ lw_all := lw_g (lw_at lw_m7 205 rfl) rfl
theorem q1727 : (Jvm.Cond.code ({ cls := "TaxOnLooksModel", name := "tellsWays", desc := "(I)V" } : Jvm.MethodName) prog_22_method_56_code (6 : Nat) (Option.none : Option Jvm.ClassFile.FieldType)) ∈ lw_all := lw_g (lw_at lw_m7 206 rfl) rfl
theorem q1728 : (Jvm.Cond.methodLink "TaxOnLooksModel" (234 : Nat) ({ cls := "TaxOnLooksModel", name := "beside", desc := "(II)I" } : Jvm.MethodName)) ∈ lw_all := lw_g (lw_at lw_m7 207 rfl) rfl
theorem q1729 : (Jvm.Cond.privateMethod ({ cls := "TaxOnLooksModel", name := "beside", desc := "(II)I" } : Jvm.MethodName)) ∈ lw_tbl := lw_at lw_m7 208 rfl
theorem q1730 : (Jvm.Cond.instanceMethod ({ cls := "TaxOnLooksModel", name := "beside", desc := "(II)I" } : Jvm.MethodName)) ∈ lw_all := lw_g (lw_at lw_m7 209 rfl) rfl
theorem q1731 : (Jvm.Cond.code ({ cls := "TaxOnLooksModel", name := "beside", desc := "(II)I" } : Jvm.MethodName) prog_22_method_54_code (5 : Nat) (Option.some Jvm.ClassFile.FieldType.int)) ∈ lw_all := lw_g (lw_at lw_m7 210 rfl) rfl
theorem q1732 : (Jvm.Cond.methodLink "TaxOnLooksModel" (247 : Nat) ({ cls := "TaxOnLooksModel", name := "firstOn", desc := "(I)I" } : Jvm.MethodName)) ∈ lw_all := lw_g (lw_at lw_m7 211 rfl) rfl
theorem q1733 : (Jvm.Cond.privateMethod ({ cls := "TaxOnLooksModel", name := "firstOn", desc := "(I)I" } : Jvm.MethodName)) ∈ lw_tbl := lw_at lw_m7 212 rfl
theorem q1734 : (Jvm.Cond.instanceMethod ({ cls := "TaxOnLooksModel", name := "firstOn", desc := "(I)I" } : Jvm.MethodName)) ∈ lw_all := lw_g (lw_at lw_m7 213 rfl) rfl
theorem q1735 : (Jvm.Cond.code ({ cls := "TaxOnLooksModel", name := "firstOn", desc := "(I)I" } : Jvm.MethodName) prog_22_method_57_code (5 : Nat) (Option.some Jvm.ClassFile.FieldType.int)) ∈ lw_all := lw_g (lw_at lw_m7 214 rfl) rfl
theorem q1737 : (Jvm.Cond.instanceMethod ({ cls := "TaxOnLooksModel", name := "stand", desc := "(II)I" } : Jvm.MethodName)) ∈ lw_all := lw_g (lw_at lw_m7 216 rfl) rfl
theorem q1738 : (Jvm.Cond.selects "TaxOnLooksModel" ({ cls := "TaxOnLooksModel", name := "stand", desc := "(II)I" } : Jvm.MethodName) ({ cls := "TaxOnLooksModel", name := "stand", desc := "(II)I" } : Jvm.MethodName)) ∈ lw_all := lw_g (lw_at lw_m7 217 rfl) rfl
theorem q1739 : (Jvm.Cond.code ({ cls := "TaxOnLooksModel", name := "stand", desc := "(II)I" } : Jvm.MethodName) prog_22_method_59_code (5 : Nat) (Option.some Jvm.ClassFile.FieldType.int)) ∈ lw_all := lw_g (lw_at lw_m7 218 rfl) rfl
theorem q1741 : (Jvm.Cond.instanceMethod ({ cls := "TaxOnLooksModel", name := "sacks", desc := "(II)I" } : Jvm.MethodName)) ∈ lw_all := lw_g (lw_at lw_m7 220 rfl) rfl
theorem q1742 : (Jvm.Cond.selects "TaxOnLooksModel" ({ cls := "TaxOnLooksModel", name := "sacks", desc := "(II)I" } : Jvm.MethodName) ({ cls := "TaxOnLooksModel", name := "sacks", desc := "(II)I" } : Jvm.MethodName)) ∈ lw_all := lw_g (lw_at lw_m7 221 rfl) rfl
theorem q1743 : (Jvm.Cond.code ({ cls := "TaxOnLooksModel", name := "sacks", desc := "(II)I" } : Jvm.MethodName) prog_22_method_60_code (7 : Nat) (Option.some Jvm.ClassFile.FieldType.int)) ∈ lw_all := lw_g (lw_at lw_m7 222 rfl) rfl
theorem q1744 : (Jvm.Cond.methodLink "TaxOnLooksModel" (250 : Nat) ({ cls := "TaxOnLooksModel", name := "allDuties", desc := "()I" } : Jvm.MethodName)) ∈ lw_all := lw_g (lw_at lw_m7 223 rfl) rfl
theorem q1745 : (Jvm.Cond.privateMethod ({ cls := "TaxOnLooksModel", name := "allDuties", desc := "()I" } : Jvm.MethodName)) ∈ lw_tbl := lw_at lw_m7 224 rfl
theorem q1746 : (Jvm.Cond.instanceMethod ({ cls := "TaxOnLooksModel", name := "allDuties", desc := "()I" } : Jvm.MethodName)) ∈ lw_all := lw_g (lw_at lw_m7 225 rfl) rfl
theorem q1747 : (Jvm.Cond.code ({ cls := "TaxOnLooksModel", name := "allDuties", desc := "()I" } : Jvm.MethodName) prog_22_method_49_code (3 : Nat) (Option.some Jvm.ClassFile.FieldType.int)) ∈ lw_all := lw_g (lw_at lw_m7 226 rfl) rfl
theorem q1749 : (Jvm.Cond.instanceMethod ({ cls := "TaxOnLooksModel", name := "balconies", desc := "(I)I" } : Jvm.MethodName)) ∈ lw_all := lw_g (lw_at lw_m7 228 rfl) rfl
theorem q1750 : (Jvm.Cond.selects "TaxOnLooksModel" ({ cls := "TaxOnLooksModel", name := "balconies", desc := "(I)I" } : Jvm.MethodName) ({ cls := "TaxOnLooksModel", name := "balconies", desc := "(I)I" } : Jvm.MethodName)) ∈ lw_all := lw_g (lw_at lw_m7 229 rfl) rfl
theorem q1751 : (Jvm.Cond.code ({ cls := "TaxOnLooksModel", name := "balconies", desc := "(I)I" } : Jvm.MethodName) prog_22_method_62_code (7 : Nat) (Option.some Jvm.ClassFile.FieldType.int)) ∈ lw_all := lw_g (lw_at lw_m7 230 rfl) rfl
theorem q1752 : (Jvm.Cond.methodLink "TaxOnLooksModel" (253 : Nat) ({ cls := "TaxOnLooksModel", name := "allEntered", desc := "()I" } : Jvm.MethodName)) ∈ lw_all := lw_g (lw_at lw_m7 231 rfl) rfl
theorem q1753 : (Jvm.Cond.privateMethod ({ cls := "TaxOnLooksModel", name := "allEntered", desc := "()I" } : Jvm.MethodName)) ∈ lw_tbl := lw_at lw_m7 232 rfl
theorem q1754 : (Jvm.Cond.instanceMethod ({ cls := "TaxOnLooksModel", name := "allEntered", desc := "()I" } : Jvm.MethodName)) ∈ lw_all := lw_g (lw_at lw_m7 233 rfl) rfl
theorem q1755 : (Jvm.Cond.code ({ cls := "TaxOnLooksModel", name := "allEntered", desc := "()I" } : Jvm.MethodName) prog_22_method_61_code (3 : Nat) (Option.some Jvm.ClassFile.FieldType.int)) ∈ lw_all := lw_g (lw_at lw_m7 234 rfl) rfl
theorem q1757 : (Jvm.Cond.instanceMethod ({ cls := "TaxOnLooksModel", name := "fits", desc := "(II)I" } : Jvm.MethodName)) ∈ lw_all := lw_g (lw_at lw_m7 236 rfl) rfl
theorem q1758 : (Jvm.Cond.selects "TaxOnLooksModel" ({ cls := "TaxOnLooksModel", name := "fits", desc := "(II)I" } : Jvm.MethodName) ({ cls := "TaxOnLooksModel", name := "fits", desc := "(II)I" } : Jvm.MethodName)) ∈ lw_all := lw_g (lw_at lw_m7 237 rfl) rfl
theorem q1759 : (Jvm.Cond.code ({ cls := "TaxOnLooksModel", name := "fits", desc := "(II)I" } : Jvm.MethodName) prog_22_method_63_code (9 : Nat) (Option.some Jvm.ClassFile.FieldType.int)) ∈ lw_all := lw_g (lw_at lw_m7 238 rfl) rfl
theorem q1760 : (Jvm.Cond.methodLink "TaxOnLooksModel" (256 : Nat) ({ cls := "TaxOnLooksModel", name := "intAt", desc := "(II)I" } : Jvm.MethodName)) ∈ lw_all := lw_g (lw_at lw_m7 239 rfl) rfl
theorem q1761 : (Jvm.Cond.privateMethod ({ cls := "TaxOnLooksModel", name := "intAt", desc := "(II)I" } : Jvm.MethodName)) ∈ lw_tbl := lw_at lw_m8 0 rfl
theorem q1762 : (Jvm.Cond.instanceMethod ({ cls := "TaxOnLooksModel", name := "intAt", desc := "(II)I" } : Jvm.MethodName)) ∈ lw_all := lw_g (lw_at lw_m8 1 rfl) rfl
theorem q1763 : (Jvm.Cond.code ({ cls := "TaxOnLooksModel", name := "intAt", desc := "(II)I" } : Jvm.MethodName) prog_22_method_16_code (3 : Nat) (Option.some Jvm.ClassFile.FieldType.int)) ∈ lw_all := lw_g (lw_at lw_m8 2 rfl) rfl
theorem q1765 : (Jvm.Cond.instanceMethod ({ cls := "TaxOnLooksModel", name := "most", desc := "(I)I" } : Jvm.MethodName)) ∈ lw_all := lw_g (lw_at lw_m8 4 rfl) rfl
theorem q1766 : (Jvm.Cond.selects "TaxOnLooksModel" ({ cls := "TaxOnLooksModel", name := "most", desc := "(I)I" } : Jvm.MethodName) ({ cls := "TaxOnLooksModel", name := "most", desc := "(I)I" } : Jvm.MethodName)) ∈ lw_all := lw_g (lw_at lw_m8 5 rfl) rfl
theorem q1767 : (Jvm.Cond.code ({ cls := "TaxOnLooksModel", name := "most", desc := "(I)I" } : Jvm.MethodName) prog_22_method_65_code (4 : Nat) (Option.some Jvm.ClassFile.FieldType.int)) ∈ lw_all := lw_g (lw_at lw_m8 6 rfl) rfl
theorem q1768 : (Jvm.Cond.methodLink "TaxOnLooksModel" (259 : Nat) ({ cls := "TaxOnLooksModel", name := "without", desc := "()I" } : Jvm.MethodName)) ∈ lw_all := lw_g (lw_at lw_m8 7 rfl) rfl
theorem q1769 : (Jvm.Cond.privateMethod ({ cls := "TaxOnLooksModel", name := "without", desc := "()I" } : Jvm.MethodName)) ∈ lw_tbl := lw_at lw_m8 8 rfl
theorem q1770 : (Jvm.Cond.instanceMethod ({ cls := "TaxOnLooksModel", name := "without", desc := "()I" } : Jvm.MethodName)) ∈ lw_all := lw_g (lw_at lw_m8 9 rfl) rfl
theorem q1771 : (Jvm.Cond.code ({ cls := "TaxOnLooksModel", name := "without", desc := "()I" } : Jvm.MethodName) prog_22_method_64_code (5 : Nat) (Option.some Jvm.ClassFile.FieldType.int)) ∈ lw_all := lw_g (lw_at lw_m8 10 rfl) rfl
theorem q1773 : (Jvm.Cond.instanceMethod ({ cls := "TaxOnLooksModel", name := "crowd", desc := "(I)I" } : Jvm.MethodName)) ∈ lw_all := lw_g (lw_at lw_m8 12 rfl) rfl
theorem q1774 : (Jvm.Cond.selects "TaxOnLooksModel" ({ cls := "TaxOnLooksModel", name := "crowd", desc := "(I)I" } : Jvm.MethodName) ({ cls := "TaxOnLooksModel", name := "crowd", desc := "(I)I" } : Jvm.MethodName)) ∈ lw_all := lw_g (lw_at lw_m8 13 rfl) rfl
theorem q1775 : (Jvm.Cond.code ({ cls := "TaxOnLooksModel", name := "crowd", desc := "(I)I" } : Jvm.MethodName) prog_22_method_67_code (5 : Nat) (Option.some Jvm.ClassFile.FieldType.int)) ∈ lw_all := lw_g (lw_at lw_m8 14 rfl) rfl
theorem q1776 : (Jvm.Cond.methodLink "TaxOnLooksModel" (262 : Nat) ({ cls := "TaxOnLooksModel", name := "seers", desc := "(I)I" } : Jvm.MethodName)) ∈ lw_all := lw_g (lw_at lw_m8 15 rfl) rfl
theorem q1777 : (Jvm.Cond.privateMethod ({ cls := "TaxOnLooksModel", name := "seers", desc := "(I)I" } : Jvm.MethodName)) ∈ lw_tbl := lw_at lw_m8 16 rfl
theorem q1778 : (Jvm.Cond.instanceMethod ({ cls := "TaxOnLooksModel", name := "seers", desc := "(I)I" } : Jvm.MethodName)) ∈ lw_all := lw_g (lw_at lw_m8 17 rfl) rfl
theorem q1779 : (Jvm.Cond.code ({ cls := "TaxOnLooksModel", name := "seers", desc := "(I)I" } : Jvm.MethodName) prog_22_method_66_code (4 : Nat) (Option.some Jvm.ClassFile.FieldType.int)) ∈ lw_all := lw_g (lw_at lw_m8 18 rfl) rfl
theorem q1781 : (Jvm.Cond.instanceMethod ({ cls := "TaxOnLooksModel", name := "judge", desc := "(II)I" } : Jvm.MethodName)) ∈ lw_all := lw_g (lw_at lw_m8 20 rfl) rfl
theorem q1782 : (Jvm.Cond.selects "TaxOnLooksModel" ({ cls := "TaxOnLooksModel", name := "judge", desc := "(II)I" } : Jvm.MethodName) ({ cls := "TaxOnLooksModel", name := "judge", desc := "(II)I" } : Jvm.MethodName)) ∈ lw_all := lw_g (lw_at lw_m8 21 rfl) rfl
theorem q1783 : (Jvm.Cond.code ({ cls := "TaxOnLooksModel", name := "judge", desc := "(II)I" } : Jvm.MethodName) prog_22_method_71_code (5 : Nat) (Option.some Jvm.ClassFile.FieldType.int)) ∈ lw_all := lw_g (lw_at lw_m8 22 rfl) rfl
theorem q1784 : (Jvm.Cond.methodLink "TaxOnLooksModel" (271 : Nat) ({ cls := "TaxOnLooksModel", name := "barsOf", desc := "(II)I" } : Jvm.MethodName)) ∈ lw_all := lw_g (lw_at lw_m8 23 rfl) rfl
theorem q1785 : (Jvm.Cond.privateMethod ({ cls := "TaxOnLooksModel", name := "barsOf", desc := "(II)I" } : Jvm.MethodName)) ∈ lw_tbl := lw_at lw_m8 24 rfl
theorem q1786 : (Jvm.Cond.instanceMethod ({ cls := "TaxOnLooksModel", name := "barsOf", desc := "(II)I" } : Jvm.MethodName)) ∈ lw_all := lw_g (lw_at lw_m8 25 rfl) rfl
theorem q1787 : (Jvm.Cond.code ({ cls := "TaxOnLooksModel", name := "barsOf", desc := "(II)I" } : Jvm.MethodName) prog_22_method_70_code (4 : Nat) (Option.some Jvm.ClassFile.FieldType.int)) ∈ lw_all := lw_g (lw_at lw_m8 26 rfl) rfl
theorem q1788 : (Jvm.Cond.methodLink "TaxOnLooksModel" (274 : Nat) ({ cls := "TaxOnLooksModel", name := "strolls", desc := "(II)I" } : Jvm.MethodName)) ∈ lw_all := lw_g (lw_at lw_m8 27 rfl) rfl
theorem q1789 : (Jvm.Cond.privateMethod ({ cls := "TaxOnLooksModel", name := "strolls", desc := "(II)I" } : Jvm.MethodName)) ∈ lw_tbl := lw_at lw_m8 28 rfl
theorem q1790 : (Jvm.Cond.instanceMethod ({ cls := "TaxOnLooksModel", name := "strolls", desc := "(II)I" } : Jvm.MethodName)) ∈ lw_all := lw_g (lw_at lw_m8 29 rfl) rfl
theorem q1791 : (Jvm.Cond.code ({ cls := "TaxOnLooksModel", name := "strolls", desc := "(II)I" } : Jvm.MethodName) prog_22_method_69_code (7 : Nat) (Option.some Jvm.ClassFile.FieldType.int)) ∈ lw_all := lw_g (lw_at lw_m8 30 rfl) rfl
theorem q1792 : (Jvm.Cond.methodLink "TaxOnLooksModel" (268 : Nat) ({ cls := "TaxOnLooksModel", name := "pays", desc := "(I)V" } : Jvm.MethodName)) ∈ lw_all := lw_g (lw_at lw_m8 31 rfl) rfl
theorem q1793 : (Jvm.Cond.privateMethod ({ cls := "TaxOnLooksModel", name := "pays", desc := "(I)V" } : Jvm.MethodName)) ∈ lw_tbl := lw_at lw_m8 32 rfl
theorem q1794 : (Jvm.Cond.instanceMethod ({ cls := "TaxOnLooksModel", name := "pays", desc := "(I)V" } : Jvm.MethodName)) ∈ lw_all := lw_g (lw_at lw_m8 33 rfl) rfl
theorem q1795 : (Jvm.Cond.code ({ cls := "TaxOnLooksModel", name := "pays", desc := "(I)V" } : Jvm.MethodName) prog_22_method_68_code (3 : Nat) (Option.none : Option Jvm.ClassFile.FieldType)) ∈ lw_all := lw_g (lw_at lw_m8 34 rfl) rfl
theorem q1797 : (Jvm.Cond.instanceMethod ({ cls := "TaxOnLooksModel", name := "behind", desc := "(III)I" } : Jvm.MethodName)) ∈ lw_all := lw_g (lw_at lw_m8 36 rfl) rfl
theorem q1798 : (Jvm.Cond.selects "TaxOnLooksModel" ({ cls := "TaxOnLooksModel", name := "behind", desc := "(III)I" } : Jvm.MethodName) ({ cls := "TaxOnLooksModel", name := "behind", desc := "(III)I" } : Jvm.MethodName)) ∈ lw_all := lw_g (lw_at lw_m8 37 rfl) rfl
theorem q1799 : (Jvm.Cond.code ({ cls := "TaxOnLooksModel", name := "behind", desc := "(III)I" } : Jvm.MethodName) prog_22_method_73_code (7 : Nat) (Option.some Jvm.ClassFile.FieldType.int)) ∈ lw_all := lw_g (lw_at lw_m8 38 rfl) rfl
theorem q1800 : (Jvm.Cond.methodLink "TaxOnLooksModel" (277 : Nat) ({ cls := "TaxOnLooksModel", name := "empty", desc := "()I" } : Jvm.MethodName)) ∈ lw_all := lw_g (lw_at lw_m8 39 rfl) rfl
theorem q1801 : (Jvm.Cond.privateMethod ({ cls := "TaxOnLooksModel", name := "empty", desc := "()I" } : Jvm.MethodName)) ∈ lw_tbl := lw_at lw_m8 40 rfl
theorem q1802 : (Jvm.Cond.instanceMethod ({ cls := "TaxOnLooksModel", name := "empty", desc := "()I" } : Jvm.MethodName)) ∈ lw_all := lw_g (lw_at lw_m8 41 rfl) rfl
theorem q1803 : (Jvm.Cond.code ({ cls := "TaxOnLooksModel", name := "empty", desc := "()I" } : Jvm.MethodName) prog_22_method_72_code (3 : Nat) (Option.some Jvm.ClassFile.FieldType.int)) ∈ lw_all := lw_g (lw_at lw_m8 42 rfl) rfl
theorem q1805 : (Jvm.Cond.instanceMethod ({ cls := "TaxOnLooksModel", name := "done", desc := "(II)I" } : Jvm.MethodName)) ∈ lw_all := lw_g (lw_at lw_m8 44 rfl) rfl
theorem q1806 : (Jvm.Cond.selects "TaxOnLooksModel" ({ cls := "TaxOnLooksModel", name := "done", desc := "(II)I" } : Jvm.MethodName) ({ cls := "TaxOnLooksModel", name := "done", desc := "(II)I" } : Jvm.MethodName)) ∈ lw_all := lw_g (lw_at lw_m8 45 rfl) rfl
theorem q1807 : (Jvm.Cond.code ({ cls := "TaxOnLooksModel", name := "done", desc := "(II)I" } : Jvm.MethodName) prog_22_method_74_code (4 : Nat) (Option.some Jvm.ClassFile.FieldType.int)) ∈ lw_all := lw_g (lw_at lw_m8 46 rfl) rfl
theorem q1809 : (Jvm.Cond.instanceMethod ({ cls := "TaxOnLooksModel", name := "hours", desc := "(I)I" } : Jvm.MethodName)) ∈ lw_all := lw_g (lw_at lw_m8 48 rfl) rfl
theorem q1810 : (Jvm.Cond.selects "TaxOnLooksModel" ({ cls := "TaxOnLooksModel", name := "hours", desc := "(I)I" } : Jvm.MethodName) ({ cls := "TaxOnLooksModel", name := "hours", desc := "(I)I" } : Jvm.MethodName)) ∈ lw_all := lw_g (lw_at lw_m8 49 rfl) rfl
theorem q1811 : (Jvm.Cond.code ({ cls := "TaxOnLooksModel", name := "hours", desc := "(I)I" } : Jvm.MethodName) prog_22_method_76_code (6 : Nat) (Option.some Jvm.ClassFile.FieldType.int)) ∈ lw_all := lw_g (lw_at lw_m8 50 rfl) rfl
theorem q1812 : (Jvm.Cond.methodLink "TaxOnLooksModel" (281 : Nat) ({ cls := "TaxOnLooksModel", name := "draw", desc := "(I)I" } : Jvm.MethodName)) ∈ lw_all := lw_g (lw_at lw_m8 51 rfl) rfl
theorem q1813 : (Jvm.Cond.privateMethod ({ cls := "TaxOnLooksModel", name := "draw", desc := "(I)I" } : Jvm.MethodName)) ∈ lw_tbl := lw_at lw_m8 52 rfl
theorem q1814 : (Jvm.Cond.instanceMethod ({ cls := "TaxOnLooksModel", name := "draw", desc := "(I)I" } : Jvm.MethodName)) ∈ lw_all := lw_g (lw_at lw_m8 53 rfl) rfl
theorem q1815 : (Jvm.Cond.code ({ cls := "TaxOnLooksModel", name := "draw", desc := "(I)I" } : Jvm.MethodName) prog_22_method_75_code (2 : Nat) (Option.some Jvm.ClassFile.FieldType.int)) ∈ lw_all := lw_g (lw_at lw_m8 54 rfl) rfl
theorem q1816 : (Jvm.Cond.constant "TaxOnLooksModel" (280 : Nat) (1103515245 : Int32)) ∈ lw_all := lw_g (lw_at lw_m8 55 rfl) rfl
theorem q1818 : (Jvm.Cond.instanceMethod ({ cls := "TaxOnLooksModel", name := "seed", desc := "(I)I" } : Jvm.MethodName)) ∈ lw_all := lw_g (lw_at lw_m8 57 rfl) rfl
theorem q1819 : (Jvm.Cond.selects "TaxOnLooksModel" ({ cls := "TaxOnLooksModel", name := "seed", desc := "(I)I" } : Jvm.MethodName) ({ cls := "TaxOnLooksModel", name := "seed", desc := "(I)I" } : Jvm.MethodName)) ∈ lw_all := lw_g (lw_at lw_m8 58 rfl) rfl
theorem q1820 : (Jvm.Cond.code ({ cls := "TaxOnLooksModel", name := "seed", desc := "(I)I" } : Jvm.MethodName) prog_22_method_77_code (3 : Nat) (Option.some Jvm.ClassFile.FieldType.int)) ∈ lw_all := lw_g (lw_at lw_m8 59 rfl) rfl
theorem q1822 : (Jvm.Cond.instanceMethod ({ cls := "TaxOnLooksModel", name := "act", desc := "(III)I" } : Jvm.MethodName)) ∈ lw_all := lw_g (lw_at lw_m8 61 rfl) rfl
theorem q1823 : (Jvm.Cond.selects "TaxOnLooksModel" ({ cls := "TaxOnLooksModel", name := "act", desc := "(III)I" } : Jvm.MethodName) ({ cls := "TaxOnLooksModel", name := "act", desc := "(III)I" } : Jvm.MethodName)) ∈ lw_all := lw_g (lw_at lw_m8 62 rfl) rfl
theorem q1824 : (Jvm.Cond.code ({ cls := "TaxOnLooksModel", name := "act", desc := "(III)I" } : Jvm.MethodName) prog_22_method_82_code (4 : Nat) (Option.some Jvm.ClassFile.FieldType.int)) ∈ lw_all := lw_g (lw_at lw_m8 63 rfl) rfl
theorem q1825 : (Jvm.Cond.methodLink "TaxOnLooksModel" (290 : Nat) ({ cls := "TaxOnLooksModel", name := "looking", desc := "(II)I" } : Jvm.MethodName)) ∈ lw_all := lw_g (lw_at lw_m8 64 rfl) rfl
theorem q1826 : (Jvm.Cond.privateMethod ({ cls := "TaxOnLooksModel", name := "looking", desc := "(II)I" } : Jvm.MethodName)) ∈ lw_tbl := lw_at lw_m8 65 rfl
theorem q1827 : (Jvm.Cond.instanceMethod ({ cls := "TaxOnLooksModel", name := "looking", desc := "(II)I" } : Jvm.MethodName)) ∈ lw_all := lw_g (lw_at lw_m8 66 rfl) rfl
theorem q1828 : (Jvm.Cond.code ({ cls := "TaxOnLooksModel", name := "looking", desc := "(II)I" } : Jvm.MethodName) prog_22_method_79_code (8 : Nat) (Option.some Jvm.ClassFile.FieldType.int)) ∈ lw_all := lw_g (lw_at lw_m8 67 rfl) rfl
theorem q1829 : (Jvm.Cond.methodLink "TaxOnLooksModel" (287 : Nat) ({ cls := "TaxOnLooksModel", name := "body", desc := "(I)V" } : Jvm.MethodName)) ∈ lw_all := lw_g (lw_at lw_m8 68 rfl) rfl
theorem q1830 : (Jvm.Cond.privateMethod ({ cls := "TaxOnLooksModel", name := "body", desc := "(I)V" } : Jvm.MethodName)) ∈ lw_tbl := lw_at lw_m8 69 rfl
theorem q1831 : (Jvm.Cond.instanceMethod ({ cls := "TaxOnLooksModel", name := "body", desc := "(I)V" } : Jvm.MethodName)) ∈ lw_all := lw_g (lw_at lw_m8 70 rfl) rfl
theorem q1832 : (Jvm.Cond.code ({ cls := "TaxOnLooksModel", name := "body", desc := "(I)V" } : Jvm.MethodName) prog_22_method_78_code (2 : Nat) (Option.none : Option Jvm.ClassFile.FieldType)) ∈ lw_all := lw_g (lw_at lw_m8 71 rfl) rfl
theorem q1833 : (Jvm.Cond.methodLink "TaxOnLooksModel" (293 : Nat) ({ cls := "TaxOnLooksModel", name := "walking", desc := "(II)I" } : Jvm.MethodName)) ∈ lw_all := lw_g (lw_at lw_m8 72 rfl) rfl
theorem q1834 : (Jvm.Cond.privateMethod ({ cls := "TaxOnLooksModel", name := "walking", desc := "(II)I" } : Jvm.MethodName)) ∈ lw_tbl := lw_at lw_m8 73 rfl
theorem q1835 : (Jvm.Cond.instanceMethod ({ cls := "TaxOnLooksModel", name := "walking", desc := "(II)I" } : Jvm.MethodName)) ∈ lw_all := lw_g (lw_at lw_m8 74 rfl) rfl
theorem q1836 : (Jvm.Cond.code ({ cls := "TaxOnLooksModel", name := "walking", desc := "(II)I" } : Jvm.MethodName) prog_22_method_80_code (7 : Nat) (Option.some Jvm.ClassFile.FieldType.int)) ∈ lw_all := lw_g (lw_at lw_m8 75 rfl) rfl
theorem q1837 : (Jvm.Cond.methodLink "TaxOnLooksModel" (296 : Nat) ({ cls := "TaxOnLooksModel", name := "paying", desc := "(II)I" } : Jvm.MethodName)) ∈ lw_all := lw_g (lw_at lw_m8 76 rfl) rfl
theorem q1838 : (Jvm.Cond.privateMethod ({ cls := "TaxOnLooksModel", name := "paying", desc := "(II)I" } : Jvm.MethodName)) ∈ lw_tbl := lw_at lw_m8 77 rfl
theorem q1839 : (Jvm.Cond.instanceMethod ({ cls := "TaxOnLooksModel", name := "paying", desc := "(II)I" } : Jvm.MethodName)) ∈ lw_all := lw_g (lw_at lw_m8 78 rfl) rfl
theorem q1840 : (Jvm.Cond.code ({ cls := "TaxOnLooksModel", name := "paying", desc := "(II)I" } : Jvm.MethodName) prog_22_method_81_code (6 : Nat) (Option.some Jvm.ClassFile.FieldType.int)) ∈ lw_all := lw_g (lw_at lw_m8 79 rfl) rfl
theorem q1842 : (Jvm.Cond.instanceMethod ({ cls := "TaxOnLooksModel", name := "trace", desc := "(I)I" } : Jvm.MethodName)) ∈ lw_all := lw_g (lw_at lw_m8 81 rfl) rfl
theorem q1843 : (Jvm.Cond.selects "TaxOnLooksModel" ({ cls := "TaxOnLooksModel", name := "trace", desc := "(I)I" } : Jvm.MethodName) ({ cls := "TaxOnLooksModel", name := "trace", desc := "(I)I" } : Jvm.MethodName)) ∈ lw_all := lw_g (lw_at lw_m8 82 rfl) rfl
theorem q1844 : (Jvm.Cond.code ({ cls := "TaxOnLooksModel", name := "trace", desc := "(I)I" } : Jvm.MethodName) prog_22_method_83_code (2 : Nat) (Option.some Jvm.ClassFile.FieldType.int)) ∈ lw_all := lw_g (lw_at lw_m8 83 rfl) rfl
theorem q1846 : (Jvm.Cond.instanceMethod ({ cls := "TaxOnLooksModel", name := "image", desc := "()I" } : Jvm.MethodName)) ∈ lw_all := lw_g (lw_at lw_m8 85 rfl) rfl
theorem q1847 : (Jvm.Cond.selects "TaxOnLooksModel" ({ cls := "TaxOnLooksModel", name := "image", desc := "()I" } : Jvm.MethodName) ({ cls := "TaxOnLooksModel", name := "image", desc := "()I" } : Jvm.MethodName)) ∈ lw_all := lw_g (lw_at lw_m8 86 rfl) rfl
theorem q1848 : (Jvm.Cond.code ({ cls := "TaxOnLooksModel", name := "image", desc := "()I" } : Jvm.MethodName) prog_22_method_84_code (1 : Nat) (Option.some Jvm.ClassFile.FieldType.int)) ∈ lw_all := lw_g (lw_at lw_m8 87 rfl) rfl
theorem q1850 : (Jvm.Cond.instanceMethod ({ cls := "TaxOnLooksModel", name := "restore", desc := "()I" } : Jvm.MethodName)) ∈ lw_all := lw_g (lw_at lw_m8 89 rfl) rfl
theorem q1851 : (Jvm.Cond.selects "TaxOnLooksModel" ({ cls := "TaxOnLooksModel", name := "restore", desc := "()I" } : Jvm.MethodName) ({ cls := "TaxOnLooksModel", name := "restore", desc := "()I" } : Jvm.MethodName)) ∈ lw_all := lw_g (lw_at lw_m8 90 rfl) rfl
theorem q1852 : (Jvm.Cond.code ({ cls := "TaxOnLooksModel", name := "restore", desc := "()I" } : Jvm.MethodName) prog_22_method_85_code (2 : Nat) (Option.some Jvm.ClassFile.FieldType.int)) ∈ lw_all := lw_g (lw_at lw_m8 91 rfl) rfl
theorem q1854 : (Jvm.Cond.instanceMethod ({ cls := "TaxOnLooksModel", name := "status", desc := "(I)I" } : Jvm.MethodName)) ∈ lw_all := lw_g (lw_at lw_m8 93 rfl) rfl
theorem q1855 : (Jvm.Cond.selects "TaxOnLooksModel" ({ cls := "TaxOnLooksModel", name := "status", desc := "(I)I" } : Jvm.MethodName) ({ cls := "TaxOnLooksModel", name := "status", desc := "(I)I" } : Jvm.MethodName)) ∈ lw_all := lw_g (lw_at lw_m8 94 rfl) rfl
theorem q1856 : (Jvm.Cond.code ({ cls := "TaxOnLooksModel", name := "status", desc := "(I)I" } : Jvm.MethodName) prog_22_method_87_code (2 : Nat) (Option.some Jvm.ClassFile.FieldType.int)) ∈ lw_all := lw_g (lw_at lw_m8 95 rfl) rfl
theorem q1857 : (Jvm.Cond.methodLink "TaxOnLooksModel" (303 : Nat) ({ cls := "TaxOnLooksModel", name := "together", desc := "([II)I" } : Jvm.MethodName)) ∈ lw_all := lw_g (lw_at lw_m8 96 rfl) rfl
theorem q1858 : (Jvm.Cond.privateMethod ({ cls := "TaxOnLooksModel", name := "together", desc := "([II)I" } : Jvm.MethodName)) ∈ lw_tbl := lw_at lw_m8 97 rfl
theorem q1859 : (Jvm.Cond.instanceMethod ({ cls := "TaxOnLooksModel", name := "together", desc := "([II)I" } : Jvm.MethodName)) ∈ lw_all := lw_g (lw_at lw_m8 98 rfl) rfl
theorem q1860 : (Jvm.Cond.code ({ cls := "TaxOnLooksModel", name := "together", desc := "([II)I" } : Jvm.MethodName) prog_22_method_86_code (5 : Nat) (Option.some Jvm.ClassFile.FieldType.int)) ∈ lw_all := lw_g (lw_at lw_m8 99 rfl) rfl
theorem in_X5 : ∀ w ∈ wsX50, w ∈ lw_all := lw_in wsX50 [1426, 1428, 1430, 1432, 1434, 1436, 1438, 1440, 1442, 1444, 1446, 1448, 1450, 1452, 1454, 1456, 1458, 1460, 1462, 1464, 1466, 1468, 1470, 1472, 1474, 1476, 1478, 1480, 1482, 1484, 1486, 1488, 1490, 1492, 1494, 1496, 1498, 1500, 1502, 1504, 1506, 1508, 1510, 1512] (by decide +kernel) (by decide +kernel)
