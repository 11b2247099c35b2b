/-! BladeBetweenThumbsModel -/
set_option maxRecDepth 100000
def RX4 : String := "BladeBetweenThumbsModel"
def TX4 : u_T := fun k => match k with
  | 0 => ("BladeBetweenThumbsModel", "s", "[I", true)
  | 1 => ("BladeBetweenThumbsModel", "image", "[I", true)
  | 2 => ("BladeBetweenThumbsModel", "was", "[I", true)
  | 3 => ("BladeBetweenThumbsModel", "hasImage", "Z", false)
  | 4 => ("BladeBetweenThumbsModel", "help", "I", false)
  | 5 => ("BladeBetweenThumbsModel", "at", "I", false)
  | 6 => ("BladeBetweenThumbsModel", "rowAt", "I", false)
  | 7 => ("BladeBetweenThumbsModel", "rowEnd", "I", false)
  | 8 => ("BladeBetweenThumbsModel", "numbers", "[I", true)
  | 9 => ("BladeBetweenThumbsModel", "pairsMany", "I", false)
  | 10 => ("BladeBetweenThumbsModel", "leastTight", "I", false)
  | 11 => ("BladeBetweenThumbsModel", "leastForce", "I", false)
  | 12 => ("BladeBetweenThumbsModel", "off", "[J", true)
  | 13 => ("BladeBetweenThumbsModel", "then", "[J", true)
  | 14 => ("BladeBetweenThumbsModel", "seed", "I", false)
  | 15 => ("BladeBetweenThumbsModel", "kept", "[I", true)
  | 16 => ("BladeBetweenThumbsModel", "keptKind", "[I", true)
  | 17 => ("BladeBetweenThumbsModel", "keptFigure", "[I", true)
  | 18 => ("BladeBetweenThumbsModel", "sort", "[I", true)
  | 19 => ("BladeBetweenThumbsModel", "size", "[I", true)
  | 20 => ("BladeBetweenThumbsModel", "element", "[I", true)
  | _ => ("BladeBetweenThumbsModel", "thrown", "I", false)
def tyX4 : Nat → FieldType := fun k => match k with
  | 0 => .array .int
  | 1 => .array .int
  | 2 => .array .int
  | 3 => .boolean
  | 4 => .int
  | 5 => .int
  | 6 => .int
  | 7 => .int
  | 8 => .array .int
  | 9 => .int
  | 10 => .int
  | 11 => .int
  | 12 => .array .long
  | 13 => .array .long
  | 14 => .int
  | 15 => .array .int
  | 16 => .array .int
  | 17 => .array .int
  | 18 => .array .int
  | 19 => .array .int
  | 20 => .array .int
  | _ => .int
abbrev wsX40 : List Cond := u_ws RX4 TX4 22
set_option maxRecDepth 100000 in
theorem nmX4 : ∀ a, a < 22 → ∀ b, b < 22 → a ≠ b → (TX4 a).2.1 ≠ (TX4 b).2.1 := by decide +kernel
set_option maxRecDepth 100000 in
theorem tyX4_ok : ∀ k, k < 22 → parseFieldDescriptor (TX4 k).2.2.1 = some (tyX4 k) := by decide +kernel
abbrev cX4_init : ByteArray := prog_22_method_1_code
def yX4_init : MethodName := ⟨RX4, "<init>", "()V"⟩
def dkwX4_init_4 : List UInt8 := [181, 0, 45, 42, 17, 3, 32, 188, 10, 181, 0, 48, 177]
abbrev dktX4_init_4 : List UInt8 := dkwX4_init_4 ++ []
def dkwX4_init_3 : List UInt8 := [181, 0, 36, 42, 16, 8, 188, 10, 181, 0, 39, 42, 16, 8, 188, 10, 181, 0, 42, 42, 16, 8, 188, 10]
abbrev dktX4_init_3 : List UInt8 := dkwX4_init_3 ++ dktX4_init_4
def dkwX4_init_2 : List UInt8 := [181, 0, 26, 42, 16, 13, 188, 11, 181, 0, 30, 42, 16, 8, 188, 10, 181, 0, 33, 42, 16, 8, 188, 10]
abbrev dktX4_init_2 : List UInt8 := dkwX4_init_2 ++ dktX4_init_3
def dkwX4_init_1 : List UInt8 := [188, 10, 181, 0, 16, 42, 6, 181, 0, 19, 42, 8, 188, 10, 181, 0, 23, 42, 16, 13, 188, 11]
abbrev dktX4_init_1 : List UInt8 := dkwX4_init_1 ++ dktX4_init_2
def dkwX4_init_0 : List UInt8 := [42, 183, 0, 1, 42, 16, 47, 188, 10, 181, 0, 9, 42, 16, 47, 188, 10, 181, 0, 13, 42, 16, 47]
abbrev dktX4_init_0 : List UInt8 := dkwX4_init_0 ++ dktX4_init_1
theorem dksX4_init_0 : cX4_init.data.toList.drop 0 = dktX4_init_0 := by decide +kernel
theorem dksX4_init_1 : cX4_init.data.toList.drop 23 = dktX4_init_1 := dk_seg dksX4_init_0 23 rfl rfl
theorem dksX4_init_2 : cX4_init.data.toList.drop 45 = dktX4_init_2 := dk_seg dksX4_init_1 22 rfl rfl
theorem dksX4_init_3 : cX4_init.data.toList.drop 69 = dktX4_init_3 := dk_seg dksX4_init_2 24 rfl rfl
theorem dksX4_init_4 : cX4_init.data.toList.drop 93 = dktX4_init_4 := dk_seg dksX4_init_3 24 rfl rfl
theorem dX4_init_0 : decode cX4_init 0 = .ok (.aload_n 0, 1) := dk_42 (dk_at dksX4_init_0 0 rfl rfl)
theorem dX4_init_1 : decode cX4_init 1 = .ok (.invokespecial 1, 3) := dk_183 0 1 (dk_at dksX4_init_0 1 rfl rfl)
theorem dX4_init_4 : decode cX4_init 4 = .ok (.aload_n 0, 1) := dk_42 (dk_at dksX4_init_0 4 rfl rfl)
theorem dX4_init_5 : decode cX4_init 5 = .ok (.bipush 47, 2) := dk_16 47 (dk_at dksX4_init_0 5 rfl rfl)
theorem dX4_init_7 : decode cX4_init 7 = .ok (.newarray .int, 2) := dk_188_10 (dk_at dksX4_init_0 7 rfl rfl)
theorem dX4_init_9 : decode cX4_init 9 = .ok (.putfield 9, 3) := dk_181 0 9 (dk_at dksX4_init_0 9 rfl rfl)
theorem dX4_init_12 : decode cX4_init 12 = .ok (.aload_n 0, 1) := dk_42 (dk_at dksX4_init_0 12 rfl rfl)
theorem dX4_init_13 : decode cX4_init 13 = .ok (.bipush 47, 2) := dk_16 47 (dk_at dksX4_init_0 13 rfl rfl)
theorem dX4_init_15 : decode cX4_init 15 = .ok (.newarray .int, 2) := dk_188_10 (dk_at dksX4_init_0 15 rfl rfl)
theorem dX4_init_17 : decode cX4_init 17 = .ok (.putfield 13, 3) := dk_181 0 13 (dk_at dksX4_init_0 17 rfl rfl)
theorem dX4_init_20 : decode cX4_init 20 = .ok (.aload_n 0, 1) := dk_42 (dk_at dksX4_init_0 20 rfl rfl)
theorem dX4_init_21 : decode cX4_init 21 = .ok (.bipush 47, 2) := dk_16 47 (dk_at dksX4_init_0 21 rfl rfl)
theorem dX4_init_23 : decode cX4_init 23 = .ok (.newarray .int, 2) := dk_188_10 (dk_at dksX4_init_1 0 rfl rfl)
theorem dX4_init_25 : decode cX4_init 25 = .ok (.putfield 16, 3) := dk_181 0 16 (dk_at dksX4_init_1 2 rfl rfl)
theorem dX4_init_28 : decode cX4_init 28 = .ok (.aload_n 0, 1) := dk_42 (dk_at dksX4_init_1 5 rfl rfl)
theorem dX4_init_29 : decode cX4_init 29 = .ok (.iconst 3, 1) := dk_6 (dk_at dksX4_init_1 6 rfl rfl)
theorem dX4_init_30 : decode cX4_init 30 = .ok (.putfield 19, 3) := dk_181 0 19 (dk_at dksX4_init_1 7 rfl rfl)
theorem dX4_init_33 : decode cX4_init 33 = .ok (.aload_n 0, 1) := dk_42 (dk_at dksX4_init_1 10 rfl rfl)
theorem dX4_init_34 : decode cX4_init 34 = .ok (.iconst 5, 1) := dk_8 (dk_at dksX4_init_1 11 rfl rfl)
theorem dX4_init_35 : decode cX4_init 35 = .ok (.newarray .int, 2) := dk_188_10 (dk_at dksX4_init_1 12 rfl rfl)
theorem dX4_init_37 : decode cX4_init 37 = .ok (.putfield 23, 3) := dk_181 0 23 (dk_at dksX4_init_1 14 rfl rfl)
theorem dX4_init_40 : decode cX4_init 40 = .ok (.aload_n 0, 1) := dk_42 (dk_at dksX4_init_1 17 rfl rfl)
theorem dX4_init_41 : decode cX4_init 41 = .ok (.bipush 13, 2) := dk_16 13 (dk_at dksX4_init_1 18 rfl rfl)
theorem dX4_init_43 : decode cX4_init 43 = .ok (.newarray .long, 2) := dk_188_11 (dk_at dksX4_init_1 20 rfl rfl)
theorem dX4_init_45 : decode cX4_init 45 = .ok (.putfield 26, 3) := dk_181 0 26 (dk_at dksX4_init_2 0 rfl rfl)
theorem dX4_init_48 : decode cX4_init 48 = .ok (.aload_n 0, 1) := dk_42 (dk_at dksX4_init_2 3 rfl rfl)
theorem dX4_init_49 : decode cX4_init 49 = .ok (.bipush 13, 2) := dk_16 13 (dk_at dksX4_init_2 4 rfl rfl)
theorem dX4_init_51 : decode cX4_init 51 = .ok (.newarray .long, 2) := dk_188_11 (dk_at dksX4_init_2 6 rfl rfl)
theorem dX4_init_53 : decode cX4_init 53 = .ok (.putfield 30, 3) := dk_181 0 30 (dk_at dksX4_init_2 8 rfl rfl)
theorem dX4_init_56 : decode cX4_init 56 = .ok (.aload_n 0, 1) := dk_42 (dk_at dksX4_init_2 11 rfl rfl)
theorem dX4_init_57 : decode cX4_init 57 = .ok (.bipush 8, 2) := dk_16 8 (dk_at dksX4_init_2 12 rfl rfl)
theorem dX4_init_59 : decode cX4_init 59 = .ok (.newarray .int, 2) := dk_188_10 (dk_at dksX4_init_2 14 rfl rfl)
theorem dX4_init_61 : decode cX4_init 61 = .ok (.putfield 33, 3) := dk_181 0 33 (dk_at dksX4_init_2 16 rfl rfl)
theorem dX4_init_64 : decode cX4_init 64 = .ok (.aload_n 0, 1) := dk_42 (dk_at dksX4_init_2 19 rfl rfl)
theorem dX4_init_65 : decode cX4_init 65 = .ok (.bipush 8, 2) := dk_16 8 (dk_at dksX4_init_2 20 rfl rfl)
theorem dX4_init_67 : decode cX4_init 67 = .ok (.newarray .int, 2) := dk_188_10 (dk_at dksX4_init_2 22 rfl rfl)
theorem dX4_init_69 : decode cX4_init 69 = .ok (.putfield 36, 3) := dk_181 0 36 (dk_at dksX4_init_3 0 rfl rfl)
theorem dX4_init_72 : decode cX4_init 72 = .ok (.aload_n 0, 1) := dk_42 (dk_at dksX4_init_3 3 rfl rfl)
theorem dX4_init_73 : decode cX4_init 73 = .ok (.bipush 8, 2) := dk_16 8 (dk_at dksX4_init_3 4 rfl rfl)
theorem dX4_init_75 : decode cX4_init 75 = .ok (.newarray .int, 2) := dk_188_10 (dk_at dksX4_init_3 6 rfl rfl)
theorem dX4_init_77 : decode cX4_init 77 = .ok (.putfield 39, 3) := dk_181 0 39 (dk_at dksX4_init_3 8 rfl rfl)
theorem dX4_init_80 : decode cX4_init 80 = .ok (.aload_n 0, 1) := dk_42 (dk_at dksX4_init_3 11 rfl rfl)
theorem dX4_init_81 : decode cX4_init 81 = .ok (.bipush 8, 2) := dk_16 8 (dk_at dksX4_init_3 12 rfl rfl)
theorem dX4_init_83 : decode cX4_init 83 = .ok (.newarray .int, 2) := dk_188_10 (dk_at dksX4_init_3 14 rfl rfl)
theorem dX4_init_85 : decode cX4_init 85 = .ok (.putfield 42, 3) := dk_181 0 42 (dk_at dksX4_init_3 16 rfl rfl)
theorem dX4_init_88 : decode cX4_init 88 = .ok (.aload_n 0, 1) := dk_42 (dk_at dksX4_init_3 19 rfl rfl)
theorem dX4_init_89 : decode cX4_init 89 = .ok (.bipush 8, 2) := dk_16 8 (dk_at dksX4_init_3 20 rfl rfl)
theorem dX4_init_91 : decode cX4_init 91 = .ok (.newarray .int, 2) := dk_188_10 (dk_at dksX4_init_3 22 rfl rfl)
theorem dX4_init_93 : decode cX4_init 93 = .ok (.putfield 45, 3) := dk_181 0 45 (dk_at dksX4_init_4 0 rfl rfl)
theorem dX4_init_96 : decode cX4_init 96 = .ok (.aload_n 0, 1) := dk_42 (dk_at dksX4_init_4 3 rfl rfl)
theorem dX4_init_97 : decode cX4_init 97 = .ok (.sipush 800, 3) := dk_17 3 32 (dk_at dksX4_init_4 4 rfl rfl)
theorem dX4_init_100 : decode cX4_init 100 = .ok (.newarray .int, 2) := dk_188_10 (dk_at dksX4_init_4 7 rfl rfl)
theorem dX4_init_102 : decode cX4_init 102 = .ok (.putfield 48, 3) := dk_181 0 48 (dk_at dksX4_init_4 9 rfl rfl)
theorem dX4_init_105 : decode cX4_init 105 = .ok (.return_, 1) := dk_177 (dk_at dksX4_init_4 12 rfl rfl)
abbrev cX4_hedge : ByteArray := prog_22_method_38_code
def yX4_hedge : MethodName := ⟨RX4, "hedge", "(I)I"⟩
def dkwX4_hedge_7 : List UInt8 := [167, 255, 191, 21, 4, 154, 0, 7, 29, 167, 0, 5, 21, 4, 172]
abbrev dktX4_hedge_7 : List UInt8 := dkwX4_hedge_7 ++ []
def dkwX4_hedge_6 : List UInt8 := [167, 255, 213, 17, 248, 48, 21, 5, 100, 54, 4, 42, 180, 0, 16, 42, 180, 0, 9, 184, 0, 164]
abbrev dktX4_hedge_6 : List UInt8 := dkwX4_hedge_6 ++ dktX4_hedge_7
def dkwX4_hedge_5 : List UInt8 := [54, 5, 42, 182, 0, 126, 54, 6, 42, 182, 0, 160, 54, 7, 42, 21, 6, 182, 0, 168, 153, 0, 6]
abbrev dktX4_hedge_5 : List UInt8 := dkwX4_hedge_5 ++ dktX4_hedge_6
def dkwX4_hedge_4 : List UInt8 := [181, 0, 117, 21, 4, 154, 0, 66, 42, 180, 0, 117, 42, 180, 0, 120, 162, 0, 55, 42, 180, 0, 117]
abbrev dktX4_hedge_4 : List UInt8 := dkwX4_hedge_4 ++ dktX4_hedge_5
def dkwX4_hedge_3 : List UInt8 := [180, 0, 117, 42, 180, 0, 120, 161, 255, 223, 42, 180, 0, 9, 42, 180, 0, 16, 184, 0, 164, 42, 3]
abbrev dktX4_hedge_3 : List UInt8 := dkwX4_hedge_3 ++ dktX4_hedge_4
def dkwX4_hedge_2 : List UInt8 := [154, 0, 13, 17, 252, 24, 42, 180, 0, 117, 100, 54, 4, 132, 3, 1, 21, 4, 154, 0, 14, 42]
abbrev dktX4_hedge_2 : List UInt8 := dkwX4_hedge_2 ++ dktX4_hedge_3
def dkwX4_hedge_1 : List UInt8 := [180, 0, 45, 27, 46, 181, 0, 120, 42, 3, 181, 0, 117, 3, 62, 3, 54, 4, 42, 182, 0, 160]
abbrev dktX4_hedge_1 : List UInt8 := dkwX4_hedge_1 ++ dktX4_hedge_2
def dkwX4_hedge_0 : List UInt8 := [42, 27, 3, 182, 0, 157, 61, 28, 153, 0, 5, 28, 172, 42, 16, 100, 27, 104, 181, 0, 123, 42, 42]
abbrev dktX4_hedge_0 : List UInt8 := dkwX4_hedge_0 ++ dktX4_hedge_1
theorem dksX4_hedge_0 : cX4_hedge.data.toList.drop 0 = dktX4_hedge_0 := by decide +kernel
theorem dksX4_hedge_1 : cX4_hedge.data.toList.drop 23 = dktX4_hedge_1 := dk_seg dksX4_hedge_0 23 rfl rfl
theorem dksX4_hedge_2 : cX4_hedge.data.toList.drop 45 = dktX4_hedge_2 := dk_seg dksX4_hedge_1 22 rfl rfl
theorem dksX4_hedge_3 : cX4_hedge.data.toList.drop 67 = dktX4_hedge_3 := dk_seg dksX4_hedge_2 22 rfl rfl
theorem dksX4_hedge_4 : cX4_hedge.data.toList.drop 90 = dktX4_hedge_4 := dk_seg dksX4_hedge_3 23 rfl rfl
theorem dksX4_hedge_5 : cX4_hedge.data.toList.drop 113 = dktX4_hedge_5 := dk_seg dksX4_hedge_4 23 rfl rfl
theorem dksX4_hedge_6 : cX4_hedge.data.toList.drop 136 = dktX4_hedge_6 := dk_seg dksX4_hedge_5 23 rfl rfl
theorem dksX4_hedge_7 : cX4_hedge.data.toList.drop 158 = dktX4_hedge_7 := dk_seg dksX4_hedge_6 22 rfl rfl
theorem dX4_hedge_0 : decode cX4_hedge 0 = .ok (.aload_n 0, 1) := dk_42 (dk_at dksX4_hedge_0 0 rfl rfl)
theorem dX4_hedge_1 : decode cX4_hedge 1 = .ok (.iload_n 1, 1) := dk_27 (dk_at dksX4_hedge_0 1 rfl rfl)
theorem dX4_hedge_2 : decode cX4_hedge 2 = .ok (.iconst 0, 1) := dk_3 (dk_at dksX4_hedge_0 2 rfl rfl)
theorem dX4_hedge_3 : decode cX4_hedge 3 = .ok (.invokevirtual 157, 3) := dk_182 0 157 (dk_at dksX4_hedge_0 3 rfl rfl)
theorem dX4_hedge_6 : decode cX4_hedge 6 = .ok (.istore_n 2, 1) := dk_61 (dk_at dksX4_hedge_0 6 rfl rfl)
theorem dX4_hedge_7 : decode cX4_hedge 7 = .ok (.iload_n 2, 1) := dk_28 (dk_at dksX4_hedge_0 7 rfl rfl)
theorem dX4_hedge_8 : decode cX4_hedge 8 = .ok (.ifCond .eq 5, 3) := dk_153 0 5 (dk_at dksX4_hedge_0 8 rfl rfl)
theorem dX4_hedge_11 : decode cX4_hedge 11 = .ok (.iload_n 2, 1) := dk_28 (dk_at dksX4_hedge_0 11 rfl rfl)
theorem dX4_hedge_12 : decode cX4_hedge 12 = .ok (.ireturn, 1) := dk_172 (dk_at dksX4_hedge_0 12 rfl rfl)
theorem dX4_hedge_13 : decode cX4_hedge 13 = .ok (.aload_n 0, 1) := dk_42 (dk_at dksX4_hedge_0 13 rfl rfl)
theorem dX4_hedge_14 : decode cX4_hedge 14 = .ok (.bipush 100, 2) := dk_16 100 (dk_at dksX4_hedge_0 14 rfl rfl)
theorem dX4_hedge_16 : decode cX4_hedge 16 = .ok (.iload_n 1, 1) := dk_27 (dk_at dksX4_hedge_0 16 rfl rfl)
theorem dX4_hedge_17 : decode cX4_hedge 17 = .ok (.imul, 1) := dk_104 (dk_at dksX4_hedge_0 17 rfl rfl)
theorem dX4_hedge_18 : decode cX4_hedge 18 = .ok (.putfield 123, 3) := dk_181 0 123 (dk_at dksX4_hedge_0 18 rfl rfl)
theorem dX4_hedge_21 : decode cX4_hedge 21 = .ok (.aload_n 0, 1) := dk_42 (dk_at dksX4_hedge_0 21 rfl rfl)
theorem dX4_hedge_22 : decode cX4_hedge 22 = .ok (.aload_n 0, 1) := dk_42 (dk_at dksX4_hedge_0 22 rfl rfl)
theorem dX4_hedge_23 : decode cX4_hedge 23 = .ok (.getfield 45, 3) := dk_180 0 45 (dk_at dksX4_hedge_1 0 rfl rfl)
theorem dX4_hedge_26 : decode cX4_hedge 26 = .ok (.iload_n 1, 1) := dk_27 (dk_at dksX4_hedge_1 3 rfl rfl)
theorem dX4_hedge_27 : decode cX4_hedge 27 = .ok (.iaload, 1) := dk_46 (dk_at dksX4_hedge_1 4 rfl rfl)
theorem dX4_hedge_28 : decode cX4_hedge 28 = .ok (.putfield 120, 3) := dk_181 0 120 (dk_at dksX4_hedge_1 5 rfl rfl)
theorem dX4_hedge_31 : decode cX4_hedge 31 = .ok (.aload_n 0, 1) := dk_42 (dk_at dksX4_hedge_1 8 rfl rfl)
theorem dX4_hedge_32 : decode cX4_hedge 32 = .ok (.iconst 0, 1) := dk_3 (dk_at dksX4_hedge_1 9 rfl rfl)
theorem dX4_hedge_33 : decode cX4_hedge 33 = .ok (.putfield 117, 3) := dk_181 0 117 (dk_at dksX4_hedge_1 10 rfl rfl)
theorem dX4_hedge_36 : decode cX4_hedge 36 = .ok (.iconst 0, 1) := dk_3 (dk_at dksX4_hedge_1 13 rfl rfl)
theorem dX4_hedge_37 : decode cX4_hedge 37 = .ok (.istore_n 3, 1) := dk_62 (dk_at dksX4_hedge_1 14 rfl rfl)
theorem dX4_hedge_38 : decode cX4_hedge 38 = .ok (.iconst 0, 1) := dk_3 (dk_at dksX4_hedge_1 15 rfl rfl)
theorem dX4_hedge_39 : decode cX4_hedge 39 = .ok (.istore 4, 2) := dk_54 4 (dk_at dksX4_hedge_1 16 rfl rfl)
theorem dX4_hedge_41 : decode cX4_hedge 41 = .ok (.aload_n 0, 1) := dk_42 (dk_at dksX4_hedge_1 18 rfl rfl)
theorem dX4_hedge_42 : decode cX4_hedge 42 = .ok (.invokevirtual 160, 3) := dk_182 0 160 (dk_at dksX4_hedge_1 19 rfl rfl)
theorem dX4_hedge_45 : decode cX4_hedge 45 = .ok (.ifCond .ne 13, 3) := dk_154 0 13 (dk_at dksX4_hedge_2 0 rfl rfl)
theorem dX4_hedge_48 : decode cX4_hedge 48 = .ok (.sipush (-1000), 3) := dk_17 252 24 (dk_at dksX4_hedge_2 3 rfl rfl)
theorem dX4_hedge_51 : decode cX4_hedge 51 = .ok (.aload_n 0, 1) := dk_42 (dk_at dksX4_hedge_2 6 rfl rfl)
theorem dX4_hedge_52 : decode cX4_hedge 52 = .ok (.getfield 117, 3) := dk_180 0 117 (dk_at dksX4_hedge_2 7 rfl rfl)
theorem dX4_hedge_55 : decode cX4_hedge 55 = .ok (.isub, 1) := dk_100 (dk_at dksX4_hedge_2 10 rfl rfl)
theorem dX4_hedge_56 : decode cX4_hedge 56 = .ok (.istore 4, 2) := dk_54 4 (dk_at dksX4_hedge_2 11 rfl rfl)
theorem dX4_hedge_58 : decode cX4_hedge 58 = .ok (.iinc 3 1, 3) := dk_132 3 1 (dk_at dksX4_hedge_2 13 rfl rfl)
theorem dX4_hedge_61 : decode cX4_hedge 61 = .ok (.iload 4, 2) := dk_21 4 (dk_at dksX4_hedge_2 16 rfl rfl)
theorem dX4_hedge_63 : decode cX4_hedge 63 = .ok (.ifCond .ne 14, 3) := dk_154 0 14 (dk_at dksX4_hedge_2 18 rfl rfl)
theorem dX4_hedge_66 : decode cX4_hedge 66 = .ok (.aload_n 0, 1) := dk_42 (dk_at dksX4_hedge_2 21 rfl rfl)
theorem dX4_hedge_67 : decode cX4_hedge 67 = .ok (.getfield 117, 3) := dk_180 0 117 (dk_at dksX4_hedge_3 0 rfl rfl)
theorem dX4_hedge_70 : decode cX4_hedge 70 = .ok (.aload_n 0, 1) := dk_42 (dk_at dksX4_hedge_3 3 rfl rfl)
theorem dX4_hedge_71 : decode cX4_hedge 71 = .ok (.getfield 120, 3) := dk_180 0 120 (dk_at dksX4_hedge_3 4 rfl rfl)
theorem dX4_hedge_74 : decode cX4_hedge 74 = .ok (.if_icmp .lt (-33), 3) := dk_161 255 223 (dk_at dksX4_hedge_3 7 rfl rfl)
theorem dX4_hedge_77 : decode cX4_hedge 77 = .ok (.aload_n 0, 1) := dk_42 (dk_at dksX4_hedge_3 10 rfl rfl)
theorem dX4_hedge_78 : decode cX4_hedge 78 = .ok (.getfield 9, 3) := dk_180 0 9 (dk_at dksX4_hedge_3 11 rfl rfl)
theorem dX4_hedge_81 : decode cX4_hedge 81 = .ok (.aload_n 0, 1) := dk_42 (dk_at dksX4_hedge_3 14 rfl rfl)
theorem dX4_hedge_82 : decode cX4_hedge 82 = .ok (.getfield 16, 3) := dk_180 0 16 (dk_at dksX4_hedge_3 15 rfl rfl)
theorem dX4_hedge_85 : decode cX4_hedge 85 = .ok (.invokestatic 164, 3) := dk_184 0 164 (dk_at dksX4_hedge_3 18 rfl rfl)
theorem dX4_hedge_88 : decode cX4_hedge 88 = .ok (.aload_n 0, 1) := dk_42 (dk_at dksX4_hedge_3 21 rfl rfl)
theorem dX4_hedge_89 : decode cX4_hedge 89 = .ok (.iconst 0, 1) := dk_3 (dk_at dksX4_hedge_3 22 rfl rfl)
theorem dX4_hedge_90 : decode cX4_hedge 90 = .ok (.putfield 117, 3) := dk_181 0 117 (dk_at dksX4_hedge_4 0 rfl rfl)
theorem dX4_hedge_93 : decode cX4_hedge 93 = .ok (.iload 4, 2) := dk_21 4 (dk_at dksX4_hedge_4 3 rfl rfl)
theorem dX4_hedge_95 : decode cX4_hedge 95 = .ok (.ifCond .ne 66, 3) := dk_154 0 66 (dk_at dksX4_hedge_4 5 rfl rfl)
theorem dX4_hedge_98 : decode cX4_hedge 98 = .ok (.aload_n 0, 1) := dk_42 (dk_at dksX4_hedge_4 8 rfl rfl)
theorem dX4_hedge_99 : decode cX4_hedge 99 = .ok (.getfield 117, 3) := dk_180 0 117 (dk_at dksX4_hedge_4 9 rfl rfl)
theorem dX4_hedge_102 : decode cX4_hedge 102 = .ok (.aload_n 0, 1) := dk_42 (dk_at dksX4_hedge_4 12 rfl rfl)
theorem dX4_hedge_103 : decode cX4_hedge 103 = .ok (.getfield 120, 3) := dk_180 0 120 (dk_at dksX4_hedge_4 13 rfl rfl)
theorem dX4_hedge_106 : decode cX4_hedge 106 = .ok (.if_icmp .ge 55, 3) := dk_162 0 55 (dk_at dksX4_hedge_4 16 rfl rfl)
theorem dX4_hedge_109 : decode cX4_hedge 109 = .ok (.aload_n 0, 1) := dk_42 (dk_at dksX4_hedge_4 19 rfl rfl)
theorem dX4_hedge_110 : decode cX4_hedge 110 = .ok (.getfield 117, 3) := dk_180 0 117 (dk_at dksX4_hedge_4 20 rfl rfl)
theorem dX4_hedge_113 : decode cX4_hedge 113 = .ok (.istore 5, 2) := dk_54 5 (dk_at dksX4_hedge_5 0 rfl rfl)
theorem dX4_hedge_115 : decode cX4_hedge 115 = .ok (.aload_n 0, 1) := dk_42 (dk_at dksX4_hedge_5 2 rfl rfl)
theorem dX4_hedge_116 : decode cX4_hedge 116 = .ok (.invokevirtual 126, 3) := dk_182 0 126 (dk_at dksX4_hedge_5 3 rfl rfl)
theorem dX4_hedge_119 : decode cX4_hedge 119 = .ok (.istore 6, 2) := dk_54 6 (dk_at dksX4_hedge_5 6 rfl rfl)
theorem dX4_hedge_121 : decode cX4_hedge 121 = .ok (.aload_n 0, 1) := dk_42 (dk_at dksX4_hedge_5 8 rfl rfl)
theorem dX4_hedge_122 : decode cX4_hedge 122 = .ok (.invokevirtual 160, 3) := dk_182 0 160 (dk_at dksX4_hedge_5 9 rfl rfl)
theorem dX4_hedge_125 : decode cX4_hedge 125 = .ok (.istore 7, 2) := dk_54 7 (dk_at dksX4_hedge_5 12 rfl rfl)
theorem dX4_hedge_127 : decode cX4_hedge 127 = .ok (.aload_n 0, 1) := dk_42 (dk_at dksX4_hedge_5 14 rfl rfl)
theorem dX4_hedge_128 : decode cX4_hedge 128 = .ok (.iload 6, 2) := dk_21 6 (dk_at dksX4_hedge_5 15 rfl rfl)
theorem dX4_hedge_130 : decode cX4_hedge 130 = .ok (.invokevirtual 168, 3) := dk_182 0 168 (dk_at dksX4_hedge_5 17 rfl rfl)
theorem dX4_hedge_133 : decode cX4_hedge 133 = .ok (.ifCond .eq 6, 3) := dk_153 0 6 (dk_at dksX4_hedge_5 20 rfl rfl)
theorem dX4_hedge_136 : decode cX4_hedge 136 = .ok (.goto (-43), 3) := dk_167 255 213 (dk_at dksX4_hedge_6 0 rfl rfl)
theorem dX4_hedge_139 : decode cX4_hedge 139 = .ok (.sipush (-2000), 3) := dk_17 248 48 (dk_at dksX4_hedge_6 3 rfl rfl)
theorem dX4_hedge_142 : decode cX4_hedge 142 = .ok (.iload 5, 2) := dk_21 5 (dk_at dksX4_hedge_6 6 rfl rfl)
theorem dX4_hedge_144 : decode cX4_hedge 144 = .ok (.isub, 1) := dk_100 (dk_at dksX4_hedge_6 8 rfl rfl)
theorem dX4_hedge_145 : decode cX4_hedge 145 = .ok (.istore 4, 2) := dk_54 4 (dk_at dksX4_hedge_6 9 rfl rfl)
theorem dX4_hedge_147 : decode cX4_hedge 147 = .ok (.aload_n 0, 1) := dk_42 (dk_at dksX4_hedge_6 11 rfl rfl)
theorem dX4_hedge_148 : decode cX4_hedge 148 = .ok (.getfield 16, 3) := dk_180 0 16 (dk_at dksX4_hedge_6 12 rfl rfl)
theorem dX4_hedge_151 : decode cX4_hedge 151 = .ok (.aload_n 0, 1) := dk_42 (dk_at dksX4_hedge_6 15 rfl rfl)
theorem dX4_hedge_152 : decode cX4_hedge 152 = .ok (.getfield 9, 3) := dk_180 0 9 (dk_at dksX4_hedge_6 16 rfl rfl)
theorem dX4_hedge_155 : decode cX4_hedge 155 = .ok (.invokestatic 164, 3) := dk_184 0 164 (dk_at dksX4_hedge_6 19 rfl rfl)
theorem dX4_hedge_158 : decode cX4_hedge 158 = .ok (.goto (-65), 3) := dk_167 255 191 (dk_at dksX4_hedge_7 0 rfl rfl)
theorem dX4_hedge_161 : decode cX4_hedge 161 = .ok (.iload 4, 2) := dk_21 4 (dk_at dksX4_hedge_7 3 rfl rfl)
theorem dX4_hedge_163 : decode cX4_hedge 163 = .ok (.ifCond .ne 7, 3) := dk_154 0 7 (dk_at dksX4_hedge_7 5 rfl rfl)
theorem dX4_hedge_166 : decode cX4_hedge 166 = .ok (.iload_n 3, 1) := dk_29 (dk_at dksX4_hedge_7 8 rfl rfl)
theorem dX4_hedge_167 : decode cX4_hedge 167 = .ok (.goto 5, 3) := dk_167 0 5 (dk_at dksX4_hedge_7 9 rfl rfl)
theorem dX4_hedge_170 : decode cX4_hedge 170 = .ok (.iload 4, 2) := dk_21 4 (dk_at dksX4_hedge_7 12 rfl rfl)
theorem dX4_hedge_172 : decode cX4_hedge 172 = .ok (.ireturn, 1) := dk_172 (dk_at dksX4_hedge_7 14 rfl rfl)
abbrev cX4_wrongRow : ByteArray := prog_22_method_95_code
def yX4_wrongRow : MethodName := ⟨RX4, "wrongRow", "(II)I"⟩
def dkwX4_wrongRow_2 : List UInt8 := [159, 0, 8, 16, 244, 167, 0, 4, 3, 172]
abbrev dktX4_wrongRow_2 : List UInt8 := dkwX4_wrongRow_2 ++ []
def dkwX4_wrongRow_1 : List UInt8 := [167, 0, 33, 42, 180, 0, 33, 27, 46, 5, 160, 0, 17, 28, 155, 0, 18, 42, 180, 0, 42, 27, 46, 28]
abbrev dktX4_wrongRow_1 : List UInt8 := dkwX4_wrongRow_1 ++ dktX4_wrongRow_2
def dkwX4_wrongRow_0 : List UInt8 := [27, 184, 1, 3, 154, 0, 7, 2, 167, 0, 47, 42, 180, 0, 33, 27, 46, 154, 0, 8, 16, 245]
abbrev dktX4_wrongRow_0 : List UInt8 := dkwX4_wrongRow_0 ++ dktX4_wrongRow_1
theorem dksX4_wrongRow_0 : cX4_wrongRow.data.toList.drop 0 = dktX4_wrongRow_0 := by decide +kernel
theorem dksX4_wrongRow_1 : cX4_wrongRow.data.toList.drop 22 = dktX4_wrongRow_1 := dk_seg dksX4_wrongRow_0 22 rfl rfl
theorem dksX4_wrongRow_2 : cX4_wrongRow.data.toList.drop 46 = dktX4_wrongRow_2 := dk_seg dksX4_wrongRow_1 24 rfl rfl
theorem dX4_wrongRow_0 : decode cX4_wrongRow 0 = .ok (.iload_n 1, 1) := dk_27 (dk_at dksX4_wrongRow_0 0 rfl rfl)
theorem dX4_wrongRow_1 : decode cX4_wrongRow 1 = .ok (.invokestatic 259, 3) := dk_184 1 3 (dk_at dksX4_wrongRow_0 1 rfl rfl)
theorem dX4_wrongRow_4 : decode cX4_wrongRow 4 = .ok (.ifCond .ne 7, 3) := dk_154 0 7 (dk_at dksX4_wrongRow_0 4 rfl rfl)
theorem dX4_wrongRow_7 : decode cX4_wrongRow 7 = .ok (.iconst (-1), 1) := dk_2 (dk_at dksX4_wrongRow_0 7 rfl rfl)
theorem dX4_wrongRow_8 : decode cX4_wrongRow 8 = .ok (.goto 47, 3) := dk_167 0 47 (dk_at dksX4_wrongRow_0 8 rfl rfl)
theorem dX4_wrongRow_11 : decode cX4_wrongRow 11 = .ok (.aload_n 0, 1) := dk_42 (dk_at dksX4_wrongRow_0 11 rfl rfl)
theorem dX4_wrongRow_12 : decode cX4_wrongRow 12 = .ok (.getfield 33, 3) := dk_180 0 33 (dk_at dksX4_wrongRow_0 12 rfl rfl)
theorem dX4_wrongRow_15 : decode cX4_wrongRow 15 = .ok (.iload_n 1, 1) := dk_27 (dk_at dksX4_wrongRow_0 15 rfl rfl)
theorem dX4_wrongRow_16 : decode cX4_wrongRow 16 = .ok (.iaload, 1) := dk_46 (dk_at dksX4_wrongRow_0 16 rfl rfl)
theorem dX4_wrongRow_17 : decode cX4_wrongRow 17 = .ok (.ifCond .ne 8, 3) := dk_154 0 8 (dk_at dksX4_wrongRow_0 17 rfl rfl)
theorem dX4_wrongRow_20 : decode cX4_wrongRow 20 = .ok (.bipush (-11), 2) := dk_16 245 (dk_at dksX4_wrongRow_0 20 rfl rfl)
theorem dX4_wrongRow_22 : decode cX4_wrongRow 22 = .ok (.goto 33, 3) := dk_167 0 33 (dk_at dksX4_wrongRow_1 0 rfl rfl)
theorem dX4_wrongRow_25 : decode cX4_wrongRow 25 = .ok (.aload_n 0, 1) := dk_42 (dk_at dksX4_wrongRow_1 3 rfl rfl)
theorem dX4_wrongRow_26 : decode cX4_wrongRow 26 = .ok (.getfield 33, 3) := dk_180 0 33 (dk_at dksX4_wrongRow_1 4 rfl rfl)
theorem dX4_wrongRow_29 : decode cX4_wrongRow 29 = .ok (.iload_n 1, 1) := dk_27 (dk_at dksX4_wrongRow_1 7 rfl rfl)
theorem dX4_wrongRow_30 : decode cX4_wrongRow 30 = .ok (.iaload, 1) := dk_46 (dk_at dksX4_wrongRow_1 8 rfl rfl)
theorem dX4_wrongRow_31 : decode cX4_wrongRow 31 = .ok (.iconst 2, 1) := dk_5 (dk_at dksX4_wrongRow_1 9 rfl rfl)
theorem dX4_wrongRow_32 : decode cX4_wrongRow 32 = .ok (.if_icmp .ne 17, 3) := dk_160 0 17 (dk_at dksX4_wrongRow_1 10 rfl rfl)
theorem dX4_wrongRow_35 : decode cX4_wrongRow 35 = .ok (.iload_n 2, 1) := dk_28 (dk_at dksX4_wrongRow_1 13 rfl rfl)
theorem dX4_wrongRow_36 : decode cX4_wrongRow 36 = .ok (.ifCond .lt 18, 3) := dk_155 0 18 (dk_at dksX4_wrongRow_1 14 rfl rfl)
theorem dX4_wrongRow_39 : decode cX4_wrongRow 39 = .ok (.aload_n 0, 1) := dk_42 (dk_at dksX4_wrongRow_1 17 rfl rfl)
theorem dX4_wrongRow_40 : decode cX4_wrongRow 40 = .ok (.getfield 42, 3) := dk_180 0 42 (dk_at dksX4_wrongRow_1 18 rfl rfl)
theorem dX4_wrongRow_43 : decode cX4_wrongRow 43 = .ok (.iload_n 1, 1) := dk_27 (dk_at dksX4_wrongRow_1 21 rfl rfl)
theorem dX4_wrongRow_44 : decode cX4_wrongRow 44 = .ok (.iaload, 1) := dk_46 (dk_at dksX4_wrongRow_1 22 rfl rfl)
theorem dX4_wrongRow_45 : decode cX4_wrongRow 45 = .ok (.iload_n 2, 1) := dk_28 (dk_at dksX4_wrongRow_1 23 rfl rfl)
theorem dX4_wrongRow_46 : decode cX4_wrongRow 46 = .ok (.if_icmp .eq 8, 3) := dk_159 0 8 (dk_at dksX4_wrongRow_2 0 rfl rfl)
theorem dX4_wrongRow_49 : decode cX4_wrongRow 49 = .ok (.bipush (-12), 2) := dk_16 244 (dk_at dksX4_wrongRow_2 3 rfl rfl)
theorem dX4_wrongRow_51 : decode cX4_wrongRow 51 = .ok (.goto 4, 3) := dk_167 0 4 (dk_at dksX4_wrongRow_2 5 rfl rfl)
theorem dX4_wrongRow_54 : decode cX4_wrongRow 54 = .ok (.iconst 0, 1) := dk_3 (dk_at dksX4_wrongRow_2 8 rfl rfl)
theorem dX4_wrongRow_55 : decode cX4_wrongRow 55 = .ok (.ireturn, 1) := dk_172 (dk_at dksX4_wrongRow_2 9 rfl rfl)
abbrev cX4_isShelf : ByteArray := prog_22_method_94_code
def yX4_isShelf : MethodName := ⟨RX4, "isShelf", "(I)Z"⟩
def dkwX4_isShelf_0 : List UInt8 := [26, 3, 16, 7, 184, 0, 58, 172]
abbrev dktX4_isShelf_0 : List UInt8 := dkwX4_isShelf_0 ++ []
theorem dksX4_isShelf_0 : cX4_isShelf.data.toList.drop 0 = dktX4_isShelf_0 := by decide +kernel
theorem dX4_isShelf_0 : decode cX4_isShelf 0 = .ok (.iload_n 0, 1) := dk_26 (dk_at dksX4_isShelf_0 0 rfl rfl)
theorem dX4_isShelf_1 : decode cX4_isShelf 1 = .ok (.iconst 0, 1) := dk_3 (dk_at dksX4_isShelf_0 1 rfl rfl)
theorem dX4_isShelf_2 : decode cX4_isShelf 2 = .ok (.bipush 7, 2) := dk_16 7 (dk_at dksX4_isShelf_0 2 rfl rfl)
theorem dX4_isShelf_4 : decode cX4_isShelf 4 = .ok (.invokestatic 58, 3) := dk_184 0 58 (dk_at dksX4_isShelf_0 4 rfl rfl)
theorem dX4_isShelf_7 : decode cX4_isShelf 7 = .ok (.ireturn, 1) := dk_172 (dk_at dksX4_isShelf_0 7 rfl rfl)
abbrev cX4_isIn : ByteArray := prog_22_method_2_code
def yX4_isIn : MethodName := ⟨RX4, "isIn", "(III)Z"⟩
def dkwX4_isIn_0 : List UInt8 := [26, 27, 161, 0, 12, 26, 28, 163, 0, 7, 4, 167, 0, 4, 3, 172]
abbrev dktX4_isIn_0 : List UInt8 := dkwX4_isIn_0 ++ []
theorem dksX4_isIn_0 : cX4_isIn.data.toList.drop 0 = dktX4_isIn_0 := by decide +kernel
theorem dX4_isIn_0 : decode cX4_isIn 0 = .ok (.iload_n 0, 1) := dk_26 (dk_at dksX4_isIn_0 0 rfl rfl)
theorem dX4_isIn_1 : decode cX4_isIn 1 = .ok (.iload_n 1, 1) := dk_27 (dk_at dksX4_isIn_0 1 rfl rfl)
theorem dX4_isIn_2 : decode cX4_isIn 2 = .ok (.if_icmp .lt 12, 3) := dk_161 0 12 (dk_at dksX4_isIn_0 2 rfl rfl)
theorem dX4_isIn_5 : decode cX4_isIn 5 = .ok (.iload_n 0, 1) := dk_26 (dk_at dksX4_isIn_0 5 rfl rfl)
theorem dX4_isIn_6 : decode cX4_isIn 6 = .ok (.iload_n 2, 1) := dk_28 (dk_at dksX4_isIn_0 6 rfl rfl)
theorem dX4_isIn_7 : decode cX4_isIn 7 = .ok (.if_icmp .gt 7, 3) := dk_163 0 7 (dk_at dksX4_isIn_0 7 rfl rfl)
theorem dX4_isIn_10 : decode cX4_isIn 10 = .ok (.iconst 1, 1) := dk_4 (dk_at dksX4_isIn_0 10 rfl rfl)
theorem dX4_isIn_11 : decode cX4_isIn 11 = .ok (.goto 4, 3) := dk_167 0 4 (dk_at dksX4_isIn_0 11 rfl rfl)
theorem dX4_isIn_14 : decode cX4_isIn 14 = .ok (.iconst 0, 1) := dk_3 (dk_at dksX4_isIn_0 14 rfl rfl)
theorem dX4_isIn_15 : decode cX4_isIn 15 = .ok (.ireturn, 1) := dk_172 (dk_at dksX4_isIn_0 15 rfl rfl)
abbrev cX4_readsStatement : ByteArray := prog_22_method_32_code
def yX4_readsStatement : MethodName := ⟨RX4, "readsStatement", "()Z"⟩
def dkwX4_readsStatement_9 : List UInt8 := [159, 0, 5, 3, 172, 42, 89, 180, 0, 117, 4, 96, 181, 0, 117, 4, 172]
abbrev dktX4_readsStatement_9 : List UInt8 := dkwX4_readsStatement_9 ++ []
def dkwX4_readsStatement_8 : List UInt8 := [42, 89, 180, 0, 117, 4, 100, 181, 0, 117, 3, 172, 28, 153, 0, 12, 42, 182, 0, 126, 16, 59]
abbrev dktX4_readsStatement_8 : List UInt8 := dkwX4_readsStatement_8 ++ dktX4_readsStatement_9
def dkwX4_readsStatement_7 : List UInt8 := [182, 0, 130, 153, 0, 16, 42, 7, 5, 182, 0, 130, 153, 0, 7, 4, 167, 0, 4, 3, 61, 167, 0, 15]
abbrev dktX4_readsStatement_7 : List UInt8 := dkwX4_readsStatement_7 ++ dktX4_readsStatement_8
def dkwX4_readsStatement_6 : List UInt8 := [153, 0, 43, 42, 4, 4, 182, 0, 130, 153, 0, 34, 42, 5, 4, 182, 0, 130, 153, 0, 25, 42, 6, 5]
abbrev dktX4_readsStatement_6 : List UInt8 := dkwX4_readsStatement_6 ++ dktX4_readsStatement_7
def dkwX4_readsStatement_5 : List UInt8 := [42, 4, 4, 182, 0, 130, 153, 0, 7, 4, 167, 0, 4, 3, 61, 167, 0, 69, 42, 3, 4, 182, 0, 130]
abbrev dktX4_readsStatement_5 : List UInt8 := dkwX4_readsStatement_5 ++ dktX4_readsStatement_6
def dkwX4_readsStatement_4 : List UInt8 := [182, 0, 130, 153, 0, 7, 4, 167, 0, 4, 3, 61, 167, 0, 96, 42, 3, 4, 182, 0, 130, 153, 0, 16]
abbrev dktX4_readsStatement_4 : List UInt8 := dkwX4_readsStatement_4 ++ dktX4_readsStatement_5
def dkwX4_readsStatement_3 : List UInt8 := [153, 0, 7, 4, 167, 0, 4, 3, 61, 167, 0, 123, 42, 3, 4, 182, 0, 130, 153, 0, 16, 42, 4, 5]
abbrev dktX4_readsStatement_3 : List UInt8 := dkwX4_readsStatement_3 ++ dktX4_readsStatement_4
def dkwX4_readsStatement_2 : List UInt8 := [42, 3, 5, 182, 0, 130, 153, 0, 25, 42, 4, 5, 182, 0, 130, 153, 0, 16, 42, 5, 4, 182, 0, 130]
abbrev dktX4_readsStatement_2 : List UInt8 := dkwX4_readsStatement_2 ++ dktX4_readsStatement_3
def dkwX4_readsStatement_1 : List UInt8 := [171, 0, 0, 0, 0, 0, 0, 188, 0, 0, 0, 4, 0, 0, 0, 98, 0, 0, 0, 44, 0, 0, 0, 107, 0, 0, 0, 107, 0, 0, 0, 116, 0, 0, 0, 80, 0, 0, 0, 121, 0, 0, 0, 134]
abbrev dktX4_readsStatement_1 : List UInt8 := dkwX4_readsStatement_1 ++ dktX4_readsStatement_2
def dkwX4_readsStatement_0 : List UInt8 := [42, 182, 0, 126, 60, 42, 89, 180, 0, 117, 4, 96, 181, 0, 117, 27]
abbrev dktX4_readsStatement_0 : List UInt8 := dkwX4_readsStatement_0 ++ dktX4_readsStatement_1
theorem dksX4_readsStatement_0 : cX4_readsStatement.data.toList.drop 0 = dktX4_readsStatement_0 := by decide +kernel
theorem dksX4_readsStatement_1 : cX4_readsStatement.data.toList.drop 16 = dktX4_readsStatement_1 := dk_seg dksX4_readsStatement_0 16 rfl rfl
theorem dksX4_readsStatement_2 : cX4_readsStatement.data.toList.drop 60 = dktX4_readsStatement_2 := dk_seg dksX4_readsStatement_1 44 rfl rfl
theorem dksX4_readsStatement_3 : cX4_readsStatement.data.toList.drop 84 = dktX4_readsStatement_3 := dk_seg dksX4_readsStatement_2 24 rfl rfl
theorem dksX4_readsStatement_4 : cX4_readsStatement.data.toList.drop 108 = dktX4_readsStatement_4 := dk_seg dksX4_readsStatement_3 24 rfl rfl
theorem dksX4_readsStatement_5 : cX4_readsStatement.data.toList.drop 132 = dktX4_readsStatement_5 := dk_seg dksX4_readsStatement_4 24 rfl rfl
theorem dksX4_readsStatement_6 : cX4_readsStatement.data.toList.drop 156 = dktX4_readsStatement_6 := dk_seg dksX4_readsStatement_5 24 rfl rfl
theorem dksX4_readsStatement_7 : cX4_readsStatement.data.toList.drop 180 = dktX4_readsStatement_7 := dk_seg dksX4_readsStatement_6 24 rfl rfl
theorem dksX4_readsStatement_8 : cX4_readsStatement.data.toList.drop 204 = dktX4_readsStatement_8 := dk_seg dksX4_readsStatement_7 24 rfl rfl
theorem dksX4_readsStatement_9 : cX4_readsStatement.data.toList.drop 226 = dktX4_readsStatement_9 := dk_seg dksX4_readsStatement_8 22 rfl rfl
theorem dX4_readsStatement_0 : decode cX4_readsStatement 0 = .ok (.aload_n 0, 1) := dk_42 (dk_at dksX4_readsStatement_0 0 rfl rfl)
theorem dX4_readsStatement_1 : decode cX4_readsStatement 1 = .ok (.invokevirtual 126, 3) := dk_182 0 126 (dk_at dksX4_readsStatement_0 1 rfl rfl)
theorem dX4_readsStatement_4 : decode cX4_readsStatement 4 = .ok (.istore_n 1, 1) := dk_60 (dk_at dksX4_readsStatement_0 4 rfl rfl)
theorem dX4_readsStatement_5 : decode cX4_readsStatement 5 = .ok (.aload_n 0, 1) := dk_42 (dk_at dksX4_readsStatement_0 5 rfl rfl)
theorem dX4_readsStatement_6 : decode cX4_readsStatement 6 = .ok (.dup, 1) := dk_89 (dk_at dksX4_readsStatement_0 6 rfl rfl)
theorem dX4_readsStatement_7 : decode cX4_readsStatement 7 = .ok (.getfield 117, 3) := dk_180 0 117 (dk_at dksX4_readsStatement_0 7 rfl rfl)
theorem dX4_readsStatement_10 : decode cX4_readsStatement 10 = .ok (.iconst 1, 1) := dk_4 (dk_at dksX4_readsStatement_0 10 rfl rfl)
theorem dX4_readsStatement_11 : decode cX4_readsStatement 11 = .ok (.iadd, 1) := dk_96 (dk_at dksX4_readsStatement_0 11 rfl rfl)
theorem dX4_readsStatement_12 : decode cX4_readsStatement 12 = .ok (.putfield 117, 3) := dk_181 0 117 (dk_at dksX4_readsStatement_0 12 rfl rfl)
theorem dX4_readsStatement_15 : decode cX4_readsStatement 15 = .ok (.iload_n 1, 1) := dk_27 (dk_at dksX4_readsStatement_0 15 rfl rfl)
theorem dX4_readsStatement_16 : decode cX4_readsStatement 16 = .ok (.lookupswitch 188 #[(98, 44), (107, 107), (116, 80), (121, 134)], 44) := by decide +kernel
theorem dX4_readsStatement_60 : decode cX4_readsStatement 60 = .ok (.aload_n 0, 1) := dk_42 (dk_at dksX4_readsStatement_2 0 rfl rfl)
theorem dX4_readsStatement_61 : decode cX4_readsStatement 61 = .ok (.iconst 0, 1) := dk_3 (dk_at dksX4_readsStatement_2 1 rfl rfl)
theorem dX4_readsStatement_62 : decode cX4_readsStatement 62 = .ok (.iconst 2, 1) := dk_5 (dk_at dksX4_readsStatement_2 2 rfl rfl)
theorem dX4_readsStatement_63 : decode cX4_readsStatement 63 = .ok (.invokevirtual 130, 3) := dk_182 0 130 (dk_at dksX4_readsStatement_2 3 rfl rfl)
theorem dX4_readsStatement_66 : decode cX4_readsStatement 66 = .ok (.ifCond .eq 25, 3) := dk_153 0 25 (dk_at dksX4_readsStatement_2 6 rfl rfl)
theorem dX4_readsStatement_69 : decode cX4_readsStatement 69 = .ok (.aload_n 0, 1) := dk_42 (dk_at dksX4_readsStatement_2 9 rfl rfl)
theorem dX4_readsStatement_70 : decode cX4_readsStatement 70 = .ok (.iconst 1, 1) := dk_4 (dk_at dksX4_readsStatement_2 10 rfl rfl)
theorem dX4_readsStatement_71 : decode cX4_readsStatement 71 = .ok (.iconst 2, 1) := dk_5 (dk_at dksX4_readsStatement_2 11 rfl rfl)
theorem dX4_readsStatement_72 : decode cX4_readsStatement 72 = .ok (.invokevirtual 130, 3) := dk_182 0 130 (dk_at dksX4_readsStatement_2 12 rfl rfl)
theorem dX4_readsStatement_75 : decode cX4_readsStatement 75 = .ok (.ifCond .eq 16, 3) := dk_153 0 16 (dk_at dksX4_readsStatement_2 15 rfl rfl)
theorem dX4_readsStatement_78 : decode cX4_readsStatement 78 = .ok (.aload_n 0, 1) := dk_42 (dk_at dksX4_readsStatement_2 18 rfl rfl)
theorem dX4_readsStatement_79 : decode cX4_readsStatement 79 = .ok (.iconst 2, 1) := dk_5 (dk_at dksX4_readsStatement_2 19 rfl rfl)
theorem dX4_readsStatement_80 : decode cX4_readsStatement 80 = .ok (.iconst 1, 1) := dk_4 (dk_at dksX4_readsStatement_2 20 rfl rfl)
theorem dX4_readsStatement_81 : decode cX4_readsStatement 81 = .ok (.invokevirtual 130, 3) := dk_182 0 130 (dk_at dksX4_readsStatement_2 21 rfl rfl)
theorem dX4_readsStatement_84 : decode cX4_readsStatement 84 = .ok (.ifCond .eq 7, 3) := dk_153 0 7 (dk_at dksX4_readsStatement_3 0 rfl rfl)
theorem dX4_readsStatement_87 : decode cX4_readsStatement 87 = .ok (.iconst 1, 1) := dk_4 (dk_at dksX4_readsStatement_3 3 rfl rfl)
theorem dX4_readsStatement_88 : decode cX4_readsStatement 88 = .ok (.goto 4, 3) := dk_167 0 4 (dk_at dksX4_readsStatement_3 4 rfl rfl)
theorem dX4_readsStatement_91 : decode cX4_readsStatement 91 = .ok (.iconst 0, 1) := dk_3 (dk_at dksX4_readsStatement_3 7 rfl rfl)
theorem dX4_readsStatement_92 : decode cX4_readsStatement 92 = .ok (.istore_n 2, 1) := dk_61 (dk_at dksX4_readsStatement_3 8 rfl rfl)
theorem dX4_readsStatement_93 : decode cX4_readsStatement 93 = .ok (.goto 123, 3) := dk_167 0 123 (dk_at dksX4_readsStatement_3 9 rfl rfl)
theorem dX4_readsStatement_96 : decode cX4_readsStatement 96 = .ok (.aload_n 0, 1) := dk_42 (dk_at dksX4_readsStatement_3 12 rfl rfl)
theorem dX4_readsStatement_97 : decode cX4_readsStatement 97 = .ok (.iconst 0, 1) := dk_3 (dk_at dksX4_readsStatement_3 13 rfl rfl)
theorem dX4_readsStatement_98 : decode cX4_readsStatement 98 = .ok (.iconst 1, 1) := dk_4 (dk_at dksX4_readsStatement_3 14 rfl rfl)
theorem dX4_readsStatement_99 : decode cX4_readsStatement 99 = .ok (.invokevirtual 130, 3) := dk_182 0 130 (dk_at dksX4_readsStatement_3 15 rfl rfl)
theorem dX4_readsStatement_102 : decode cX4_readsStatement 102 = .ok (.ifCond .eq 16, 3) := dk_153 0 16 (dk_at dksX4_readsStatement_3 18 rfl rfl)
theorem dX4_readsStatement_105 : decode cX4_readsStatement 105 = .ok (.aload_n 0, 1) := dk_42 (dk_at dksX4_readsStatement_3 21 rfl rfl)
theorem dX4_readsStatement_106 : decode cX4_readsStatement 106 = .ok (.iconst 1, 1) := dk_4 (dk_at dksX4_readsStatement_3 22 rfl rfl)
theorem dX4_readsStatement_107 : decode cX4_readsStatement 107 = .ok (.iconst 2, 1) := dk_5 (dk_at dksX4_readsStatement_3 23 rfl rfl)
theorem dX4_readsStatement_108 : decode cX4_readsStatement 108 = .ok (.invokevirtual 130, 3) := dk_182 0 130 (dk_at dksX4_readsStatement_4 0 rfl rfl)
theorem dX4_readsStatement_111 : decode cX4_readsStatement 111 = .ok (.ifCond .eq 7, 3) := dk_153 0 7 (dk_at dksX4_readsStatement_4 3 rfl rfl)
theorem dX4_readsStatement_114 : decode cX4_readsStatement 114 = .ok (.iconst 1, 1) := dk_4 (dk_at dksX4_readsStatement_4 6 rfl rfl)
theorem dX4_readsStatement_115 : decode cX4_readsStatement 115 = .ok (.goto 4, 3) := dk_167 0 4 (dk_at dksX4_readsStatement_4 7 rfl rfl)
theorem dX4_readsStatement_118 : decode cX4_readsStatement 118 = .ok (.iconst 0, 1) := dk_3 (dk_at dksX4_readsStatement_4 10 rfl rfl)
theorem dX4_readsStatement_119 : decode cX4_readsStatement 119 = .ok (.istore_n 2, 1) := dk_61 (dk_at dksX4_readsStatement_4 11 rfl rfl)
theorem dX4_readsStatement_120 : decode cX4_readsStatement 120 = .ok (.goto 96, 3) := dk_167 0 96 (dk_at dksX4_readsStatement_4 12 rfl rfl)
theorem dX4_readsStatement_123 : decode cX4_readsStatement 123 = .ok (.aload_n 0, 1) := dk_42 (dk_at dksX4_readsStatement_4 15 rfl rfl)
theorem dX4_readsStatement_124 : decode cX4_readsStatement 124 = .ok (.iconst 0, 1) := dk_3 (dk_at dksX4_readsStatement_4 16 rfl rfl)
theorem dX4_readsStatement_125 : decode cX4_readsStatement 125 = .ok (.iconst 1, 1) := dk_4 (dk_at dksX4_readsStatement_4 17 rfl rfl)
theorem dX4_readsStatement_126 : decode cX4_readsStatement 126 = .ok (.invokevirtual 130, 3) := dk_182 0 130 (dk_at dksX4_readsStatement_4 18 rfl rfl)
theorem dX4_readsStatement_129 : decode cX4_readsStatement 129 = .ok (.ifCond .eq 16, 3) := dk_153 0 16 (dk_at dksX4_readsStatement_4 21 rfl rfl)
theorem dX4_readsStatement_132 : decode cX4_readsStatement 132 = .ok (.aload_n 0, 1) := dk_42 (dk_at dksX4_readsStatement_5 0 rfl rfl)
theorem dX4_readsStatement_133 : decode cX4_readsStatement 133 = .ok (.iconst 1, 1) := dk_4 (dk_at dksX4_readsStatement_5 1 rfl rfl)
theorem dX4_readsStatement_134 : decode cX4_readsStatement 134 = .ok (.iconst 1, 1) := dk_4 (dk_at dksX4_readsStatement_5 2 rfl rfl)
theorem dX4_readsStatement_135 : decode cX4_readsStatement 135 = .ok (.invokevirtual 130, 3) := dk_182 0 130 (dk_at dksX4_readsStatement_5 3 rfl rfl)
theorem dX4_readsStatement_138 : decode cX4_readsStatement 138 = .ok (.ifCond .eq 7, 3) := dk_153 0 7 (dk_at dksX4_readsStatement_5 6 rfl rfl)
theorem dX4_readsStatement_141 : decode cX4_readsStatement 141 = .ok (.iconst 1, 1) := dk_4 (dk_at dksX4_readsStatement_5 9 rfl rfl)
theorem dX4_readsStatement_142 : decode cX4_readsStatement 142 = .ok (.goto 4, 3) := dk_167 0 4 (dk_at dksX4_readsStatement_5 10 rfl rfl)
theorem dX4_readsStatement_145 : decode cX4_readsStatement 145 = .ok (.iconst 0, 1) := dk_3 (dk_at dksX4_readsStatement_5 13 rfl rfl)
theorem dX4_readsStatement_146 : decode cX4_readsStatement 146 = .ok (.istore_n 2, 1) := dk_61 (dk_at dksX4_readsStatement_5 14 rfl rfl)
theorem dX4_readsStatement_147 : decode cX4_readsStatement 147 = .ok (.goto 69, 3) := dk_167 0 69 (dk_at dksX4_readsStatement_5 15 rfl rfl)
theorem dX4_readsStatement_150 : decode cX4_readsStatement 150 = .ok (.aload_n 0, 1) := dk_42 (dk_at dksX4_readsStatement_5 18 rfl rfl)
theorem dX4_readsStatement_151 : decode cX4_readsStatement 151 = .ok (.iconst 0, 1) := dk_3 (dk_at dksX4_readsStatement_5 19 rfl rfl)
theorem dX4_readsStatement_152 : decode cX4_readsStatement 152 = .ok (.iconst 1, 1) := dk_4 (dk_at dksX4_readsStatement_5 20 rfl rfl)
theorem dX4_readsStatement_153 : decode cX4_readsStatement 153 = .ok (.invokevirtual 130, 3) := dk_182 0 130 (dk_at dksX4_readsStatement_5 21 rfl rfl)
theorem dX4_readsStatement_156 : decode cX4_readsStatement 156 = .ok (.ifCond .eq 43, 3) := dk_153 0 43 (dk_at dksX4_readsStatement_6 0 rfl rfl)
theorem dX4_readsStatement_159 : decode cX4_readsStatement 159 = .ok (.aload_n 0, 1) := dk_42 (dk_at dksX4_readsStatement_6 3 rfl rfl)
theorem dX4_readsStatement_160 : decode cX4_readsStatement 160 = .ok (.iconst 1, 1) := dk_4 (dk_at dksX4_readsStatement_6 4 rfl rfl)
theorem dX4_readsStatement_161 : decode cX4_readsStatement 161 = .ok (.iconst 1, 1) := dk_4 (dk_at dksX4_readsStatement_6 5 rfl rfl)
theorem dX4_readsStatement_162 : decode cX4_readsStatement 162 = .ok (.invokevirtual 130, 3) := dk_182 0 130 (dk_at dksX4_readsStatement_6 6 rfl rfl)
theorem dX4_readsStatement_165 : decode cX4_readsStatement 165 = .ok (.ifCond .eq 34, 3) := dk_153 0 34 (dk_at dksX4_readsStatement_6 9 rfl rfl)
theorem dX4_readsStatement_168 : decode cX4_readsStatement 168 = .ok (.aload_n 0, 1) := dk_42 (dk_at dksX4_readsStatement_6 12 rfl rfl)
theorem dX4_readsStatement_169 : decode cX4_readsStatement 169 = .ok (.iconst 2, 1) := dk_5 (dk_at dksX4_readsStatement_6 13 rfl rfl)
theorem dX4_readsStatement_170 : decode cX4_readsStatement 170 = .ok (.iconst 1, 1) := dk_4 (dk_at dksX4_readsStatement_6 14 rfl rfl)
theorem dX4_readsStatement_171 : decode cX4_readsStatement 171 = .ok (.invokevirtual 130, 3) := dk_182 0 130 (dk_at dksX4_readsStatement_6 15 rfl rfl)
theorem dX4_readsStatement_174 : decode cX4_readsStatement 174 = .ok (.ifCond .eq 25, 3) := dk_153 0 25 (dk_at dksX4_readsStatement_6 18 rfl rfl)
theorem dX4_readsStatement_177 : decode cX4_readsStatement 177 = .ok (.aload_n 0, 1) := dk_42 (dk_at dksX4_readsStatement_6 21 rfl rfl)
theorem dX4_readsStatement_178 : decode cX4_readsStatement 178 = .ok (.iconst 3, 1) := dk_6 (dk_at dksX4_readsStatement_6 22 rfl rfl)
theorem dX4_readsStatement_179 : decode cX4_readsStatement 179 = .ok (.iconst 2, 1) := dk_5 (dk_at dksX4_readsStatement_6 23 rfl rfl)
theorem dX4_readsStatement_180 : decode cX4_readsStatement 180 = .ok (.invokevirtual 130, 3) := dk_182 0 130 (dk_at dksX4_readsStatement_7 0 rfl rfl)
theorem dX4_readsStatement_183 : decode cX4_readsStatement 183 = .ok (.ifCond .eq 16, 3) := dk_153 0 16 (dk_at dksX4_readsStatement_7 3 rfl rfl)
theorem dX4_readsStatement_186 : decode cX4_readsStatement 186 = .ok (.aload_n 0, 1) := dk_42 (dk_at dksX4_readsStatement_7 6 rfl rfl)
theorem dX4_readsStatement_187 : decode cX4_readsStatement 187 = .ok (.iconst 4, 1) := dk_7 (dk_at dksX4_readsStatement_7 7 rfl rfl)
theorem dX4_readsStatement_188 : decode cX4_readsStatement 188 = .ok (.iconst 2, 1) := dk_5 (dk_at dksX4_readsStatement_7 8 rfl rfl)
theorem dX4_readsStatement_189 : decode cX4_readsStatement 189 = .ok (.invokevirtual 130, 3) := dk_182 0 130 (dk_at dksX4_readsStatement_7 9 rfl rfl)
theorem dX4_readsStatement_192 : decode cX4_readsStatement 192 = .ok (.ifCond .eq 7, 3) := dk_153 0 7 (dk_at dksX4_readsStatement_7 12 rfl rfl)
theorem dX4_readsStatement_195 : decode cX4_readsStatement 195 = .ok (.iconst 1, 1) := dk_4 (dk_at dksX4_readsStatement_7 15 rfl rfl)
theorem dX4_readsStatement_196 : decode cX4_readsStatement 196 = .ok (.goto 4, 3) := dk_167 0 4 (dk_at dksX4_readsStatement_7 16 rfl rfl)
theorem dX4_readsStatement_199 : decode cX4_readsStatement 199 = .ok (.iconst 0, 1) := dk_3 (dk_at dksX4_readsStatement_7 19 rfl rfl)
theorem dX4_readsStatement_200 : decode cX4_readsStatement 200 = .ok (.istore_n 2, 1) := dk_61 (dk_at dksX4_readsStatement_7 20 rfl rfl)
theorem dX4_readsStatement_201 : decode cX4_readsStatement 201 = .ok (.goto 15, 3) := dk_167 0 15 (dk_at dksX4_readsStatement_7 21 rfl rfl)
theorem dX4_readsStatement_204 : decode cX4_readsStatement 204 = .ok (.aload_n 0, 1) := dk_42 (dk_at dksX4_readsStatement_8 0 rfl rfl)
theorem dX4_readsStatement_205 : decode cX4_readsStatement 205 = .ok (.dup, 1) := dk_89 (dk_at dksX4_readsStatement_8 1 rfl rfl)
theorem dX4_readsStatement_206 : decode cX4_readsStatement 206 = .ok (.getfield 117, 3) := dk_180 0 117 (dk_at dksX4_readsStatement_8 2 rfl rfl)
theorem dX4_readsStatement_209 : decode cX4_readsStatement 209 = .ok (.iconst 1, 1) := dk_4 (dk_at dksX4_readsStatement_8 5 rfl rfl)
theorem dX4_readsStatement_210 : decode cX4_readsStatement 210 = .ok (.isub, 1) := dk_100 (dk_at dksX4_readsStatement_8 6 rfl rfl)
theorem dX4_readsStatement_211 : decode cX4_readsStatement 211 = .ok (.putfield 117, 3) := dk_181 0 117 (dk_at dksX4_readsStatement_8 7 rfl rfl)
theorem dX4_readsStatement_214 : decode cX4_readsStatement 214 = .ok (.iconst 0, 1) := dk_3 (dk_at dksX4_readsStatement_8 10 rfl rfl)
theorem dX4_readsStatement_215 : decode cX4_readsStatement 215 = .ok (.ireturn, 1) := dk_172 (dk_at dksX4_readsStatement_8 11 rfl rfl)
theorem dX4_readsStatement_216 : decode cX4_readsStatement 216 = .ok (.iload_n 2, 1) := dk_28 (dk_at dksX4_readsStatement_8 12 rfl rfl)
theorem dX4_readsStatement_217 : decode cX4_readsStatement 217 = .ok (.ifCond .eq 12, 3) := dk_153 0 12 (dk_at dksX4_readsStatement_8 13 rfl rfl)
theorem dX4_readsStatement_220 : decode cX4_readsStatement 220 = .ok (.aload_n 0, 1) := dk_42 (dk_at dksX4_readsStatement_8 16 rfl rfl)
theorem dX4_readsStatement_221 : decode cX4_readsStatement 221 = .ok (.invokevirtual 126, 3) := dk_182 0 126 (dk_at dksX4_readsStatement_8 17 rfl rfl)
theorem dX4_readsStatement_224 : decode cX4_readsStatement 224 = .ok (.bipush 59, 2) := dk_16 59 (dk_at dksX4_readsStatement_8 20 rfl rfl)
theorem dX4_readsStatement_226 : decode cX4_readsStatement 226 = .ok (.if_icmp .eq 5, 3) := dk_159 0 5 (dk_at dksX4_readsStatement_9 0 rfl rfl)
theorem dX4_readsStatement_229 : decode cX4_readsStatement 229 = .ok (.iconst 0, 1) := dk_3 (dk_at dksX4_readsStatement_9 3 rfl rfl)
theorem dX4_readsStatement_230 : decode cX4_readsStatement 230 = .ok (.ireturn, 1) := dk_172 (dk_at dksX4_readsStatement_9 4 rfl rfl)
theorem dX4_readsStatement_231 : decode cX4_readsStatement 231 = .ok (.aload_n 0, 1) := dk_42 (dk_at dksX4_readsStatement_9 5 rfl rfl)
theorem dX4_readsStatement_232 : decode cX4_readsStatement 232 = .ok (.dup, 1) := dk_89 (dk_at dksX4_readsStatement_9 6 rfl rfl)
theorem dX4_readsStatement_233 : decode cX4_readsStatement 233 = .ok (.getfield 117, 3) := dk_180 0 117 (dk_at dksX4_readsStatement_9 7 rfl rfl)
theorem dX4_readsStatement_236 : decode cX4_readsStatement 236 = .ok (.iconst 1, 1) := dk_4 (dk_at dksX4_readsStatement_9 10 rfl rfl)
theorem dX4_readsStatement_237 : decode cX4_readsStatement 237 = .ok (.iadd, 1) := dk_96 (dk_at dksX4_readsStatement_9 11 rfl rfl)
theorem dX4_readsStatement_238 : decode cX4_readsStatement 238 = .ok (.putfield 117, 3) := dk_181 0 117 (dk_at dksX4_readsStatement_9 12 rfl rfl)
theorem dX4_readsStatement_241 : decode cX4_readsStatement 241 = .ok (.iconst 1, 1) := dk_4 (dk_at dksX4_readsStatement_9 15 rfl rfl)
theorem dX4_readsStatement_242 : decode cX4_readsStatement 242 = .ok (.ireturn, 1) := dk_172 (dk_at dksX4_readsStatement_9 16 rfl rfl)
abbrev cX4_here : ByteArray := prog_22_method_30_code
def yX4_here : MethodName := ⟨RX4, "here", "()I"⟩
def dkwX4_here_1 : List UInt8 := [46, 17, 0, 255, 126, 167, 0, 4, 2, 172]
abbrev dktX4_here_1 : List UInt8 := dkwX4_here_1 ++ []
def dkwX4_here_0 : List UInt8 := [42, 180, 0, 117, 42, 180, 0, 120, 162, 0, 24, 42, 180, 0, 48, 42, 180, 0, 123, 42, 180, 0, 117, 96]
abbrev dktX4_here_0 : List UInt8 := dkwX4_here_0 ++ dktX4_here_1
theorem dksX4_here_0 : cX4_here.data.toList.drop 0 = dktX4_here_0 := by decide +kernel
theorem dksX4_here_1 : cX4_here.data.toList.drop 24 = dktX4_here_1 := dk_seg dksX4_here_0 24 rfl rfl
theorem dX4_here_0 : decode cX4_here 0 = .ok (.aload_n 0, 1) := dk_42 (dk_at dksX4_here_0 0 rfl rfl)
theorem dX4_here_1 : decode cX4_here 1 = .ok (.getfield 117, 3) := dk_180 0 117 (dk_at dksX4_here_0 1 rfl rfl)
theorem dX4_here_4 : decode cX4_here 4 = .ok (.aload_n 0, 1) := dk_42 (dk_at dksX4_here_0 4 rfl rfl)
theorem dX4_here_5 : decode cX4_here 5 = .ok (.getfield 120, 3) := dk_180 0 120 (dk_at dksX4_here_0 5 rfl rfl)
theorem dX4_here_8 : decode cX4_here 8 = .ok (.if_icmp .ge 24, 3) := dk_162 0 24 (dk_at dksX4_here_0 8 rfl rfl)
theorem dX4_here_11 : decode cX4_here 11 = .ok (.aload_n 0, 1) := dk_42 (dk_at dksX4_here_0 11 rfl rfl)
theorem dX4_here_12 : decode cX4_here 12 = .ok (.getfield 48, 3) := dk_180 0 48 (dk_at dksX4_here_0 12 rfl rfl)
theorem dX4_here_15 : decode cX4_here 15 = .ok (.aload_n 0, 1) := dk_42 (dk_at dksX4_here_0 15 rfl rfl)
theorem dX4_here_16 : decode cX4_here 16 = .ok (.getfield 123, 3) := dk_180 0 123 (dk_at dksX4_here_0 16 rfl rfl)
theorem dX4_here_19 : decode cX4_here 19 = .ok (.aload_n 0, 1) := dk_42 (dk_at dksX4_here_0 19 rfl rfl)
theorem dX4_here_20 : decode cX4_here 20 = .ok (.getfield 117, 3) := dk_180 0 117 (dk_at dksX4_here_0 20 rfl rfl)
theorem dX4_here_23 : decode cX4_here 23 = .ok (.iadd, 1) := dk_96 (dk_at dksX4_here_0 23 rfl rfl)
theorem dX4_here_24 : decode cX4_here 24 = .ok (.iaload, 1) := dk_46 (dk_at dksX4_here_1 0 rfl rfl)
theorem dX4_here_25 : decode cX4_here 25 = .ok (.sipush 255, 3) := dk_17 0 255 (dk_at dksX4_here_1 1 rfl rfl)
theorem dX4_here_28 : decode cX4_here 28 = .ok (.iand, 1) := dk_126 (dk_at dksX4_here_1 4 rfl rfl)
theorem dX4_here_29 : decode cX4_here 29 = .ok (.goto 4, 3) := dk_167 0 4 (dk_at dksX4_here_1 5 rfl rfl)
theorem dX4_here_32 : decode cX4_here 32 = .ok (.iconst (-1), 1) := dk_2 (dk_at dksX4_here_1 8 rfl rfl)
theorem dX4_here_33 : decode cX4_here 33 = .ok (.ireturn, 1) := dk_172 (dk_at dksX4_here_1 9 rfl rfl)
abbrev cX4_readsNumber : ByteArray := prog_22_method_31_code
def yX4_readsNumber : MethodName := ⟨RX4, "readsNumber", "(II)Z"⟩
def dkwX4_readsNumber_3 : List UInt8 := [4, 172]
abbrev dktX4_readsNumber_3 : List UInt8 := dkwX4_readsNumber_3 ++ []
def dkwX4_readsNumber_2 : List UInt8 := [182, 0, 126, 96, 16, 48, 100, 79, 42, 89, 180, 0, 117, 4, 96, 181, 0, 117, 132, 3, 1, 167, 255, 199]
abbrev dktX4_readsNumber_2 : List UInt8 := dkwX4_readsNumber_2 ++ dktX4_readsNumber_3
def dkwX4_readsNumber_1 : List UInt8 := [184, 0, 58, 154, 0, 5, 3, 172, 42, 180, 0, 23, 27, 16, 10, 42, 180, 0, 23, 27, 46, 104, 42]
abbrev dktX4_readsNumber_1 : List UInt8 := dkwX4_readsNumber_1 ++ dktX4_readsNumber_2
def dkwX4_readsNumber_0 : List UInt8 := [42, 180, 0, 23, 27, 3, 79, 3, 62, 29, 28, 162, 0, 58, 42, 182, 0, 126, 16, 48, 16, 57]
abbrev dktX4_readsNumber_0 : List UInt8 := dkwX4_readsNumber_0 ++ dktX4_readsNumber_1
theorem dksX4_readsNumber_0 : cX4_readsNumber.data.toList.drop 0 = dktX4_readsNumber_0 := by decide +kernel
theorem dksX4_readsNumber_1 : cX4_readsNumber.data.toList.drop 22 = dktX4_readsNumber_1 := dk_seg dksX4_readsNumber_0 22 rfl rfl
theorem dksX4_readsNumber_2 : cX4_readsNumber.data.toList.drop 45 = dktX4_readsNumber_2 := dk_seg dksX4_readsNumber_1 23 rfl rfl
theorem dksX4_readsNumber_3 : cX4_readsNumber.data.toList.drop 69 = dktX4_readsNumber_3 := dk_seg dksX4_readsNumber_2 24 rfl rfl
theorem dX4_readsNumber_0 : decode cX4_readsNumber 0 = .ok (.aload_n 0, 1) := dk_42 (dk_at dksX4_readsNumber_0 0 rfl rfl)
theorem dX4_readsNumber_1 : decode cX4_readsNumber 1 = .ok (.getfield 23, 3) := dk_180 0 23 (dk_at dksX4_readsNumber_0 1 rfl rfl)
theorem dX4_readsNumber_4 : decode cX4_readsNumber 4 = .ok (.iload_n 1, 1) := dk_27 (dk_at dksX4_readsNumber_0 4 rfl rfl)
theorem dX4_readsNumber_5 : decode cX4_readsNumber 5 = .ok (.iconst 0, 1) := dk_3 (dk_at dksX4_readsNumber_0 5 rfl rfl)
theorem dX4_readsNumber_6 : decode cX4_readsNumber 6 = .ok (.iastore, 1) := dk_79 (dk_at dksX4_readsNumber_0 6 rfl rfl)
theorem dX4_readsNumber_7 : decode cX4_readsNumber 7 = .ok (.iconst 0, 1) := dk_3 (dk_at dksX4_readsNumber_0 7 rfl rfl)
theorem dX4_readsNumber_8 : decode cX4_readsNumber 8 = .ok (.istore_n 3, 1) := dk_62 (dk_at dksX4_readsNumber_0 8 rfl rfl)
theorem dX4_readsNumber_9 : decode cX4_readsNumber 9 = .ok (.iload_n 3, 1) := dk_29 (dk_at dksX4_readsNumber_0 9 rfl rfl)
theorem dX4_readsNumber_10 : decode cX4_readsNumber 10 = .ok (.iload_n 2, 1) := dk_28 (dk_at dksX4_readsNumber_0 10 rfl rfl)
theorem dX4_readsNumber_11 : decode cX4_readsNumber 11 = .ok (.if_icmp .ge 58, 3) := dk_162 0 58 (dk_at dksX4_readsNumber_0 11 rfl rfl)
theorem dX4_readsNumber_14 : decode cX4_readsNumber 14 = .ok (.aload_n 0, 1) := dk_42 (dk_at dksX4_readsNumber_0 14 rfl rfl)
theorem dX4_readsNumber_15 : decode cX4_readsNumber 15 = .ok (.invokevirtual 126, 3) := dk_182 0 126 (dk_at dksX4_readsNumber_0 15 rfl rfl)
theorem dX4_readsNumber_18 : decode cX4_readsNumber 18 = .ok (.bipush 48, 2) := dk_16 48 (dk_at dksX4_readsNumber_0 18 rfl rfl)
theorem dX4_readsNumber_20 : decode cX4_readsNumber 20 = .ok (.bipush 57, 2) := dk_16 57 (dk_at dksX4_readsNumber_0 20 rfl rfl)
theorem dX4_readsNumber_22 : decode cX4_readsNumber 22 = .ok (.invokestatic 58, 3) := dk_184 0 58 (dk_at dksX4_readsNumber_1 0 rfl rfl)
theorem dX4_readsNumber_25 : decode cX4_readsNumber 25 = .ok (.ifCond .ne 5, 3) := dk_154 0 5 (dk_at dksX4_readsNumber_1 3 rfl rfl)
theorem dX4_readsNumber_28 : decode cX4_readsNumber 28 = .ok (.iconst 0, 1) := dk_3 (dk_at dksX4_readsNumber_1 6 rfl rfl)
theorem dX4_readsNumber_29 : decode cX4_readsNumber 29 = .ok (.ireturn, 1) := dk_172 (dk_at dksX4_readsNumber_1 7 rfl rfl)
theorem dX4_readsNumber_30 : decode cX4_readsNumber 30 = .ok (.aload_n 0, 1) := dk_42 (dk_at dksX4_readsNumber_1 8 rfl rfl)
theorem dX4_readsNumber_31 : decode cX4_readsNumber 31 = .ok (.getfield 23, 3) := dk_180 0 23 (dk_at dksX4_readsNumber_1 9 rfl rfl)
theorem dX4_readsNumber_34 : decode cX4_readsNumber 34 = .ok (.iload_n 1, 1) := dk_27 (dk_at dksX4_readsNumber_1 12 rfl rfl)
theorem dX4_readsNumber_35 : decode cX4_readsNumber 35 = .ok (.bipush 10, 2) := dk_16 10 (dk_at dksX4_readsNumber_1 13 rfl rfl)
theorem dX4_readsNumber_37 : decode cX4_readsNumber 37 = .ok (.aload_n 0, 1) := dk_42 (dk_at dksX4_readsNumber_1 15 rfl rfl)
theorem dX4_readsNumber_38 : decode cX4_readsNumber 38 = .ok (.getfield 23, 3) := dk_180 0 23 (dk_at dksX4_readsNumber_1 16 rfl rfl)
theorem dX4_readsNumber_41 : decode cX4_readsNumber 41 = .ok (.iload_n 1, 1) := dk_27 (dk_at dksX4_readsNumber_1 19 rfl rfl)
theorem dX4_readsNumber_42 : decode cX4_readsNumber 42 = .ok (.iaload, 1) := dk_46 (dk_at dksX4_readsNumber_1 20 rfl rfl)
theorem dX4_readsNumber_43 : decode cX4_readsNumber 43 = .ok (.imul, 1) := dk_104 (dk_at dksX4_readsNumber_1 21 rfl rfl)
theorem dX4_readsNumber_44 : decode cX4_readsNumber 44 = .ok (.aload_n 0, 1) := dk_42 (dk_at dksX4_readsNumber_1 22 rfl rfl)
theorem dX4_readsNumber_45 : decode cX4_readsNumber 45 = .ok (.invokevirtual 126, 3) := dk_182 0 126 (dk_at dksX4_readsNumber_2 0 rfl rfl)
theorem dX4_readsNumber_48 : decode cX4_readsNumber 48 = .ok (.iadd, 1) := dk_96 (dk_at dksX4_readsNumber_2 3 rfl rfl)
theorem dX4_readsNumber_49 : decode cX4_readsNumber 49 = .ok (.bipush 48, 2) := dk_16 48 (dk_at dksX4_readsNumber_2 4 rfl rfl)
theorem dX4_readsNumber_51 : decode cX4_readsNumber 51 = .ok (.isub, 1) := dk_100 (dk_at dksX4_readsNumber_2 6 rfl rfl)
theorem dX4_readsNumber_52 : decode cX4_readsNumber 52 = .ok (.iastore, 1) := dk_79 (dk_at dksX4_readsNumber_2 7 rfl rfl)
theorem dX4_readsNumber_53 : decode cX4_readsNumber 53 = .ok (.aload_n 0, 1) := dk_42 (dk_at dksX4_readsNumber_2 8 rfl rfl)
theorem dX4_readsNumber_54 : decode cX4_readsNumber 54 = .ok (.dup, 1) := dk_89 (dk_at dksX4_readsNumber_2 9 rfl rfl)
theorem dX4_readsNumber_55 : decode cX4_readsNumber 55 = .ok (.getfield 117, 3) := dk_180 0 117 (dk_at dksX4_readsNumber_2 10 rfl rfl)
theorem dX4_readsNumber_58 : decode cX4_readsNumber 58 = .ok (.iconst 1, 1) := dk_4 (dk_at dksX4_readsNumber_2 13 rfl rfl)
theorem dX4_readsNumber_59 : decode cX4_readsNumber 59 = .ok (.iadd, 1) := dk_96 (dk_at dksX4_readsNumber_2 14 rfl rfl)
theorem dX4_readsNumber_60 : decode cX4_readsNumber 60 = .ok (.putfield 117, 3) := dk_181 0 117 (dk_at dksX4_readsNumber_2 15 rfl rfl)
theorem dX4_readsNumber_63 : decode cX4_readsNumber 63 = .ok (.iinc 3 1, 3) := dk_132 3 1 (dk_at dksX4_readsNumber_2 18 rfl rfl)
theorem dX4_readsNumber_66 : decode cX4_readsNumber 66 = .ok (.goto (-57), 3) := dk_167 255 199 (dk_at dksX4_readsNumber_2 21 rfl rfl)
theorem dX4_readsNumber_69 : decode cX4_readsNumber 69 = .ok (.iconst 1, 1) := dk_4 (dk_at dksX4_readsNumber_3 0 rfl rfl)
theorem dX4_readsNumber_70 : decode cX4_readsNumber 70 = .ok (.ireturn, 1) := dk_172 (dk_at dksX4_readsNumber_3 1 rfl rfl)
abbrev cX4_copies : ByteArray := prog_22_method_4_code
def yX4_copies : MethodName := ⟨RX4, "copies", "([I[I)V"⟩
def dkwX4_copies_0 : List UInt8 := [3, 61, 28, 16, 47, 162, 0, 15, 43, 28, 42, 28, 46, 79, 132, 2, 1, 167, 255, 241, 177]
abbrev dktX4_copies_0 : List UInt8 := dkwX4_copies_0 ++ []
theorem dksX4_copies_0 : cX4_copies.data.toList.drop 0 = dktX4_copies_0 := by decide +kernel
theorem dX4_copies_0 : decode cX4_copies 0 = .ok (.iconst 0, 1) := dk_3 (dk_at dksX4_copies_0 0 rfl rfl)
theorem dX4_copies_1 : decode cX4_copies 1 = .ok (.istore_n 2, 1) := dk_61 (dk_at dksX4_copies_0 1 rfl rfl)
theorem dX4_copies_2 : decode cX4_copies 2 = .ok (.iload_n 2, 1) := dk_28 (dk_at dksX4_copies_0 2 rfl rfl)
theorem dX4_copies_3 : decode cX4_copies 3 = .ok (.bipush 47, 2) := dk_16 47 (dk_at dksX4_copies_0 3 rfl rfl)
theorem dX4_copies_5 : decode cX4_copies 5 = .ok (.if_icmp .ge 15, 3) := dk_162 0 15 (dk_at dksX4_copies_0 5 rfl rfl)
theorem dX4_copies_8 : decode cX4_copies 8 = .ok (.aload_n 1, 1) := dk_43 (dk_at dksX4_copies_0 8 rfl rfl)
theorem dX4_copies_9 : decode cX4_copies 9 = .ok (.iload_n 2, 1) := dk_28 (dk_at dksX4_copies_0 9 rfl rfl)
theorem dX4_copies_10 : decode cX4_copies 10 = .ok (.aload_n 0, 1) := dk_42 (dk_at dksX4_copies_0 10 rfl rfl)
theorem dX4_copies_11 : decode cX4_copies 11 = .ok (.iload_n 2, 1) := dk_28 (dk_at dksX4_copies_0 11 rfl rfl)
theorem dX4_copies_12 : decode cX4_copies 12 = .ok (.iaload, 1) := dk_46 (dk_at dksX4_copies_0 12 rfl rfl)
theorem dX4_copies_13 : decode cX4_copies 13 = .ok (.iastore, 1) := dk_79 (dk_at dksX4_copies_0 13 rfl rfl)
theorem dX4_copies_14 : decode cX4_copies 14 = .ok (.iinc 2 1, 3) := dk_132 2 1 (dk_at dksX4_copies_0 14 rfl rfl)
theorem dX4_copies_17 : decode cX4_copies 17 = .ok (.goto (-15), 3) := dk_167 255 241 (dk_at dksX4_copies_0 17 rfl rfl)
theorem dX4_copies_20 : decode cX4_copies 20 = .ok (.return_, 1) := dk_177 (dk_at dksX4_copies_0 20 rfl rfl)
abbrev cX4_isDone : ByteArray := prog_22_method_37_code
def yX4_isDone : MethodName := ⟨RX4, "isDone", "(I)Z"⟩
def dkwX4_isDone_9 : List UInt8 := [7, 46, 182, 0, 154, 96, 79, 4, 172]
abbrev dktX4_isDone_9 : List UInt8 := dkwX4_isDone_9 ++ []
def dkwX4_isDone_8 : List UInt8 := [3, 172, 42, 180, 0, 9, 28, 6, 184, 0, 51, 92, 46, 42, 42, 180, 0, 23, 5, 46, 42, 180, 0, 23]
abbrev dktX4_isDone_8 : List UInt8 := dkwX4_isDone_8 ++ dktX4_isDone_9
def dkwX4_isDone_7 : List UInt8 := [16, 60, 163, 0, 22, 42, 180, 0, 23, 7, 46, 16, 60, 163, 0, 11, 42, 28, 182, 0, 151, 153, 0, 5]
abbrev dktX4_isDone_7 : List UInt8 := dkwX4_isDone_7 ++ dktX4_isDone_8
def dkwX4_isDone_6 : List UInt8 := [4, 172, 42, 28, 29, 42, 180, 0, 23, 5, 46, 182, 0, 148, 153, 0, 33, 42, 180, 0, 23, 6, 46]
abbrev dktX4_isDone_6 : List UInt8 := dkwX4_isDone_6 ++ dktX4_isDone_7
def dkwX4_isDone_5 : List UInt8 := [16, 8, 162, 0, 14, 42, 180, 0, 9, 5, 46, 16, 6, 160, 0, 5, 3, 172, 42, 28, 29, 182, 0, 145]
abbrev dktX4_isDone_5 : List UInt8 := dkwX4_isDone_5 ++ dktX4_isDone_6
def dkwX4_isDone_4 : List UInt8 := [163, 0, 13, 42, 180, 0, 9, 4, 46, 7, 160, 0, 5, 3, 172, 42, 28, 29, 182, 0, 141, 4, 172, 28]
abbrev dktX4_isDone_4 : List UInt8 := dkwX4_isDone_4 ++ dktX4_isDone_5
def dkwX4_isDone_3 : List UInt8 := [160, 0, 5, 3, 172, 42, 28, 29, 42, 180, 0, 23, 5, 46, 182, 0, 137, 4, 172, 29, 16, 60]
abbrev dktX4_isDone_3 : List UInt8 := dkwX4_isDone_3 ++ dktX4_isDone_4
def dkwX4_isDone_2 : List UInt8 := [28, 29, 42, 180, 0, 23, 5, 46, 184, 0, 134, 153, 0, 14, 42, 180, 0, 9, 3, 46, 16, 6]
abbrev dktX4_isDone_2 : List UInt8 := dkwX4_isDone_2 ++ dktX4_isDone_3
def dkwX4_isDone_1 : List UInt8 := [171, 0, 0, 0, 127, 0, 0, 0, 3, 0, 0, 0, 98, 0, 0, 0, 33, 0, 0, 0, 107, 0, 0, 0, 100, 0, 0, 0, 116, 0, 0, 0, 74]
abbrev dktX4_isDone_1 : List UInt8 := dkwX4_isDone_1 ++ dktX4_isDone_2
def dkwX4_isDone_0 : List UInt8 := [42, 180, 0, 23, 3, 46, 61, 42, 180, 0, 23, 4, 46, 62, 27]
abbrev dktX4_isDone_0 : List UInt8 := dkwX4_isDone_0 ++ dktX4_isDone_1
theorem dksX4_isDone_0 : cX4_isDone.data.toList.drop 0 = dktX4_isDone_0 := by decide +kernel
theorem dksX4_isDone_1 : cX4_isDone.data.toList.drop 15 = dktX4_isDone_1 := dk_seg dksX4_isDone_0 15 rfl rfl
theorem dksX4_isDone_2 : cX4_isDone.data.toList.drop 48 = dktX4_isDone_2 := dk_seg dksX4_isDone_1 33 rfl rfl
theorem dksX4_isDone_3 : cX4_isDone.data.toList.drop 70 = dktX4_isDone_3 := dk_seg dksX4_isDone_2 22 rfl rfl
theorem dksX4_isDone_4 : cX4_isDone.data.toList.drop 92 = dktX4_isDone_4 := dk_seg dksX4_isDone_3 22 rfl rfl
theorem dksX4_isDone_5 : cX4_isDone.data.toList.drop 116 = dktX4_isDone_5 := dk_seg dksX4_isDone_4 24 rfl rfl
theorem dksX4_isDone_6 : cX4_isDone.data.toList.drop 140 = dktX4_isDone_6 := dk_seg dksX4_isDone_5 24 rfl rfl
theorem dksX4_isDone_7 : cX4_isDone.data.toList.drop 163 = dktX4_isDone_7 := dk_seg dksX4_isDone_6 23 rfl rfl
theorem dksX4_isDone_8 : cX4_isDone.data.toList.drop 187 = dktX4_isDone_8 := dk_seg dksX4_isDone_7 24 rfl rfl
theorem dksX4_isDone_9 : cX4_isDone.data.toList.drop 211 = dktX4_isDone_9 := dk_seg dksX4_isDone_8 24 rfl rfl
theorem dX4_isDone_0 : decode cX4_isDone 0 = .ok (.aload_n 0, 1) := dk_42 (dk_at dksX4_isDone_0 0 rfl rfl)
theorem dX4_isDone_1 : decode cX4_isDone 1 = .ok (.getfield 23, 3) := dk_180 0 23 (dk_at dksX4_isDone_0 1 rfl rfl)
theorem dX4_isDone_4 : decode cX4_isDone 4 = .ok (.iconst 0, 1) := dk_3 (dk_at dksX4_isDone_0 4 rfl rfl)
theorem dX4_isDone_5 : decode cX4_isDone 5 = .ok (.iaload, 1) := dk_46 (dk_at dksX4_isDone_0 5 rfl rfl)
theorem dX4_isDone_6 : decode cX4_isDone 6 = .ok (.istore_n 2, 1) := dk_61 (dk_at dksX4_isDone_0 6 rfl rfl)
theorem dX4_isDone_7 : decode cX4_isDone 7 = .ok (.aload_n 0, 1) := dk_42 (dk_at dksX4_isDone_0 7 rfl rfl)
theorem dX4_isDone_8 : decode cX4_isDone 8 = .ok (.getfield 23, 3) := dk_180 0 23 (dk_at dksX4_isDone_0 8 rfl rfl)
theorem dX4_isDone_11 : decode cX4_isDone 11 = .ok (.iconst 1, 1) := dk_4 (dk_at dksX4_isDone_0 11 rfl rfl)
theorem dX4_isDone_12 : decode cX4_isDone 12 = .ok (.iaload, 1) := dk_46 (dk_at dksX4_isDone_0 12 rfl rfl)
theorem dX4_isDone_13 : decode cX4_isDone 13 = .ok (.istore_n 3, 1) := dk_62 (dk_at dksX4_isDone_0 13 rfl rfl)
theorem dX4_isDone_14 : decode cX4_isDone 14 = .ok (.iload_n 1, 1) := dk_27 (dk_at dksX4_isDone_0 14 rfl rfl)
theorem dX4_isDone_15 : decode cX4_isDone 15 = .ok (.lookupswitch 127 #[(98, 33), (107, 100), (116, 74)], 33) := by decide +kernel
theorem dX4_isDone_48 : decode cX4_isDone 48 = .ok (.iload_n 2, 1) := dk_28 (dk_at dksX4_isDone_2 0 rfl rfl)
theorem dX4_isDone_49 : decode cX4_isDone 49 = .ok (.iload_n 3, 1) := dk_29 (dk_at dksX4_isDone_2 1 rfl rfl)
theorem dX4_isDone_50 : decode cX4_isDone 50 = .ok (.aload_n 0, 1) := dk_42 (dk_at dksX4_isDone_2 2 rfl rfl)
theorem dX4_isDone_51 : decode cX4_isDone 51 = .ok (.getfield 23, 3) := dk_180 0 23 (dk_at dksX4_isDone_2 3 rfl rfl)
theorem dX4_isDone_54 : decode cX4_isDone 54 = .ok (.iconst 2, 1) := dk_5 (dk_at dksX4_isDone_2 6 rfl rfl)
theorem dX4_isDone_55 : decode cX4_isDone 55 = .ok (.iaload, 1) := dk_46 (dk_at dksX4_isDone_2 7 rfl rfl)
theorem dX4_isDone_56 : decode cX4_isDone 56 = .ok (.invokestatic 134, 3) := dk_184 0 134 (dk_at dksX4_isDone_2 8 rfl rfl)
theorem dX4_isDone_59 : decode cX4_isDone 59 = .ok (.ifCond .eq 14, 3) := dk_153 0 14 (dk_at dksX4_isDone_2 11 rfl rfl)
theorem dX4_isDone_62 : decode cX4_isDone 62 = .ok (.aload_n 0, 1) := dk_42 (dk_at dksX4_isDone_2 14 rfl rfl)
theorem dX4_isDone_63 : decode cX4_isDone 63 = .ok (.getfield 9, 3) := dk_180 0 9 (dk_at dksX4_isDone_2 15 rfl rfl)
theorem dX4_isDone_66 : decode cX4_isDone 66 = .ok (.iconst 0, 1) := dk_3 (dk_at dksX4_isDone_2 18 rfl rfl)
theorem dX4_isDone_67 : decode cX4_isDone 67 = .ok (.iaload, 1) := dk_46 (dk_at dksX4_isDone_2 19 rfl rfl)
theorem dX4_isDone_68 : decode cX4_isDone 68 = .ok (.bipush 6, 2) := dk_16 6 (dk_at dksX4_isDone_2 20 rfl rfl)
theorem dX4_isDone_70 : decode cX4_isDone 70 = .ok (.if_icmp .ne 5, 3) := dk_160 0 5 (dk_at dksX4_isDone_3 0 rfl rfl)
theorem dX4_isDone_73 : decode cX4_isDone 73 = .ok (.iconst 0, 1) := dk_3 (dk_at dksX4_isDone_3 3 rfl rfl)
theorem dX4_isDone_74 : decode cX4_isDone 74 = .ok (.ireturn, 1) := dk_172 (dk_at dksX4_isDone_3 4 rfl rfl)
theorem dX4_isDone_75 : decode cX4_isDone 75 = .ok (.aload_n 0, 1) := dk_42 (dk_at dksX4_isDone_3 5 rfl rfl)
theorem dX4_isDone_76 : decode cX4_isDone 76 = .ok (.iload_n 2, 1) := dk_28 (dk_at dksX4_isDone_3 6 rfl rfl)
theorem dX4_isDone_77 : decode cX4_isDone 77 = .ok (.iload_n 3, 1) := dk_29 (dk_at dksX4_isDone_3 7 rfl rfl)
theorem dX4_isDone_78 : decode cX4_isDone 78 = .ok (.aload_n 0, 1) := dk_42 (dk_at dksX4_isDone_3 8 rfl rfl)
theorem dX4_isDone_79 : decode cX4_isDone 79 = .ok (.getfield 23, 3) := dk_180 0 23 (dk_at dksX4_isDone_3 9 rfl rfl)
theorem dX4_isDone_82 : decode cX4_isDone 82 = .ok (.iconst 2, 1) := dk_5 (dk_at dksX4_isDone_3 12 rfl rfl)
theorem dX4_isDone_83 : decode cX4_isDone 83 = .ok (.iaload, 1) := dk_46 (dk_at dksX4_isDone_3 13 rfl rfl)
theorem dX4_isDone_84 : decode cX4_isDone 84 = .ok (.invokevirtual 137, 3) := dk_182 0 137 (dk_at dksX4_isDone_3 14 rfl rfl)
theorem dX4_isDone_87 : decode cX4_isDone 87 = .ok (.iconst 1, 1) := dk_4 (dk_at dksX4_isDone_3 17 rfl rfl)
theorem dX4_isDone_88 : decode cX4_isDone 88 = .ok (.ireturn, 1) := dk_172 (dk_at dksX4_isDone_3 18 rfl rfl)
theorem dX4_isDone_89 : decode cX4_isDone 89 = .ok (.iload_n 3, 1) := dk_29 (dk_at dksX4_isDone_3 19 rfl rfl)
theorem dX4_isDone_90 : decode cX4_isDone 90 = .ok (.bipush 60, 2) := dk_16 60 (dk_at dksX4_isDone_3 20 rfl rfl)
theorem dX4_isDone_92 : decode cX4_isDone 92 = .ok (.if_icmp .gt 13, 3) := dk_163 0 13 (dk_at dksX4_isDone_4 0 rfl rfl)
theorem dX4_isDone_95 : decode cX4_isDone 95 = .ok (.aload_n 0, 1) := dk_42 (dk_at dksX4_isDone_4 3 rfl rfl)
theorem dX4_isDone_96 : decode cX4_isDone 96 = .ok (.getfield 9, 3) := dk_180 0 9 (dk_at dksX4_isDone_4 4 rfl rfl)
theorem dX4_isDone_99 : decode cX4_isDone 99 = .ok (.iconst 1, 1) := dk_4 (dk_at dksX4_isDone_4 7 rfl rfl)
theorem dX4_isDone_100 : decode cX4_isDone 100 = .ok (.iaload, 1) := dk_46 (dk_at dksX4_isDone_4 8 rfl rfl)
theorem dX4_isDone_101 : decode cX4_isDone 101 = .ok (.iconst 4, 1) := dk_7 (dk_at dksX4_isDone_4 9 rfl rfl)
theorem dX4_isDone_102 : decode cX4_isDone 102 = .ok (.if_icmp .ne 5, 3) := dk_160 0 5 (dk_at dksX4_isDone_4 10 rfl rfl)
theorem dX4_isDone_105 : decode cX4_isDone 105 = .ok (.iconst 0, 1) := dk_3 (dk_at dksX4_isDone_4 13 rfl rfl)
theorem dX4_isDone_106 : decode cX4_isDone 106 = .ok (.ireturn, 1) := dk_172 (dk_at dksX4_isDone_4 14 rfl rfl)
theorem dX4_isDone_107 : decode cX4_isDone 107 = .ok (.aload_n 0, 1) := dk_42 (dk_at dksX4_isDone_4 15 rfl rfl)
theorem dX4_isDone_108 : decode cX4_isDone 108 = .ok (.iload_n 2, 1) := dk_28 (dk_at dksX4_isDone_4 16 rfl rfl)
theorem dX4_isDone_109 : decode cX4_isDone 109 = .ok (.iload_n 3, 1) := dk_29 (dk_at dksX4_isDone_4 17 rfl rfl)
theorem dX4_isDone_110 : decode cX4_isDone 110 = .ok (.invokevirtual 141, 3) := dk_182 0 141 (dk_at dksX4_isDone_4 18 rfl rfl)
theorem dX4_isDone_113 : decode cX4_isDone 113 = .ok (.iconst 1, 1) := dk_4 (dk_at dksX4_isDone_4 21 rfl rfl)
theorem dX4_isDone_114 : decode cX4_isDone 114 = .ok (.ireturn, 1) := dk_172 (dk_at dksX4_isDone_4 22 rfl rfl)
theorem dX4_isDone_115 : decode cX4_isDone 115 = .ok (.iload_n 2, 1) := dk_28 (dk_at dksX4_isDone_4 23 rfl rfl)
theorem dX4_isDone_116 : decode cX4_isDone 116 = .ok (.bipush 8, 2) := dk_16 8 (dk_at dksX4_isDone_5 0 rfl rfl)
theorem dX4_isDone_118 : decode cX4_isDone 118 = .ok (.if_icmp .ge 14, 3) := dk_162 0 14 (dk_at dksX4_isDone_5 2 rfl rfl)
theorem dX4_isDone_121 : decode cX4_isDone 121 = .ok (.aload_n 0, 1) := dk_42 (dk_at dksX4_isDone_5 5 rfl rfl)
theorem dX4_isDone_122 : decode cX4_isDone 122 = .ok (.getfield 9, 3) := dk_180 0 9 (dk_at dksX4_isDone_5 6 rfl rfl)
theorem dX4_isDone_125 : decode cX4_isDone 125 = .ok (.iconst 2, 1) := dk_5 (dk_at dksX4_isDone_5 9 rfl rfl)
theorem dX4_isDone_126 : decode cX4_isDone 126 = .ok (.iaload, 1) := dk_46 (dk_at dksX4_isDone_5 10 rfl rfl)
theorem dX4_isDone_127 : decode cX4_isDone 127 = .ok (.bipush 6, 2) := dk_16 6 (dk_at dksX4_isDone_5 11 rfl rfl)
theorem dX4_isDone_129 : decode cX4_isDone 129 = .ok (.if_icmp .ne 5, 3) := dk_160 0 5 (dk_at dksX4_isDone_5 13 rfl rfl)
theorem dX4_isDone_132 : decode cX4_isDone 132 = .ok (.iconst 0, 1) := dk_3 (dk_at dksX4_isDone_5 16 rfl rfl)
theorem dX4_isDone_133 : decode cX4_isDone 133 = .ok (.ireturn, 1) := dk_172 (dk_at dksX4_isDone_5 17 rfl rfl)
theorem dX4_isDone_134 : decode cX4_isDone 134 = .ok (.aload_n 0, 1) := dk_42 (dk_at dksX4_isDone_5 18 rfl rfl)
theorem dX4_isDone_135 : decode cX4_isDone 135 = .ok (.iload_n 2, 1) := dk_28 (dk_at dksX4_isDone_5 19 rfl rfl)
theorem dX4_isDone_136 : decode cX4_isDone 136 = .ok (.iload_n 3, 1) := dk_29 (dk_at dksX4_isDone_5 20 rfl rfl)
theorem dX4_isDone_137 : decode cX4_isDone 137 = .ok (.invokevirtual 145, 3) := dk_182 0 145 (dk_at dksX4_isDone_5 21 rfl rfl)
theorem dX4_isDone_140 : decode cX4_isDone 140 = .ok (.iconst 1, 1) := dk_4 (dk_at dksX4_isDone_6 0 rfl rfl)
theorem dX4_isDone_141 : decode cX4_isDone 141 = .ok (.ireturn, 1) := dk_172 (dk_at dksX4_isDone_6 1 rfl rfl)
theorem dX4_isDone_142 : decode cX4_isDone 142 = .ok (.aload_n 0, 1) := dk_42 (dk_at dksX4_isDone_6 2 rfl rfl)
theorem dX4_isDone_143 : decode cX4_isDone 143 = .ok (.iload_n 2, 1) := dk_28 (dk_at dksX4_isDone_6 3 rfl rfl)
theorem dX4_isDone_144 : decode cX4_isDone 144 = .ok (.iload_n 3, 1) := dk_29 (dk_at dksX4_isDone_6 4 rfl rfl)
theorem dX4_isDone_145 : decode cX4_isDone 145 = .ok (.aload_n 0, 1) := dk_42 (dk_at dksX4_isDone_6 5 rfl rfl)
theorem dX4_isDone_146 : decode cX4_isDone 146 = .ok (.getfield 23, 3) := dk_180 0 23 (dk_at dksX4_isDone_6 6 rfl rfl)
theorem dX4_isDone_149 : decode cX4_isDone 149 = .ok (.iconst 2, 1) := dk_5 (dk_at dksX4_isDone_6 9 rfl rfl)
theorem dX4_isDone_150 : decode cX4_isDone 150 = .ok (.iaload, 1) := dk_46 (dk_at dksX4_isDone_6 10 rfl rfl)
theorem dX4_isDone_151 : decode cX4_isDone 151 = .ok (.invokevirtual 148, 3) := dk_182 0 148 (dk_at dksX4_isDone_6 11 rfl rfl)
theorem dX4_isDone_154 : decode cX4_isDone 154 = .ok (.ifCond .eq 33, 3) := dk_153 0 33 (dk_at dksX4_isDone_6 14 rfl rfl)
theorem dX4_isDone_157 : decode cX4_isDone 157 = .ok (.aload_n 0, 1) := dk_42 (dk_at dksX4_isDone_6 17 rfl rfl)
theorem dX4_isDone_158 : decode cX4_isDone 158 = .ok (.getfield 23, 3) := dk_180 0 23 (dk_at dksX4_isDone_6 18 rfl rfl)
theorem dX4_isDone_161 : decode cX4_isDone 161 = .ok (.iconst 3, 1) := dk_6 (dk_at dksX4_isDone_6 21 rfl rfl)
theorem dX4_isDone_162 : decode cX4_isDone 162 = .ok (.iaload, 1) := dk_46 (dk_at dksX4_isDone_6 22 rfl rfl)
theorem dX4_isDone_163 : decode cX4_isDone 163 = .ok (.bipush 60, 2) := dk_16 60 (dk_at dksX4_isDone_7 0 rfl rfl)
theorem dX4_isDone_165 : decode cX4_isDone 165 = .ok (.if_icmp .gt 22, 3) := dk_163 0 22 (dk_at dksX4_isDone_7 2 rfl rfl)
theorem dX4_isDone_168 : decode cX4_isDone 168 = .ok (.aload_n 0, 1) := dk_42 (dk_at dksX4_isDone_7 5 rfl rfl)
theorem dX4_isDone_169 : decode cX4_isDone 169 = .ok (.getfield 23, 3) := dk_180 0 23 (dk_at dksX4_isDone_7 6 rfl rfl)
theorem dX4_isDone_172 : decode cX4_isDone 172 = .ok (.iconst 4, 1) := dk_7 (dk_at dksX4_isDone_7 9 rfl rfl)
theorem dX4_isDone_173 : decode cX4_isDone 173 = .ok (.iaload, 1) := dk_46 (dk_at dksX4_isDone_7 10 rfl rfl)
theorem dX4_isDone_174 : decode cX4_isDone 174 = .ok (.bipush 60, 2) := dk_16 60 (dk_at dksX4_isDone_7 11 rfl rfl)
theorem dX4_isDone_176 : decode cX4_isDone 176 = .ok (.if_icmp .gt 11, 3) := dk_163 0 11 (dk_at dksX4_isDone_7 13 rfl rfl)
theorem dX4_isDone_179 : decode cX4_isDone 179 = .ok (.aload_n 0, 1) := dk_42 (dk_at dksX4_isDone_7 16 rfl rfl)
theorem dX4_isDone_180 : decode cX4_isDone 180 = .ok (.iload_n 2, 1) := dk_28 (dk_at dksX4_isDone_7 17 rfl rfl)
theorem dX4_isDone_181 : decode cX4_isDone 181 = .ok (.invokevirtual 151, 3) := dk_182 0 151 (dk_at dksX4_isDone_7 18 rfl rfl)
theorem dX4_isDone_184 : decode cX4_isDone 184 = .ok (.ifCond .eq 5, 3) := dk_153 0 5 (dk_at dksX4_isDone_7 21 rfl rfl)
theorem dX4_isDone_187 : decode cX4_isDone 187 = .ok (.iconst 0, 1) := dk_3 (dk_at dksX4_isDone_8 0 rfl rfl)
theorem dX4_isDone_188 : decode cX4_isDone 188 = .ok (.ireturn, 1) := dk_172 (dk_at dksX4_isDone_8 1 rfl rfl)
theorem dX4_isDone_189 : decode cX4_isDone 189 = .ok (.aload_n 0, 1) := dk_42 (dk_at dksX4_isDone_8 2 rfl rfl)
theorem dX4_isDone_190 : decode cX4_isDone 190 = .ok (.getfield 9, 3) := dk_180 0 9 (dk_at dksX4_isDone_8 3 rfl rfl)
theorem dX4_isDone_193 : decode cX4_isDone 193 = .ok (.iload_n 2, 1) := dk_28 (dk_at dksX4_isDone_8 6 rfl rfl)
theorem dX4_isDone_194 : decode cX4_isDone 194 = .ok (.iconst 3, 1) := dk_6 (dk_at dksX4_isDone_8 7 rfl rfl)
theorem dX4_isDone_195 : decode cX4_isDone 195 = .ok (.invokestatic 51, 3) := dk_184 0 51 (dk_at dksX4_isDone_8 8 rfl rfl)
theorem dX4_isDone_198 : decode cX4_isDone 198 = .ok (.dup2, 1) := dk_92 (dk_at dksX4_isDone_8 11 rfl rfl)
theorem dX4_isDone_199 : decode cX4_isDone 199 = .ok (.iaload, 1) := dk_46 (dk_at dksX4_isDone_8 12 rfl rfl)
theorem dX4_isDone_200 : decode cX4_isDone 200 = .ok (.aload_n 0, 1) := dk_42 (dk_at dksX4_isDone_8 13 rfl rfl)
theorem dX4_isDone_201 : decode cX4_isDone 201 = .ok (.aload_n 0, 1) := dk_42 (dk_at dksX4_isDone_8 14 rfl rfl)
theorem dX4_isDone_202 : decode cX4_isDone 202 = .ok (.getfield 23, 3) := dk_180 0 23 (dk_at dksX4_isDone_8 15 rfl rfl)
theorem dX4_isDone_205 : decode cX4_isDone 205 = .ok (.iconst 2, 1) := dk_5 (dk_at dksX4_isDone_8 18 rfl rfl)
theorem dX4_isDone_206 : decode cX4_isDone 206 = .ok (.iaload, 1) := dk_46 (dk_at dksX4_isDone_8 19 rfl rfl)
theorem dX4_isDone_207 : decode cX4_isDone 207 = .ok (.aload_n 0, 1) := dk_42 (dk_at dksX4_isDone_8 20 rfl rfl)
theorem dX4_isDone_208 : decode cX4_isDone 208 = .ok (.getfield 23, 3) := dk_180 0 23 (dk_at dksX4_isDone_8 21 rfl rfl)
theorem dX4_isDone_211 : decode cX4_isDone 211 = .ok (.iconst 4, 1) := dk_7 (dk_at dksX4_isDone_9 0 rfl rfl)
theorem dX4_isDone_212 : decode cX4_isDone 212 = .ok (.iaload, 1) := dk_46 (dk_at dksX4_isDone_9 1 rfl rfl)
theorem dX4_isDone_213 : decode cX4_isDone 213 = .ok (.invokevirtual 154, 3) := dk_182 0 154 (dk_at dksX4_isDone_9 2 rfl rfl)
theorem dX4_isDone_216 : decode cX4_isDone 216 = .ok (.iadd, 1) := dk_96 (dk_at dksX4_isDone_9 5 rfl rfl)
theorem dX4_isDone_217 : decode cX4_isDone 217 = .ok (.iastore, 1) := dk_79 (dk_at dksX4_isDone_9 6 rfl rfl)
theorem dX4_isDone_218 : decode cX4_isDone 218 = .ok (.iconst 1, 1) := dk_4 (dk_at dksX4_isDone_9 7 rfl rfl)
theorem dX4_isDone_219 : decode cX4_isDone 219 = .ok (.ireturn, 1) := dk_172 (dk_at dksX4_isDone_9 8 rfl rfl)
abbrev cX4_isBladeLike : ByteArray := prog_22_method_34_code
def yX4_isBladeLike : MethodName := ⟨RX4, "isBladeLike", "(III)Z"⟩
def dkwX4_isBladeLike_1 : List UInt8 := [184, 0, 58, 153, 0, 7, 4, 167, 0, 4, 3, 172]
abbrev dktX4_isBladeLike_1 : List UInt8 := dkwX4_isBladeLike_1 ++ []
def dkwX4_isBladeLike_0 : List UInt8 := [26, 4, 16, 24, 184, 0, 58, 153, 0, 27, 27, 4, 16, 24, 184, 0, 58, 153, 0, 17, 28, 3, 16, 9]
abbrev dktX4_isBladeLike_0 : List UInt8 := dkwX4_isBladeLike_0 ++ dktX4_isBladeLike_1
theorem dksX4_isBladeLike_0 : cX4_isBladeLike.data.toList.drop 0 = dktX4_isBladeLike_0 := by decide +kernel
theorem dksX4_isBladeLike_1 : cX4_isBladeLike.data.toList.drop 24 = dktX4_isBladeLike_1 := dk_seg dksX4_isBladeLike_0 24 rfl rfl
theorem dX4_isBladeLike_0 : decode cX4_isBladeLike 0 = .ok (.iload_n 0, 1) := dk_26 (dk_at dksX4_isBladeLike_0 0 rfl rfl)
theorem dX4_isBladeLike_1 : decode cX4_isBladeLike 1 = .ok (.iconst 1, 1) := dk_4 (dk_at dksX4_isBladeLike_0 1 rfl rfl)
theorem dX4_isBladeLike_2 : decode cX4_isBladeLike 2 = .ok (.bipush 24, 2) := dk_16 24 (dk_at dksX4_isBladeLike_0 2 rfl rfl)
theorem dX4_isBladeLike_4 : decode cX4_isBladeLike 4 = .ok (.invokestatic 58, 3) := dk_184 0 58 (dk_at dksX4_isBladeLike_0 4 rfl rfl)
theorem dX4_isBladeLike_7 : decode cX4_isBladeLike 7 = .ok (.ifCond .eq 27, 3) := dk_153 0 27 (dk_at dksX4_isBladeLike_0 7 rfl rfl)
theorem dX4_isBladeLike_10 : decode cX4_isBladeLike 10 = .ok (.iload_n 1, 1) := dk_27 (dk_at dksX4_isBladeLike_0 10 rfl rfl)
theorem dX4_isBladeLike_11 : decode cX4_isBladeLike 11 = .ok (.iconst 1, 1) := dk_4 (dk_at dksX4_isBladeLike_0 11 rfl rfl)
theorem dX4_isBladeLike_12 : decode cX4_isBladeLike 12 = .ok (.bipush 24, 2) := dk_16 24 (dk_at dksX4_isBladeLike_0 12 rfl rfl)
theorem dX4_isBladeLike_14 : decode cX4_isBladeLike 14 = .ok (.invokestatic 58, 3) := dk_184 0 58 (dk_at dksX4_isBladeLike_0 14 rfl rfl)
theorem dX4_isBladeLike_17 : decode cX4_isBladeLike 17 = .ok (.ifCond .eq 17, 3) := dk_153 0 17 (dk_at dksX4_isBladeLike_0 17 rfl rfl)
theorem dX4_isBladeLike_20 : decode cX4_isBladeLike 20 = .ok (.iload_n 2, 1) := dk_28 (dk_at dksX4_isBladeLike_0 20 rfl rfl)
theorem dX4_isBladeLike_21 : decode cX4_isBladeLike 21 = .ok (.iconst 0, 1) := dk_3 (dk_at dksX4_isBladeLike_0 21 rfl rfl)
theorem dX4_isBladeLike_22 : decode cX4_isBladeLike 22 = .ok (.bipush 9, 2) := dk_16 9 (dk_at dksX4_isBladeLike_0 22 rfl rfl)
theorem dX4_isBladeLike_24 : decode cX4_isBladeLike 24 = .ok (.invokestatic 58, 3) := dk_184 0 58 (dk_at dksX4_isBladeLike_1 0 rfl rfl)
theorem dX4_isBladeLike_27 : decode cX4_isBladeLike 27 = .ok (.ifCond .eq 7, 3) := dk_153 0 7 (dk_at dksX4_isBladeLike_1 3 rfl rfl)
theorem dX4_isBladeLike_30 : decode cX4_isBladeLike 30 = .ok (.iconst 1, 1) := dk_4 (dk_at dksX4_isBladeLike_1 6 rfl rfl)
theorem dX4_isBladeLike_31 : decode cX4_isBladeLike 31 = .ok (.goto 4, 3) := dk_167 0 4 (dk_at dksX4_isBladeLike_1 7 rfl rfl)
theorem dX4_isBladeLike_34 : decode cX4_isBladeLike 34 = .ok (.iconst 0, 1) := dk_3 (dk_at dksX4_isBladeLike_1 10 rfl rfl)
theorem dX4_isBladeLike_35 : decode cX4_isBladeLike 35 = .ok (.ireturn, 1) := dk_172 (dk_at dksX4_isBladeLike_1 11 rfl rfl)
abbrev cX4_addsBlade : ByteArray := prog_22_method_33_code
def yX4_addsBlade : MethodName := ⟨RX4, "addsBlade", "(III)V"⟩
def dkwX4_addsBlade_3 : List UInt8 := [96, 79, 177]
abbrev dktX4_addsBlade_3 : List UInt8 := dkwX4_addsBlade_3 ++ []
def dkwX4_addsBlade_2 : List UInt8 := [42, 180, 0, 9, 42, 180, 0, 9, 3, 46, 6, 184, 0, 51, 3, 79, 42, 180, 0, 9, 3, 92, 46, 4]
abbrev dktX4_addsBlade_2 : List UInt8 := dkwX4_addsBlade_2 ++ dktX4_addsBlade_3
def dkwX4_addsBlade_1 : List UInt8 := [3, 46, 4, 184, 0, 51, 28, 79, 42, 180, 0, 9, 42, 180, 0, 9, 3, 46, 5, 184, 0, 51, 29, 79]
abbrev dktX4_addsBlade_1 : List UInt8 := dkwX4_addsBlade_1 ++ dktX4_addsBlade_2
def dkwX4_addsBlade_0 : List UInt8 := [42, 180, 0, 9, 42, 180, 0, 9, 3, 46, 3, 184, 0, 51, 27, 79, 42, 180, 0, 9, 42, 180, 0, 9]
abbrev dktX4_addsBlade_0 : List UInt8 := dkwX4_addsBlade_0 ++ dktX4_addsBlade_1
theorem dksX4_addsBlade_0 : cX4_addsBlade.data.toList.drop 0 = dktX4_addsBlade_0 := by decide +kernel
theorem dksX4_addsBlade_1 : cX4_addsBlade.data.toList.drop 24 = dktX4_addsBlade_1 := dk_seg dksX4_addsBlade_0 24 rfl rfl
theorem dksX4_addsBlade_2 : cX4_addsBlade.data.toList.drop 48 = dktX4_addsBlade_2 := dk_seg dksX4_addsBlade_1 24 rfl rfl
theorem dksX4_addsBlade_3 : cX4_addsBlade.data.toList.drop 72 = dktX4_addsBlade_3 := dk_seg dksX4_addsBlade_2 24 rfl rfl
theorem dX4_addsBlade_0 : decode cX4_addsBlade 0 = .ok (.aload_n 0, 1) := dk_42 (dk_at dksX4_addsBlade_0 0 rfl rfl)
theorem dX4_addsBlade_1 : decode cX4_addsBlade 1 = .ok (.getfield 9, 3) := dk_180 0 9 (dk_at dksX4_addsBlade_0 1 rfl rfl)
theorem dX4_addsBlade_4 : decode cX4_addsBlade 4 = .ok (.aload_n 0, 1) := dk_42 (dk_at dksX4_addsBlade_0 4 rfl rfl)
theorem dX4_addsBlade_5 : decode cX4_addsBlade 5 = .ok (.getfield 9, 3) := dk_180 0 9 (dk_at dksX4_addsBlade_0 5 rfl rfl)
theorem dX4_addsBlade_8 : decode cX4_addsBlade 8 = .ok (.iconst 0, 1) := dk_3 (dk_at dksX4_addsBlade_0 8 rfl rfl)
theorem dX4_addsBlade_9 : decode cX4_addsBlade 9 = .ok (.iaload, 1) := dk_46 (dk_at dksX4_addsBlade_0 9 rfl rfl)
theorem dX4_addsBlade_10 : decode cX4_addsBlade 10 = .ok (.iconst 0, 1) := dk_3 (dk_at dksX4_addsBlade_0 10 rfl rfl)
theorem dX4_addsBlade_11 : decode cX4_addsBlade 11 = .ok (.invokestatic 51, 3) := dk_184 0 51 (dk_at dksX4_addsBlade_0 11 rfl rfl)
theorem dX4_addsBlade_14 : decode cX4_addsBlade 14 = .ok (.iload_n 1, 1) := dk_27 (dk_at dksX4_addsBlade_0 14 rfl rfl)
theorem dX4_addsBlade_15 : decode cX4_addsBlade 15 = .ok (.iastore, 1) := dk_79 (dk_at dksX4_addsBlade_0 15 rfl rfl)
theorem dX4_addsBlade_16 : decode cX4_addsBlade 16 = .ok (.aload_n 0, 1) := dk_42 (dk_at dksX4_addsBlade_0 16 rfl rfl)
theorem dX4_addsBlade_17 : decode cX4_addsBlade 17 = .ok (.getfield 9, 3) := dk_180 0 9 (dk_at dksX4_addsBlade_0 17 rfl rfl)
theorem dX4_addsBlade_20 : decode cX4_addsBlade 20 = .ok (.aload_n 0, 1) := dk_42 (dk_at dksX4_addsBlade_0 20 rfl rfl)
theorem dX4_addsBlade_21 : decode cX4_addsBlade 21 = .ok (.getfield 9, 3) := dk_180 0 9 (dk_at dksX4_addsBlade_0 21 rfl rfl)
theorem dX4_addsBlade_24 : decode cX4_addsBlade 24 = .ok (.iconst 0, 1) := dk_3 (dk_at dksX4_addsBlade_1 0 rfl rfl)
theorem dX4_addsBlade_25 : decode cX4_addsBlade 25 = .ok (.iaload, 1) := dk_46 (dk_at dksX4_addsBlade_1 1 rfl rfl)
theorem dX4_addsBlade_26 : decode cX4_addsBlade 26 = .ok (.iconst 1, 1) := dk_4 (dk_at dksX4_addsBlade_1 2 rfl rfl)
theorem dX4_addsBlade_27 : decode cX4_addsBlade 27 = .ok (.invokestatic 51, 3) := dk_184 0 51 (dk_at dksX4_addsBlade_1 3 rfl rfl)
theorem dX4_addsBlade_30 : decode cX4_addsBlade 30 = .ok (.iload_n 2, 1) := dk_28 (dk_at dksX4_addsBlade_1 6 rfl rfl)
theorem dX4_addsBlade_31 : decode cX4_addsBlade 31 = .ok (.iastore, 1) := dk_79 (dk_at dksX4_addsBlade_1 7 rfl rfl)
theorem dX4_addsBlade_32 : decode cX4_addsBlade 32 = .ok (.aload_n 0, 1) := dk_42 (dk_at dksX4_addsBlade_1 8 rfl rfl)
theorem dX4_addsBlade_33 : decode cX4_addsBlade 33 = .ok (.getfield 9, 3) := dk_180 0 9 (dk_at dksX4_addsBlade_1 9 rfl rfl)
theorem dX4_addsBlade_36 : decode cX4_addsBlade 36 = .ok (.aload_n 0, 1) := dk_42 (dk_at dksX4_addsBlade_1 12 rfl rfl)
theorem dX4_addsBlade_37 : decode cX4_addsBlade 37 = .ok (.getfield 9, 3) := dk_180 0 9 (dk_at dksX4_addsBlade_1 13 rfl rfl)
theorem dX4_addsBlade_40 : decode cX4_addsBlade 40 = .ok (.iconst 0, 1) := dk_3 (dk_at dksX4_addsBlade_1 16 rfl rfl)
theorem dX4_addsBlade_41 : decode cX4_addsBlade 41 = .ok (.iaload, 1) := dk_46 (dk_at dksX4_addsBlade_1 17 rfl rfl)
theorem dX4_addsBlade_42 : decode cX4_addsBlade 42 = .ok (.iconst 2, 1) := dk_5 (dk_at dksX4_addsBlade_1 18 rfl rfl)
theorem dX4_addsBlade_43 : decode cX4_addsBlade 43 = .ok (.invokestatic 51, 3) := dk_184 0 51 (dk_at dksX4_addsBlade_1 19 rfl rfl)
theorem dX4_addsBlade_46 : decode cX4_addsBlade 46 = .ok (.iload_n 3, 1) := dk_29 (dk_at dksX4_addsBlade_1 22 rfl rfl)
theorem dX4_addsBlade_47 : decode cX4_addsBlade 47 = .ok (.iastore, 1) := dk_79 (dk_at dksX4_addsBlade_1 23 rfl rfl)
theorem dX4_addsBlade_48 : decode cX4_addsBlade 48 = .ok (.aload_n 0, 1) := dk_42 (dk_at dksX4_addsBlade_2 0 rfl rfl)
theorem dX4_addsBlade_49 : decode cX4_addsBlade 49 = .ok (.getfield 9, 3) := dk_180 0 9 (dk_at dksX4_addsBlade_2 1 rfl rfl)
theorem dX4_addsBlade_52 : decode cX4_addsBlade 52 = .ok (.aload_n 0, 1) := dk_42 (dk_at dksX4_addsBlade_2 4 rfl rfl)
theorem dX4_addsBlade_53 : decode cX4_addsBlade 53 = .ok (.getfield 9, 3) := dk_180 0 9 (dk_at dksX4_addsBlade_2 5 rfl rfl)
theorem dX4_addsBlade_56 : decode cX4_addsBlade 56 = .ok (.iconst 0, 1) := dk_3 (dk_at dksX4_addsBlade_2 8 rfl rfl)
theorem dX4_addsBlade_57 : decode cX4_addsBlade 57 = .ok (.iaload, 1) := dk_46 (dk_at dksX4_addsBlade_2 9 rfl rfl)
theorem dX4_addsBlade_58 : decode cX4_addsBlade 58 = .ok (.iconst 3, 1) := dk_6 (dk_at dksX4_addsBlade_2 10 rfl rfl)
theorem dX4_addsBlade_59 : decode cX4_addsBlade 59 = .ok (.invokestatic 51, 3) := dk_184 0 51 (dk_at dksX4_addsBlade_2 11 rfl rfl)
theorem dX4_addsBlade_62 : decode cX4_addsBlade 62 = .ok (.iconst 0, 1) := dk_3 (dk_at dksX4_addsBlade_2 14 rfl rfl)
theorem dX4_addsBlade_63 : decode cX4_addsBlade 63 = .ok (.iastore, 1) := dk_79 (dk_at dksX4_addsBlade_2 15 rfl rfl)
theorem dX4_addsBlade_64 : decode cX4_addsBlade 64 = .ok (.aload_n 0, 1) := dk_42 (dk_at dksX4_addsBlade_2 16 rfl rfl)
theorem dX4_addsBlade_65 : decode cX4_addsBlade 65 = .ok (.getfield 9, 3) := dk_180 0 9 (dk_at dksX4_addsBlade_2 17 rfl rfl)
theorem dX4_addsBlade_68 : decode cX4_addsBlade 68 = .ok (.iconst 0, 1) := dk_3 (dk_at dksX4_addsBlade_2 20 rfl rfl)
theorem dX4_addsBlade_69 : decode cX4_addsBlade 69 = .ok (.dup2, 1) := dk_92 (dk_at dksX4_addsBlade_2 21 rfl rfl)
theorem dX4_addsBlade_70 : decode cX4_addsBlade 70 = .ok (.iaload, 1) := dk_46 (dk_at dksX4_addsBlade_2 22 rfl rfl)
theorem dX4_addsBlade_71 : decode cX4_addsBlade 71 = .ok (.iconst 1, 1) := dk_4 (dk_at dksX4_addsBlade_2 23 rfl rfl)
theorem dX4_addsBlade_72 : decode cX4_addsBlade 72 = .ok (.iadd, 1) := dk_96 (dk_at dksX4_addsBlade_3 0 rfl rfl)
theorem dX4_addsBlade_73 : decode cX4_addsBlade 73 = .ok (.iastore, 1) := dk_79 (dk_at dksX4_addsBlade_3 1 rfl rfl)
theorem dX4_addsBlade_74 : decode cX4_addsBlade 74 = .ok (.return_, 1) := dk_177 (dk_at dksX4_addsBlade_3 2 rfl rfl)
abbrev cX4_atBlade : ByteArray := prog_22_method_5_code
def yX4_atBlade : MethodName := ⟨RX4, "atBlade", "(II)I"⟩
def dkwX4_atBlade_0 : List UInt8 := [6, 7, 26, 104, 96, 27, 96, 172]
abbrev dktX4_atBlade_0 : List UInt8 := dkwX4_atBlade_0 ++ []
theorem dksX4_atBlade_0 : cX4_atBlade.data.toList.drop 0 = dktX4_atBlade_0 := by decide +kernel
theorem dX4_atBlade_0 : decode cX4_atBlade 0 = .ok (.iconst 3, 1) := dk_6 (dk_at dksX4_atBlade_0 0 rfl rfl)
theorem dX4_atBlade_1 : decode cX4_atBlade 1 = .ok (.iconst 4, 1) := dk_7 (dk_at dksX4_atBlade_0 1 rfl rfl)
theorem dX4_atBlade_2 : decode cX4_atBlade 2 = .ok (.iload_n 0, 1) := dk_26 (dk_at dksX4_atBlade_0 2 rfl rfl)
theorem dX4_atBlade_3 : decode cX4_atBlade 3 = .ok (.imul, 1) := dk_104 (dk_at dksX4_atBlade_0 3 rfl rfl)
theorem dX4_atBlade_4 : decode cX4_atBlade 4 = .ok (.iadd, 1) := dk_96 (dk_at dksX4_atBlade_0 4 rfl rfl)
theorem dX4_atBlade_5 : decode cX4_atBlade 5 = .ok (.iload_n 1, 1) := dk_27 (dk_at dksX4_atBlade_0 5 rfl rfl)
theorem dX4_atBlade_6 : decode cX4_atBlade 6 = .ok (.iadd, 1) := dk_96 (dk_at dksX4_atBlade_0 6 rfl rfl)
theorem dX4_atBlade_7 : decode cX4_atBlade 7 = .ok (.ireturn, 1) := dk_172 (dk_at dksX4_atBlade_0 7 rfl rfl)
abbrev cX4_addsThumbs : ByteArray := prog_22_method_35_code
def yX4_addsThumbs : MethodName := ⟨RX4, "addsThumbs", "(II)V"⟩
def dkwX4_addsThumbs_1 : List UInt8 := [4, 46, 4, 184, 0, 75, 28, 79, 42, 180, 0, 9, 4, 92, 46, 4, 96, 79, 177]
abbrev dktX4_addsThumbs_1 : List UInt8 := dkwX4_addsThumbs_1 ++ []
def dkwX4_addsThumbs_0 : List UInt8 := [42, 180, 0, 9, 42, 180, 0, 9, 4, 46, 3, 184, 0, 75, 27, 79, 42, 180, 0, 9, 42, 180, 0, 9]
abbrev dktX4_addsThumbs_0 : List UInt8 := dkwX4_addsThumbs_0 ++ dktX4_addsThumbs_1
theorem dksX4_addsThumbs_0 : cX4_addsThumbs.data.toList.drop 0 = dktX4_addsThumbs_0 := by decide +kernel
theorem dksX4_addsThumbs_1 : cX4_addsThumbs.data.toList.drop 24 = dktX4_addsThumbs_1 := dk_seg dksX4_addsThumbs_0 24 rfl rfl
theorem dX4_addsThumbs_0 : decode cX4_addsThumbs 0 = .ok (.aload_n 0, 1) := dk_42 (dk_at dksX4_addsThumbs_0 0 rfl rfl)
theorem dX4_addsThumbs_1 : decode cX4_addsThumbs 1 = .ok (.getfield 9, 3) := dk_180 0 9 (dk_at dksX4_addsThumbs_0 1 rfl rfl)
theorem dX4_addsThumbs_4 : decode cX4_addsThumbs 4 = .ok (.aload_n 0, 1) := dk_42 (dk_at dksX4_addsThumbs_0 4 rfl rfl)
theorem dX4_addsThumbs_5 : decode cX4_addsThumbs 5 = .ok (.getfield 9, 3) := dk_180 0 9 (dk_at dksX4_addsThumbs_0 5 rfl rfl)
theorem dX4_addsThumbs_8 : decode cX4_addsThumbs 8 = .ok (.iconst 1, 1) := dk_4 (dk_at dksX4_addsThumbs_0 8 rfl rfl)
theorem dX4_addsThumbs_9 : decode cX4_addsThumbs 9 = .ok (.iaload, 1) := dk_46 (dk_at dksX4_addsThumbs_0 9 rfl rfl)
theorem dX4_addsThumbs_10 : decode cX4_addsThumbs 10 = .ok (.iconst 0, 1) := dk_3 (dk_at dksX4_addsThumbs_0 10 rfl rfl)
theorem dX4_addsThumbs_11 : decode cX4_addsThumbs 11 = .ok (.invokestatic 75, 3) := dk_184 0 75 (dk_at dksX4_addsThumbs_0 11 rfl rfl)
theorem dX4_addsThumbs_14 : decode cX4_addsThumbs 14 = .ok (.iload_n 1, 1) := dk_27 (dk_at dksX4_addsThumbs_0 14 rfl rfl)
theorem dX4_addsThumbs_15 : decode cX4_addsThumbs 15 = .ok (.iastore, 1) := dk_79 (dk_at dksX4_addsThumbs_0 15 rfl rfl)
theorem dX4_addsThumbs_16 : decode cX4_addsThumbs 16 = .ok (.aload_n 0, 1) := dk_42 (dk_at dksX4_addsThumbs_0 16 rfl rfl)
theorem dX4_addsThumbs_17 : decode cX4_addsThumbs 17 = .ok (.getfield 9, 3) := dk_180 0 9 (dk_at dksX4_addsThumbs_0 17 rfl rfl)
theorem dX4_addsThumbs_20 : decode cX4_addsThumbs 20 = .ok (.aload_n 0, 1) := dk_42 (dk_at dksX4_addsThumbs_0 20 rfl rfl)
theorem dX4_addsThumbs_21 : decode cX4_addsThumbs 21 = .ok (.getfield 9, 3) := dk_180 0 9 (dk_at dksX4_addsThumbs_0 21 rfl rfl)
theorem dX4_addsThumbs_24 : decode cX4_addsThumbs 24 = .ok (.iconst 1, 1) := dk_4 (dk_at dksX4_addsThumbs_1 0 rfl rfl)
theorem dX4_addsThumbs_25 : decode cX4_addsThumbs 25 = .ok (.iaload, 1) := dk_46 (dk_at dksX4_addsThumbs_1 1 rfl rfl)
theorem dX4_addsThumbs_26 : decode cX4_addsThumbs 26 = .ok (.iconst 1, 1) := dk_4 (dk_at dksX4_addsThumbs_1 2 rfl rfl)
theorem dX4_addsThumbs_27 : decode cX4_addsThumbs 27 = .ok (.invokestatic 75, 3) := dk_184 0 75 (dk_at dksX4_addsThumbs_1 3 rfl rfl)
theorem dX4_addsThumbs_30 : decode cX4_addsThumbs 30 = .ok (.iload_n 2, 1) := dk_28 (dk_at dksX4_addsThumbs_1 6 rfl rfl)
theorem dX4_addsThumbs_31 : decode cX4_addsThumbs 31 = .ok (.iastore, 1) := dk_79 (dk_at dksX4_addsThumbs_1 7 rfl rfl)
theorem dX4_addsThumbs_32 : decode cX4_addsThumbs 32 = .ok (.aload_n 0, 1) := dk_42 (dk_at dksX4_addsThumbs_1 8 rfl rfl)
theorem dX4_addsThumbs_33 : decode cX4_addsThumbs 33 = .ok (.getfield 9, 3) := dk_180 0 9 (dk_at dksX4_addsThumbs_1 9 rfl rfl)
theorem dX4_addsThumbs_36 : decode cX4_addsThumbs 36 = .ok (.iconst 1, 1) := dk_4 (dk_at dksX4_addsThumbs_1 12 rfl rfl)
theorem dX4_addsThumbs_37 : decode cX4_addsThumbs 37 = .ok (.dup2, 1) := dk_92 (dk_at dksX4_addsThumbs_1 13 rfl rfl)
theorem dX4_addsThumbs_38 : decode cX4_addsThumbs 38 = .ok (.iaload, 1) := dk_46 (dk_at dksX4_addsThumbs_1 14 rfl rfl)
theorem dX4_addsThumbs_39 : decode cX4_addsThumbs 39 = .ok (.iconst 1, 1) := dk_4 (dk_at dksX4_addsThumbs_1 15 rfl rfl)
theorem dX4_addsThumbs_40 : decode cX4_addsThumbs 40 = .ok (.iadd, 1) := dk_96 (dk_at dksX4_addsThumbs_1 16 rfl rfl)
theorem dX4_addsThumbs_41 : decode cX4_addsThumbs 41 = .ok (.iastore, 1) := dk_79 (dk_at dksX4_addsThumbs_1 17 rfl rfl)
theorem dX4_addsThumbs_42 : decode cX4_addsThumbs 42 = .ok (.return_, 1) := dk_177 (dk_at dksX4_addsThumbs_1 18 rfl rfl)
abbrev cX4_atThumbs : ByteArray := prog_22_method_6_code
def yX4_atThumbs : MethodName := ⟨RX4, "atThumbs", "(II)I"⟩
def dkwX4_atThumbs_0 : List UInt8 := [16, 27, 5, 26, 104, 96, 27, 96, 172]
abbrev dktX4_atThumbs_0 : List UInt8 := dkwX4_atThumbs_0 ++ []
theorem dksX4_atThumbs_0 : cX4_atThumbs.data.toList.drop 0 = dktX4_atThumbs_0 := by decide +kernel
theorem dX4_atThumbs_0 : decode cX4_atThumbs 0 = .ok (.bipush 27, 2) := dk_16 27 (dk_at dksX4_atThumbs_0 0 rfl rfl)
theorem dX4_atThumbs_2 : decode cX4_atThumbs 2 = .ok (.iconst 2, 1) := dk_5 (dk_at dksX4_atThumbs_0 2 rfl rfl)
theorem dX4_atThumbs_3 : decode cX4_atThumbs 3 = .ok (.iload_n 0, 1) := dk_26 (dk_at dksX4_atThumbs_0 3 rfl rfl)
theorem dX4_atThumbs_4 : decode cX4_atThumbs 4 = .ok (.imul, 1) := dk_104 (dk_at dksX4_atThumbs_0 4 rfl rfl)
theorem dX4_atThumbs_5 : decode cX4_atThumbs 5 = .ok (.iadd, 1) := dk_96 (dk_at dksX4_atThumbs_0 5 rfl rfl)
theorem dX4_atThumbs_6 : decode cX4_atThumbs 6 = .ok (.iload_n 1, 1) := dk_27 (dk_at dksX4_atThumbs_0 6 rfl rfl)
theorem dX4_atThumbs_7 : decode cX4_atThumbs 7 = .ok (.iadd, 1) := dk_96 (dk_at dksX4_atThumbs_0 7 rfl rfl)
theorem dX4_atThumbs_8 : decode cX4_atThumbs 8 = .ok (.ireturn, 1) := dk_172 (dk_at dksX4_atThumbs_0 8 rfl rfl)
abbrev cX4_addsBlow : ByteArray := prog_22_method_36_code
def yX4_addsBlow : MethodName := ⟨RX4, "addsBlow", "(II)V"⟩
def dkwX4_addsBlow_1 : List UInt8 := [5, 46, 4, 184, 0, 55, 28, 79, 42, 180, 0, 9, 5, 92, 46, 4, 96, 79, 177]
abbrev dktX4_addsBlow_1 : List UInt8 := dkwX4_addsBlow_1 ++ []
def dkwX4_addsBlow_0 : List UInt8 := [42, 180, 0, 9, 42, 180, 0, 9, 5, 46, 3, 184, 0, 55, 27, 79, 42, 180, 0, 9, 42, 180, 0, 9]
abbrev dktX4_addsBlow_0 : List UInt8 := dkwX4_addsBlow_0 ++ dktX4_addsBlow_1
theorem dksX4_addsBlow_0 : cX4_addsBlow.data.toList.drop 0 = dktX4_addsBlow_0 := by decide +kernel
theorem dksX4_addsBlow_1 : cX4_addsBlow.data.toList.drop 24 = dktX4_addsBlow_1 := dk_seg dksX4_addsBlow_0 24 rfl rfl
theorem dX4_addsBlow_0 : decode cX4_addsBlow 0 = .ok (.aload_n 0, 1) := dk_42 (dk_at dksX4_addsBlow_0 0 rfl rfl)
theorem dX4_addsBlow_1 : decode cX4_addsBlow 1 = .ok (.getfield 9, 3) := dk_180 0 9 (dk_at dksX4_addsBlow_0 1 rfl rfl)
theorem dX4_addsBlow_4 : decode cX4_addsBlow 4 = .ok (.aload_n 0, 1) := dk_42 (dk_at dksX4_addsBlow_0 4 rfl rfl)
theorem dX4_addsBlow_5 : decode cX4_addsBlow 5 = .ok (.getfield 9, 3) := dk_180 0 9 (dk_at dksX4_addsBlow_0 5 rfl rfl)
theorem dX4_addsBlow_8 : decode cX4_addsBlow 8 = .ok (.iconst 2, 1) := dk_5 (dk_at dksX4_addsBlow_0 8 rfl rfl)
theorem dX4_addsBlow_9 : decode cX4_addsBlow 9 = .ok (.iaload, 1) := dk_46 (dk_at dksX4_addsBlow_0 9 rfl rfl)
theorem dX4_addsBlow_10 : decode cX4_addsBlow 10 = .ok (.iconst 0, 1) := dk_3 (dk_at dksX4_addsBlow_0 10 rfl rfl)
theorem dX4_addsBlow_11 : decode cX4_addsBlow 11 = .ok (.invokestatic 55, 3) := dk_184 0 55 (dk_at dksX4_addsBlow_0 11 rfl rfl)
theorem dX4_addsBlow_14 : decode cX4_addsBlow 14 = .ok (.iload_n 1, 1) := dk_27 (dk_at dksX4_addsBlow_0 14 rfl rfl)
theorem dX4_addsBlow_15 : decode cX4_addsBlow 15 = .ok (.iastore, 1) := dk_79 (dk_at dksX4_addsBlow_0 15 rfl rfl)
theorem dX4_addsBlow_16 : decode cX4_addsBlow 16 = .ok (.aload_n 0, 1) := dk_42 (dk_at dksX4_addsBlow_0 16 rfl rfl)
theorem dX4_addsBlow_17 : decode cX4_addsBlow 17 = .ok (.getfield 9, 3) := dk_180 0 9 (dk_at dksX4_addsBlow_0 17 rfl rfl)
theorem dX4_addsBlow_20 : decode cX4_addsBlow 20 = .ok (.aload_n 0, 1) := dk_42 (dk_at dksX4_addsBlow_0 20 rfl rfl)
theorem dX4_addsBlow_21 : decode cX4_addsBlow 21 = .ok (.getfield 9, 3) := dk_180 0 9 (dk_at dksX4_addsBlow_0 21 rfl rfl)
theorem dX4_addsBlow_24 : decode cX4_addsBlow 24 = .ok (.iconst 2, 1) := dk_5 (dk_at dksX4_addsBlow_1 0 rfl rfl)
theorem dX4_addsBlow_25 : decode cX4_addsBlow 25 = .ok (.iaload, 1) := dk_46 (dk_at dksX4_addsBlow_1 1 rfl rfl)
theorem dX4_addsBlow_26 : decode cX4_addsBlow 26 = .ok (.iconst 1, 1) := dk_4 (dk_at dksX4_addsBlow_1 2 rfl rfl)
theorem dX4_addsBlow_27 : decode cX4_addsBlow 27 = .ok (.invokestatic 55, 3) := dk_184 0 55 (dk_at dksX4_addsBlow_1 3 rfl rfl)
theorem dX4_addsBlow_30 : decode cX4_addsBlow 30 = .ok (.iload_n 2, 1) := dk_28 (dk_at dksX4_addsBlow_1 6 rfl rfl)
theorem dX4_addsBlow_31 : decode cX4_addsBlow 31 = .ok (.iastore, 1) := dk_79 (dk_at dksX4_addsBlow_1 7 rfl rfl)
theorem dX4_addsBlow_32 : decode cX4_addsBlow 32 = .ok (.aload_n 0, 1) := dk_42 (dk_at dksX4_addsBlow_1 8 rfl rfl)
theorem dX4_addsBlow_33 : decode cX4_addsBlow 33 = .ok (.getfield 9, 3) := dk_180 0 9 (dk_at dksX4_addsBlow_1 9 rfl rfl)
theorem dX4_addsBlow_36 : decode cX4_addsBlow 36 = .ok (.iconst 2, 1) := dk_5 (dk_at dksX4_addsBlow_1 12 rfl rfl)
theorem dX4_addsBlow_37 : decode cX4_addsBlow 37 = .ok (.dup2, 1) := dk_92 (dk_at dksX4_addsBlow_1 13 rfl rfl)
theorem dX4_addsBlow_38 : decode cX4_addsBlow 38 = .ok (.iaload, 1) := dk_46 (dk_at dksX4_addsBlow_1 14 rfl rfl)
theorem dX4_addsBlow_39 : decode cX4_addsBlow 39 = .ok (.iconst 1, 1) := dk_4 (dk_at dksX4_addsBlow_1 15 rfl rfl)
theorem dX4_addsBlow_40 : decode cX4_addsBlow 40 = .ok (.iadd, 1) := dk_96 (dk_at dksX4_addsBlow_1 16 rfl rfl)
theorem dX4_addsBlow_41 : decode cX4_addsBlow 41 = .ok (.iastore, 1) := dk_79 (dk_at dksX4_addsBlow_1 17 rfl rfl)
theorem dX4_addsBlow_42 : decode cX4_addsBlow 42 = .ok (.return_, 1) := dk_177 (dk_at dksX4_addsBlow_1 18 rfl rfl)
abbrev cX4_atBlow : ByteArray := prog_22_method_7_code
def yX4_atBlow : MethodName := ⟨RX4, "atBlow", "(II)I"⟩
def dkwX4_atBlow_0 : List UInt8 := [16, 35, 5, 26, 104, 96, 27, 96, 172]
abbrev dktX4_atBlow_0 : List UInt8 := dkwX4_atBlow_0 ++ []
theorem dksX4_atBlow_0 : cX4_atBlow.data.toList.drop 0 = dktX4_atBlow_0 := by decide +kernel
theorem dX4_atBlow_0 : decode cX4_atBlow 0 = .ok (.bipush 35, 2) := dk_16 35 (dk_at dksX4_atBlow_0 0 rfl rfl)
theorem dX4_atBlow_2 : decode cX4_atBlow 2 = .ok (.iconst 2, 1) := dk_5 (dk_at dksX4_atBlow_0 2 rfl rfl)
theorem dX4_atBlow_3 : decode cX4_atBlow 3 = .ok (.iload_n 0, 1) := dk_26 (dk_at dksX4_atBlow_0 3 rfl rfl)
theorem dX4_atBlow_4 : decode cX4_atBlow 4 = .ok (.imul, 1) := dk_104 (dk_at dksX4_atBlow_0 4 rfl rfl)
theorem dX4_atBlow_5 : decode cX4_atBlow 5 = .ok (.iadd, 1) := dk_96 (dk_at dksX4_atBlow_0 5 rfl rfl)
theorem dX4_atBlow_6 : decode cX4_atBlow 6 = .ok (.iload_n 1, 1) := dk_27 (dk_at dksX4_atBlow_0 6 rfl rfl)
theorem dX4_atBlow_7 : decode cX4_atBlow 7 = .ok (.iadd, 1) := dk_96 (dk_at dksX4_atBlow_0 7 rfl rfl)
theorem dX4_atBlow_8 : decode cX4_atBlow 8 = .ok (.ireturn, 1) := dk_172 (dk_at dksX4_atBlow_0 8 rfl rfl)
abbrev cX4_areAll : ByteArray := prog_22_method_14_code
def yX4_areAll : MethodName := ⟨RX4, "areAll", "(III)Z"⟩
def dkwX4_areAll_1 : List UInt8 := [4, 167, 0, 4, 3, 172]
abbrev dktX4_areAll_1 : List UInt8 := dkwX4_areAll_1 ++ []
def dkwX4_areAll_0 : List UInt8 := [42, 27, 182, 0, 62, 153, 0, 23, 42, 28, 182, 0, 66, 153, 0, 15, 42, 29, 182, 0, 69, 153, 0, 7]
abbrev dktX4_areAll_0 : List UInt8 := dkwX4_areAll_0 ++ dktX4_areAll_1
theorem dksX4_areAll_0 : cX4_areAll.data.toList.drop 0 = dktX4_areAll_0 := by decide +kernel
theorem dksX4_areAll_1 : cX4_areAll.data.toList.drop 24 = dktX4_areAll_1 := dk_seg dksX4_areAll_0 24 rfl rfl
theorem dX4_areAll_0 : decode cX4_areAll 0 = .ok (.aload_n 0, 1) := dk_42 (dk_at dksX4_areAll_0 0 rfl rfl)
theorem dX4_areAll_1 : decode cX4_areAll 1 = .ok (.iload_n 1, 1) := dk_27 (dk_at dksX4_areAll_0 1 rfl rfl)
theorem dX4_areAll_2 : decode cX4_areAll 2 = .ok (.invokevirtual 62, 3) := dk_182 0 62 (dk_at dksX4_areAll_0 2 rfl rfl)
theorem dX4_areAll_5 : decode cX4_areAll 5 = .ok (.ifCond .eq 23, 3) := dk_153 0 23 (dk_at dksX4_areAll_0 5 rfl rfl)
theorem dX4_areAll_8 : decode cX4_areAll 8 = .ok (.aload_n 0, 1) := dk_42 (dk_at dksX4_areAll_0 8 rfl rfl)
theorem dX4_areAll_9 : decode cX4_areAll 9 = .ok (.iload_n 2, 1) := dk_28 (dk_at dksX4_areAll_0 9 rfl rfl)
theorem dX4_areAll_10 : decode cX4_areAll 10 = .ok (.invokevirtual 66, 3) := dk_182 0 66 (dk_at dksX4_areAll_0 10 rfl rfl)
theorem dX4_areAll_13 : decode cX4_areAll 13 = .ok (.ifCond .eq 15, 3) := dk_153 0 15 (dk_at dksX4_areAll_0 13 rfl rfl)
theorem dX4_areAll_16 : decode cX4_areAll 16 = .ok (.aload_n 0, 1) := dk_42 (dk_at dksX4_areAll_0 16 rfl rfl)
theorem dX4_areAll_17 : decode cX4_areAll 17 = .ok (.iload_n 3, 1) := dk_29 (dk_at dksX4_areAll_0 17 rfl rfl)
theorem dX4_areAll_18 : decode cX4_areAll 18 = .ok (.invokevirtual 69, 3) := dk_182 0 69 (dk_at dksX4_areAll_0 18 rfl rfl)
theorem dX4_areAll_21 : decode cX4_areAll 21 = .ok (.ifCond .eq 7, 3) := dk_153 0 7 (dk_at dksX4_areAll_0 21 rfl rfl)
theorem dX4_areAll_24 : decode cX4_areAll 24 = .ok (.iconst 1, 1) := dk_4 (dk_at dksX4_areAll_1 0 rfl rfl)
theorem dX4_areAll_25 : decode cX4_areAll 25 = .ok (.goto 4, 3) := dk_167 0 4 (dk_at dksX4_areAll_1 1 rfl rfl)
theorem dX4_areAll_28 : decode cX4_areAll 28 = .ok (.iconst 0, 1) := dk_3 (dk_at dksX4_areAll_1 4 rfl rfl)
theorem dX4_areAll_29 : decode cX4_areAll 29 = .ok (.ireturn, 1) := dk_172 (dk_at dksX4_areAll_1 5 rfl rfl)
abbrev cX4_isBlade : ByteArray := prog_22_method_11_code
def yX4_isBlade : MethodName := ⟨RX4, "isBlade", "(I)Z"⟩
def dkwX4_isBlade_0 : List UInt8 := [27, 3, 42, 180, 0, 9, 3, 46, 4, 100, 184, 0, 58, 172]
abbrev dktX4_isBlade_0 : List UInt8 := dkwX4_isBlade_0 ++ []
theorem dksX4_isBlade_0 : cX4_isBlade.data.toList.drop 0 = dktX4_isBlade_0 := by decide +kernel
theorem dX4_isBlade_0 : decode cX4_isBlade 0 = .ok (.iload_n 1, 1) := dk_27 (dk_at dksX4_isBlade_0 0 rfl rfl)
theorem dX4_isBlade_1 : decode cX4_isBlade 1 = .ok (.iconst 0, 1) := dk_3 (dk_at dksX4_isBlade_0 1 rfl rfl)
theorem dX4_isBlade_2 : decode cX4_isBlade 2 = .ok (.aload_n 0, 1) := dk_42 (dk_at dksX4_isBlade_0 2 rfl rfl)
theorem dX4_isBlade_3 : decode cX4_isBlade 3 = .ok (.getfield 9, 3) := dk_180 0 9 (dk_at dksX4_isBlade_0 3 rfl rfl)
theorem dX4_isBlade_6 : decode cX4_isBlade 6 = .ok (.iconst 0, 1) := dk_3 (dk_at dksX4_isBlade_0 6 rfl rfl)
theorem dX4_isBlade_7 : decode cX4_isBlade 7 = .ok (.iaload, 1) := dk_46 (dk_at dksX4_isBlade_0 7 rfl rfl)
theorem dX4_isBlade_8 : decode cX4_isBlade 8 = .ok (.iconst 1, 1) := dk_4 (dk_at dksX4_isBlade_0 8 rfl rfl)
theorem dX4_isBlade_9 : decode cX4_isBlade 9 = .ok (.isub, 1) := dk_100 (dk_at dksX4_isBlade_0 9 rfl rfl)
theorem dX4_isBlade_10 : decode cX4_isBlade 10 = .ok (.invokestatic 58, 3) := dk_184 0 58 (dk_at dksX4_isBlade_0 10 rfl rfl)
theorem dX4_isBlade_13 : decode cX4_isBlade 13 = .ok (.ireturn, 1) := dk_172 (dk_at dksX4_isBlade_0 13 rfl rfl)
abbrev cX4_isThumbs : ByteArray := prog_22_method_12_code
def yX4_isThumbs : MethodName := ⟨RX4, "isThumbs", "(I)Z"⟩
def dkwX4_isThumbs_0 : List UInt8 := [27, 3, 42, 180, 0, 9, 4, 46, 4, 100, 184, 0, 58, 172]
abbrev dktX4_isThumbs_0 : List UInt8 := dkwX4_isThumbs_0 ++ []
theorem dksX4_isThumbs_0 : cX4_isThumbs.data.toList.drop 0 = dktX4_isThumbs_0 := by decide +kernel
theorem dX4_isThumbs_0 : decode cX4_isThumbs 0 = .ok (.iload_n 1, 1) := dk_27 (dk_at dksX4_isThumbs_0 0 rfl rfl)
theorem dX4_isThumbs_1 : decode cX4_isThumbs 1 = .ok (.iconst 0, 1) := dk_3 (dk_at dksX4_isThumbs_0 1 rfl rfl)
theorem dX4_isThumbs_2 : decode cX4_isThumbs 2 = .ok (.aload_n 0, 1) := dk_42 (dk_at dksX4_isThumbs_0 2 rfl rfl)
theorem dX4_isThumbs_3 : decode cX4_isThumbs 3 = .ok (.getfield 9, 3) := dk_180 0 9 (dk_at dksX4_isThumbs_0 3 rfl rfl)
theorem dX4_isThumbs_6 : decode cX4_isThumbs 6 = .ok (.iconst 1, 1) := dk_4 (dk_at dksX4_isThumbs_0 6 rfl rfl)
theorem dX4_isThumbs_7 : decode cX4_isThumbs 7 = .ok (.iaload, 1) := dk_46 (dk_at dksX4_isThumbs_0 7 rfl rfl)
theorem dX4_isThumbs_8 : decode cX4_isThumbs 8 = .ok (.iconst 1, 1) := dk_4 (dk_at dksX4_isThumbs_0 8 rfl rfl)
theorem dX4_isThumbs_9 : decode cX4_isThumbs 9 = .ok (.isub, 1) := dk_100 (dk_at dksX4_isThumbs_0 9 rfl rfl)
theorem dX4_isThumbs_10 : decode cX4_isThumbs 10 = .ok (.invokestatic 58, 3) := dk_184 0 58 (dk_at dksX4_isThumbs_0 10 rfl rfl)
theorem dX4_isThumbs_13 : decode cX4_isThumbs 13 = .ok (.ireturn, 1) := dk_172 (dk_at dksX4_isThumbs_0 13 rfl rfl)
abbrev cX4_isBlow : ByteArray := prog_22_method_13_code
def yX4_isBlow : MethodName := ⟨RX4, "isBlow", "(I)Z"⟩
def dkwX4_isBlow_0 : List UInt8 := [27, 3, 42, 180, 0, 9, 5, 46, 4, 100, 184, 0, 58, 172]
abbrev dktX4_isBlow_0 : List UInt8 := dkwX4_isBlow_0 ++ []
theorem dksX4_isBlow_0 : cX4_isBlow.data.toList.drop 0 = dktX4_isBlow_0 := by decide +kernel
theorem dX4_isBlow_0 : decode cX4_isBlow 0 = .ok (.iload_n 1, 1) := dk_27 (dk_at dksX4_isBlow_0 0 rfl rfl)
theorem dX4_isBlow_1 : decode cX4_isBlow 1 = .ok (.iconst 0, 1) := dk_3 (dk_at dksX4_isBlow_0 1 rfl rfl)
theorem dX4_isBlow_2 : decode cX4_isBlow 2 = .ok (.aload_n 0, 1) := dk_42 (dk_at dksX4_isBlow_0 2 rfl rfl)
theorem dX4_isBlow_3 : decode cX4_isBlow 3 = .ok (.getfield 9, 3) := dk_180 0 9 (dk_at dksX4_isBlow_0 3 rfl rfl)
theorem dX4_isBlow_6 : decode cX4_isBlow 6 = .ok (.iconst 2, 1) := dk_5 (dk_at dksX4_isBlow_0 6 rfl rfl)
theorem dX4_isBlow_7 : decode cX4_isBlow 7 = .ok (.iaload, 1) := dk_46 (dk_at dksX4_isBlow_0 7 rfl rfl)
theorem dX4_isBlow_8 : decode cX4_isBlow 8 = .ok (.iconst 1, 1) := dk_4 (dk_at dksX4_isBlow_0 8 rfl rfl)
theorem dX4_isBlow_9 : decode cX4_isBlow 9 = .ok (.isub, 1) := dk_100 (dk_at dksX4_isBlow_0 9 rfl rfl)
theorem dX4_isBlow_10 : decode cX4_isBlow 10 = .ok (.invokestatic 58, 3) := dk_184 0 58 (dk_at dksX4_isBlow_0 10 rfl rfl)
theorem dX4_isBlow_13 : decode cX4_isBlow 13 = .ok (.ireturn, 1) := dk_172 (dk_at dksX4_isBlow_0 13 rfl rfl)
abbrev cX4_isSplit : ByteArray := prog_22_method_16_code
def yX4_isSplit : MethodName := ⟨RX4, "isSplit", "(I)Z"⟩
def dkwX4_isSplit_1 : List UInt8 := [167, 0, 4, 3, 172]
abbrev dktX4_isSplit_1 : List UInt8 := dkwX4_isSplit_1 ++ []
def dkwX4_isSplit_0 : List UInt8 := [42, 27, 6, 182, 0, 72, 42, 27, 4, 182, 0, 72, 42, 27, 5, 182, 0, 72, 96, 164, 0, 7, 4]
abbrev dktX4_isSplit_0 : List UInt8 := dkwX4_isSplit_0 ++ dktX4_isSplit_1
theorem dksX4_isSplit_0 : cX4_isSplit.data.toList.drop 0 = dktX4_isSplit_0 := by decide +kernel
theorem dksX4_isSplit_1 : cX4_isSplit.data.toList.drop 23 = dktX4_isSplit_1 := dk_seg dksX4_isSplit_0 23 rfl rfl
theorem dX4_isSplit_0 : decode cX4_isSplit 0 = .ok (.aload_n 0, 1) := dk_42 (dk_at dksX4_isSplit_0 0 rfl rfl)
theorem dX4_isSplit_1 : decode cX4_isSplit 1 = .ok (.iload_n 1, 1) := dk_27 (dk_at dksX4_isSplit_0 1 rfl rfl)
theorem dX4_isSplit_2 : decode cX4_isSplit 2 = .ok (.iconst 3, 1) := dk_6 (dk_at dksX4_isSplit_0 2 rfl rfl)
theorem dX4_isSplit_3 : decode cX4_isSplit 3 = .ok (.invokevirtual 72, 3) := dk_182 0 72 (dk_at dksX4_isSplit_0 3 rfl rfl)
theorem dX4_isSplit_6 : decode cX4_isSplit 6 = .ok (.aload_n 0, 1) := dk_42 (dk_at dksX4_isSplit_0 6 rfl rfl)
theorem dX4_isSplit_7 : decode cX4_isSplit 7 = .ok (.iload_n 1, 1) := dk_27 (dk_at dksX4_isSplit_0 7 rfl rfl)
theorem dX4_isSplit_8 : decode cX4_isSplit 8 = .ok (.iconst 1, 1) := dk_4 (dk_at dksX4_isSplit_0 8 rfl rfl)
theorem dX4_isSplit_9 : decode cX4_isSplit 9 = .ok (.invokevirtual 72, 3) := dk_182 0 72 (dk_at dksX4_isSplit_0 9 rfl rfl)
theorem dX4_isSplit_12 : decode cX4_isSplit 12 = .ok (.aload_n 0, 1) := dk_42 (dk_at dksX4_isSplit_0 12 rfl rfl)
theorem dX4_isSplit_13 : decode cX4_isSplit 13 = .ok (.iload_n 1, 1) := dk_27 (dk_at dksX4_isSplit_0 13 rfl rfl)
theorem dX4_isSplit_14 : decode cX4_isSplit 14 = .ok (.iconst 2, 1) := dk_5 (dk_at dksX4_isSplit_0 14 rfl rfl)
theorem dX4_isSplit_15 : decode cX4_isSplit 15 = .ok (.invokevirtual 72, 3) := dk_182 0 72 (dk_at dksX4_isSplit_0 15 rfl rfl)
theorem dX4_isSplit_18 : decode cX4_isSplit 18 = .ok (.iadd, 1) := dk_96 (dk_at dksX4_isSplit_0 18 rfl rfl)
theorem dX4_isSplit_19 : decode cX4_isSplit 19 = .ok (.if_icmp .le 7, 3) := dk_164 0 7 (dk_at dksX4_isSplit_0 19 rfl rfl)
theorem dX4_isSplit_22 : decode cX4_isSplit 22 = .ok (.iconst 1, 1) := dk_4 (dk_at dksX4_isSplit_0 22 rfl rfl)
theorem dX4_isSplit_23 : decode cX4_isSplit 23 = .ok (.goto 4, 3) := dk_167 0 4 (dk_at dksX4_isSplit_1 0 rfl rfl)
theorem dX4_isSplit_26 : decode cX4_isSplit 26 = .ok (.iconst 0, 1) := dk_3 (dk_at dksX4_isSplit_1 3 rfl rfl)
theorem dX4_isSplit_27 : decode cX4_isSplit 27 = .ok (.ireturn, 1) := dk_172 (dk_at dksX4_isSplit_1 4 rfl rfl)
abbrev cX4_bladeOf : ByteArray := prog_22_method_8_code
def yX4_bladeOf : MethodName := ⟨RX4, "bladeOf", "(II)I"⟩
def dkwX4_bladeOf_0 : List UInt8 := [42, 180, 0, 9, 27, 28, 184, 0, 51, 46, 172]
abbrev dktX4_bladeOf_0 : List UInt8 := dkwX4_bladeOf_0 ++ []
theorem dksX4_bladeOf_0 : cX4_bladeOf.data.toList.drop 0 = dktX4_bladeOf_0 := by decide +kernel
theorem dX4_bladeOf_0 : decode cX4_bladeOf 0 = .ok (.aload_n 0, 1) := dk_42 (dk_at dksX4_bladeOf_0 0 rfl rfl)
theorem dX4_bladeOf_1 : decode cX4_bladeOf 1 = .ok (.getfield 9, 3) := dk_180 0 9 (dk_at dksX4_bladeOf_0 1 rfl rfl)
theorem dX4_bladeOf_4 : decode cX4_bladeOf 4 = .ok (.iload_n 1, 1) := dk_27 (dk_at dksX4_bladeOf_0 4 rfl rfl)
theorem dX4_bladeOf_5 : decode cX4_bladeOf 5 = .ok (.iload_n 2, 1) := dk_28 (dk_at dksX4_bladeOf_0 5 rfl rfl)
theorem dX4_bladeOf_6 : decode cX4_bladeOf 6 = .ok (.invokestatic 51, 3) := dk_184 0 51 (dk_at dksX4_bladeOf_0 6 rfl rfl)
theorem dX4_bladeOf_9 : decode cX4_bladeOf 9 = .ok (.iaload, 1) := dk_46 (dk_at dksX4_bladeOf_0 9 rfl rfl)
theorem dX4_bladeOf_10 : decode cX4_bladeOf 10 = .ok (.ireturn, 1) := dk_172 (dk_at dksX4_bladeOf_0 10 rfl rfl)
abbrev cX4_wears : ByteArray := prog_22_method_29_code
def yX4_wears : MethodName := ⟨RX4, "wears", "(II)I"⟩
def dkwX4_wears_2 : List UInt8 := [29, 4, 96, 172, 5, 29, 4, 96, 104, 172, 29, 42, 27, 182, 0, 95, 96, 172, 3, 172, 29, 172]
abbrev dktX4_wears_2 : List UInt8 := dkwX4_wears_2 ++ []
def dkwX4_wears_1 : List UInt8 := [170, 0, 0, 0, 0, 58, 0, 0, 0, 2, 0, 0, 0, 7, 0, 0, 0, 38, 0, 0, 0, 42, 0, 0, 0, 48, 0, 0, 0, 38, 0, 0, 0, 56, 0, 0, 0, 38]
abbrev dktX4_wears_1 : List UInt8 := dkwX4_wears_1 ++ dktX4_wears_2
def dkwX4_wears_0 : List UInt8 := [28, 16, 10, 108, 62, 42, 27, 182, 0, 82]
abbrev dktX4_wears_0 : List UInt8 := dkwX4_wears_0 ++ dktX4_wears_1
theorem dksX4_wears_0 : cX4_wears.data.toList.drop 0 = dktX4_wears_0 := by decide +kernel
theorem dksX4_wears_1 : cX4_wears.data.toList.drop 10 = dktX4_wears_1 := dk_seg dksX4_wears_0 10 rfl rfl
theorem dksX4_wears_2 : cX4_wears.data.toList.drop 48 = dktX4_wears_2 := dk_seg dksX4_wears_1 38 rfl rfl
theorem dX4_wears_0 : decode cX4_wears 0 = .ok (.iload_n 2, 1) := dk_28 (dk_at dksX4_wears_0 0 rfl rfl)
theorem dX4_wears_1 : decode cX4_wears 1 = .ok (.bipush 10, 2) := dk_16 10 (dk_at dksX4_wears_0 1 rfl rfl)
theorem dX4_wears_3 : decode cX4_wears 3 = .ok (.idiv, 1) := dk_108 (dk_at dksX4_wears_0 3 rfl rfl)
theorem dX4_wears_4 : decode cX4_wears 4 = .ok (.istore_n 3, 1) := dk_62 (dk_at dksX4_wears_0 4 rfl rfl)
theorem dX4_wears_5 : decode cX4_wears 5 = .ok (.aload_n 0, 1) := dk_42 (dk_at dksX4_wears_0 5 rfl rfl)
theorem dX4_wears_6 : decode cX4_wears 6 = .ok (.iload_n 1, 1) := dk_27 (dk_at dksX4_wears_0 6 rfl rfl)
theorem dX4_wears_7 : decode cX4_wears 7 = .ok (.invokevirtual 82, 3) := dk_182 0 82 (dk_at dksX4_wears_0 7 rfl rfl)
theorem dX4_wears_10 : decode cX4_wears 10 = .ok (.tableswitch 58 2 7 #[38, 42, 48, 38, 56, 38], 38) := by decide +kernel
theorem dX4_wears_48 : decode cX4_wears 48 = .ok (.iload_n 3, 1) := dk_29 (dk_at dksX4_wears_2 0 rfl rfl)
theorem dX4_wears_49 : decode cX4_wears 49 = .ok (.iconst 1, 1) := dk_4 (dk_at dksX4_wears_2 1 rfl rfl)
theorem dX4_wears_50 : decode cX4_wears 50 = .ok (.iadd, 1) := dk_96 (dk_at dksX4_wears_2 2 rfl rfl)
theorem dX4_wears_51 : decode cX4_wears 51 = .ok (.ireturn, 1) := dk_172 (dk_at dksX4_wears_2 3 rfl rfl)
theorem dX4_wears_52 : decode cX4_wears 52 = .ok (.iconst 2, 1) := dk_5 (dk_at dksX4_wears_2 4 rfl rfl)
theorem dX4_wears_53 : decode cX4_wears 53 = .ok (.iload_n 3, 1) := dk_29 (dk_at dksX4_wears_2 5 rfl rfl)
theorem dX4_wears_54 : decode cX4_wears 54 = .ok (.iconst 1, 1) := dk_4 (dk_at dksX4_wears_2 6 rfl rfl)
theorem dX4_wears_55 : decode cX4_wears 55 = .ok (.iadd, 1) := dk_96 (dk_at dksX4_wears_2 7 rfl rfl)
theorem dX4_wears_56 : decode cX4_wears 56 = .ok (.imul, 1) := dk_104 (dk_at dksX4_wears_2 8 rfl rfl)
theorem dX4_wears_57 : decode cX4_wears 57 = .ok (.ireturn, 1) := dk_172 (dk_at dksX4_wears_2 9 rfl rfl)
theorem dX4_wears_58 : decode cX4_wears 58 = .ok (.iload_n 3, 1) := dk_29 (dk_at dksX4_wears_2 10 rfl rfl)
theorem dX4_wears_59 : decode cX4_wears 59 = .ok (.aload_n 0, 1) := dk_42 (dk_at dksX4_wears_2 11 rfl rfl)
theorem dX4_wears_60 : decode cX4_wears 60 = .ok (.iload_n 1, 1) := dk_27 (dk_at dksX4_wears_2 12 rfl rfl)
theorem dX4_wears_61 : decode cX4_wears 61 = .ok (.invokevirtual 95, 3) := dk_182 0 95 (dk_at dksX4_wears_2 13 rfl rfl)
theorem dX4_wears_64 : decode cX4_wears 64 = .ok (.iadd, 1) := dk_96 (dk_at dksX4_wears_2 16 rfl rfl)
theorem dX4_wears_65 : decode cX4_wears 65 = .ok (.ireturn, 1) := dk_172 (dk_at dksX4_wears_2 17 rfl rfl)
theorem dX4_wears_66 : decode cX4_wears 66 = .ok (.iconst 0, 1) := dk_3 (dk_at dksX4_wears_2 18 rfl rfl)
theorem dX4_wears_67 : decode cX4_wears 67 = .ok (.ireturn, 1) := dk_172 (dk_at dksX4_wears_2 19 rfl rfl)
theorem dX4_wears_68 : decode cX4_wears 68 = .ok (.iload_n 3, 1) := dk_29 (dk_at dksX4_wears_2 20 rfl rfl)
theorem dX4_wears_69 : decode cX4_wears 69 = .ok (.ireturn, 1) := dk_172 (dk_at dksX4_wears_2 21 rfl rfl)
abbrev cX4_kind : ByteArray := prog_22_method_9_code
def yX4_kind : MethodName := ⟨RX4, "kind", "(I)I"⟩
def dkwX4_kind_0 : List UInt8 := [42, 180, 0, 9, 27, 3, 184, 0, 55, 46, 172]
abbrev dktX4_kind_0 : List UInt8 := dkwX4_kind_0 ++ []
theorem dksX4_kind_0 : cX4_kind.data.toList.drop 0 = dktX4_kind_0 := by decide +kernel
theorem dX4_kind_0 : decode cX4_kind 0 = .ok (.aload_n 0, 1) := dk_42 (dk_at dksX4_kind_0 0 rfl rfl)
theorem dX4_kind_1 : decode cX4_kind 1 = .ok (.getfield 9, 3) := dk_180 0 9 (dk_at dksX4_kind_0 1 rfl rfl)
theorem dX4_kind_4 : decode cX4_kind 4 = .ok (.iload_n 1, 1) := dk_27 (dk_at dksX4_kind_0 4 rfl rfl)
theorem dX4_kind_5 : decode cX4_kind 5 = .ok (.iconst 0, 1) := dk_3 (dk_at dksX4_kind_0 5 rfl rfl)
theorem dX4_kind_6 : decode cX4_kind 6 = .ok (.invokestatic 55, 3) := dk_184 0 55 (dk_at dksX4_kind_0 6 rfl rfl)
theorem dX4_kind_9 : decode cX4_kind 9 = .ok (.iaload, 1) := dk_46 (dk_at dksX4_kind_0 9 rfl rfl)
theorem dX4_kind_10 : decode cX4_kind 10 = .ok (.ireturn, 1) := dk_172 (dk_at dksX4_kind_0 10 rfl rfl)
abbrev cX4_figure : ByteArray := prog_22_method_10_code
def yX4_figure : MethodName := ⟨RX4, "figure", "(I)I"⟩
def dkwX4_figure_0 : List UInt8 := [42, 180, 0, 9, 27, 4, 184, 0, 55, 46, 172]
abbrev dktX4_figure_0 : List UInt8 := dkwX4_figure_0 ++ []
theorem dksX4_figure_0 : cX4_figure.data.toList.drop 0 = dktX4_figure_0 := by decide +kernel
theorem dX4_figure_0 : decode cX4_figure 0 = .ok (.aload_n 0, 1) := dk_42 (dk_at dksX4_figure_0 0 rfl rfl)
theorem dX4_figure_1 : decode cX4_figure 1 = .ok (.getfield 9, 3) := dk_180 0 9 (dk_at dksX4_figure_0 1 rfl rfl)
theorem dX4_figure_4 : decode cX4_figure 4 = .ok (.iload_n 1, 1) := dk_27 (dk_at dksX4_figure_0 4 rfl rfl)
theorem dX4_figure_5 : decode cX4_figure 5 = .ok (.iconst 1, 1) := dk_4 (dk_at dksX4_figure_0 5 rfl rfl)
theorem dX4_figure_6 : decode cX4_figure 6 = .ok (.invokestatic 55, 3) := dk_184 0 55 (dk_at dksX4_figure_0 6 rfl rfl)
theorem dX4_figure_9 : decode cX4_figure 9 = .ok (.iaload, 1) := dk_46 (dk_at dksX4_figure_0 9 rfl rfl)
theorem dX4_figure_10 : decode cX4_figure 10 = .ok (.ireturn, 1) := dk_172 (dk_at dksX4_figure_0 10 rfl rfl)
abbrev cX4_blade : ByteArray := prog_22_method_39_code
def yX4_blade : MethodName := ⟨RX4, "blade", "(II)I"⟩
def dkwX4_blade_1 : List UInt8 := [42, 27, 28, 182, 0, 72, 167, 0, 16, 42, 27, 182, 0, 151, 153, 0, 7, 4, 167, 0, 4, 3, 172]
abbrev dktX4_blade_1 : List UInt8 := dkwX4_blade_1 ++ []
def dkwX4_blade_0 : List UInt8 := [42, 27, 182, 0, 62, 153, 0, 12, 28, 3, 7, 184, 0, 58, 154, 0, 5, 2, 172, 28, 7, 162, 0, 12]
abbrev dktX4_blade_0 : List UInt8 := dkwX4_blade_0 ++ dktX4_blade_1
theorem dksX4_blade_0 : cX4_blade.data.toList.drop 0 = dktX4_blade_0 := by decide +kernel
theorem dksX4_blade_1 : cX4_blade.data.toList.drop 24 = dktX4_blade_1 := dk_seg dksX4_blade_0 24 rfl rfl
theorem dX4_blade_0 : decode cX4_blade 0 = .ok (.aload_n 0, 1) := dk_42 (dk_at dksX4_blade_0 0 rfl rfl)
theorem dX4_blade_1 : decode cX4_blade 1 = .ok (.iload_n 1, 1) := dk_27 (dk_at dksX4_blade_0 1 rfl rfl)
theorem dX4_blade_2 : decode cX4_blade 2 = .ok (.invokevirtual 62, 3) := dk_182 0 62 (dk_at dksX4_blade_0 2 rfl rfl)
theorem dX4_blade_5 : decode cX4_blade 5 = .ok (.ifCond .eq 12, 3) := dk_153 0 12 (dk_at dksX4_blade_0 5 rfl rfl)
theorem dX4_blade_8 : decode cX4_blade 8 = .ok (.iload_n 2, 1) := dk_28 (dk_at dksX4_blade_0 8 rfl rfl)
theorem dX4_blade_9 : decode cX4_blade 9 = .ok (.iconst 0, 1) := dk_3 (dk_at dksX4_blade_0 9 rfl rfl)
theorem dX4_blade_10 : decode cX4_blade 10 = .ok (.iconst 4, 1) := dk_7 (dk_at dksX4_blade_0 10 rfl rfl)
theorem dX4_blade_11 : decode cX4_blade 11 = .ok (.invokestatic 58, 3) := dk_184 0 58 (dk_at dksX4_blade_0 11 rfl rfl)
theorem dX4_blade_14 : decode cX4_blade 14 = .ok (.ifCond .ne 5, 3) := dk_154 0 5 (dk_at dksX4_blade_0 14 rfl rfl)
theorem dX4_blade_17 : decode cX4_blade 17 = .ok (.iconst (-1), 1) := dk_2 (dk_at dksX4_blade_0 17 rfl rfl)
theorem dX4_blade_18 : decode cX4_blade 18 = .ok (.ireturn, 1) := dk_172 (dk_at dksX4_blade_0 18 rfl rfl)
theorem dX4_blade_19 : decode cX4_blade 19 = .ok (.iload_n 2, 1) := dk_28 (dk_at dksX4_blade_0 19 rfl rfl)
theorem dX4_blade_20 : decode cX4_blade 20 = .ok (.iconst 4, 1) := dk_7 (dk_at dksX4_blade_0 20 rfl rfl)
theorem dX4_blade_21 : decode cX4_blade 21 = .ok (.if_icmp .ge 12, 3) := dk_162 0 12 (dk_at dksX4_blade_0 21 rfl rfl)
theorem dX4_blade_24 : decode cX4_blade 24 = .ok (.aload_n 0, 1) := dk_42 (dk_at dksX4_blade_1 0 rfl rfl)
theorem dX4_blade_25 : decode cX4_blade 25 = .ok (.iload_n 1, 1) := dk_27 (dk_at dksX4_blade_1 1 rfl rfl)
theorem dX4_blade_26 : decode cX4_blade 26 = .ok (.iload_n 2, 1) := dk_28 (dk_at dksX4_blade_1 2 rfl rfl)
theorem dX4_blade_27 : decode cX4_blade 27 = .ok (.invokevirtual 72, 3) := dk_182 0 72 (dk_at dksX4_blade_1 3 rfl rfl)
theorem dX4_blade_30 : decode cX4_blade 30 = .ok (.goto 16, 3) := dk_167 0 16 (dk_at dksX4_blade_1 6 rfl rfl)
theorem dX4_blade_33 : decode cX4_blade 33 = .ok (.aload_n 0, 1) := dk_42 (dk_at dksX4_blade_1 9 rfl rfl)
theorem dX4_blade_34 : decode cX4_blade 34 = .ok (.iload_n 1, 1) := dk_27 (dk_at dksX4_blade_1 10 rfl rfl)
theorem dX4_blade_35 : decode cX4_blade 35 = .ok (.invokevirtual 151, 3) := dk_182 0 151 (dk_at dksX4_blade_1 11 rfl rfl)
theorem dX4_blade_38 : decode cX4_blade 38 = .ok (.ifCond .eq 7, 3) := dk_153 0 7 (dk_at dksX4_blade_1 14 rfl rfl)
theorem dX4_blade_41 : decode cX4_blade 41 = .ok (.iconst 1, 1) := dk_4 (dk_at dksX4_blade_1 17 rfl rfl)
theorem dX4_blade_42 : decode cX4_blade 42 = .ok (.goto 4, 3) := dk_167 0 4 (dk_at dksX4_blade_1 18 rfl rfl)
theorem dX4_blade_45 : decode cX4_blade 45 = .ok (.iconst 0, 1) := dk_3 (dk_at dksX4_blade_1 21 rfl rfl)
theorem dX4_blade_46 : decode cX4_blade 46 = .ok (.ireturn, 1) := dk_172 (dk_at dksX4_blade_1 22 rfl rfl)
abbrev cX4_thumbs : ByteArray := prog_22_method_40_code
def yX4_thumbs : MethodName := ⟨RX4, "thumbs", "(II)I"⟩
def dkwX4_thumbs_1 : List UInt8 := [184, 0, 75, 46, 167, 0, 4, 2, 172]
abbrev dktX4_thumbs_1 : List UInt8 := dkwX4_thumbs_1 ++ []
def dkwX4_thumbs_0 : List UInt8 := [42, 27, 182, 0, 66, 153, 0, 25, 28, 3, 4, 184, 0, 58, 153, 0, 16, 42, 180, 0, 9, 27, 28]
abbrev dktX4_thumbs_0 : List UInt8 := dkwX4_thumbs_0 ++ dktX4_thumbs_1
theorem dksX4_thumbs_0 : cX4_thumbs.data.toList.drop 0 = dktX4_thumbs_0 := by decide +kernel
theorem dksX4_thumbs_1 : cX4_thumbs.data.toList.drop 23 = dktX4_thumbs_1 := dk_seg dksX4_thumbs_0 23 rfl rfl
theorem dX4_thumbs_0 : decode cX4_thumbs 0 = .ok (.aload_n 0, 1) := dk_42 (dk_at dksX4_thumbs_0 0 rfl rfl)
theorem dX4_thumbs_1 : decode cX4_thumbs 1 = .ok (.iload_n 1, 1) := dk_27 (dk_at dksX4_thumbs_0 1 rfl rfl)
theorem dX4_thumbs_2 : decode cX4_thumbs 2 = .ok (.invokevirtual 66, 3) := dk_182 0 66 (dk_at dksX4_thumbs_0 2 rfl rfl)
theorem dX4_thumbs_5 : decode cX4_thumbs 5 = .ok (.ifCond .eq 25, 3) := dk_153 0 25 (dk_at dksX4_thumbs_0 5 rfl rfl)
theorem dX4_thumbs_8 : decode cX4_thumbs 8 = .ok (.iload_n 2, 1) := dk_28 (dk_at dksX4_thumbs_0 8 rfl rfl)
theorem dX4_thumbs_9 : decode cX4_thumbs 9 = .ok (.iconst 0, 1) := dk_3 (dk_at dksX4_thumbs_0 9 rfl rfl)
theorem dX4_thumbs_10 : decode cX4_thumbs 10 = .ok (.iconst 1, 1) := dk_4 (dk_at dksX4_thumbs_0 10 rfl rfl)
theorem dX4_thumbs_11 : decode cX4_thumbs 11 = .ok (.invokestatic 58, 3) := dk_184 0 58 (dk_at dksX4_thumbs_0 11 rfl rfl)
theorem dX4_thumbs_14 : decode cX4_thumbs 14 = .ok (.ifCond .eq 16, 3) := dk_153 0 16 (dk_at dksX4_thumbs_0 14 rfl rfl)
theorem dX4_thumbs_17 : decode cX4_thumbs 17 = .ok (.aload_n 0, 1) := dk_42 (dk_at dksX4_thumbs_0 17 rfl rfl)
theorem dX4_thumbs_18 : decode cX4_thumbs 18 = .ok (.getfield 9, 3) := dk_180 0 9 (dk_at dksX4_thumbs_0 18 rfl rfl)
theorem dX4_thumbs_21 : decode cX4_thumbs 21 = .ok (.iload_n 1, 1) := dk_27 (dk_at dksX4_thumbs_0 21 rfl rfl)
theorem dX4_thumbs_22 : decode cX4_thumbs 22 = .ok (.iload_n 2, 1) := dk_28 (dk_at dksX4_thumbs_0 22 rfl rfl)
theorem dX4_thumbs_23 : decode cX4_thumbs 23 = .ok (.invokestatic 75, 3) := dk_184 0 75 (dk_at dksX4_thumbs_1 0 rfl rfl)
theorem dX4_thumbs_26 : decode cX4_thumbs 26 = .ok (.iaload, 1) := dk_46 (dk_at dksX4_thumbs_1 3 rfl rfl)
theorem dX4_thumbs_27 : decode cX4_thumbs 27 = .ok (.goto 4, 3) := dk_167 0 4 (dk_at dksX4_thumbs_1 4 rfl rfl)
theorem dX4_thumbs_30 : decode cX4_thumbs 30 = .ok (.iconst (-1), 1) := dk_2 (dk_at dksX4_thumbs_1 7 rfl rfl)
theorem dX4_thumbs_31 : decode cX4_thumbs 31 = .ok (.ireturn, 1) := dk_172 (dk_at dksX4_thumbs_1 8 rfl rfl)
abbrev cX4_blow : ByteArray := prog_22_method_41_code
def yX4_blow : MethodName := ⟨RX4, "blow", "(II)I"⟩
def dkwX4_blow_1 : List UInt8 := [42, 180, 0, 9, 27, 28, 184, 0, 55, 46, 167, 0, 10, 42, 27, 16, 30, 182, 0, 154, 172]
abbrev dktX4_blow_1 : List UInt8 := dkwX4_blow_1 ++ []
def dkwX4_blow_0 : List UInt8 := [42, 27, 182, 0, 69, 153, 0, 12, 28, 3, 5, 184, 0, 58, 154, 0, 5, 2, 172, 28, 5, 162, 0, 16]
abbrev dktX4_blow_0 : List UInt8 := dkwX4_blow_0 ++ dktX4_blow_1
theorem dksX4_blow_0 : cX4_blow.data.toList.drop 0 = dktX4_blow_0 := by decide +kernel
theorem dksX4_blow_1 : cX4_blow.data.toList.drop 24 = dktX4_blow_1 := dk_seg dksX4_blow_0 24 rfl rfl
theorem dX4_blow_0 : decode cX4_blow 0 = .ok (.aload_n 0, 1) := dk_42 (dk_at dksX4_blow_0 0 rfl rfl)
theorem dX4_blow_1 : decode cX4_blow 1 = .ok (.iload_n 1, 1) := dk_27 (dk_at dksX4_blow_0 1 rfl rfl)
theorem dX4_blow_2 : decode cX4_blow 2 = .ok (.invokevirtual 69, 3) := dk_182 0 69 (dk_at dksX4_blow_0 2 rfl rfl)
theorem dX4_blow_5 : decode cX4_blow 5 = .ok (.ifCond .eq 12, 3) := dk_153 0 12 (dk_at dksX4_blow_0 5 rfl rfl)
theorem dX4_blow_8 : decode cX4_blow 8 = .ok (.iload_n 2, 1) := dk_28 (dk_at dksX4_blow_0 8 rfl rfl)
theorem dX4_blow_9 : decode cX4_blow 9 = .ok (.iconst 0, 1) := dk_3 (dk_at dksX4_blow_0 9 rfl rfl)
theorem dX4_blow_10 : decode cX4_blow 10 = .ok (.iconst 2, 1) := dk_5 (dk_at dksX4_blow_0 10 rfl rfl)
theorem dX4_blow_11 : decode cX4_blow 11 = .ok (.invokestatic 58, 3) := dk_184 0 58 (dk_at dksX4_blow_0 11 rfl rfl)
theorem dX4_blow_14 : decode cX4_blow 14 = .ok (.ifCond .ne 5, 3) := dk_154 0 5 (dk_at dksX4_blow_0 14 rfl rfl)
theorem dX4_blow_17 : decode cX4_blow 17 = .ok (.iconst (-1), 1) := dk_2 (dk_at dksX4_blow_0 17 rfl rfl)
theorem dX4_blow_18 : decode cX4_blow 18 = .ok (.ireturn, 1) := dk_172 (dk_at dksX4_blow_0 18 rfl rfl)
theorem dX4_blow_19 : decode cX4_blow 19 = .ok (.iload_n 2, 1) := dk_28 (dk_at dksX4_blow_0 19 rfl rfl)
theorem dX4_blow_20 : decode cX4_blow 20 = .ok (.iconst 2, 1) := dk_5 (dk_at dksX4_blow_0 20 rfl rfl)
theorem dX4_blow_21 : decode cX4_blow 21 = .ok (.if_icmp .ge 16, 3) := dk_162 0 16 (dk_at dksX4_blow_0 21 rfl rfl)
theorem dX4_blow_24 : decode cX4_blow 24 = .ok (.aload_n 0, 1) := dk_42 (dk_at dksX4_blow_1 0 rfl rfl)
theorem dX4_blow_25 : decode cX4_blow 25 = .ok (.getfield 9, 3) := dk_180 0 9 (dk_at dksX4_blow_1 1 rfl rfl)
theorem dX4_blow_28 : decode cX4_blow 28 = .ok (.iload_n 1, 1) := dk_27 (dk_at dksX4_blow_1 4 rfl rfl)
theorem dX4_blow_29 : decode cX4_blow 29 = .ok (.iload_n 2, 1) := dk_28 (dk_at dksX4_blow_1 5 rfl rfl)
theorem dX4_blow_30 : decode cX4_blow 30 = .ok (.invokestatic 55, 3) := dk_184 0 55 (dk_at dksX4_blow_1 6 rfl rfl)
theorem dX4_blow_33 : decode cX4_blow 33 = .ok (.iaload, 1) := dk_46 (dk_at dksX4_blow_1 9 rfl rfl)
theorem dX4_blow_34 : decode cX4_blow 34 = .ok (.goto 10, 3) := dk_167 0 10 (dk_at dksX4_blow_1 10 rfl rfl)
theorem dX4_blow_37 : decode cX4_blow 37 = .ok (.aload_n 0, 1) := dk_42 (dk_at dksX4_blow_1 13 rfl rfl)
theorem dX4_blow_38 : decode cX4_blow 38 = .ok (.iload_n 1, 1) := dk_27 (dk_at dksX4_blow_1 14 rfl rfl)
theorem dX4_blow_39 : decode cX4_blow 39 = .ok (.bipush 30, 2) := dk_16 30 (dk_at dksX4_blow_1 15 rfl rfl)
theorem dX4_blow_41 : decode cX4_blow 41 = .ok (.invokevirtual 154, 3) := dk_182 0 154 (dk_at dksX4_blow_1 17 rfl rfl)
theorem dX4_blow_44 : decode cX4_blow 44 = .ok (.ireturn, 1) := dk_172 (dk_at dksX4_blow_1 20 rfl rfl)
abbrev cX4_grows : ByteArray := prog_22_method_42_code
def yX4_grows : MethodName := ⟨RX4, "grows", "(III)I"⟩
def dkwX4_grows_1 : List UInt8 := [172, 42, 27, 28, 29, 182, 0, 137, 42, 180, 0, 9, 3, 46, 4, 100, 172]
abbrev dktX4_grows_1 : List UInt8 := dkwX4_grows_1 ++ []
def dkwX4_grows_0 : List UInt8 := [27, 28, 29, 184, 0, 134, 154, 0, 5, 2, 172, 42, 180, 0, 9, 3, 46, 16, 6, 160, 0, 6, 16, 254]
abbrev dktX4_grows_0 : List UInt8 := dkwX4_grows_0 ++ dktX4_grows_1
theorem dksX4_grows_0 : cX4_grows.data.toList.drop 0 = dktX4_grows_0 := by decide +kernel
theorem dksX4_grows_1 : cX4_grows.data.toList.drop 24 = dktX4_grows_1 := dk_seg dksX4_grows_0 24 rfl rfl
theorem dX4_grows_0 : decode cX4_grows 0 = .ok (.iload_n 1, 1) := dk_27 (dk_at dksX4_grows_0 0 rfl rfl)
theorem dX4_grows_1 : decode cX4_grows 1 = .ok (.iload_n 2, 1) := dk_28 (dk_at dksX4_grows_0 1 rfl rfl)
theorem dX4_grows_2 : decode cX4_grows 2 = .ok (.iload_n 3, 1) := dk_29 (dk_at dksX4_grows_0 2 rfl rfl)
theorem dX4_grows_3 : decode cX4_grows 3 = .ok (.invokestatic 134, 3) := dk_184 0 134 (dk_at dksX4_grows_0 3 rfl rfl)
theorem dX4_grows_6 : decode cX4_grows 6 = .ok (.ifCond .ne 5, 3) := dk_154 0 5 (dk_at dksX4_grows_0 6 rfl rfl)
theorem dX4_grows_9 : decode cX4_grows 9 = .ok (.iconst (-1), 1) := dk_2 (dk_at dksX4_grows_0 9 rfl rfl)
theorem dX4_grows_10 : decode cX4_grows 10 = .ok (.ireturn, 1) := dk_172 (dk_at dksX4_grows_0 10 rfl rfl)
theorem dX4_grows_11 : decode cX4_grows 11 = .ok (.aload_n 0, 1) := dk_42 (dk_at dksX4_grows_0 11 rfl rfl)
theorem dX4_grows_12 : decode cX4_grows 12 = .ok (.getfield 9, 3) := dk_180 0 9 (dk_at dksX4_grows_0 12 rfl rfl)
theorem dX4_grows_15 : decode cX4_grows 15 = .ok (.iconst 0, 1) := dk_3 (dk_at dksX4_grows_0 15 rfl rfl)
theorem dX4_grows_16 : decode cX4_grows 16 = .ok (.iaload, 1) := dk_46 (dk_at dksX4_grows_0 16 rfl rfl)
theorem dX4_grows_17 : decode cX4_grows 17 = .ok (.bipush 6, 2) := dk_16 6 (dk_at dksX4_grows_0 17 rfl rfl)
theorem dX4_grows_19 : decode cX4_grows 19 = .ok (.if_icmp .ne 6, 3) := dk_160 0 6 (dk_at dksX4_grows_0 19 rfl rfl)
theorem dX4_grows_22 : decode cX4_grows 22 = .ok (.bipush (-2), 2) := dk_16 254 (dk_at dksX4_grows_0 22 rfl rfl)
theorem dX4_grows_24 : decode cX4_grows 24 = .ok (.ireturn, 1) := dk_172 (dk_at dksX4_grows_1 0 rfl rfl)
theorem dX4_grows_25 : decode cX4_grows 25 = .ok (.aload_n 0, 1) := dk_42 (dk_at dksX4_grows_1 1 rfl rfl)
theorem dX4_grows_26 : decode cX4_grows 26 = .ok (.iload_n 1, 1) := dk_27 (dk_at dksX4_grows_1 2 rfl rfl)
theorem dX4_grows_27 : decode cX4_grows 27 = .ok (.iload_n 2, 1) := dk_28 (dk_at dksX4_grows_1 3 rfl rfl)
theorem dX4_grows_28 : decode cX4_grows 28 = .ok (.iload_n 3, 1) := dk_29 (dk_at dksX4_grows_1 4 rfl rfl)
theorem dX4_grows_29 : decode cX4_grows 29 = .ok (.invokevirtual 137, 3) := dk_182 0 137 (dk_at dksX4_grows_1 5 rfl rfl)
theorem dX4_grows_32 : decode cX4_grows 32 = .ok (.aload_n 0, 1) := dk_42 (dk_at dksX4_grows_1 8 rfl rfl)
theorem dX4_grows_33 : decode cX4_grows 33 = .ok (.getfield 9, 3) := dk_180 0 9 (dk_at dksX4_grows_1 9 rfl rfl)
theorem dX4_grows_36 : decode cX4_grows 36 = .ok (.iconst 0, 1) := dk_3 (dk_at dksX4_grows_1 12 rfl rfl)
theorem dX4_grows_37 : decode cX4_grows 37 = .ok (.iaload, 1) := dk_46 (dk_at dksX4_grows_1 13 rfl rfl)
theorem dX4_grows_38 : decode cX4_grows 38 = .ok (.iconst 1, 1) := dk_4 (dk_at dksX4_grows_1 14 rfl rfl)
theorem dX4_grows_39 : decode cX4_grows 39 = .ok (.isub, 1) := dk_100 (dk_at dksX4_grows_1 15 rfl rfl)
theorem dX4_grows_40 : decode cX4_grows 40 = .ok (.ireturn, 1) := dk_172 (dk_at dksX4_grows_1 16 rfl rfl)
abbrev cX4_learns : ByteArray := prog_22_method_43_code
def yX4_learns : MethodName := ⟨RX4, "learns", "(I)I"⟩
def dkwX4_learns_2 : List UInt8 := [46, 4, 100, 172]
abbrev dktX4_learns_2 : List UInt8 := dkwX4_learns_2 ++ []
def dkwX4_learns_1 : List UInt8 := [16, 254, 172, 42, 42, 180, 0, 36, 27, 46, 42, 180, 0, 39, 27, 46, 182, 0, 145, 42, 180, 0, 9, 5]
abbrev dktX4_learns_1 : List UInt8 := dkwX4_learns_1 ++ dktX4_learns_2
def dkwX4_learns_0 : List UInt8 := [42, 27, 182, 0, 171, 61, 28, 153, 0, 5, 28, 172, 42, 180, 0, 9, 5, 46, 16, 6, 160, 0, 6]
abbrev dktX4_learns_0 : List UInt8 := dkwX4_learns_0 ++ dktX4_learns_1
theorem dksX4_learns_0 : cX4_learns.data.toList.drop 0 = dktX4_learns_0 := by decide +kernel
theorem dksX4_learns_1 : cX4_learns.data.toList.drop 23 = dktX4_learns_1 := dk_seg dksX4_learns_0 23 rfl rfl
theorem dksX4_learns_2 : cX4_learns.data.toList.drop 47 = dktX4_learns_2 := dk_seg dksX4_learns_1 24 rfl rfl
theorem dX4_learns_0 : decode cX4_learns 0 = .ok (.aload_n 0, 1) := dk_42 (dk_at dksX4_learns_0 0 rfl rfl)
theorem dX4_learns_1 : decode cX4_learns 1 = .ok (.iload_n 1, 1) := dk_27 (dk_at dksX4_learns_0 1 rfl rfl)
theorem dX4_learns_2 : decode cX4_learns 2 = .ok (.invokevirtual 171, 3) := dk_182 0 171 (dk_at dksX4_learns_0 2 rfl rfl)
theorem dX4_learns_5 : decode cX4_learns 5 = .ok (.istore_n 2, 1) := dk_61 (dk_at dksX4_learns_0 5 rfl rfl)
theorem dX4_learns_6 : decode cX4_learns 6 = .ok (.iload_n 2, 1) := dk_28 (dk_at dksX4_learns_0 6 rfl rfl)
theorem dX4_learns_7 : decode cX4_learns 7 = .ok (.ifCond .eq 5, 3) := dk_153 0 5 (dk_at dksX4_learns_0 7 rfl rfl)
theorem dX4_learns_10 : decode cX4_learns 10 = .ok (.iload_n 2, 1) := dk_28 (dk_at dksX4_learns_0 10 rfl rfl)
theorem dX4_learns_11 : decode cX4_learns 11 = .ok (.ireturn, 1) := dk_172 (dk_at dksX4_learns_0 11 rfl rfl)
theorem dX4_learns_12 : decode cX4_learns 12 = .ok (.aload_n 0, 1) := dk_42 (dk_at dksX4_learns_0 12 rfl rfl)
theorem dX4_learns_13 : decode cX4_learns 13 = .ok (.getfield 9, 3) := dk_180 0 9 (dk_at dksX4_learns_0 13 rfl rfl)
theorem dX4_learns_16 : decode cX4_learns 16 = .ok (.iconst 2, 1) := dk_5 (dk_at dksX4_learns_0 16 rfl rfl)
theorem dX4_learns_17 : decode cX4_learns 17 = .ok (.iaload, 1) := dk_46 (dk_at dksX4_learns_0 17 rfl rfl)
theorem dX4_learns_18 : decode cX4_learns 18 = .ok (.bipush 6, 2) := dk_16 6 (dk_at dksX4_learns_0 18 rfl rfl)
theorem dX4_learns_20 : decode cX4_learns 20 = .ok (.if_icmp .ne 6, 3) := dk_160 0 6 (dk_at dksX4_learns_0 20 rfl rfl)
theorem dX4_learns_23 : decode cX4_learns 23 = .ok (.bipush (-2), 2) := dk_16 254 (dk_at dksX4_learns_1 0 rfl rfl)
theorem dX4_learns_25 : decode cX4_learns 25 = .ok (.ireturn, 1) := dk_172 (dk_at dksX4_learns_1 2 rfl rfl)
theorem dX4_learns_26 : decode cX4_learns 26 = .ok (.aload_n 0, 1) := dk_42 (dk_at dksX4_learns_1 3 rfl rfl)
theorem dX4_learns_27 : decode cX4_learns 27 = .ok (.aload_n 0, 1) := dk_42 (dk_at dksX4_learns_1 4 rfl rfl)
theorem dX4_learns_28 : decode cX4_learns 28 = .ok (.getfield 36, 3) := dk_180 0 36 (dk_at dksX4_learns_1 5 rfl rfl)
theorem dX4_learns_31 : decode cX4_learns 31 = .ok (.iload_n 1, 1) := dk_27 (dk_at dksX4_learns_1 8 rfl rfl)
theorem dX4_learns_32 : decode cX4_learns 32 = .ok (.iaload, 1) := dk_46 (dk_at dksX4_learns_1 9 rfl rfl)
theorem dX4_learns_33 : decode cX4_learns 33 = .ok (.aload_n 0, 1) := dk_42 (dk_at dksX4_learns_1 10 rfl rfl)
theorem dX4_learns_34 : decode cX4_learns 34 = .ok (.getfield 39, 3) := dk_180 0 39 (dk_at dksX4_learns_1 11 rfl rfl)
theorem dX4_learns_37 : decode cX4_learns 37 = .ok (.iload_n 1, 1) := dk_27 (dk_at dksX4_learns_1 14 rfl rfl)
theorem dX4_learns_38 : decode cX4_learns 38 = .ok (.iaload, 1) := dk_46 (dk_at dksX4_learns_1 15 rfl rfl)
theorem dX4_learns_39 : decode cX4_learns 39 = .ok (.invokevirtual 145, 3) := dk_182 0 145 (dk_at dksX4_learns_1 16 rfl rfl)
theorem dX4_learns_42 : decode cX4_learns 42 = .ok (.aload_n 0, 1) := dk_42 (dk_at dksX4_learns_1 19 rfl rfl)
theorem dX4_learns_43 : decode cX4_learns 43 = .ok (.getfield 9, 3) := dk_180 0 9 (dk_at dksX4_learns_1 20 rfl rfl)
theorem dX4_learns_46 : decode cX4_learns 46 = .ok (.iconst 2, 1) := dk_5 (dk_at dksX4_learns_1 23 rfl rfl)
theorem dX4_learns_47 : decode cX4_learns 47 = .ok (.iaload, 1) := dk_46 (dk_at dksX4_learns_2 0 rfl rfl)
theorem dX4_learns_48 : decode cX4_learns 48 = .ok (.iconst 1, 1) := dk_4 (dk_at dksX4_learns_2 1 rfl rfl)
theorem dX4_learns_49 : decode cX4_learns 49 = .ok (.isub, 1) := dk_100 (dk_at dksX4_learns_2 2 rfl rfl)
theorem dX4_learns_50 : decode cX4_learns 50 = .ok (.ireturn, 1) := dk_172 (dk_at dksX4_learns_2 3 rfl rfl)
abbrev cX4_wrongKept : ByteArray := prog_22_method_96_code
def yX4_wrongKept : MethodName := ⟨RX4, "wrongKept", "(I)I"⟩
def dkwX4_wrongKept_1 : List UInt8 := [167, 0, 19, 42, 180, 0, 33, 27, 46, 5, 160, 0, 8, 16, 244, 167, 0, 4, 3, 172]
abbrev dktX4_wrongKept_1 : List UInt8 := dkwX4_wrongKept_1 ++ []
def dkwX4_wrongKept_0 : List UInt8 := [27, 184, 1, 3, 154, 0, 7, 2, 167, 0, 33, 42, 180, 0, 33, 27, 46, 154, 0, 8, 16, 245]
abbrev dktX4_wrongKept_0 : List UInt8 := dkwX4_wrongKept_0 ++ dktX4_wrongKept_1
theorem dksX4_wrongKept_0 : cX4_wrongKept.data.toList.drop 0 = dktX4_wrongKept_0 := by decide +kernel
theorem dksX4_wrongKept_1 : cX4_wrongKept.data.toList.drop 22 = dktX4_wrongKept_1 := dk_seg dksX4_wrongKept_0 22 rfl rfl
theorem dX4_wrongKept_0 : decode cX4_wrongKept 0 = .ok (.iload_n 1, 1) := dk_27 (dk_at dksX4_wrongKept_0 0 rfl rfl)
theorem dX4_wrongKept_1 : decode cX4_wrongKept 1 = .ok (.invokestatic 259, 3) := dk_184 1 3 (dk_at dksX4_wrongKept_0 1 rfl rfl)
theorem dX4_wrongKept_4 : decode cX4_wrongKept 4 = .ok (.ifCond .ne 7, 3) := dk_154 0 7 (dk_at dksX4_wrongKept_0 4 rfl rfl)
theorem dX4_wrongKept_7 : decode cX4_wrongKept 7 = .ok (.iconst (-1), 1) := dk_2 (dk_at dksX4_wrongKept_0 7 rfl rfl)
theorem dX4_wrongKept_8 : decode cX4_wrongKept 8 = .ok (.goto 33, 3) := dk_167 0 33 (dk_at dksX4_wrongKept_0 8 rfl rfl)
theorem dX4_wrongKept_11 : decode cX4_wrongKept 11 = .ok (.aload_n 0, 1) := dk_42 (dk_at dksX4_wrongKept_0 11 rfl rfl)
theorem dX4_wrongKept_12 : decode cX4_wrongKept 12 = .ok (.getfield 33, 3) := dk_180 0 33 (dk_at dksX4_wrongKept_0 12 rfl rfl)
theorem dX4_wrongKept_15 : decode cX4_wrongKept 15 = .ok (.iload_n 1, 1) := dk_27 (dk_at dksX4_wrongKept_0 15 rfl rfl)
theorem dX4_wrongKept_16 : decode cX4_wrongKept 16 = .ok (.iaload, 1) := dk_46 (dk_at dksX4_wrongKept_0 16 rfl rfl)
theorem dX4_wrongKept_17 : decode cX4_wrongKept 17 = .ok (.ifCond .ne 8, 3) := dk_154 0 8 (dk_at dksX4_wrongKept_0 17 rfl rfl)
theorem dX4_wrongKept_20 : decode cX4_wrongKept 20 = .ok (.bipush (-11), 2) := dk_16 245 (dk_at dksX4_wrongKept_0 20 rfl rfl)
theorem dX4_wrongKept_22 : decode cX4_wrongKept 22 = .ok (.goto 19, 3) := dk_167 0 19 (dk_at dksX4_wrongKept_1 0 rfl rfl)
theorem dX4_wrongKept_25 : decode cX4_wrongKept 25 = .ok (.aload_n 0, 1) := dk_42 (dk_at dksX4_wrongKept_1 3 rfl rfl)
theorem dX4_wrongKept_26 : decode cX4_wrongKept 26 = .ok (.getfield 33, 3) := dk_180 0 33 (dk_at dksX4_wrongKept_1 4 rfl rfl)
theorem dX4_wrongKept_29 : decode cX4_wrongKept 29 = .ok (.iload_n 1, 1) := dk_27 (dk_at dksX4_wrongKept_1 7 rfl rfl)
theorem dX4_wrongKept_30 : decode cX4_wrongKept 30 = .ok (.iaload, 1) := dk_46 (dk_at dksX4_wrongKept_1 8 rfl rfl)
theorem dX4_wrongKept_31 : decode cX4_wrongKept 31 = .ok (.iconst 2, 1) := dk_5 (dk_at dksX4_wrongKept_1 9 rfl rfl)
theorem dX4_wrongKept_32 : decode cX4_wrongKept 32 = .ok (.if_icmp .ne 8, 3) := dk_160 0 8 (dk_at dksX4_wrongKept_1 10 rfl rfl)
theorem dX4_wrongKept_35 : decode cX4_wrongKept 35 = .ok (.bipush (-12), 2) := dk_16 244 (dk_at dksX4_wrongKept_1 13 rfl rfl)
theorem dX4_wrongKept_37 : decode cX4_wrongKept 37 = .ok (.goto 4, 3) := dk_167 0 4 (dk_at dksX4_wrongKept_1 15 rfl rfl)
theorem dX4_wrongKept_40 : decode cX4_wrongKept 40 = .ok (.iconst 0, 1) := dk_3 (dk_at dksX4_wrongKept_1 18 rfl rfl)
theorem dX4_wrongKept_41 : decode cX4_wrongKept 41 = .ok (.ireturn, 1) := dk_172 (dk_at dksX4_wrongKept_1 19 rfl rfl)
abbrev cX4_comes : ByteArray := prog_22_method_44_code
def yX4_comes : MethodName := ⟨RX4, "comes", "(II)I"⟩
def dkwX4_comes_1 : List UInt8 := [46, 7, 160, 0, 6, 16, 254, 172, 42, 27, 28, 182, 0, 141, 42, 180, 0, 9, 4, 46, 4, 100, 172]
abbrev dktX4_comes_1 : List UInt8 := dkwX4_comes_1 ++ []
def dkwX4_comes_0 : List UInt8 := [27, 3, 16, 9, 184, 0, 58, 153, 0, 10, 28, 184, 0, 174, 154, 0, 5, 2, 172, 42, 180, 0, 9, 4]
abbrev dktX4_comes_0 : List UInt8 := dkwX4_comes_0 ++ dktX4_comes_1
theorem dksX4_comes_0 : cX4_comes.data.toList.drop 0 = dktX4_comes_0 := by decide +kernel
theorem dksX4_comes_1 : cX4_comes.data.toList.drop 24 = dktX4_comes_1 := dk_seg dksX4_comes_0 24 rfl rfl
theorem dX4_comes_0 : decode cX4_comes 0 = .ok (.iload_n 1, 1) := dk_27 (dk_at dksX4_comes_0 0 rfl rfl)
theorem dX4_comes_1 : decode cX4_comes 1 = .ok (.iconst 0, 1) := dk_3 (dk_at dksX4_comes_0 1 rfl rfl)
theorem dX4_comes_2 : decode cX4_comes 2 = .ok (.bipush 9, 2) := dk_16 9 (dk_at dksX4_comes_0 2 rfl rfl)
theorem dX4_comes_4 : decode cX4_comes 4 = .ok (.invokestatic 58, 3) := dk_184 0 58 (dk_at dksX4_comes_0 4 rfl rfl)
theorem dX4_comes_7 : decode cX4_comes 7 = .ok (.ifCond .eq 10, 3) := dk_153 0 10 (dk_at dksX4_comes_0 7 rfl rfl)
theorem dX4_comes_10 : decode cX4_comes 10 = .ok (.iload_n 2, 1) := dk_28 (dk_at dksX4_comes_0 10 rfl rfl)
theorem dX4_comes_11 : decode cX4_comes 11 = .ok (.invokestatic 174, 3) := dk_184 0 174 (dk_at dksX4_comes_0 11 rfl rfl)
theorem dX4_comes_14 : decode cX4_comes 14 = .ok (.ifCond .ne 5, 3) := dk_154 0 5 (dk_at dksX4_comes_0 14 rfl rfl)
theorem dX4_comes_17 : decode cX4_comes 17 = .ok (.iconst (-1), 1) := dk_2 (dk_at dksX4_comes_0 17 rfl rfl)
theorem dX4_comes_18 : decode cX4_comes 18 = .ok (.ireturn, 1) := dk_172 (dk_at dksX4_comes_0 18 rfl rfl)
theorem dX4_comes_19 : decode cX4_comes 19 = .ok (.aload_n 0, 1) := dk_42 (dk_at dksX4_comes_0 19 rfl rfl)
theorem dX4_comes_20 : decode cX4_comes 20 = .ok (.getfield 9, 3) := dk_180 0 9 (dk_at dksX4_comes_0 20 rfl rfl)
theorem dX4_comes_23 : decode cX4_comes 23 = .ok (.iconst 1, 1) := dk_4 (dk_at dksX4_comes_0 23 rfl rfl)
theorem dX4_comes_24 : decode cX4_comes 24 = .ok (.iaload, 1) := dk_46 (dk_at dksX4_comes_1 0 rfl rfl)
theorem dX4_comes_25 : decode cX4_comes 25 = .ok (.iconst 4, 1) := dk_7 (dk_at dksX4_comes_1 1 rfl rfl)
theorem dX4_comes_26 : decode cX4_comes 26 = .ok (.if_icmp .ne 6, 3) := dk_160 0 6 (dk_at dksX4_comes_1 2 rfl rfl)
theorem dX4_comes_29 : decode cX4_comes 29 = .ok (.bipush (-2), 2) := dk_16 254 (dk_at dksX4_comes_1 5 rfl rfl)
theorem dX4_comes_31 : decode cX4_comes 31 = .ok (.ireturn, 1) := dk_172 (dk_at dksX4_comes_1 7 rfl rfl)
theorem dX4_comes_32 : decode cX4_comes 32 = .ok (.aload_n 0, 1) := dk_42 (dk_at dksX4_comes_1 8 rfl rfl)
theorem dX4_comes_33 : decode cX4_comes 33 = .ok (.iload_n 1, 1) := dk_27 (dk_at dksX4_comes_1 9 rfl rfl)
theorem dX4_comes_34 : decode cX4_comes 34 = .ok (.iload_n 2, 1) := dk_28 (dk_at dksX4_comes_1 10 rfl rfl)
theorem dX4_comes_35 : decode cX4_comes 35 = .ok (.invokevirtual 141, 3) := dk_182 0 141 (dk_at dksX4_comes_1 11 rfl rfl)
theorem dX4_comes_38 : decode cX4_comes 38 = .ok (.aload_n 0, 1) := dk_42 (dk_at dksX4_comes_1 14 rfl rfl)
theorem dX4_comes_39 : decode cX4_comes 39 = .ok (.getfield 9, 3) := dk_180 0 9 (dk_at dksX4_comes_1 15 rfl rfl)
theorem dX4_comes_42 : decode cX4_comes 42 = .ok (.iconst 1, 1) := dk_4 (dk_at dksX4_comes_1 18 rfl rfl)
theorem dX4_comes_43 : decode cX4_comes 43 = .ok (.iaload, 1) := dk_46 (dk_at dksX4_comes_1 19 rfl rfl)
theorem dX4_comes_44 : decode cX4_comes 44 = .ok (.iconst 1, 1) := dk_4 (dk_at dksX4_comes_1 20 rfl rfl)
theorem dX4_comes_45 : decode cX4_comes 45 = .ok (.isub, 1) := dk_100 (dk_at dksX4_comes_1 21 rfl rfl)
theorem dX4_comes_46 : decode cX4_comes 46 = .ok (.ireturn, 1) := dk_172 (dk_at dksX4_comes_1 22 rfl rfl)
abbrev cX4_isForce : ByteArray := prog_22_method_15_code
def yX4_isForce : MethodName := ⟨RX4, "isForce", "(I)Z"⟩
def dkwX4_isForce_0 : List UInt8 := [26, 3, 16, 60, 184, 0, 58, 172]
abbrev dktX4_isForce_0 : List UInt8 := dkwX4_isForce_0 ++ []
theorem dksX4_isForce_0 : cX4_isForce.data.toList.drop 0 = dktX4_isForce_0 := by decide +kernel
theorem dX4_isForce_0 : decode cX4_isForce 0 = .ok (.iload_n 0, 1) := dk_26 (dk_at dksX4_isForce_0 0 rfl rfl)
theorem dX4_isForce_1 : decode cX4_isForce 1 = .ok (.iconst 0, 1) := dk_3 (dk_at dksX4_isForce_0 1 rfl rfl)
theorem dX4_isForce_2 : decode cX4_isForce 2 = .ok (.bipush 60, 2) := dk_16 60 (dk_at dksX4_isForce_0 2 rfl rfl)
theorem dX4_isForce_4 : decode cX4_isForce 4 = .ok (.invokestatic 58, 3) := dk_184 0 58 (dk_at dksX4_isForce_0 4 rfl rfl)
theorem dX4_isForce_7 : decode cX4_isForce 7 = .ok (.ireturn, 1) := dk_172 (dk_at dksX4_isForce_0 7 rfl rfl)
abbrev cX4_wets : ByteArray := prog_22_method_45_code
def yX4_wets : MethodName := ⟨RX4, "wets", "(II)I"⟩
def dkwX4_wets_1 : List UInt8 := [182, 0, 72, 62, 42, 180, 0, 9, 27, 5, 184, 0, 51, 28, 79, 29, 172]
abbrev dktX4_wets_1 : List UInt8 := dkwX4_wets_1 ++ []
def dkwX4_wets_0 : List UInt8 := [42, 27, 182, 0, 62, 153, 0, 13, 28, 3, 16, 9, 184, 0, 58, 154, 0, 5, 2, 172, 42, 27, 5]
abbrev dktX4_wets_0 : List UInt8 := dkwX4_wets_0 ++ dktX4_wets_1
theorem dksX4_wets_0 : cX4_wets.data.toList.drop 0 = dktX4_wets_0 := by decide +kernel
theorem dksX4_wets_1 : cX4_wets.data.toList.drop 23 = dktX4_wets_1 := dk_seg dksX4_wets_0 23 rfl rfl
theorem dX4_wets_0 : decode cX4_wets 0 = .ok (.aload_n 0, 1) := dk_42 (dk_at dksX4_wets_0 0 rfl rfl)
theorem dX4_wets_1 : decode cX4_wets 1 = .ok (.iload_n 1, 1) := dk_27 (dk_at dksX4_wets_0 1 rfl rfl)
theorem dX4_wets_2 : decode cX4_wets 2 = .ok (.invokevirtual 62, 3) := dk_182 0 62 (dk_at dksX4_wets_0 2 rfl rfl)
theorem dX4_wets_5 : decode cX4_wets 5 = .ok (.ifCond .eq 13, 3) := dk_153 0 13 (dk_at dksX4_wets_0 5 rfl rfl)
theorem dX4_wets_8 : decode cX4_wets 8 = .ok (.iload_n 2, 1) := dk_28 (dk_at dksX4_wets_0 8 rfl rfl)
theorem dX4_wets_9 : decode cX4_wets 9 = .ok (.iconst 0, 1) := dk_3 (dk_at dksX4_wets_0 9 rfl rfl)
theorem dX4_wets_10 : decode cX4_wets 10 = .ok (.bipush 9, 2) := dk_16 9 (dk_at dksX4_wets_0 10 rfl rfl)
theorem dX4_wets_12 : decode cX4_wets 12 = .ok (.invokestatic 58, 3) := dk_184 0 58 (dk_at dksX4_wets_0 12 rfl rfl)
theorem dX4_wets_15 : decode cX4_wets 15 = .ok (.ifCond .ne 5, 3) := dk_154 0 5 (dk_at dksX4_wets_0 15 rfl rfl)
theorem dX4_wets_18 : decode cX4_wets 18 = .ok (.iconst (-1), 1) := dk_2 (dk_at dksX4_wets_0 18 rfl rfl)
theorem dX4_wets_19 : decode cX4_wets 19 = .ok (.ireturn, 1) := dk_172 (dk_at dksX4_wets_0 19 rfl rfl)
theorem dX4_wets_20 : decode cX4_wets 20 = .ok (.aload_n 0, 1) := dk_42 (dk_at dksX4_wets_0 20 rfl rfl)
theorem dX4_wets_21 : decode cX4_wets 21 = .ok (.iload_n 1, 1) := dk_27 (dk_at dksX4_wets_0 21 rfl rfl)
theorem dX4_wets_22 : decode cX4_wets 22 = .ok (.iconst 2, 1) := dk_5 (dk_at dksX4_wets_0 22 rfl rfl)
theorem dX4_wets_23 : decode cX4_wets 23 = .ok (.invokevirtual 72, 3) := dk_182 0 72 (dk_at dksX4_wets_1 0 rfl rfl)
theorem dX4_wets_26 : decode cX4_wets 26 = .ok (.istore_n 3, 1) := dk_62 (dk_at dksX4_wets_1 3 rfl rfl)
theorem dX4_wets_27 : decode cX4_wets 27 = .ok (.aload_n 0, 1) := dk_42 (dk_at dksX4_wets_1 4 rfl rfl)
theorem dX4_wets_28 : decode cX4_wets 28 = .ok (.getfield 9, 3) := dk_180 0 9 (dk_at dksX4_wets_1 5 rfl rfl)
theorem dX4_wets_31 : decode cX4_wets 31 = .ok (.iload_n 1, 1) := dk_27 (dk_at dksX4_wets_1 8 rfl rfl)
theorem dX4_wets_32 : decode cX4_wets 32 = .ok (.iconst 2, 1) := dk_5 (dk_at dksX4_wets_1 9 rfl rfl)
theorem dX4_wets_33 : decode cX4_wets 33 = .ok (.invokestatic 51, 3) := dk_184 0 51 (dk_at dksX4_wets_1 10 rfl rfl)
theorem dX4_wets_36 : decode cX4_wets 36 = .ok (.iload_n 2, 1) := dk_28 (dk_at dksX4_wets_1 13 rfl rfl)
theorem dX4_wets_37 : decode cX4_wets 37 = .ok (.iastore, 1) := dk_79 (dk_at dksX4_wets_1 14 rfl rfl)
theorem dX4_wets_38 : decode cX4_wets 38 = .ok (.iload_n 3, 1) := dk_29 (dk_at dksX4_wets_1 15 rfl rfl)
theorem dX4_wets_39 : decode cX4_wets 39 = .ok (.ireturn, 1) := dk_172 (dk_at dksX4_wets_1 16 rfl rfl)
abbrev cX4_span : ByteArray := prog_22_method_46_code
def yX4_span : MethodName := ⟨RX4, "span", "(IIII)I"⟩
def dkwX4_span_3 : List UInt8 := [182, 0, 107, 172]
abbrev dktX4_span_3 : List UInt8 := dkwX4_span_3 ++ []
def dkwX4_span_2 : List UInt8 := [182, 0, 101, 167, 0, 24, 21, 4, 5, 160, 0, 12, 42, 28, 29, 182, 0, 92, 167, 0, 9, 42, 28, 29]
abbrev dktX4_span_2 : List UInt8 := dkwX4_span_2 ++ dktX4_span_3
def dkwX4_span_1 : List UInt8 := [154, 0, 13, 42, 27, 28, 29, 182, 0, 98, 167, 0, 40, 21, 4, 4, 160, 0, 13, 42, 27, 28, 29]
abbrev dktX4_span_1 : List UInt8 := dkwX4_span_1 ++ dktX4_span_2
def dkwX4_span_0 : List UInt8 := [42, 27, 28, 29, 182, 0, 148, 153, 0, 13, 21, 4, 3, 6, 184, 0, 58, 154, 0, 5, 2, 172, 21, 4]
abbrev dktX4_span_0 : List UInt8 := dkwX4_span_0 ++ dktX4_span_1
theorem dksX4_span_0 : cX4_span.data.toList.drop 0 = dktX4_span_0 := by decide +kernel
theorem dksX4_span_1 : cX4_span.data.toList.drop 24 = dktX4_span_1 := dk_seg dksX4_span_0 24 rfl rfl
theorem dksX4_span_2 : cX4_span.data.toList.drop 47 = dktX4_span_2 := dk_seg dksX4_span_1 23 rfl rfl
theorem dksX4_span_3 : cX4_span.data.toList.drop 71 = dktX4_span_3 := dk_seg dksX4_span_2 24 rfl rfl
theorem dX4_span_0 : decode cX4_span 0 = .ok (.aload_n 0, 1) := dk_42 (dk_at dksX4_span_0 0 rfl rfl)
theorem dX4_span_1 : decode cX4_span 1 = .ok (.iload_n 1, 1) := dk_27 (dk_at dksX4_span_0 1 rfl rfl)
theorem dX4_span_2 : decode cX4_span 2 = .ok (.iload_n 2, 1) := dk_28 (dk_at dksX4_span_0 2 rfl rfl)
theorem dX4_span_3 : decode cX4_span 3 = .ok (.iload_n 3, 1) := dk_29 (dk_at dksX4_span_0 3 rfl rfl)
theorem dX4_span_4 : decode cX4_span 4 = .ok (.invokevirtual 148, 3) := dk_182 0 148 (dk_at dksX4_span_0 4 rfl rfl)
theorem dX4_span_7 : decode cX4_span 7 = .ok (.ifCond .eq 13, 3) := dk_153 0 13 (dk_at dksX4_span_0 7 rfl rfl)
theorem dX4_span_10 : decode cX4_span 10 = .ok (.iload 4, 2) := dk_21 4 (dk_at dksX4_span_0 10 rfl rfl)
theorem dX4_span_12 : decode cX4_span 12 = .ok (.iconst 0, 1) := dk_3 (dk_at dksX4_span_0 12 rfl rfl)
theorem dX4_span_13 : decode cX4_span 13 = .ok (.iconst 3, 1) := dk_6 (dk_at dksX4_span_0 13 rfl rfl)
theorem dX4_span_14 : decode cX4_span 14 = .ok (.invokestatic 58, 3) := dk_184 0 58 (dk_at dksX4_span_0 14 rfl rfl)
theorem dX4_span_17 : decode cX4_span 17 = .ok (.ifCond .ne 5, 3) := dk_154 0 5 (dk_at dksX4_span_0 17 rfl rfl)
theorem dX4_span_20 : decode cX4_span 20 = .ok (.iconst (-1), 1) := dk_2 (dk_at dksX4_span_0 20 rfl rfl)
theorem dX4_span_21 : decode cX4_span 21 = .ok (.ireturn, 1) := dk_172 (dk_at dksX4_span_0 21 rfl rfl)
theorem dX4_span_22 : decode cX4_span 22 = .ok (.iload 4, 2) := dk_21 4 (dk_at dksX4_span_0 22 rfl rfl)
theorem dX4_span_24 : decode cX4_span 24 = .ok (.ifCond .ne 13, 3) := dk_154 0 13 (dk_at dksX4_span_1 0 rfl rfl)
theorem dX4_span_27 : decode cX4_span 27 = .ok (.aload_n 0, 1) := dk_42 (dk_at dksX4_span_1 3 rfl rfl)
theorem dX4_span_28 : decode cX4_span 28 = .ok (.iload_n 1, 1) := dk_27 (dk_at dksX4_span_1 4 rfl rfl)
theorem dX4_span_29 : decode cX4_span 29 = .ok (.iload_n 2, 1) := dk_28 (dk_at dksX4_span_1 5 rfl rfl)
theorem dX4_span_30 : decode cX4_span 30 = .ok (.iload_n 3, 1) := dk_29 (dk_at dksX4_span_1 6 rfl rfl)
theorem dX4_span_31 : decode cX4_span 31 = .ok (.invokevirtual 98, 3) := dk_182 0 98 (dk_at dksX4_span_1 7 rfl rfl)
theorem dX4_span_34 : decode cX4_span 34 = .ok (.goto 40, 3) := dk_167 0 40 (dk_at dksX4_span_1 10 rfl rfl)
theorem dX4_span_37 : decode cX4_span 37 = .ok (.iload 4, 2) := dk_21 4 (dk_at dksX4_span_1 13 rfl rfl)
theorem dX4_span_39 : decode cX4_span 39 = .ok (.iconst 1, 1) := dk_4 (dk_at dksX4_span_1 15 rfl rfl)
theorem dX4_span_40 : decode cX4_span 40 = .ok (.if_icmp .ne 13, 3) := dk_160 0 13 (dk_at dksX4_span_1 16 rfl rfl)
theorem dX4_span_43 : decode cX4_span 43 = .ok (.aload_n 0, 1) := dk_42 (dk_at dksX4_span_1 19 rfl rfl)
theorem dX4_span_44 : decode cX4_span 44 = .ok (.iload_n 1, 1) := dk_27 (dk_at dksX4_span_1 20 rfl rfl)
theorem dX4_span_45 : decode cX4_span 45 = .ok (.iload_n 2, 1) := dk_28 (dk_at dksX4_span_1 21 rfl rfl)
theorem dX4_span_46 : decode cX4_span 46 = .ok (.iload_n 3, 1) := dk_29 (dk_at dksX4_span_1 22 rfl rfl)
theorem dX4_span_47 : decode cX4_span 47 = .ok (.invokevirtual 101, 3) := dk_182 0 101 (dk_at dksX4_span_2 0 rfl rfl)
theorem dX4_span_50 : decode cX4_span 50 = .ok (.goto 24, 3) := dk_167 0 24 (dk_at dksX4_span_2 3 rfl rfl)
theorem dX4_span_53 : decode cX4_span 53 = .ok (.iload 4, 2) := dk_21 4 (dk_at dksX4_span_2 6 rfl rfl)
theorem dX4_span_55 : decode cX4_span 55 = .ok (.iconst 2, 1) := dk_5 (dk_at dksX4_span_2 8 rfl rfl)
theorem dX4_span_56 : decode cX4_span 56 = .ok (.if_icmp .ne 12, 3) := dk_160 0 12 (dk_at dksX4_span_2 9 rfl rfl)
theorem dX4_span_59 : decode cX4_span 59 = .ok (.aload_n 0, 1) := dk_42 (dk_at dksX4_span_2 12 rfl rfl)
theorem dX4_span_60 : decode cX4_span 60 = .ok (.iload_n 2, 1) := dk_28 (dk_at dksX4_span_2 13 rfl rfl)
theorem dX4_span_61 : decode cX4_span 61 = .ok (.iload_n 3, 1) := dk_29 (dk_at dksX4_span_2 14 rfl rfl)
theorem dX4_span_62 : decode cX4_span 62 = .ok (.invokevirtual 92, 3) := dk_182 0 92 (dk_at dksX4_span_2 15 rfl rfl)
theorem dX4_span_65 : decode cX4_span 65 = .ok (.goto 9, 3) := dk_167 0 9 (dk_at dksX4_span_2 18 rfl rfl)
theorem dX4_span_68 : decode cX4_span 68 = .ok (.aload_n 0, 1) := dk_42 (dk_at dksX4_span_2 21 rfl rfl)
theorem dX4_span_69 : decode cX4_span 69 = .ok (.iload_n 2, 1) := dk_28 (dk_at dksX4_span_2 22 rfl rfl)
theorem dX4_span_70 : decode cX4_span 70 = .ok (.iload_n 3, 1) := dk_29 (dk_at dksX4_span_2 23 rfl rfl)
theorem dX4_span_71 : decode cX4_span 71 = .ok (.invokevirtual 107, 3) := dk_182 0 107 (dk_at dksX4_span_3 0 rfl rfl)
theorem dX4_span_74 : decode cX4_span 74 = .ok (.ireturn, 1) := dk_172 (dk_at dksX4_span_3 3 rfl rfl)
abbrev cX4_low : ByteArray := prog_22_method_21_code
def yX4_low : MethodName := ⟨RX4, "low", "(III)I"⟩
def dkwX4_low_1 : List UInt8 := [162, 0, 7, 3, 167, 0, 7, 21, 4, 5, 100, 172]
abbrev dktX4_low_1 : List UInt8 := dkwX4_low_1 ++ []
def dkwX4_low_0 : List UInt8 := [42, 27, 28, 29, 182, 0, 88, 54, 4, 42, 180, 0, 19, 153, 0, 8, 21, 4, 167, 0, 17, 21, 4, 5]
abbrev dktX4_low_0 : List UInt8 := dkwX4_low_0 ++ dktX4_low_1
theorem dksX4_low_0 : cX4_low.data.toList.drop 0 = dktX4_low_0 := by decide +kernel
theorem dksX4_low_1 : cX4_low.data.toList.drop 24 = dktX4_low_1 := dk_seg dksX4_low_0 24 rfl rfl
theorem dX4_low_0 : decode cX4_low 0 = .ok (.aload_n 0, 1) := dk_42 (dk_at dksX4_low_0 0 rfl rfl)
theorem dX4_low_1 : decode cX4_low 1 = .ok (.iload_n 1, 1) := dk_27 (dk_at dksX4_low_0 1 rfl rfl)
theorem dX4_low_2 : decode cX4_low 2 = .ok (.iload_n 2, 1) := dk_28 (dk_at dksX4_low_0 2 rfl rfl)
theorem dX4_low_3 : decode cX4_low 3 = .ok (.iload_n 3, 1) := dk_29 (dk_at dksX4_low_0 3 rfl rfl)
theorem dX4_low_4 : decode cX4_low 4 = .ok (.invokevirtual 88, 3) := dk_182 0 88 (dk_at dksX4_low_0 4 rfl rfl)
theorem dX4_low_7 : decode cX4_low 7 = .ok (.istore 4, 2) := dk_54 4 (dk_at dksX4_low_0 7 rfl rfl)
theorem dX4_low_9 : decode cX4_low 9 = .ok (.aload_n 0, 1) := dk_42 (dk_at dksX4_low_0 9 rfl rfl)
theorem dX4_low_10 : decode cX4_low 10 = .ok (.getfield 19, 3) := dk_180 0 19 (dk_at dksX4_low_0 10 rfl rfl)
theorem dX4_low_13 : decode cX4_low 13 = .ok (.ifCond .eq 8, 3) := dk_153 0 8 (dk_at dksX4_low_0 13 rfl rfl)
theorem dX4_low_16 : decode cX4_low 16 = .ok (.iload 4, 2) := dk_21 4 (dk_at dksX4_low_0 16 rfl rfl)
theorem dX4_low_18 : decode cX4_low 18 = .ok (.goto 17, 3) := dk_167 0 17 (dk_at dksX4_low_0 18 rfl rfl)
theorem dX4_low_21 : decode cX4_low 21 = .ok (.iload 4, 2) := dk_21 4 (dk_at dksX4_low_0 21 rfl rfl)
theorem dX4_low_23 : decode cX4_low 23 = .ok (.iconst 2, 1) := dk_5 (dk_at dksX4_low_0 23 rfl rfl)
theorem dX4_low_24 : decode cX4_low 24 = .ok (.if_icmp .ge 7, 3) := dk_162 0 7 (dk_at dksX4_low_1 0 rfl rfl)
theorem dX4_low_27 : decode cX4_low 27 = .ok (.iconst 0, 1) := dk_3 (dk_at dksX4_low_1 3 rfl rfl)
theorem dX4_low_28 : decode cX4_low 28 = .ok (.goto 7, 3) := dk_167 0 7 (dk_at dksX4_low_1 4 rfl rfl)
theorem dX4_low_31 : decode cX4_low 31 = .ok (.iload 4, 2) := dk_21 4 (dk_at dksX4_low_1 7 rfl rfl)
theorem dX4_low_33 : decode cX4_low 33 = .ok (.iconst 2, 1) := dk_5 (dk_at dksX4_low_1 9 rfl rfl)
theorem dX4_low_34 : decode cX4_low 34 = .ok (.isub, 1) := dk_100 (dk_at dksX4_low_1 10 rfl rfl)
theorem dX4_low_35 : decode cX4_low 35 = .ok (.ireturn, 1) := dk_172 (dk_at dksX4_low_1 11 rfl rfl)
abbrev cX4_lowPlain : ByteArray := prog_22_method_20_code
def yX4_lowPlain : MethodName := ⟨RX4, "lowPlain", "(III)I"⟩
def dkwX4_lowPlain_3 : List UInt8 := [160, 0, 10, 21, 4, 4, 96, 167, 0, 5, 21, 4, 172]
abbrev dktX4_lowPlain_3 : List UInt8 := dkwX4_lowPlain_3 ++ []
def dkwX4_lowPlain_2 : List UInt8 := [182, 0, 82, 6, 160, 0, 11, 21, 4, 16, 10, 96, 167, 0, 22, 42, 29, 182, 0, 82, 16, 6]
abbrev dktX4_lowPlain_2 : List UInt8 := dkwX4_lowPlain_2 ++ dktX4_lowPlain_3
def dkwX4_lowPlain_1 : List UInt8 := [154, 0, 6, 21, 4, 172, 21, 4, 5, 162, 0, 7, 3, 167, 0, 7, 21, 4, 5, 100, 54, 4, 42, 29]
abbrev dktX4_lowPlain_1 : List UInt8 := dkwX4_lowPlain_1 ++ dktX4_lowPlain_2
def dkwX4_lowPlain_0 : List UInt8 := [42, 27, 3, 182, 0, 72, 42, 28, 182, 0, 78, 96, 54, 4, 42, 29, 182, 0, 82, 184, 0, 85]
abbrev dktX4_lowPlain_0 : List UInt8 := dkwX4_lowPlain_0 ++ dktX4_lowPlain_1
theorem dksX4_lowPlain_0 : cX4_lowPlain.data.toList.drop 0 = dktX4_lowPlain_0 := by decide +kernel
theorem dksX4_lowPlain_1 : cX4_lowPlain.data.toList.drop 22 = dktX4_lowPlain_1 := dk_seg dksX4_lowPlain_0 22 rfl rfl
theorem dksX4_lowPlain_2 : cX4_lowPlain.data.toList.drop 46 = dktX4_lowPlain_2 := dk_seg dksX4_lowPlain_1 24 rfl rfl
theorem dksX4_lowPlain_3 : cX4_lowPlain.data.toList.drop 68 = dktX4_lowPlain_3 := dk_seg dksX4_lowPlain_2 22 rfl rfl
theorem dX4_lowPlain_0 : decode cX4_lowPlain 0 = .ok (.aload_n 0, 1) := dk_42 (dk_at dksX4_lowPlain_0 0 rfl rfl)
theorem dX4_lowPlain_1 : decode cX4_lowPlain 1 = .ok (.iload_n 1, 1) := dk_27 (dk_at dksX4_lowPlain_0 1 rfl rfl)
theorem dX4_lowPlain_2 : decode cX4_lowPlain 2 = .ok (.iconst 0, 1) := dk_3 (dk_at dksX4_lowPlain_0 2 rfl rfl)
theorem dX4_lowPlain_3 : decode cX4_lowPlain 3 = .ok (.invokevirtual 72, 3) := dk_182 0 72 (dk_at dksX4_lowPlain_0 3 rfl rfl)
theorem dX4_lowPlain_6 : decode cX4_lowPlain 6 = .ok (.aload_n 0, 1) := dk_42 (dk_at dksX4_lowPlain_0 6 rfl rfl)
theorem dX4_lowPlain_7 : decode cX4_lowPlain 7 = .ok (.iload_n 2, 1) := dk_28 (dk_at dksX4_lowPlain_0 7 rfl rfl)
theorem dX4_lowPlain_8 : decode cX4_lowPlain 8 = .ok (.invokevirtual 78, 3) := dk_182 0 78 (dk_at dksX4_lowPlain_0 8 rfl rfl)
theorem dX4_lowPlain_11 : decode cX4_lowPlain 11 = .ok (.iadd, 1) := dk_96 (dk_at dksX4_lowPlain_0 11 rfl rfl)
theorem dX4_lowPlain_12 : decode cX4_lowPlain 12 = .ok (.istore 4, 2) := dk_54 4 (dk_at dksX4_lowPlain_0 12 rfl rfl)
theorem dX4_lowPlain_14 : decode cX4_lowPlain 14 = .ok (.aload_n 0, 1) := dk_42 (dk_at dksX4_lowPlain_0 14 rfl rfl)
theorem dX4_lowPlain_15 : decode cX4_lowPlain 15 = .ok (.iload_n 3, 1) := dk_29 (dk_at dksX4_lowPlain_0 15 rfl rfl)
theorem dX4_lowPlain_16 : decode cX4_lowPlain 16 = .ok (.invokevirtual 82, 3) := dk_182 0 82 (dk_at dksX4_lowPlain_0 16 rfl rfl)
theorem dX4_lowPlain_19 : decode cX4_lowPlain 19 = .ok (.invokestatic 85, 3) := dk_184 0 85 (dk_at dksX4_lowPlain_0 19 rfl rfl)
theorem dX4_lowPlain_22 : decode cX4_lowPlain 22 = .ok (.ifCond .ne 6, 3) := dk_154 0 6 (dk_at dksX4_lowPlain_1 0 rfl rfl)
theorem dX4_lowPlain_25 : decode cX4_lowPlain 25 = .ok (.iload 4, 2) := dk_21 4 (dk_at dksX4_lowPlain_1 3 rfl rfl)
theorem dX4_lowPlain_27 : decode cX4_lowPlain 27 = .ok (.ireturn, 1) := dk_172 (dk_at dksX4_lowPlain_1 5 rfl rfl)
theorem dX4_lowPlain_28 : decode cX4_lowPlain 28 = .ok (.iload 4, 2) := dk_21 4 (dk_at dksX4_lowPlain_1 6 rfl rfl)
theorem dX4_lowPlain_30 : decode cX4_lowPlain 30 = .ok (.iconst 2, 1) := dk_5 (dk_at dksX4_lowPlain_1 8 rfl rfl)
theorem dX4_lowPlain_31 : decode cX4_lowPlain 31 = .ok (.if_icmp .ge 7, 3) := dk_162 0 7 (dk_at dksX4_lowPlain_1 9 rfl rfl)
theorem dX4_lowPlain_34 : decode cX4_lowPlain 34 = .ok (.iconst 0, 1) := dk_3 (dk_at dksX4_lowPlain_1 12 rfl rfl)
theorem dX4_lowPlain_35 : decode cX4_lowPlain 35 = .ok (.goto 7, 3) := dk_167 0 7 (dk_at dksX4_lowPlain_1 13 rfl rfl)
theorem dX4_lowPlain_38 : decode cX4_lowPlain 38 = .ok (.iload 4, 2) := dk_21 4 (dk_at dksX4_lowPlain_1 16 rfl rfl)
theorem dX4_lowPlain_40 : decode cX4_lowPlain 40 = .ok (.iconst 2, 1) := dk_5 (dk_at dksX4_lowPlain_1 18 rfl rfl)
theorem dX4_lowPlain_41 : decode cX4_lowPlain 41 = .ok (.isub, 1) := dk_100 (dk_at dksX4_lowPlain_1 19 rfl rfl)
theorem dX4_lowPlain_42 : decode cX4_lowPlain 42 = .ok (.istore 4, 2) := dk_54 4 (dk_at dksX4_lowPlain_1 20 rfl rfl)
theorem dX4_lowPlain_44 : decode cX4_lowPlain 44 = .ok (.aload_n 0, 1) := dk_42 (dk_at dksX4_lowPlain_1 22 rfl rfl)
theorem dX4_lowPlain_45 : decode cX4_lowPlain 45 = .ok (.iload_n 3, 1) := dk_29 (dk_at dksX4_lowPlain_1 23 rfl rfl)
theorem dX4_lowPlain_46 : decode cX4_lowPlain 46 = .ok (.invokevirtual 82, 3) := dk_182 0 82 (dk_at dksX4_lowPlain_2 0 rfl rfl)
theorem dX4_lowPlain_49 : decode cX4_lowPlain 49 = .ok (.iconst 3, 1) := dk_6 (dk_at dksX4_lowPlain_2 3 rfl rfl)
theorem dX4_lowPlain_50 : decode cX4_lowPlain 50 = .ok (.if_icmp .ne 11, 3) := dk_160 0 11 (dk_at dksX4_lowPlain_2 4 rfl rfl)
theorem dX4_lowPlain_53 : decode cX4_lowPlain 53 = .ok (.iload 4, 2) := dk_21 4 (dk_at dksX4_lowPlain_2 7 rfl rfl)
theorem dX4_lowPlain_55 : decode cX4_lowPlain 55 = .ok (.bipush 10, 2) := dk_16 10 (dk_at dksX4_lowPlain_2 9 rfl rfl)
theorem dX4_lowPlain_57 : decode cX4_lowPlain 57 = .ok (.iadd, 1) := dk_96 (dk_at dksX4_lowPlain_2 11 rfl rfl)
theorem dX4_lowPlain_58 : decode cX4_lowPlain 58 = .ok (.goto 22, 3) := dk_167 0 22 (dk_at dksX4_lowPlain_2 12 rfl rfl)
theorem dX4_lowPlain_61 : decode cX4_lowPlain 61 = .ok (.aload_n 0, 1) := dk_42 (dk_at dksX4_lowPlain_2 15 rfl rfl)
theorem dX4_lowPlain_62 : decode cX4_lowPlain 62 = .ok (.iload_n 3, 1) := dk_29 (dk_at dksX4_lowPlain_2 16 rfl rfl)
theorem dX4_lowPlain_63 : decode cX4_lowPlain 63 = .ok (.invokevirtual 82, 3) := dk_182 0 82 (dk_at dksX4_lowPlain_2 17 rfl rfl)
theorem dX4_lowPlain_66 : decode cX4_lowPlain 66 = .ok (.bipush 6, 2) := dk_16 6 (dk_at dksX4_lowPlain_2 20 rfl rfl)
theorem dX4_lowPlain_68 : decode cX4_lowPlain 68 = .ok (.if_icmp .ne 10, 3) := dk_160 0 10 (dk_at dksX4_lowPlain_3 0 rfl rfl)
theorem dX4_lowPlain_71 : decode cX4_lowPlain 71 = .ok (.iload 4, 2) := dk_21 4 (dk_at dksX4_lowPlain_3 3 rfl rfl)
theorem dX4_lowPlain_73 : decode cX4_lowPlain 73 = .ok (.iconst 1, 1) := dk_4 (dk_at dksX4_lowPlain_3 5 rfl rfl)
theorem dX4_lowPlain_74 : decode cX4_lowPlain 74 = .ok (.iadd, 1) := dk_96 (dk_at dksX4_lowPlain_3 6 rfl rfl)
theorem dX4_lowPlain_75 : decode cX4_lowPlain 75 = .ok (.goto 5, 3) := dk_167 0 5 (dk_at dksX4_lowPlain_3 7 rfl rfl)
theorem dX4_lowPlain_78 : decode cX4_lowPlain 78 = .ok (.iload 4, 2) := dk_21 4 (dk_at dksX4_lowPlain_3 10 rfl rfl)
theorem dX4_lowPlain_80 : decode cX4_lowPlain 80 = .ok (.ireturn, 1) := dk_172 (dk_at dksX4_lowPlain_3 12 rfl rfl)
abbrev cX4_slitOf : ByteArray := prog_22_method_18_code
def yX4_slitOf : MethodName := ⟨RX4, "slitOf", "(I)I"⟩
def dkwX4_slitOf_1 : List UInt8 := [4, 100, 167, 0, 4, 28, 172]
abbrev dktX4_slitOf_1 : List UInt8 := dkwX4_slitOf_1 ++ []
def dkwX4_slitOf_0 : List UInt8 := [42, 180, 0, 9, 27, 3, 184, 0, 75, 46, 61, 42, 180, 0, 19, 5, 160, 0, 13, 28, 158, 0, 9, 28]
abbrev dktX4_slitOf_0 : List UInt8 := dkwX4_slitOf_0 ++ dktX4_slitOf_1
theorem dksX4_slitOf_0 : cX4_slitOf.data.toList.drop 0 = dktX4_slitOf_0 := by decide +kernel
theorem dksX4_slitOf_1 : cX4_slitOf.data.toList.drop 24 = dktX4_slitOf_1 := dk_seg dksX4_slitOf_0 24 rfl rfl
theorem dX4_slitOf_0 : decode cX4_slitOf 0 = .ok (.aload_n 0, 1) := dk_42 (dk_at dksX4_slitOf_0 0 rfl rfl)
theorem dX4_slitOf_1 : decode cX4_slitOf 1 = .ok (.getfield 9, 3) := dk_180 0 9 (dk_at dksX4_slitOf_0 1 rfl rfl)
theorem dX4_slitOf_4 : decode cX4_slitOf 4 = .ok (.iload_n 1, 1) := dk_27 (dk_at dksX4_slitOf_0 4 rfl rfl)
theorem dX4_slitOf_5 : decode cX4_slitOf 5 = .ok (.iconst 0, 1) := dk_3 (dk_at dksX4_slitOf_0 5 rfl rfl)
theorem dX4_slitOf_6 : decode cX4_slitOf 6 = .ok (.invokestatic 75, 3) := dk_184 0 75 (dk_at dksX4_slitOf_0 6 rfl rfl)
theorem dX4_slitOf_9 : decode cX4_slitOf 9 = .ok (.iaload, 1) := dk_46 (dk_at dksX4_slitOf_0 9 rfl rfl)
theorem dX4_slitOf_10 : decode cX4_slitOf 10 = .ok (.istore_n 2, 1) := dk_61 (dk_at dksX4_slitOf_0 10 rfl rfl)
theorem dX4_slitOf_11 : decode cX4_slitOf 11 = .ok (.aload_n 0, 1) := dk_42 (dk_at dksX4_slitOf_0 11 rfl rfl)
theorem dX4_slitOf_12 : decode cX4_slitOf 12 = .ok (.getfield 19, 3) := dk_180 0 19 (dk_at dksX4_slitOf_0 12 rfl rfl)
theorem dX4_slitOf_15 : decode cX4_slitOf 15 = .ok (.iconst 2, 1) := dk_5 (dk_at dksX4_slitOf_0 15 rfl rfl)
theorem dX4_slitOf_16 : decode cX4_slitOf 16 = .ok (.if_icmp .ne 13, 3) := dk_160 0 13 (dk_at dksX4_slitOf_0 16 rfl rfl)
theorem dX4_slitOf_19 : decode cX4_slitOf 19 = .ok (.iload_n 2, 1) := dk_28 (dk_at dksX4_slitOf_0 19 rfl rfl)
theorem dX4_slitOf_20 : decode cX4_slitOf 20 = .ok (.ifCond .le 9, 3) := dk_158 0 9 (dk_at dksX4_slitOf_0 20 rfl rfl)
theorem dX4_slitOf_23 : decode cX4_slitOf 23 = .ok (.iload_n 2, 1) := dk_28 (dk_at dksX4_slitOf_0 23 rfl rfl)
theorem dX4_slitOf_24 : decode cX4_slitOf 24 = .ok (.iconst 1, 1) := dk_4 (dk_at dksX4_slitOf_1 0 rfl rfl)
theorem dX4_slitOf_25 : decode cX4_slitOf 25 = .ok (.isub, 1) := dk_100 (dk_at dksX4_slitOf_1 1 rfl rfl)
theorem dX4_slitOf_26 : decode cX4_slitOf 26 = .ok (.goto 4, 3) := dk_167 0 4 (dk_at dksX4_slitOf_1 2 rfl rfl)
theorem dX4_slitOf_29 : decode cX4_slitOf 29 = .ok (.iload_n 2, 1) := dk_28 (dk_at dksX4_slitOf_1 5 rfl rfl)
theorem dX4_slitOf_30 : decode cX4_slitOf 30 = .ok (.ireturn, 1) := dk_172 (dk_at dksX4_slitOf_1 6 rfl rfl)
abbrev cX4_isSounding : ByteArray := prog_22_method_17_code
def yX4_isSounding : MethodName := ⟨RX4, "isSounding", "(I)Z"⟩
def dkwX4_isSounding_1 : List UInt8 := [167, 0, 4, 3, 172]
abbrev dktX4_isSounding_1 : List UInt8 := dkwX4_isSounding_1 ++ []
def dkwX4_isSounding_0 : List UInt8 := [26, 5, 159, 0, 19, 26, 6, 159, 0, 14, 26, 8, 159, 0, 9, 26, 16, 6, 160, 0, 7, 4]
abbrev dktX4_isSounding_0 : List UInt8 := dkwX4_isSounding_0 ++ dktX4_isSounding_1
theorem dksX4_isSounding_0 : cX4_isSounding.data.toList.drop 0 = dktX4_isSounding_0 := by decide +kernel
theorem dksX4_isSounding_1 : cX4_isSounding.data.toList.drop 22 = dktX4_isSounding_1 := dk_seg dksX4_isSounding_0 22 rfl rfl
theorem dX4_isSounding_0 : decode cX4_isSounding 0 = .ok (.iload_n 0, 1) := dk_26 (dk_at dksX4_isSounding_0 0 rfl rfl)
theorem dX4_isSounding_1 : decode cX4_isSounding 1 = .ok (.iconst 2, 1) := dk_5 (dk_at dksX4_isSounding_0 1 rfl rfl)
theorem dX4_isSounding_2 : decode cX4_isSounding 2 = .ok (.if_icmp .eq 19, 3) := dk_159 0 19 (dk_at dksX4_isSounding_0 2 rfl rfl)
theorem dX4_isSounding_5 : decode cX4_isSounding 5 = .ok (.iload_n 0, 1) := dk_26 (dk_at dksX4_isSounding_0 5 rfl rfl)
theorem dX4_isSounding_6 : decode cX4_isSounding 6 = .ok (.iconst 3, 1) := dk_6 (dk_at dksX4_isSounding_0 6 rfl rfl)
theorem dX4_isSounding_7 : decode cX4_isSounding 7 = .ok (.if_icmp .eq 14, 3) := dk_159 0 14 (dk_at dksX4_isSounding_0 7 rfl rfl)
theorem dX4_isSounding_10 : decode cX4_isSounding 10 = .ok (.iload_n 0, 1) := dk_26 (dk_at dksX4_isSounding_0 10 rfl rfl)
theorem dX4_isSounding_11 : decode cX4_isSounding 11 = .ok (.iconst 5, 1) := dk_8 (dk_at dksX4_isSounding_0 11 rfl rfl)
theorem dX4_isSounding_12 : decode cX4_isSounding 12 = .ok (.if_icmp .eq 9, 3) := dk_159 0 9 (dk_at dksX4_isSounding_0 12 rfl rfl)
theorem dX4_isSounding_15 : decode cX4_isSounding 15 = .ok (.iload_n 0, 1) := dk_26 (dk_at dksX4_isSounding_0 15 rfl rfl)
theorem dX4_isSounding_16 : decode cX4_isSounding 16 = .ok (.bipush 6, 2) := dk_16 6 (dk_at dksX4_isSounding_0 16 rfl rfl)
theorem dX4_isSounding_18 : decode cX4_isSounding 18 = .ok (.if_icmp .ne 7, 3) := dk_160 0 7 (dk_at dksX4_isSounding_0 18 rfl rfl)
theorem dX4_isSounding_21 : decode cX4_isSounding 21 = .ok (.iconst 1, 1) := dk_4 (dk_at dksX4_isSounding_0 21 rfl rfl)
theorem dX4_isSounding_22 : decode cX4_isSounding 22 = .ok (.goto 4, 3) := dk_167 0 4 (dk_at dksX4_isSounding_1 0 rfl rfl)
theorem dX4_isSounding_25 : decode cX4_isSounding 25 = .ok (.iconst 0, 1) := dk_3 (dk_at dksX4_isSounding_1 3 rfl rfl)
theorem dX4_isSounding_26 : decode cX4_isSounding 26 = .ok (.ireturn, 1) := dk_172 (dk_at dksX4_isSounding_1 4 rfl rfl)
abbrev cX4_high : ByteArray := prog_22_method_22_code
def yX4_high : MethodName := ⟨RX4, "high", "(III)I"⟩
def dkwX4_high_1 : List UInt8 := [160, 0, 10, 21, 4, 5, 108, 167, 0, 5, 21, 4, 96, 172]
abbrev dktX4_high_1 : List UInt8 := dkwX4_high_1 ++ []
def dkwX4_high_0 : List UInt8 := [16, 8, 42, 27, 5, 182, 0, 72, 96, 54, 4, 42, 27, 28, 29, 182, 0, 88, 42, 29, 182, 0, 82, 6]
abbrev dktX4_high_0 : List UInt8 := dkwX4_high_0 ++ dktX4_high_1
theorem dksX4_high_0 : cX4_high.data.toList.drop 0 = dktX4_high_0 := by decide +kernel
theorem dksX4_high_1 : cX4_high.data.toList.drop 24 = dktX4_high_1 := dk_seg dksX4_high_0 24 rfl rfl
theorem dX4_high_0 : decode cX4_high 0 = .ok (.bipush 8, 2) := dk_16 8 (dk_at dksX4_high_0 0 rfl rfl)
theorem dX4_high_2 : decode cX4_high 2 = .ok (.aload_n 0, 1) := dk_42 (dk_at dksX4_high_0 2 rfl rfl)
theorem dX4_high_3 : decode cX4_high 3 = .ok (.iload_n 1, 1) := dk_27 (dk_at dksX4_high_0 3 rfl rfl)
theorem dX4_high_4 : decode cX4_high 4 = .ok (.iconst 2, 1) := dk_5 (dk_at dksX4_high_0 4 rfl rfl)
theorem dX4_high_5 : decode cX4_high 5 = .ok (.invokevirtual 72, 3) := dk_182 0 72 (dk_at dksX4_high_0 5 rfl rfl)
theorem dX4_high_8 : decode cX4_high 8 = .ok (.iadd, 1) := dk_96 (dk_at dksX4_high_0 8 rfl rfl)
theorem dX4_high_9 : decode cX4_high 9 = .ok (.istore 4, 2) := dk_54 4 (dk_at dksX4_high_0 9 rfl rfl)
theorem dX4_high_11 : decode cX4_high 11 = .ok (.aload_n 0, 1) := dk_42 (dk_at dksX4_high_0 11 rfl rfl)
theorem dX4_high_12 : decode cX4_high 12 = .ok (.iload_n 1, 1) := dk_27 (dk_at dksX4_high_0 12 rfl rfl)
theorem dX4_high_13 : decode cX4_high 13 = .ok (.iload_n 2, 1) := dk_28 (dk_at dksX4_high_0 13 rfl rfl)
theorem dX4_high_14 : decode cX4_high 14 = .ok (.iload_n 3, 1) := dk_29 (dk_at dksX4_high_0 14 rfl rfl)
theorem dX4_high_15 : decode cX4_high 15 = .ok (.invokevirtual 88, 3) := dk_182 0 88 (dk_at dksX4_high_0 15 rfl rfl)
theorem dX4_high_18 : decode cX4_high 18 = .ok (.aload_n 0, 1) := dk_42 (dk_at dksX4_high_0 18 rfl rfl)
theorem dX4_high_19 : decode cX4_high 19 = .ok (.iload_n 3, 1) := dk_29 (dk_at dksX4_high_0 19 rfl rfl)
theorem dX4_high_20 : decode cX4_high 20 = .ok (.invokevirtual 82, 3) := dk_182 0 82 (dk_at dksX4_high_0 20 rfl rfl)
theorem dX4_high_23 : decode cX4_high 23 = .ok (.iconst 3, 1) := dk_6 (dk_at dksX4_high_0 23 rfl rfl)
theorem dX4_high_24 : decode cX4_high 24 = .ok (.if_icmp .ne 10, 3) := dk_160 0 10 (dk_at dksX4_high_1 0 rfl rfl)
theorem dX4_high_27 : decode cX4_high 27 = .ok (.iload 4, 2) := dk_21 4 (dk_at dksX4_high_1 3 rfl rfl)
theorem dX4_high_29 : decode cX4_high 29 = .ok (.iconst 2, 1) := dk_5 (dk_at dksX4_high_1 5 rfl rfl)
theorem dX4_high_30 : decode cX4_high 30 = .ok (.idiv, 1) := dk_108 (dk_at dksX4_high_1 6 rfl rfl)
theorem dX4_high_31 : decode cX4_high 31 = .ok (.goto 5, 3) := dk_167 0 5 (dk_at dksX4_high_1 7 rfl rfl)
theorem dX4_high_34 : decode cX4_high 34 = .ok (.iload 4, 2) := dk_21 4 (dk_at dksX4_high_1 10 rfl rfl)
theorem dX4_high_36 : decode cX4_high 36 = .ok (.iadd, 1) := dk_96 (dk_at dksX4_high_1 12 rfl rfl)
theorem dX4_high_37 : decode cX4_high 37 = .ok (.ireturn, 1) := dk_172 (dk_at dksX4_high_1 13 rfl rfl)
abbrev cX4_softest : ByteArray := prog_22_method_23_code
def yX4_softest : MethodName := ⟨RX4, "softest", "(II)I"⟩
def dkwX4_softest_2 : List UInt8 := [16, 61, 172, 5, 29, 104, 172, 29, 5, 108, 172, 29, 172]
abbrev dktX4_softest_2 : List UInt8 := dkwX4_softest_2 ++ []
def dkwX4_softest_1 : List UInt8 := [170, 0, 0, 0, 0, 0, 0, 55, 0, 0, 0, 1, 0, 0, 0, 7, 0, 0, 0, 44, 0, 0, 0, 55, 0, 0, 0, 47, 0, 0, 0, 55, 0, 0, 0, 55, 0, 0, 0, 51, 0, 0, 0, 44]
abbrev dktX4_softest_1 : List UInt8 := dkwX4_softest_1 ++ dktX4_softest_2
def dkwX4_softest_0 : List UInt8 := [16, 6, 5, 42, 27, 182, 0, 78, 104, 96, 62, 42, 28, 182, 0, 82]
abbrev dktX4_softest_0 : List UInt8 := dkwX4_softest_0 ++ dktX4_softest_1
theorem dksX4_softest_0 : cX4_softest.data.toList.drop 0 = dktX4_softest_0 := by decide +kernel
theorem dksX4_softest_1 : cX4_softest.data.toList.drop 16 = dktX4_softest_1 := dk_seg dksX4_softest_0 16 rfl rfl
theorem dksX4_softest_2 : cX4_softest.data.toList.drop 60 = dktX4_softest_2 := dk_seg dksX4_softest_1 44 rfl rfl
theorem dX4_softest_0 : decode cX4_softest 0 = .ok (.bipush 6, 2) := dk_16 6 (dk_at dksX4_softest_0 0 rfl rfl)
theorem dX4_softest_2 : decode cX4_softest 2 = .ok (.iconst 2, 1) := dk_5 (dk_at dksX4_softest_0 2 rfl rfl)
theorem dX4_softest_3 : decode cX4_softest 3 = .ok (.aload_n 0, 1) := dk_42 (dk_at dksX4_softest_0 3 rfl rfl)
theorem dX4_softest_4 : decode cX4_softest 4 = .ok (.iload_n 1, 1) := dk_27 (dk_at dksX4_softest_0 4 rfl rfl)
theorem dX4_softest_5 : decode cX4_softest 5 = .ok (.invokevirtual 78, 3) := dk_182 0 78 (dk_at dksX4_softest_0 5 rfl rfl)
theorem dX4_softest_8 : decode cX4_softest 8 = .ok (.imul, 1) := dk_104 (dk_at dksX4_softest_0 8 rfl rfl)
theorem dX4_softest_9 : decode cX4_softest 9 = .ok (.iadd, 1) := dk_96 (dk_at dksX4_softest_0 9 rfl rfl)
theorem dX4_softest_10 : decode cX4_softest 10 = .ok (.istore_n 3, 1) := dk_62 (dk_at dksX4_softest_0 10 rfl rfl)
theorem dX4_softest_11 : decode cX4_softest 11 = .ok (.aload_n 0, 1) := dk_42 (dk_at dksX4_softest_0 11 rfl rfl)
theorem dX4_softest_12 : decode cX4_softest 12 = .ok (.iload_n 2, 1) := dk_28 (dk_at dksX4_softest_0 12 rfl rfl)
theorem dX4_softest_13 : decode cX4_softest 13 = .ok (.invokevirtual 82, 3) := dk_182 0 82 (dk_at dksX4_softest_0 13 rfl rfl)
theorem dX4_softest_16 : decode cX4_softest 16 = .ok (.tableswitch 55 1 7 #[44, 55, 47, 55, 55, 51, 44], 44) := by decide +kernel
theorem dX4_softest_60 : decode cX4_softest 60 = .ok (.bipush 61, 2) := dk_16 61 (dk_at dksX4_softest_2 0 rfl rfl)
theorem dX4_softest_62 : decode cX4_softest 62 = .ok (.ireturn, 1) := dk_172 (dk_at dksX4_softest_2 2 rfl rfl)
theorem dX4_softest_63 : decode cX4_softest 63 = .ok (.iconst 2, 1) := dk_5 (dk_at dksX4_softest_2 3 rfl rfl)
theorem dX4_softest_64 : decode cX4_softest 64 = .ok (.iload_n 3, 1) := dk_29 (dk_at dksX4_softest_2 4 rfl rfl)
theorem dX4_softest_65 : decode cX4_softest 65 = .ok (.imul, 1) := dk_104 (dk_at dksX4_softest_2 5 rfl rfl)
theorem dX4_softest_66 : decode cX4_softest 66 = .ok (.ireturn, 1) := dk_172 (dk_at dksX4_softest_2 6 rfl rfl)
theorem dX4_softest_67 : decode cX4_softest 67 = .ok (.iload_n 3, 1) := dk_29 (dk_at dksX4_softest_2 7 rfl rfl)
theorem dX4_softest_68 : decode cX4_softest 68 = .ok (.iconst 2, 1) := dk_5 (dk_at dksX4_softest_2 8 rfl rfl)
theorem dX4_softest_69 : decode cX4_softest 69 = .ok (.idiv, 1) := dk_108 (dk_at dksX4_softest_2 9 rfl rfl)
theorem dX4_softest_70 : decode cX4_softest 70 = .ok (.ireturn, 1) := dk_172 (dk_at dksX4_softest_2 10 rfl rfl)
theorem dX4_softest_71 : decode cX4_softest 71 = .ok (.iload_n 3, 1) := dk_29 (dk_at dksX4_softest_2 11 rfl rfl)
theorem dX4_softest_72 : decode cX4_softest 72 = .ok (.ireturn, 1) := dk_172 (dk_at dksX4_softest_2 12 rfl rfl)
abbrev cX4_hardest : ByteArray := prog_22_method_24_code
def yX4_hardest : MethodName := ⟨RX4, "hardest", "(II)I"⟩
def dkwX4_hardest_1 : List UInt8 := [167, 0, 20, 42, 28, 182, 0, 82, 16, 6, 160, 0, 8, 16, 10, 167, 0, 5, 16, 20, 96, 172]
abbrev dktX4_hardest_1 : List UInt8 := dkwX4_hardest_1 ++ []
def dkwX4_hardest_0 : List UInt8 := [42, 27, 28, 182, 0, 92, 42, 28, 182, 0, 82, 7, 160, 0, 14, 16, 20, 42, 28, 182, 0, 95, 100]
abbrev dktX4_hardest_0 : List UInt8 := dkwX4_hardest_0 ++ dktX4_hardest_1
theorem dksX4_hardest_0 : cX4_hardest.data.toList.drop 0 = dktX4_hardest_0 := by decide +kernel
theorem dksX4_hardest_1 : cX4_hardest.data.toList.drop 23 = dktX4_hardest_1 := dk_seg dksX4_hardest_0 23 rfl rfl
theorem dX4_hardest_0 : decode cX4_hardest 0 = .ok (.aload_n 0, 1) := dk_42 (dk_at dksX4_hardest_0 0 rfl rfl)
theorem dX4_hardest_1 : decode cX4_hardest 1 = .ok (.iload_n 1, 1) := dk_27 (dk_at dksX4_hardest_0 1 rfl rfl)
theorem dX4_hardest_2 : decode cX4_hardest 2 = .ok (.iload_n 2, 1) := dk_28 (dk_at dksX4_hardest_0 2 rfl rfl)
theorem dX4_hardest_3 : decode cX4_hardest 3 = .ok (.invokevirtual 92, 3) := dk_182 0 92 (dk_at dksX4_hardest_0 3 rfl rfl)
theorem dX4_hardest_6 : decode cX4_hardest 6 = .ok (.aload_n 0, 1) := dk_42 (dk_at dksX4_hardest_0 6 rfl rfl)
theorem dX4_hardest_7 : decode cX4_hardest 7 = .ok (.iload_n 2, 1) := dk_28 (dk_at dksX4_hardest_0 7 rfl rfl)
theorem dX4_hardest_8 : decode cX4_hardest 8 = .ok (.invokevirtual 82, 3) := dk_182 0 82 (dk_at dksX4_hardest_0 8 rfl rfl)
theorem dX4_hardest_11 : decode cX4_hardest 11 = .ok (.iconst 4, 1) := dk_7 (dk_at dksX4_hardest_0 11 rfl rfl)
theorem dX4_hardest_12 : decode cX4_hardest 12 = .ok (.if_icmp .ne 14, 3) := dk_160 0 14 (dk_at dksX4_hardest_0 12 rfl rfl)
theorem dX4_hardest_15 : decode cX4_hardest 15 = .ok (.bipush 20, 2) := dk_16 20 (dk_at dksX4_hardest_0 15 rfl rfl)
theorem dX4_hardest_17 : decode cX4_hardest 17 = .ok (.aload_n 0, 1) := dk_42 (dk_at dksX4_hardest_0 17 rfl rfl)
theorem dX4_hardest_18 : decode cX4_hardest 18 = .ok (.iload_n 2, 1) := dk_28 (dk_at dksX4_hardest_0 18 rfl rfl)
theorem dX4_hardest_19 : decode cX4_hardest 19 = .ok (.invokevirtual 95, 3) := dk_182 0 95 (dk_at dksX4_hardest_0 19 rfl rfl)
theorem dX4_hardest_22 : decode cX4_hardest 22 = .ok (.isub, 1) := dk_100 (dk_at dksX4_hardest_0 22 rfl rfl)
theorem dX4_hardest_23 : decode cX4_hardest 23 = .ok (.goto 20, 3) := dk_167 0 20 (dk_at dksX4_hardest_1 0 rfl rfl)
theorem dX4_hardest_26 : decode cX4_hardest 26 = .ok (.aload_n 0, 1) := dk_42 (dk_at dksX4_hardest_1 3 rfl rfl)
theorem dX4_hardest_27 : decode cX4_hardest 27 = .ok (.iload_n 2, 1) := dk_28 (dk_at dksX4_hardest_1 4 rfl rfl)
theorem dX4_hardest_28 : decode cX4_hardest 28 = .ok (.invokevirtual 82, 3) := dk_182 0 82 (dk_at dksX4_hardest_1 5 rfl rfl)
theorem dX4_hardest_31 : decode cX4_hardest 31 = .ok (.bipush 6, 2) := dk_16 6 (dk_at dksX4_hardest_1 8 rfl rfl)
theorem dX4_hardest_33 : decode cX4_hardest 33 = .ok (.if_icmp .ne 8, 3) := dk_160 0 8 (dk_at dksX4_hardest_1 10 rfl rfl)
theorem dX4_hardest_36 : decode cX4_hardest 36 = .ok (.bipush 10, 2) := dk_16 10 (dk_at dksX4_hardest_1 13 rfl rfl)
theorem dX4_hardest_38 : decode cX4_hardest 38 = .ok (.goto 5, 3) := dk_167 0 5 (dk_at dksX4_hardest_1 15 rfl rfl)
theorem dX4_hardest_41 : decode cX4_hardest 41 = .ok (.bipush 20, 2) := dk_16 20 (dk_at dksX4_hardest_1 18 rfl rfl)
theorem dX4_hardest_43 : decode cX4_hardest 43 = .ok (.iadd, 1) := dk_96 (dk_at dksX4_hardest_1 20 rfl rfl)
theorem dX4_hardest_44 : decode cX4_hardest 44 = .ok (.ireturn, 1) := dk_172 (dk_at dksX4_hardest_1 21 rfl rfl)
abbrev cX4_sounds : ByteArray := prog_22_method_48_code
def yX4_sounds : MethodName := ⟨RX4, "sounds", "(IIIII)I"⟩
def dkwX4_sounds_1 : List UInt8 := [21, 5, 182, 0, 181, 153, 0, 7, 4, 167, 0, 4, 3, 172]
abbrev dktX4_sounds_1 : List UInt8 := dkwX4_sounds_1 ++ []
def dkwX4_sounds_0 : List UInt8 := [42, 27, 28, 29, 21, 4, 21, 5, 182, 0, 177, 154, 0, 7, 2, 167, 0, 22, 42, 27, 28, 29, 21, 4]
abbrev dktX4_sounds_0 : List UInt8 := dkwX4_sounds_0 ++ dktX4_sounds_1
theorem dksX4_sounds_0 : cX4_sounds.data.toList.drop 0 = dktX4_sounds_0 := by decide +kernel
theorem dksX4_sounds_1 : cX4_sounds.data.toList.drop 24 = dktX4_sounds_1 := dk_seg dksX4_sounds_0 24 rfl rfl
theorem dX4_sounds_0 : decode cX4_sounds 0 = .ok (.aload_n 0, 1) := dk_42 (dk_at dksX4_sounds_0 0 rfl rfl)
theorem dX4_sounds_1 : decode cX4_sounds 1 = .ok (.iload_n 1, 1) := dk_27 (dk_at dksX4_sounds_0 1 rfl rfl)
theorem dX4_sounds_2 : decode cX4_sounds 2 = .ok (.iload_n 2, 1) := dk_28 (dk_at dksX4_sounds_0 2 rfl rfl)
theorem dX4_sounds_3 : decode cX4_sounds 3 = .ok (.iload_n 3, 1) := dk_29 (dk_at dksX4_sounds_0 3 rfl rfl)
theorem dX4_sounds_4 : decode cX4_sounds 4 = .ok (.iload 4, 2) := dk_21 4 (dk_at dksX4_sounds_0 4 rfl rfl)
theorem dX4_sounds_6 : decode cX4_sounds 6 = .ok (.iload 5, 2) := dk_21 5 (dk_at dksX4_sounds_0 6 rfl rfl)
theorem dX4_sounds_8 : decode cX4_sounds 8 = .ok (.invokevirtual 177, 3) := dk_182 0 177 (dk_at dksX4_sounds_0 8 rfl rfl)
theorem dX4_sounds_11 : decode cX4_sounds 11 = .ok (.ifCond .ne 7, 3) := dk_154 0 7 (dk_at dksX4_sounds_0 11 rfl rfl)
theorem dX4_sounds_14 : decode cX4_sounds 14 = .ok (.iconst (-1), 1) := dk_2 (dk_at dksX4_sounds_0 14 rfl rfl)
theorem dX4_sounds_15 : decode cX4_sounds 15 = .ok (.goto 22, 3) := dk_167 0 22 (dk_at dksX4_sounds_0 15 rfl rfl)
theorem dX4_sounds_18 : decode cX4_sounds 18 = .ok (.aload_n 0, 1) := dk_42 (dk_at dksX4_sounds_0 18 rfl rfl)
theorem dX4_sounds_19 : decode cX4_sounds 19 = .ok (.iload_n 1, 1) := dk_27 (dk_at dksX4_sounds_0 19 rfl rfl)
theorem dX4_sounds_20 : decode cX4_sounds 20 = .ok (.iload_n 2, 1) := dk_28 (dk_at dksX4_sounds_0 20 rfl rfl)
theorem dX4_sounds_21 : decode cX4_sounds 21 = .ok (.iload_n 3, 1) := dk_29 (dk_at dksX4_sounds_0 21 rfl rfl)
theorem dX4_sounds_22 : decode cX4_sounds 22 = .ok (.iload 4, 2) := dk_21 4 (dk_at dksX4_sounds_0 22 rfl rfl)
theorem dX4_sounds_24 : decode cX4_sounds 24 = .ok (.iload 5, 2) := dk_21 5 (dk_at dksX4_sounds_1 0 rfl rfl)
theorem dX4_sounds_26 : decode cX4_sounds 26 = .ok (.invokevirtual 181, 3) := dk_182 0 181 (dk_at dksX4_sounds_1 2 rfl rfl)
theorem dX4_sounds_29 : decode cX4_sounds 29 = .ok (.ifCond .eq 7, 3) := dk_153 0 7 (dk_at dksX4_sounds_1 5 rfl rfl)
theorem dX4_sounds_32 : decode cX4_sounds 32 = .ok (.iconst 1, 1) := dk_4 (dk_at dksX4_sounds_1 8 rfl rfl)
theorem dX4_sounds_33 : decode cX4_sounds 33 = .ok (.goto 4, 3) := dk_167 0 4 (dk_at dksX4_sounds_1 9 rfl rfl)
theorem dX4_sounds_36 : decode cX4_sounds 36 = .ok (.iconst 0, 1) := dk_3 (dk_at dksX4_sounds_1 12 rfl rfl)
theorem dX4_sounds_37 : decode cX4_sounds 37 = .ok (.ireturn, 1) := dk_172 (dk_at dksX4_sounds_1 13 rfl rfl)
abbrev cX4_isTold : ByteArray := prog_22_method_47_code
def yX4_isTold : MethodName := ⟨RX4, "isTold", "(IIIII)Z"⟩
def dkwX4_isTold_1 : List UInt8 := [153, 0, 7, 4, 167, 0, 4, 3, 172]
abbrev dktX4_isTold_1 : List UInt8 := dkwX4_isTold_1 ++ []
def dkwX4_isTold_0 : List UInt8 := [42, 27, 28, 29, 182, 0, 148, 153, 0, 23, 21, 4, 184, 0, 174, 153, 0, 15, 21, 5, 184, 0, 174]
abbrev dktX4_isTold_0 : List UInt8 := dkwX4_isTold_0 ++ dktX4_isTold_1
theorem dksX4_isTold_0 : cX4_isTold.data.toList.drop 0 = dktX4_isTold_0 := by decide +kernel
theorem dksX4_isTold_1 : cX4_isTold.data.toList.drop 23 = dktX4_isTold_1 := dk_seg dksX4_isTold_0 23 rfl rfl
theorem dX4_isTold_0 : decode cX4_isTold 0 = .ok (.aload_n 0, 1) := dk_42 (dk_at dksX4_isTold_0 0 rfl rfl)
theorem dX4_isTold_1 : decode cX4_isTold 1 = .ok (.iload_n 1, 1) := dk_27 (dk_at dksX4_isTold_0 1 rfl rfl)
theorem dX4_isTold_2 : decode cX4_isTold 2 = .ok (.iload_n 2, 1) := dk_28 (dk_at dksX4_isTold_0 2 rfl rfl)
theorem dX4_isTold_3 : decode cX4_isTold 3 = .ok (.iload_n 3, 1) := dk_29 (dk_at dksX4_isTold_0 3 rfl rfl)
theorem dX4_isTold_4 : decode cX4_isTold 4 = .ok (.invokevirtual 148, 3) := dk_182 0 148 (dk_at dksX4_isTold_0 4 rfl rfl)
theorem dX4_isTold_7 : decode cX4_isTold 7 = .ok (.ifCond .eq 23, 3) := dk_153 0 23 (dk_at dksX4_isTold_0 7 rfl rfl)
theorem dX4_isTold_10 : decode cX4_isTold 10 = .ok (.iload 4, 2) := dk_21 4 (dk_at dksX4_isTold_0 10 rfl rfl)
theorem dX4_isTold_12 : decode cX4_isTold 12 = .ok (.invokestatic 174, 3) := dk_184 0 174 (dk_at dksX4_isTold_0 12 rfl rfl)
theorem dX4_isTold_15 : decode cX4_isTold 15 = .ok (.ifCond .eq 15, 3) := dk_153 0 15 (dk_at dksX4_isTold_0 15 rfl rfl)
theorem dX4_isTold_18 : decode cX4_isTold 18 = .ok (.iload 5, 2) := dk_21 5 (dk_at dksX4_isTold_0 18 rfl rfl)
theorem dX4_isTold_20 : decode cX4_isTold 20 = .ok (.invokestatic 174, 3) := dk_184 0 174 (dk_at dksX4_isTold_0 20 rfl rfl)
theorem dX4_isTold_23 : decode cX4_isTold 23 = .ok (.ifCond .eq 7, 3) := dk_153 0 7 (dk_at dksX4_isTold_1 0 rfl rfl)
theorem dX4_isTold_26 : decode cX4_isTold 26 = .ok (.iconst 1, 1) := dk_4 (dk_at dksX4_isTold_1 3 rfl rfl)
theorem dX4_isTold_27 : decode cX4_isTold 27 = .ok (.goto 4, 3) := dk_167 0 4 (dk_at dksX4_isTold_1 4 rfl rfl)
theorem dX4_isTold_30 : decode cX4_isTold 30 = .ok (.iconst 0, 1) := dk_3 (dk_at dksX4_isTold_1 7 rfl rfl)
theorem dX4_isTold_31 : decode cX4_isTold 31 = .ok (.ireturn, 1) := dk_172 (dk_at dksX4_isTold_1 8 rfl rfl)
abbrev cX4_isSound : ByteArray := prog_22_method_27_code
def yX4_isSound : MethodName := ⟨RX4, "isSound", "(IIIII)Z"⟩
def dkwX4_isSound_1 : List UInt8 := [167, 0, 4, 3, 172]
abbrev dktX4_isSound_1 : List UInt8 := dkwX4_isSound_1 ++ []
def dkwX4_isSound_0 : List UInt8 := [42, 27, 28, 29, 21, 4, 182, 0, 110, 153, 0, 18, 42, 28, 29, 21, 5, 182, 0, 114, 153, 0, 7, 4]
abbrev dktX4_isSound_0 : List UInt8 := dkwX4_isSound_0 ++ dktX4_isSound_1
theorem dksX4_isSound_0 : cX4_isSound.data.toList.drop 0 = dktX4_isSound_0 := by decide +kernel
theorem dksX4_isSound_1 : cX4_isSound.data.toList.drop 24 = dktX4_isSound_1 := dk_seg dksX4_isSound_0 24 rfl rfl
theorem dX4_isSound_0 : decode cX4_isSound 0 = .ok (.aload_n 0, 1) := dk_42 (dk_at dksX4_isSound_0 0 rfl rfl)
theorem dX4_isSound_1 : decode cX4_isSound 1 = .ok (.iload_n 1, 1) := dk_27 (dk_at dksX4_isSound_0 1 rfl rfl)
theorem dX4_isSound_2 : decode cX4_isSound 2 = .ok (.iload_n 2, 1) := dk_28 (dk_at dksX4_isSound_0 2 rfl rfl)
theorem dX4_isSound_3 : decode cX4_isSound 3 = .ok (.iload_n 3, 1) := dk_29 (dk_at dksX4_isSound_0 3 rfl rfl)
theorem dX4_isSound_4 : decode cX4_isSound 4 = .ok (.iload 4, 2) := dk_21 4 (dk_at dksX4_isSound_0 4 rfl rfl)
theorem dX4_isSound_6 : decode cX4_isSound 6 = .ok (.invokevirtual 110, 3) := dk_182 0 110 (dk_at dksX4_isSound_0 6 rfl rfl)
theorem dX4_isSound_9 : decode cX4_isSound 9 = .ok (.ifCond .eq 18, 3) := dk_153 0 18 (dk_at dksX4_isSound_0 9 rfl rfl)
theorem dX4_isSound_12 : decode cX4_isSound 12 = .ok (.aload_n 0, 1) := dk_42 (dk_at dksX4_isSound_0 12 rfl rfl)
theorem dX4_isSound_13 : decode cX4_isSound 13 = .ok (.iload_n 2, 1) := dk_28 (dk_at dksX4_isSound_0 13 rfl rfl)
theorem dX4_isSound_14 : decode cX4_isSound 14 = .ok (.iload_n 3, 1) := dk_29 (dk_at dksX4_isSound_0 14 rfl rfl)
theorem dX4_isSound_15 : decode cX4_isSound 15 = .ok (.iload 5, 2) := dk_21 5 (dk_at dksX4_isSound_0 15 rfl rfl)
theorem dX4_isSound_17 : decode cX4_isSound 17 = .ok (.invokevirtual 114, 3) := dk_182 0 114 (dk_at dksX4_isSound_0 17 rfl rfl)
theorem dX4_isSound_20 : decode cX4_isSound 20 = .ok (.ifCond .eq 7, 3) := dk_153 0 7 (dk_at dksX4_isSound_0 20 rfl rfl)
theorem dX4_isSound_23 : decode cX4_isSound 23 = .ok (.iconst 1, 1) := dk_4 (dk_at dksX4_isSound_0 23 rfl rfl)
theorem dX4_isSound_24 : decode cX4_isSound 24 = .ok (.goto 4, 3) := dk_167 0 4 (dk_at dksX4_isSound_1 0 rfl rfl)
theorem dX4_isSound_27 : decode cX4_isSound 27 = .ok (.iconst 0, 1) := dk_3 (dk_at dksX4_isSound_1 3 rfl rfl)
theorem dX4_isSound_28 : decode cX4_isSound 28 = .ok (.ireturn, 1) := dk_172 (dk_at dksX4_isSound_1 4 rfl rfl)
abbrev cX4_isTight : ByteArray := prog_22_method_25_code
def yX4_isTight : MethodName := ⟨RX4, "isTight", "(IIII)Z"⟩
def dkwX4_isTight_1 : List UInt8 := [42, 28, 182, 0, 104, 163, 0, 7, 4, 167, 0, 4, 3, 172]
abbrev dktX4_isTight_1 : List UInt8 := dkwX4_isTight_1 ++ []
def dkwX4_isTight_0 : List UInt8 := [21, 4, 42, 27, 28, 29, 182, 0, 98, 42, 27, 28, 29, 182, 0, 101, 184, 0, 58, 153, 0, 17, 21, 4]
abbrev dktX4_isTight_0 : List UInt8 := dkwX4_isTight_0 ++ dktX4_isTight_1
theorem dksX4_isTight_0 : cX4_isTight.data.toList.drop 0 = dktX4_isTight_0 := by decide +kernel
theorem dksX4_isTight_1 : cX4_isTight.data.toList.drop 24 = dktX4_isTight_1 := dk_seg dksX4_isTight_0 24 rfl rfl
theorem dX4_isTight_0 : decode cX4_isTight 0 = .ok (.iload 4, 2) := dk_21 4 (dk_at dksX4_isTight_0 0 rfl rfl)
theorem dX4_isTight_2 : decode cX4_isTight 2 = .ok (.aload_n 0, 1) := dk_42 (dk_at dksX4_isTight_0 2 rfl rfl)
theorem dX4_isTight_3 : decode cX4_isTight 3 = .ok (.iload_n 1, 1) := dk_27 (dk_at dksX4_isTight_0 3 rfl rfl)
theorem dX4_isTight_4 : decode cX4_isTight 4 = .ok (.iload_n 2, 1) := dk_28 (dk_at dksX4_isTight_0 4 rfl rfl)
theorem dX4_isTight_5 : decode cX4_isTight 5 = .ok (.iload_n 3, 1) := dk_29 (dk_at dksX4_isTight_0 5 rfl rfl)
theorem dX4_isTight_6 : decode cX4_isTight 6 = .ok (.invokevirtual 98, 3) := dk_182 0 98 (dk_at dksX4_isTight_0 6 rfl rfl)
theorem dX4_isTight_9 : decode cX4_isTight 9 = .ok (.aload_n 0, 1) := dk_42 (dk_at dksX4_isTight_0 9 rfl rfl)
theorem dX4_isTight_10 : decode cX4_isTight 10 = .ok (.iload_n 1, 1) := dk_27 (dk_at dksX4_isTight_0 10 rfl rfl)
theorem dX4_isTight_11 : decode cX4_isTight 11 = .ok (.iload_n 2, 1) := dk_28 (dk_at dksX4_isTight_0 11 rfl rfl)
theorem dX4_isTight_12 : decode cX4_isTight 12 = .ok (.iload_n 3, 1) := dk_29 (dk_at dksX4_isTight_0 12 rfl rfl)
theorem dX4_isTight_13 : decode cX4_isTight 13 = .ok (.invokevirtual 101, 3) := dk_182 0 101 (dk_at dksX4_isTight_0 13 rfl rfl)
theorem dX4_isTight_16 : decode cX4_isTight 16 = .ok (.invokestatic 58, 3) := dk_184 0 58 (dk_at dksX4_isTight_0 16 rfl rfl)
theorem dX4_isTight_19 : decode cX4_isTight 19 = .ok (.ifCond .eq 17, 3) := dk_153 0 17 (dk_at dksX4_isTight_0 19 rfl rfl)
theorem dX4_isTight_22 : decode cX4_isTight 22 = .ok (.iload 4, 2) := dk_21 4 (dk_at dksX4_isTight_0 22 rfl rfl)
theorem dX4_isTight_24 : decode cX4_isTight 24 = .ok (.aload_n 0, 1) := dk_42 (dk_at dksX4_isTight_1 0 rfl rfl)
theorem dX4_isTight_25 : decode cX4_isTight 25 = .ok (.iload_n 2, 1) := dk_28 (dk_at dksX4_isTight_1 1 rfl rfl)
theorem dX4_isTight_26 : decode cX4_isTight 26 = .ok (.invokevirtual 104, 3) := dk_182 0 104 (dk_at dksX4_isTight_1 2 rfl rfl)
theorem dX4_isTight_29 : decode cX4_isTight 29 = .ok (.if_icmp .gt 7, 3) := dk_163 0 7 (dk_at dksX4_isTight_1 5 rfl rfl)
theorem dX4_isTight_32 : decode cX4_isTight 32 = .ok (.iconst 1, 1) := dk_4 (dk_at dksX4_isTight_1 8 rfl rfl)
theorem dX4_isTight_33 : decode cX4_isTight 33 = .ok (.goto 4, 3) := dk_167 0 4 (dk_at dksX4_isTight_1 9 rfl rfl)
theorem dX4_isTight_36 : decode cX4_isTight 36 = .ok (.iconst 0, 1) := dk_3 (dk_at dksX4_isTight_1 12 rfl rfl)
theorem dX4_isTight_37 : decode cX4_isTight 37 = .ok (.ireturn, 1) := dk_172 (dk_at dksX4_isTight_1 13 rfl rfl)
abbrev cX4_gripOf : ByteArray := prog_22_method_19_code
def yX4_gripOf : MethodName := ⟨RX4, "gripOf", "(I)I"⟩
def dkwX4_gripOf_1 : List UInt8 := [61, 28, 16, 60, 164, 0, 8, 16, 60, 167, 0, 4, 28, 172]
abbrev dktX4_gripOf_1 : List UInt8 := dkwX4_gripOf_1 ++ []
def dkwX4_gripOf_0 : List UInt8 := [42, 180, 0, 9, 27, 4, 184, 0, 75, 46, 42, 180, 0, 19, 4, 160, 0, 7, 8, 167, 0, 4, 3, 96]
abbrev dktX4_gripOf_0 : List UInt8 := dkwX4_gripOf_0 ++ dktX4_gripOf_1
theorem dksX4_gripOf_0 : cX4_gripOf.data.toList.drop 0 = dktX4_gripOf_0 := by decide +kernel
theorem dksX4_gripOf_1 : cX4_gripOf.data.toList.drop 24 = dktX4_gripOf_1 := dk_seg dksX4_gripOf_0 24 rfl rfl
theorem dX4_gripOf_0 : decode cX4_gripOf 0 = .ok (.aload_n 0, 1) := dk_42 (dk_at dksX4_gripOf_0 0 rfl rfl)
theorem dX4_gripOf_1 : decode cX4_gripOf 1 = .ok (.getfield 9, 3) := dk_180 0 9 (dk_at dksX4_gripOf_0 1 rfl rfl)
theorem dX4_gripOf_4 : decode cX4_gripOf 4 = .ok (.iload_n 1, 1) := dk_27 (dk_at dksX4_gripOf_0 4 rfl rfl)
theorem dX4_gripOf_5 : decode cX4_gripOf 5 = .ok (.iconst 1, 1) := dk_4 (dk_at dksX4_gripOf_0 5 rfl rfl)
theorem dX4_gripOf_6 : decode cX4_gripOf 6 = .ok (.invokestatic 75, 3) := dk_184 0 75 (dk_at dksX4_gripOf_0 6 rfl rfl)
theorem dX4_gripOf_9 : decode cX4_gripOf 9 = .ok (.iaload, 1) := dk_46 (dk_at dksX4_gripOf_0 9 rfl rfl)
theorem dX4_gripOf_10 : decode cX4_gripOf 10 = .ok (.aload_n 0, 1) := dk_42 (dk_at dksX4_gripOf_0 10 rfl rfl)
theorem dX4_gripOf_11 : decode cX4_gripOf 11 = .ok (.getfield 19, 3) := dk_180 0 19 (dk_at dksX4_gripOf_0 11 rfl rfl)
theorem dX4_gripOf_14 : decode cX4_gripOf 14 = .ok (.iconst 1, 1) := dk_4 (dk_at dksX4_gripOf_0 14 rfl rfl)
theorem dX4_gripOf_15 : decode cX4_gripOf 15 = .ok (.if_icmp .ne 7, 3) := dk_160 0 7 (dk_at dksX4_gripOf_0 15 rfl rfl)
theorem dX4_gripOf_18 : decode cX4_gripOf 18 = .ok (.iconst 5, 1) := dk_8 (dk_at dksX4_gripOf_0 18 rfl rfl)
theorem dX4_gripOf_19 : decode cX4_gripOf 19 = .ok (.goto 4, 3) := dk_167 0 4 (dk_at dksX4_gripOf_0 19 rfl rfl)
theorem dX4_gripOf_22 : decode cX4_gripOf 22 = .ok (.iconst 0, 1) := dk_3 (dk_at dksX4_gripOf_0 22 rfl rfl)
theorem dX4_gripOf_23 : decode cX4_gripOf 23 = .ok (.iadd, 1) := dk_96 (dk_at dksX4_gripOf_0 23 rfl rfl)
theorem dX4_gripOf_24 : decode cX4_gripOf 24 = .ok (.istore_n 2, 1) := dk_61 (dk_at dksX4_gripOf_1 0 rfl rfl)
theorem dX4_gripOf_25 : decode cX4_gripOf 25 = .ok (.iload_n 2, 1) := dk_28 (dk_at dksX4_gripOf_1 1 rfl rfl)
theorem dX4_gripOf_26 : decode cX4_gripOf 26 = .ok (.bipush 60, 2) := dk_16 60 (dk_at dksX4_gripOf_1 2 rfl rfl)
theorem dX4_gripOf_28 : decode cX4_gripOf 28 = .ok (.if_icmp .le 8, 3) := dk_164 0 8 (dk_at dksX4_gripOf_1 4 rfl rfl)
theorem dX4_gripOf_31 : decode cX4_gripOf 31 = .ok (.bipush 60, 2) := dk_16 60 (dk_at dksX4_gripOf_1 7 rfl rfl)
theorem dX4_gripOf_33 : decode cX4_gripOf 33 = .ok (.goto 4, 3) := dk_167 0 4 (dk_at dksX4_gripOf_1 9 rfl rfl)
theorem dX4_gripOf_36 : decode cX4_gripOf 36 = .ok (.iload_n 2, 1) := dk_28 (dk_at dksX4_gripOf_1 12 rfl rfl)
theorem dX4_gripOf_37 : decode cX4_gripOf 37 = .ok (.ireturn, 1) := dk_172 (dk_at dksX4_gripOf_1 13 rfl rfl)
abbrev cX4_isHard : ByteArray := prog_22_method_26_code
def yX4_isHard : MethodName := ⟨RX4, "isHard", "(III)Z"⟩
def dkwX4_isHard_0 : List UInt8 := [29, 42, 27, 28, 182, 0, 92, 42, 27, 28, 182, 0, 107, 184, 0, 58, 172]
abbrev dktX4_isHard_0 : List UInt8 := dkwX4_isHard_0 ++ []
theorem dksX4_isHard_0 : cX4_isHard.data.toList.drop 0 = dktX4_isHard_0 := by decide +kernel
theorem dX4_isHard_0 : decode cX4_isHard 0 = .ok (.iload_n 3, 1) := dk_29 (dk_at dksX4_isHard_0 0 rfl rfl)
theorem dX4_isHard_1 : decode cX4_isHard 1 = .ok (.aload_n 0, 1) := dk_42 (dk_at dksX4_isHard_0 1 rfl rfl)
theorem dX4_isHard_2 : decode cX4_isHard 2 = .ok (.iload_n 1, 1) := dk_27 (dk_at dksX4_isHard_0 2 rfl rfl)
theorem dX4_isHard_3 : decode cX4_isHard 3 = .ok (.iload_n 2, 1) := dk_28 (dk_at dksX4_isHard_0 3 rfl rfl)
theorem dX4_isHard_4 : decode cX4_isHard 4 = .ok (.invokevirtual 92, 3) := dk_182 0 92 (dk_at dksX4_isHard_0 4 rfl rfl)
theorem dX4_isHard_7 : decode cX4_isHard 7 = .ok (.aload_n 0, 1) := dk_42 (dk_at dksX4_isHard_0 7 rfl rfl)
theorem dX4_isHard_8 : decode cX4_isHard 8 = .ok (.iload_n 1, 1) := dk_27 (dk_at dksX4_isHard_0 8 rfl rfl)
theorem dX4_isHard_9 : decode cX4_isHard 9 = .ok (.iload_n 2, 1) := dk_28 (dk_at dksX4_isHard_0 9 rfl rfl)
theorem dX4_isHard_10 : decode cX4_isHard 10 = .ok (.invokevirtual 107, 3) := dk_182 0 107 (dk_at dksX4_isHard_0 10 rfl rfl)
theorem dX4_isHard_13 : decode cX4_isHard 13 = .ok (.invokestatic 58, 3) := dk_184 0 58 (dk_at dksX4_isHard_0 13 rfl rfl)
theorem dX4_isHard_16 : decode cX4_isHard 16 = .ok (.ireturn, 1) := dk_172 (dk_at dksX4_isHard_0 16 rfl rfl)
abbrev cX4_pitch : ByteArray := prog_22_method_49_code
def yX4_pitch : MethodName := ⟨RX4, "pitch", "(IIII)I"⟩
def dkwX4_pitch_2 : List UInt8 := [18, 188, 172]
abbrev dktX4_pitch_2 : List UInt8 := dkwX4_pitch_2 ++ []
def dkwX4_pitch_1 : List UInt8 := [21, 4, 3, 16, 9, 184, 0, 58, 153, 0, 15, 42, 27, 28, 29, 21, 4, 182, 0, 184, 167, 0, 5]
abbrev dktX4_pitch_1 : List UInt8 := dkwX4_pitch_1 ++ dktX4_pitch_2
def dkwX4_pitch_0 : List UInt8 := [42, 27, 182, 0, 62, 153, 0, 41, 42, 28, 182, 0, 69, 153, 0, 33, 29, 184, 0, 174, 153, 0, 26]
abbrev dktX4_pitch_0 : List UInt8 := dkwX4_pitch_0 ++ dktX4_pitch_1
theorem dksX4_pitch_0 : cX4_pitch.data.toList.drop 0 = dktX4_pitch_0 := by decide +kernel
theorem dksX4_pitch_1 : cX4_pitch.data.toList.drop 23 = dktX4_pitch_1 := dk_seg dksX4_pitch_0 23 rfl rfl
theorem dksX4_pitch_2 : cX4_pitch.data.toList.drop 46 = dktX4_pitch_2 := dk_seg dksX4_pitch_1 23 rfl rfl
theorem dX4_pitch_0 : decode cX4_pitch 0 = .ok (.aload_n 0, 1) := dk_42 (dk_at dksX4_pitch_0 0 rfl rfl)
theorem dX4_pitch_1 : decode cX4_pitch 1 = .ok (.iload_n 1, 1) := dk_27 (dk_at dksX4_pitch_0 1 rfl rfl)
theorem dX4_pitch_2 : decode cX4_pitch 2 = .ok (.invokevirtual 62, 3) := dk_182 0 62 (dk_at dksX4_pitch_0 2 rfl rfl)
theorem dX4_pitch_5 : decode cX4_pitch 5 = .ok (.ifCond .eq 41, 3) := dk_153 0 41 (dk_at dksX4_pitch_0 5 rfl rfl)
theorem dX4_pitch_8 : decode cX4_pitch 8 = .ok (.aload_n 0, 1) := dk_42 (dk_at dksX4_pitch_0 8 rfl rfl)
theorem dX4_pitch_9 : decode cX4_pitch 9 = .ok (.iload_n 2, 1) := dk_28 (dk_at dksX4_pitch_0 9 rfl rfl)
theorem dX4_pitch_10 : decode cX4_pitch 10 = .ok (.invokevirtual 69, 3) := dk_182 0 69 (dk_at dksX4_pitch_0 10 rfl rfl)
theorem dX4_pitch_13 : decode cX4_pitch 13 = .ok (.ifCond .eq 33, 3) := dk_153 0 33 (dk_at dksX4_pitch_0 13 rfl rfl)
theorem dX4_pitch_16 : decode cX4_pitch 16 = .ok (.iload_n 3, 1) := dk_29 (dk_at dksX4_pitch_0 16 rfl rfl)
theorem dX4_pitch_17 : decode cX4_pitch 17 = .ok (.invokestatic 174, 3) := dk_184 0 174 (dk_at dksX4_pitch_0 17 rfl rfl)
theorem dX4_pitch_20 : decode cX4_pitch 20 = .ok (.ifCond .eq 26, 3) := dk_153 0 26 (dk_at dksX4_pitch_0 20 rfl rfl)
theorem dX4_pitch_23 : decode cX4_pitch 23 = .ok (.iload 4, 2) := dk_21 4 (dk_at dksX4_pitch_1 0 rfl rfl)
theorem dX4_pitch_25 : decode cX4_pitch 25 = .ok (.iconst 0, 1) := dk_3 (dk_at dksX4_pitch_1 2 rfl rfl)
theorem dX4_pitch_26 : decode cX4_pitch 26 = .ok (.bipush 9, 2) := dk_16 9 (dk_at dksX4_pitch_1 3 rfl rfl)
theorem dX4_pitch_28 : decode cX4_pitch 28 = .ok (.invokestatic 58, 3) := dk_184 0 58 (dk_at dksX4_pitch_1 5 rfl rfl)
theorem dX4_pitch_31 : decode cX4_pitch 31 = .ok (.ifCond .eq 15, 3) := dk_153 0 15 (dk_at dksX4_pitch_1 8 rfl rfl)
theorem dX4_pitch_34 : decode cX4_pitch 34 = .ok (.aload_n 0, 1) := dk_42 (dk_at dksX4_pitch_1 11 rfl rfl)
theorem dX4_pitch_35 : decode cX4_pitch 35 = .ok (.iload_n 1, 1) := dk_27 (dk_at dksX4_pitch_1 12 rfl rfl)
theorem dX4_pitch_36 : decode cX4_pitch 36 = .ok (.iload_n 2, 1) := dk_28 (dk_at dksX4_pitch_1 13 rfl rfl)
theorem dX4_pitch_37 : decode cX4_pitch 37 = .ok (.iload_n 3, 1) := dk_29 (dk_at dksX4_pitch_1 14 rfl rfl)
theorem dX4_pitch_38 : decode cX4_pitch 38 = .ok (.iload 4, 2) := dk_21 4 (dk_at dksX4_pitch_1 15 rfl rfl)
theorem dX4_pitch_40 : decode cX4_pitch 40 = .ok (.invokevirtual 184, 3) := dk_182 0 184 (dk_at dksX4_pitch_1 17 rfl rfl)
theorem dX4_pitch_43 : decode cX4_pitch 43 = .ok (.goto 5, 3) := dk_167 0 5 (dk_at dksX4_pitch_1 20 rfl rfl)
theorem dX4_pitch_46 : decode cX4_pitch 46 = .ok (.ldc 188, 2) := dk_18 188 (dk_at dksX4_pitch_2 0 rfl rfl)
theorem dX4_pitch_48 : decode cX4_pitch 48 = .ok (.ireturn, 1) := dk_172 (dk_at dksX4_pitch_2 2 rfl rfl)
abbrev cX4_pitchOf : ByteArray := prog_22_method_28_code
def yX4_pitchOf : MethodName := ⟨RX4, "pitchOf", "(IIII)I"⟩
def dkwX4_pitchOf_2 : List UInt8 := [21, 5, 16, 12, 96, 172, 21, 5, 21, 4, 100, 172, 21, 5, 42, 28, 182, 0, 95, 96, 172, 21, 5, 172]
abbrev dktX4_pitchOf_2 : List UInt8 := dkwX4_pitchOf_2 ++ []
def dkwX4_pitchOf_1 : List UInt8 := [170, 0, 0, 0, 0, 51, 0, 0, 0, 3, 0, 0, 0, 6, 0, 0, 0, 30, 0, 0, 0, 42, 0, 0, 0, 36, 0, 0, 0, 36]
abbrev dktX4_pitchOf_1 : List UInt8 := dkwX4_pitchOf_1 ++ dktX4_pitchOf_2
def dkwX4_pitchOf_0 : List UInt8 := [16, 60, 42, 27, 3, 182, 0, 72, 100, 29, 96, 54, 5, 42, 28, 182, 0, 82]
abbrev dktX4_pitchOf_0 : List UInt8 := dkwX4_pitchOf_0 ++ dktX4_pitchOf_1
theorem dksX4_pitchOf_0 : cX4_pitchOf.data.toList.drop 0 = dktX4_pitchOf_0 := by decide +kernel
theorem dksX4_pitchOf_1 : cX4_pitchOf.data.toList.drop 18 = dktX4_pitchOf_1 := dk_seg dksX4_pitchOf_0 18 rfl rfl
theorem dksX4_pitchOf_2 : cX4_pitchOf.data.toList.drop 48 = dktX4_pitchOf_2 := dk_seg dksX4_pitchOf_1 30 rfl rfl
theorem dX4_pitchOf_0 : decode cX4_pitchOf 0 = .ok (.bipush 60, 2) := dk_16 60 (dk_at dksX4_pitchOf_0 0 rfl rfl)
theorem dX4_pitchOf_2 : decode cX4_pitchOf 2 = .ok (.aload_n 0, 1) := dk_42 (dk_at dksX4_pitchOf_0 2 rfl rfl)
theorem dX4_pitchOf_3 : decode cX4_pitchOf 3 = .ok (.iload_n 1, 1) := dk_27 (dk_at dksX4_pitchOf_0 3 rfl rfl)
theorem dX4_pitchOf_4 : decode cX4_pitchOf 4 = .ok (.iconst 0, 1) := dk_3 (dk_at dksX4_pitchOf_0 4 rfl rfl)
theorem dX4_pitchOf_5 : decode cX4_pitchOf 5 = .ok (.invokevirtual 72, 3) := dk_182 0 72 (dk_at dksX4_pitchOf_0 5 rfl rfl)
theorem dX4_pitchOf_8 : decode cX4_pitchOf 8 = .ok (.isub, 1) := dk_100 (dk_at dksX4_pitchOf_0 8 rfl rfl)
theorem dX4_pitchOf_9 : decode cX4_pitchOf 9 = .ok (.iload_n 3, 1) := dk_29 (dk_at dksX4_pitchOf_0 9 rfl rfl)
theorem dX4_pitchOf_10 : decode cX4_pitchOf 10 = .ok (.iadd, 1) := dk_96 (dk_at dksX4_pitchOf_0 10 rfl rfl)
theorem dX4_pitchOf_11 : decode cX4_pitchOf 11 = .ok (.istore 5, 2) := dk_54 5 (dk_at dksX4_pitchOf_0 11 rfl rfl)
theorem dX4_pitchOf_13 : decode cX4_pitchOf 13 = .ok (.aload_n 0, 1) := dk_42 (dk_at dksX4_pitchOf_0 13 rfl rfl)
theorem dX4_pitchOf_14 : decode cX4_pitchOf 14 = .ok (.iload_n 2, 1) := dk_28 (dk_at dksX4_pitchOf_0 14 rfl rfl)
theorem dX4_pitchOf_15 : decode cX4_pitchOf 15 = .ok (.invokevirtual 82, 3) := dk_182 0 82 (dk_at dksX4_pitchOf_0 15 rfl rfl)
theorem dX4_pitchOf_18 : decode cX4_pitchOf 18 = .ok (.tableswitch 51 3 6 #[30, 42, 36, 36], 30) := by decide +kernel
theorem dX4_pitchOf_48 : decode cX4_pitchOf 48 = .ok (.iload 5, 2) := dk_21 5 (dk_at dksX4_pitchOf_2 0 rfl rfl)
theorem dX4_pitchOf_50 : decode cX4_pitchOf 50 = .ok (.bipush 12, 2) := dk_16 12 (dk_at dksX4_pitchOf_2 2 rfl rfl)
theorem dX4_pitchOf_52 : decode cX4_pitchOf 52 = .ok (.iadd, 1) := dk_96 (dk_at dksX4_pitchOf_2 4 rfl rfl)
theorem dX4_pitchOf_53 : decode cX4_pitchOf 53 = .ok (.ireturn, 1) := dk_172 (dk_at dksX4_pitchOf_2 5 rfl rfl)
theorem dX4_pitchOf_54 : decode cX4_pitchOf 54 = .ok (.iload 5, 2) := dk_21 5 (dk_at dksX4_pitchOf_2 6 rfl rfl)
theorem dX4_pitchOf_56 : decode cX4_pitchOf 56 = .ok (.iload 4, 2) := dk_21 4 (dk_at dksX4_pitchOf_2 8 rfl rfl)
theorem dX4_pitchOf_58 : decode cX4_pitchOf 58 = .ok (.isub, 1) := dk_100 (dk_at dksX4_pitchOf_2 10 rfl rfl)
theorem dX4_pitchOf_59 : decode cX4_pitchOf 59 = .ok (.ireturn, 1) := dk_172 (dk_at dksX4_pitchOf_2 11 rfl rfl)
theorem dX4_pitchOf_60 : decode cX4_pitchOf 60 = .ok (.iload 5, 2) := dk_21 5 (dk_at dksX4_pitchOf_2 12 rfl rfl)
theorem dX4_pitchOf_62 : decode cX4_pitchOf 62 = .ok (.aload_n 0, 1) := dk_42 (dk_at dksX4_pitchOf_2 14 rfl rfl)
theorem dX4_pitchOf_63 : decode cX4_pitchOf 63 = .ok (.iload_n 2, 1) := dk_28 (dk_at dksX4_pitchOf_2 15 rfl rfl)
theorem dX4_pitchOf_64 : decode cX4_pitchOf 64 = .ok (.invokevirtual 95, 3) := dk_182 0 95 (dk_at dksX4_pitchOf_2 16 rfl rfl)
theorem dX4_pitchOf_67 : decode cX4_pitchOf 67 = .ok (.iadd, 1) := dk_96 (dk_at dksX4_pitchOf_2 19 rfl rfl)
theorem dX4_pitchOf_68 : decode cX4_pitchOf 68 = .ok (.ireturn, 1) := dk_172 (dk_at dksX4_pitchOf_2 20 rfl rfl)
theorem dX4_pitchOf_69 : decode cX4_pitchOf 69 = .ok (.iload 5, 2) := dk_21 5 (dk_at dksX4_pitchOf_2 21 rfl rfl)
theorem dX4_pitchOf_71 : decode cX4_pitchOf 71 = .ok (.ireturn, 1) := dk_172 (dk_at dksX4_pitchOf_2 23 rfl rfl)
abbrev cX4_tries : ByteArray := prog_22_method_50_code
def yX4_tries : MethodName := ⟨RX4, "tries", "(IIIII)I"⟩
def dkwX4_tries_3 : List UInt8 := [153, 0, 7, 5, 167, 0, 4, 3, 96, 172]
abbrev dktX4_tries_3 : List UInt8 := dkwX4_tries_3 ++ []
def dkwX4_tries_2 : List UInt8 := [27, 28, 29, 21, 4, 21, 5, 182, 0, 181, 153, 0, 7, 4, 167, 0, 4, 3, 42, 27, 182, 0, 151]
abbrev dktX4_tries_2 : List UInt8 := dkwX4_tries_2 ++ dktX4_tries_3
def dkwX4_tries_1 : List UInt8 := [16, 253, 172, 42, 180, 0, 9, 27, 6, 184, 0, 51, 92, 46, 42, 29, 21, 5, 182, 0, 154, 96, 79, 42]
abbrev dktX4_tries_1 : List UInt8 := dkwX4_tries_1 ++ dktX4_tries_2
def dkwX4_tries_0 : List UInt8 := [42, 27, 28, 29, 21, 4, 21, 5, 182, 0, 177, 154, 0, 5, 2, 172, 42, 27, 182, 0, 151, 153, 0, 6]
abbrev dktX4_tries_0 : List UInt8 := dkwX4_tries_0 ++ dktX4_tries_1
theorem dksX4_tries_0 : cX4_tries.data.toList.drop 0 = dktX4_tries_0 := by decide +kernel
theorem dksX4_tries_1 : cX4_tries.data.toList.drop 24 = dktX4_tries_1 := dk_seg dksX4_tries_0 24 rfl rfl
theorem dksX4_tries_2 : cX4_tries.data.toList.drop 48 = dktX4_tries_2 := dk_seg dksX4_tries_1 24 rfl rfl
theorem dksX4_tries_3 : cX4_tries.data.toList.drop 71 = dktX4_tries_3 := dk_seg dksX4_tries_2 23 rfl rfl
theorem dX4_tries_0 : decode cX4_tries 0 = .ok (.aload_n 0, 1) := dk_42 (dk_at dksX4_tries_0 0 rfl rfl)
theorem dX4_tries_1 : decode cX4_tries 1 = .ok (.iload_n 1, 1) := dk_27 (dk_at dksX4_tries_0 1 rfl rfl)
theorem dX4_tries_2 : decode cX4_tries 2 = .ok (.iload_n 2, 1) := dk_28 (dk_at dksX4_tries_0 2 rfl rfl)
theorem dX4_tries_3 : decode cX4_tries 3 = .ok (.iload_n 3, 1) := dk_29 (dk_at dksX4_tries_0 3 rfl rfl)
theorem dX4_tries_4 : decode cX4_tries 4 = .ok (.iload 4, 2) := dk_21 4 (dk_at dksX4_tries_0 4 rfl rfl)
theorem dX4_tries_6 : decode cX4_tries 6 = .ok (.iload 5, 2) := dk_21 5 (dk_at dksX4_tries_0 6 rfl rfl)
theorem dX4_tries_8 : decode cX4_tries 8 = .ok (.invokevirtual 177, 3) := dk_182 0 177 (dk_at dksX4_tries_0 8 rfl rfl)
theorem dX4_tries_11 : decode cX4_tries 11 = .ok (.ifCond .ne 5, 3) := dk_154 0 5 (dk_at dksX4_tries_0 11 rfl rfl)
theorem dX4_tries_14 : decode cX4_tries 14 = .ok (.iconst (-1), 1) := dk_2 (dk_at dksX4_tries_0 14 rfl rfl)
theorem dX4_tries_15 : decode cX4_tries 15 = .ok (.ireturn, 1) := dk_172 (dk_at dksX4_tries_0 15 rfl rfl)
theorem dX4_tries_16 : decode cX4_tries 16 = .ok (.aload_n 0, 1) := dk_42 (dk_at dksX4_tries_0 16 rfl rfl)
theorem dX4_tries_17 : decode cX4_tries 17 = .ok (.iload_n 1, 1) := dk_27 (dk_at dksX4_tries_0 17 rfl rfl)
theorem dX4_tries_18 : decode cX4_tries 18 = .ok (.invokevirtual 151, 3) := dk_182 0 151 (dk_at dksX4_tries_0 18 rfl rfl)
theorem dX4_tries_21 : decode cX4_tries 21 = .ok (.ifCond .eq 6, 3) := dk_153 0 6 (dk_at dksX4_tries_0 21 rfl rfl)
theorem dX4_tries_24 : decode cX4_tries 24 = .ok (.bipush (-3), 2) := dk_16 253 (dk_at dksX4_tries_1 0 rfl rfl)
theorem dX4_tries_26 : decode cX4_tries 26 = .ok (.ireturn, 1) := dk_172 (dk_at dksX4_tries_1 2 rfl rfl)
theorem dX4_tries_27 : decode cX4_tries 27 = .ok (.aload_n 0, 1) := dk_42 (dk_at dksX4_tries_1 3 rfl rfl)
theorem dX4_tries_28 : decode cX4_tries 28 = .ok (.getfield 9, 3) := dk_180 0 9 (dk_at dksX4_tries_1 4 rfl rfl)
theorem dX4_tries_31 : decode cX4_tries 31 = .ok (.iload_n 1, 1) := dk_27 (dk_at dksX4_tries_1 7 rfl rfl)
theorem dX4_tries_32 : decode cX4_tries 32 = .ok (.iconst 3, 1) := dk_6 (dk_at dksX4_tries_1 8 rfl rfl)
theorem dX4_tries_33 : decode cX4_tries 33 = .ok (.invokestatic 51, 3) := dk_184 0 51 (dk_at dksX4_tries_1 9 rfl rfl)
theorem dX4_tries_36 : decode cX4_tries 36 = .ok (.dup2, 1) := dk_92 (dk_at dksX4_tries_1 12 rfl rfl)
theorem dX4_tries_37 : decode cX4_tries 37 = .ok (.iaload, 1) := dk_46 (dk_at dksX4_tries_1 13 rfl rfl)
theorem dX4_tries_38 : decode cX4_tries 38 = .ok (.aload_n 0, 1) := dk_42 (dk_at dksX4_tries_1 14 rfl rfl)
theorem dX4_tries_39 : decode cX4_tries 39 = .ok (.iload_n 3, 1) := dk_29 (dk_at dksX4_tries_1 15 rfl rfl)
theorem dX4_tries_40 : decode cX4_tries 40 = .ok (.iload 5, 2) := dk_21 5 (dk_at dksX4_tries_1 16 rfl rfl)
theorem dX4_tries_42 : decode cX4_tries 42 = .ok (.invokevirtual 154, 3) := dk_182 0 154 (dk_at dksX4_tries_1 18 rfl rfl)
theorem dX4_tries_45 : decode cX4_tries 45 = .ok (.iadd, 1) := dk_96 (dk_at dksX4_tries_1 21 rfl rfl)
theorem dX4_tries_46 : decode cX4_tries 46 = .ok (.iastore, 1) := dk_79 (dk_at dksX4_tries_1 22 rfl rfl)
theorem dX4_tries_47 : decode cX4_tries 47 = .ok (.aload_n 0, 1) := dk_42 (dk_at dksX4_tries_1 23 rfl rfl)
theorem dX4_tries_48 : decode cX4_tries 48 = .ok (.iload_n 1, 1) := dk_27 (dk_at dksX4_tries_2 0 rfl rfl)
theorem dX4_tries_49 : decode cX4_tries 49 = .ok (.iload_n 2, 1) := dk_28 (dk_at dksX4_tries_2 1 rfl rfl)
theorem dX4_tries_50 : decode cX4_tries 50 = .ok (.iload_n 3, 1) := dk_29 (dk_at dksX4_tries_2 2 rfl rfl)
theorem dX4_tries_51 : decode cX4_tries 51 = .ok (.iload 4, 2) := dk_21 4 (dk_at dksX4_tries_2 3 rfl rfl)
theorem dX4_tries_53 : decode cX4_tries 53 = .ok (.iload 5, 2) := dk_21 5 (dk_at dksX4_tries_2 5 rfl rfl)
theorem dX4_tries_55 : decode cX4_tries 55 = .ok (.invokevirtual 181, 3) := dk_182 0 181 (dk_at dksX4_tries_2 7 rfl rfl)
theorem dX4_tries_58 : decode cX4_tries 58 = .ok (.ifCond .eq 7, 3) := dk_153 0 7 (dk_at dksX4_tries_2 10 rfl rfl)
theorem dX4_tries_61 : decode cX4_tries 61 = .ok (.iconst 1, 1) := dk_4 (dk_at dksX4_tries_2 13 rfl rfl)
theorem dX4_tries_62 : decode cX4_tries 62 = .ok (.goto 4, 3) := dk_167 0 4 (dk_at dksX4_tries_2 14 rfl rfl)
theorem dX4_tries_65 : decode cX4_tries 65 = .ok (.iconst 0, 1) := dk_3 (dk_at dksX4_tries_2 17 rfl rfl)
theorem dX4_tries_66 : decode cX4_tries 66 = .ok (.aload_n 0, 1) := dk_42 (dk_at dksX4_tries_2 18 rfl rfl)
theorem dX4_tries_67 : decode cX4_tries 67 = .ok (.iload_n 1, 1) := dk_27 (dk_at dksX4_tries_2 19 rfl rfl)
theorem dX4_tries_68 : decode cX4_tries 68 = .ok (.invokevirtual 151, 3) := dk_182 0 151 (dk_at dksX4_tries_2 20 rfl rfl)
theorem dX4_tries_71 : decode cX4_tries 71 = .ok (.ifCond .eq 7, 3) := dk_153 0 7 (dk_at dksX4_tries_3 0 rfl rfl)
theorem dX4_tries_74 : decode cX4_tries 74 = .ok (.iconst 2, 1) := dk_5 (dk_at dksX4_tries_3 3 rfl rfl)
theorem dX4_tries_75 : decode cX4_tries 75 = .ok (.goto 4, 3) := dk_167 0 4 (dk_at dksX4_tries_3 4 rfl rfl)
theorem dX4_tries_78 : decode cX4_tries 78 = .ok (.iconst 0, 1) := dk_3 (dk_at dksX4_tries_3 7 rfl rfl)
theorem dX4_tries_79 : decode cX4_tries 79 = .ok (.iadd, 1) := dk_96 (dk_at dksX4_tries_3 8 rfl rfl)
theorem dX4_tries_80 : decode cX4_tries 80 = .ok (.ireturn, 1) := dk_172 (dk_at dksX4_tries_3 9 rfl rfl)
abbrev cX4_where : ByteArray := prog_22_method_52_code
def yX4_where : MethodName := ⟨RX4, "where", "(IIII)I"⟩
def dkwX4_where_2 : List UInt8 := [180, 0, 189, 167, 0, 7, 42, 180, 0, 192, 172]
abbrev dktX4_where_2 : List UInt8 := dkwX4_where_2 ++ []
def dkwX4_where_1 : List UInt8 := [28, 29, 182, 0, 198, 21, 4, 154, 0, 10, 42, 180, 0, 195, 167, 0, 20, 21, 4, 4, 160, 0, 10, 42]
abbrev dktX4_where_1 : List UInt8 := dkwX4_where_1 ++ dktX4_where_2
def dkwX4_where_0 : List UInt8 := [42, 27, 28, 29, 182, 0, 148, 153, 0, 13, 21, 4, 3, 5, 184, 0, 58, 154, 0, 5, 2, 172, 42, 27]
abbrev dktX4_where_0 : List UInt8 := dkwX4_where_0 ++ dktX4_where_1
theorem dksX4_where_0 : cX4_where.data.toList.drop 0 = dktX4_where_0 := by decide +kernel
theorem dksX4_where_1 : cX4_where.data.toList.drop 24 = dktX4_where_1 := dk_seg dksX4_where_0 24 rfl rfl
theorem dksX4_where_2 : cX4_where.data.toList.drop 48 = dktX4_where_2 := dk_seg dksX4_where_1 24 rfl rfl
theorem dX4_where_0 : decode cX4_where 0 = .ok (.aload_n 0, 1) := dk_42 (dk_at dksX4_where_0 0 rfl rfl)
theorem dX4_where_1 : decode cX4_where 1 = .ok (.iload_n 1, 1) := dk_27 (dk_at dksX4_where_0 1 rfl rfl)
theorem dX4_where_2 : decode cX4_where 2 = .ok (.iload_n 2, 1) := dk_28 (dk_at dksX4_where_0 2 rfl rfl)
theorem dX4_where_3 : decode cX4_where 3 = .ok (.iload_n 3, 1) := dk_29 (dk_at dksX4_where_0 3 rfl rfl)
theorem dX4_where_4 : decode cX4_where 4 = .ok (.invokevirtual 148, 3) := dk_182 0 148 (dk_at dksX4_where_0 4 rfl rfl)
theorem dX4_where_7 : decode cX4_where 7 = .ok (.ifCond .eq 13, 3) := dk_153 0 13 (dk_at dksX4_where_0 7 rfl rfl)
theorem dX4_where_10 : decode cX4_where 10 = .ok (.iload 4, 2) := dk_21 4 (dk_at dksX4_where_0 10 rfl rfl)
theorem dX4_where_12 : decode cX4_where 12 = .ok (.iconst 0, 1) := dk_3 (dk_at dksX4_where_0 12 rfl rfl)
theorem dX4_where_13 : decode cX4_where 13 = .ok (.iconst 2, 1) := dk_5 (dk_at dksX4_where_0 13 rfl rfl)
theorem dX4_where_14 : decode cX4_where 14 = .ok (.invokestatic 58, 3) := dk_184 0 58 (dk_at dksX4_where_0 14 rfl rfl)
theorem dX4_where_17 : decode cX4_where 17 = .ok (.ifCond .ne 5, 3) := dk_154 0 5 (dk_at dksX4_where_0 17 rfl rfl)
theorem dX4_where_20 : decode cX4_where 20 = .ok (.iconst (-1), 1) := dk_2 (dk_at dksX4_where_0 20 rfl rfl)
theorem dX4_where_21 : decode cX4_where 21 = .ok (.ireturn, 1) := dk_172 (dk_at dksX4_where_0 21 rfl rfl)
theorem dX4_where_22 : decode cX4_where 22 = .ok (.aload_n 0, 1) := dk_42 (dk_at dksX4_where_0 22 rfl rfl)
theorem dX4_where_23 : decode cX4_where 23 = .ok (.iload_n 1, 1) := dk_27 (dk_at dksX4_where_0 23 rfl rfl)
theorem dX4_where_24 : decode cX4_where 24 = .ok (.iload_n 2, 1) := dk_28 (dk_at dksX4_where_1 0 rfl rfl)
theorem dX4_where_25 : decode cX4_where 25 = .ok (.iload_n 3, 1) := dk_29 (dk_at dksX4_where_1 1 rfl rfl)
theorem dX4_where_26 : decode cX4_where 26 = .ok (.invokevirtual 198, 3) := dk_182 0 198 (dk_at dksX4_where_1 2 rfl rfl)
theorem dX4_where_29 : decode cX4_where 29 = .ok (.iload 4, 2) := dk_21 4 (dk_at dksX4_where_1 5 rfl rfl)
theorem dX4_where_31 : decode cX4_where 31 = .ok (.ifCond .ne 10, 3) := dk_154 0 10 (dk_at dksX4_where_1 7 rfl rfl)
theorem dX4_where_34 : decode cX4_where 34 = .ok (.aload_n 0, 1) := dk_42 (dk_at dksX4_where_1 10 rfl rfl)
theorem dX4_where_35 : decode cX4_where 35 = .ok (.getfield 195, 3) := dk_180 0 195 (dk_at dksX4_where_1 11 rfl rfl)
theorem dX4_where_38 : decode cX4_where 38 = .ok (.goto 20, 3) := dk_167 0 20 (dk_at dksX4_where_1 14 rfl rfl)
theorem dX4_where_41 : decode cX4_where 41 = .ok (.iload 4, 2) := dk_21 4 (dk_at dksX4_where_1 17 rfl rfl)
theorem dX4_where_43 : decode cX4_where 43 = .ok (.iconst 1, 1) := dk_4 (dk_at dksX4_where_1 19 rfl rfl)
theorem dX4_where_44 : decode cX4_where 44 = .ok (.if_icmp .ne 10, 3) := dk_160 0 10 (dk_at dksX4_where_1 20 rfl rfl)
theorem dX4_where_47 : decode cX4_where 47 = .ok (.aload_n 0, 1) := dk_42 (dk_at dksX4_where_1 23 rfl rfl)
theorem dX4_where_48 : decode cX4_where 48 = .ok (.getfield 189, 3) := dk_180 0 189 (dk_at dksX4_where_2 0 rfl rfl)
theorem dX4_where_51 : decode cX4_where 51 = .ok (.goto 7, 3) := dk_167 0 7 (dk_at dksX4_where_2 3 rfl rfl)
theorem dX4_where_54 : decode cX4_where 54 = .ok (.aload_n 0, 1) := dk_42 (dk_at dksX4_where_2 6 rfl rfl)
theorem dX4_where_55 : decode cX4_where 55 = .ok (.getfield 192, 3) := dk_180 0 192 (dk_at dksX4_where_2 7 rfl rfl)
theorem dX4_where_58 : decode cX4_where 58 = .ok (.ireturn, 1) := dk_172 (dk_at dksX4_where_2 10 rfl rfl)
abbrev cX4_looks : ByteArray := prog_22_method_51_code
def yX4_looks : MethodName := ⟨RX4, "looks", "(III)V"⟩
def dkwX4_looks_4 : List UInt8 := [181, 0, 189, 42, 16, 252, 181, 0, 192, 177]
abbrev dktX4_looks_4 : List UInt8 := dkwX4_looks_4 ++ []
def dkwX4_looks_3 : List UInt8 := [167, 255, 207, 42, 21, 4, 21, 5, 104, 181, 0, 195, 42, 180, 0, 195, 158, 0, 4, 177, 42, 16, 252]
abbrev dktX4_looks_3 : List UInt8 := dkwX4_looks_3 ++ dktX4_looks_4
def dkwX4_looks_2 : List UInt8 := [42, 28, 29, 21, 6, 182, 0, 114, 153, 0, 12, 132, 5, 1, 42, 21, 6, 181, 0, 192, 132, 6, 255]
abbrev dktX4_looks_2 : List UInt8 := dkwX4_looks_2 ++ dktX4_looks_3
def dkwX4_looks_1 : List UInt8 := [155, 0, 50, 42, 27, 28, 29, 21, 6, 182, 0, 110, 153, 0, 12, 132, 4, 1, 42, 21, 6, 181, 0, 189]
abbrev dktX4_looks_1 : List UInt8 := dkwX4_looks_1 ++ dktX4_looks_2
def dkwX4_looks_0 : List UInt8 := [3, 54, 4, 3, 54, 5, 42, 16, 252, 181, 0, 189, 42, 16, 252, 181, 0, 192, 16, 60, 54, 6, 21, 6]
abbrev dktX4_looks_0 : List UInt8 := dkwX4_looks_0 ++ dktX4_looks_1
theorem dksX4_looks_0 : cX4_looks.data.toList.drop 0 = dktX4_looks_0 := by decide +kernel
theorem dksX4_looks_1 : cX4_looks.data.toList.drop 24 = dktX4_looks_1 := dk_seg dksX4_looks_0 24 rfl rfl
theorem dksX4_looks_2 : cX4_looks.data.toList.drop 48 = dktX4_looks_2 := dk_seg dksX4_looks_1 24 rfl rfl
theorem dksX4_looks_3 : cX4_looks.data.toList.drop 71 = dktX4_looks_3 := dk_seg dksX4_looks_2 23 rfl rfl
theorem dksX4_looks_4 : cX4_looks.data.toList.drop 94 = dktX4_looks_4 := dk_seg dksX4_looks_3 23 rfl rfl
theorem dX4_looks_0 : decode cX4_looks 0 = .ok (.iconst 0, 1) := dk_3 (dk_at dksX4_looks_0 0 rfl rfl)
theorem dX4_looks_1 : decode cX4_looks 1 = .ok (.istore 4, 2) := dk_54 4 (dk_at dksX4_looks_0 1 rfl rfl)
theorem dX4_looks_3 : decode cX4_looks 3 = .ok (.iconst 0, 1) := dk_3 (dk_at dksX4_looks_0 3 rfl rfl)
theorem dX4_looks_4 : decode cX4_looks 4 = .ok (.istore 5, 2) := dk_54 5 (dk_at dksX4_looks_0 4 rfl rfl)
theorem dX4_looks_6 : decode cX4_looks 6 = .ok (.aload_n 0, 1) := dk_42 (dk_at dksX4_looks_0 6 rfl rfl)
theorem dX4_looks_7 : decode cX4_looks 7 = .ok (.bipush (-4), 2) := dk_16 252 (dk_at dksX4_looks_0 7 rfl rfl)
theorem dX4_looks_9 : decode cX4_looks 9 = .ok (.putfield 189, 3) := dk_181 0 189 (dk_at dksX4_looks_0 9 rfl rfl)
theorem dX4_looks_12 : decode cX4_looks 12 = .ok (.aload_n 0, 1) := dk_42 (dk_at dksX4_looks_0 12 rfl rfl)
theorem dX4_looks_13 : decode cX4_looks 13 = .ok (.bipush (-4), 2) := dk_16 252 (dk_at dksX4_looks_0 13 rfl rfl)
theorem dX4_looks_15 : decode cX4_looks 15 = .ok (.putfield 192, 3) := dk_181 0 192 (dk_at dksX4_looks_0 15 rfl rfl)
theorem dX4_looks_18 : decode cX4_looks 18 = .ok (.bipush 60, 2) := dk_16 60 (dk_at dksX4_looks_0 18 rfl rfl)
theorem dX4_looks_20 : decode cX4_looks 20 = .ok (.istore 6, 2) := dk_54 6 (dk_at dksX4_looks_0 20 rfl rfl)
theorem dX4_looks_22 : decode cX4_looks 22 = .ok (.iload 6, 2) := dk_21 6 (dk_at dksX4_looks_0 22 rfl rfl)
theorem dX4_looks_24 : decode cX4_looks 24 = .ok (.ifCond .lt 50, 3) := dk_155 0 50 (dk_at dksX4_looks_1 0 rfl rfl)
theorem dX4_looks_27 : decode cX4_looks 27 = .ok (.aload_n 0, 1) := dk_42 (dk_at dksX4_looks_1 3 rfl rfl)
theorem dX4_looks_28 : decode cX4_looks 28 = .ok (.iload_n 1, 1) := dk_27 (dk_at dksX4_looks_1 4 rfl rfl)
theorem dX4_looks_29 : decode cX4_looks 29 = .ok (.iload_n 2, 1) := dk_28 (dk_at dksX4_looks_1 5 rfl rfl)
theorem dX4_looks_30 : decode cX4_looks 30 = .ok (.iload_n 3, 1) := dk_29 (dk_at dksX4_looks_1 6 rfl rfl)
theorem dX4_looks_31 : decode cX4_looks 31 = .ok (.iload 6, 2) := dk_21 6 (dk_at dksX4_looks_1 7 rfl rfl)
theorem dX4_looks_33 : decode cX4_looks 33 = .ok (.invokevirtual 110, 3) := dk_182 0 110 (dk_at dksX4_looks_1 9 rfl rfl)
theorem dX4_looks_36 : decode cX4_looks 36 = .ok (.ifCond .eq 12, 3) := dk_153 0 12 (dk_at dksX4_looks_1 12 rfl rfl)
theorem dX4_looks_39 : decode cX4_looks 39 = .ok (.iinc 4 1, 3) := dk_132 4 1 (dk_at dksX4_looks_1 15 rfl rfl)
theorem dX4_looks_42 : decode cX4_looks 42 = .ok (.aload_n 0, 1) := dk_42 (dk_at dksX4_looks_1 18 rfl rfl)
theorem dX4_looks_43 : decode cX4_looks 43 = .ok (.iload 6, 2) := dk_21 6 (dk_at dksX4_looks_1 19 rfl rfl)
theorem dX4_looks_45 : decode cX4_looks 45 = .ok (.putfield 189, 3) := dk_181 0 189 (dk_at dksX4_looks_1 21 rfl rfl)
theorem dX4_looks_48 : decode cX4_looks 48 = .ok (.aload_n 0, 1) := dk_42 (dk_at dksX4_looks_2 0 rfl rfl)
theorem dX4_looks_49 : decode cX4_looks 49 = .ok (.iload_n 2, 1) := dk_28 (dk_at dksX4_looks_2 1 rfl rfl)
theorem dX4_looks_50 : decode cX4_looks 50 = .ok (.iload_n 3, 1) := dk_29 (dk_at dksX4_looks_2 2 rfl rfl)
theorem dX4_looks_51 : decode cX4_looks 51 = .ok (.iload 6, 2) := dk_21 6 (dk_at dksX4_looks_2 3 rfl rfl)
theorem dX4_looks_53 : decode cX4_looks 53 = .ok (.invokevirtual 114, 3) := dk_182 0 114 (dk_at dksX4_looks_2 5 rfl rfl)
theorem dX4_looks_56 : decode cX4_looks 56 = .ok (.ifCond .eq 12, 3) := dk_153 0 12 (dk_at dksX4_looks_2 8 rfl rfl)
theorem dX4_looks_59 : decode cX4_looks 59 = .ok (.iinc 5 1, 3) := dk_132 5 1 (dk_at dksX4_looks_2 11 rfl rfl)
theorem dX4_looks_62 : decode cX4_looks 62 = .ok (.aload_n 0, 1) := dk_42 (dk_at dksX4_looks_2 14 rfl rfl)
theorem dX4_looks_63 : decode cX4_looks 63 = .ok (.iload 6, 2) := dk_21 6 (dk_at dksX4_looks_2 15 rfl rfl)
theorem dX4_looks_65 : decode cX4_looks 65 = .ok (.putfield 192, 3) := dk_181 0 192 (dk_at dksX4_looks_2 17 rfl rfl)
theorem dX4_looks_68 : decode cX4_looks 68 = .ok (.iinc 6 (-1), 3) := dk_132 6 255 (dk_at dksX4_looks_2 20 rfl rfl)
theorem dX4_looks_71 : decode cX4_looks 71 = .ok (.goto (-49), 3) := dk_167 255 207 (dk_at dksX4_looks_3 0 rfl rfl)
theorem dX4_looks_74 : decode cX4_looks 74 = .ok (.aload_n 0, 1) := dk_42 (dk_at dksX4_looks_3 3 rfl rfl)
theorem dX4_looks_75 : decode cX4_looks 75 = .ok (.iload 4, 2) := dk_21 4 (dk_at dksX4_looks_3 4 rfl rfl)
theorem dX4_looks_77 : decode cX4_looks 77 = .ok (.iload 5, 2) := dk_21 5 (dk_at dksX4_looks_3 6 rfl rfl)
theorem dX4_looks_79 : decode cX4_looks 79 = .ok (.imul, 1) := dk_104 (dk_at dksX4_looks_3 8 rfl rfl)
theorem dX4_looks_80 : decode cX4_looks 80 = .ok (.putfield 195, 3) := dk_181 0 195 (dk_at dksX4_looks_3 9 rfl rfl)
theorem dX4_looks_83 : decode cX4_looks 83 = .ok (.aload_n 0, 1) := dk_42 (dk_at dksX4_looks_3 12 rfl rfl)
theorem dX4_looks_84 : decode cX4_looks 84 = .ok (.getfield 195, 3) := dk_180 0 195 (dk_at dksX4_looks_3 13 rfl rfl)
theorem dX4_looks_87 : decode cX4_looks 87 = .ok (.ifCond .le 4, 3) := dk_158 0 4 (dk_at dksX4_looks_3 16 rfl rfl)
theorem dX4_looks_90 : decode cX4_looks 90 = .ok (.return_, 1) := dk_177 (dk_at dksX4_looks_3 19 rfl rfl)
theorem dX4_looks_91 : decode cX4_looks 91 = .ok (.aload_n 0, 1) := dk_42 (dk_at dksX4_looks_3 20 rfl rfl)
theorem dX4_looks_92 : decode cX4_looks 92 = .ok (.bipush (-4), 2) := dk_16 252 (dk_at dksX4_looks_3 21 rfl rfl)
theorem dX4_looks_94 : decode cX4_looks 94 = .ok (.putfield 189, 3) := dk_181 0 189 (dk_at dksX4_looks_4 0 rfl rfl)
theorem dX4_looks_97 : decode cX4_looks 97 = .ok (.aload_n 0, 1) := dk_42 (dk_at dksX4_looks_4 3 rfl rfl)
theorem dX4_looks_98 : decode cX4_looks 98 = .ok (.bipush (-4), 2) := dk_16 252 (dk_at dksX4_looks_4 4 rfl rfl)
theorem dX4_looks_100 : decode cX4_looks 100 = .ok (.putfield 192, 3) := dk_181 0 192 (dk_at dksX4_looks_4 6 rfl rfl)
theorem dX4_looks_103 : decode cX4_looks 103 = .ok (.return_, 1) := dk_177 (dk_at dksX4_looks_4 9 rfl rfl)
abbrev cX4_whoCan : ByteArray := prog_22_method_53_code
def yX4_whoCan : MethodName := ⟨RX4, "whoCan", "()I"⟩
def dkwX4_whoCan_2 : List UInt8 := [132, 2, 1, 167, 255, 210, 27, 172]
abbrev dktX4_whoCan_2 : List UInt8 := dkwX4_whoCan_2 ++ []
def dkwX4_whoCan_1 : List UInt8 := [162, 0, 24, 42, 28, 29, 182, 0, 201, 155, 0, 9, 27, 4, 28, 120, 128, 60, 132, 3, 1, 167, 255, 228]
abbrev dktX4_whoCan_1 : List UInt8 := dkwX4_whoCan_1 ++ dktX4_whoCan_2
def dkwX4_whoCan_0 : List UInt8 := [3, 60, 3, 61, 28, 42, 180, 0, 9, 4, 46, 162, 0, 42, 3, 62, 29, 42, 180, 0, 9, 5, 46]
abbrev dktX4_whoCan_0 : List UInt8 := dkwX4_whoCan_0 ++ dktX4_whoCan_1
theorem dksX4_whoCan_0 : cX4_whoCan.data.toList.drop 0 = dktX4_whoCan_0 := by decide +kernel
theorem dksX4_whoCan_1 : cX4_whoCan.data.toList.drop 23 = dktX4_whoCan_1 := dk_seg dksX4_whoCan_0 23 rfl rfl
theorem dksX4_whoCan_2 : cX4_whoCan.data.toList.drop 47 = dktX4_whoCan_2 := dk_seg dksX4_whoCan_1 24 rfl rfl
theorem dX4_whoCan_0 : decode cX4_whoCan 0 = .ok (.iconst 0, 1) := dk_3 (dk_at dksX4_whoCan_0 0 rfl rfl)
theorem dX4_whoCan_1 : decode cX4_whoCan 1 = .ok (.istore_n 1, 1) := dk_60 (dk_at dksX4_whoCan_0 1 rfl rfl)
theorem dX4_whoCan_2 : decode cX4_whoCan 2 = .ok (.iconst 0, 1) := dk_3 (dk_at dksX4_whoCan_0 2 rfl rfl)
theorem dX4_whoCan_3 : decode cX4_whoCan 3 = .ok (.istore_n 2, 1) := dk_61 (dk_at dksX4_whoCan_0 3 rfl rfl)
theorem dX4_whoCan_4 : decode cX4_whoCan 4 = .ok (.iload_n 2, 1) := dk_28 (dk_at dksX4_whoCan_0 4 rfl rfl)
theorem dX4_whoCan_5 : decode cX4_whoCan 5 = .ok (.aload_n 0, 1) := dk_42 (dk_at dksX4_whoCan_0 5 rfl rfl)
theorem dX4_whoCan_6 : decode cX4_whoCan 6 = .ok (.getfield 9, 3) := dk_180 0 9 (dk_at dksX4_whoCan_0 6 rfl rfl)
theorem dX4_whoCan_9 : decode cX4_whoCan 9 = .ok (.iconst 1, 1) := dk_4 (dk_at dksX4_whoCan_0 9 rfl rfl)
theorem dX4_whoCan_10 : decode cX4_whoCan 10 = .ok (.iaload, 1) := dk_46 (dk_at dksX4_whoCan_0 10 rfl rfl)
theorem dX4_whoCan_11 : decode cX4_whoCan 11 = .ok (.if_icmp .ge 42, 3) := dk_162 0 42 (dk_at dksX4_whoCan_0 11 rfl rfl)
theorem dX4_whoCan_14 : decode cX4_whoCan 14 = .ok (.iconst 0, 1) := dk_3 (dk_at dksX4_whoCan_0 14 rfl rfl)
theorem dX4_whoCan_15 : decode cX4_whoCan 15 = .ok (.istore_n 3, 1) := dk_62 (dk_at dksX4_whoCan_0 15 rfl rfl)
theorem dX4_whoCan_16 : decode cX4_whoCan 16 = .ok (.iload_n 3, 1) := dk_29 (dk_at dksX4_whoCan_0 16 rfl rfl)
theorem dX4_whoCan_17 : decode cX4_whoCan 17 = .ok (.aload_n 0, 1) := dk_42 (dk_at dksX4_whoCan_0 17 rfl rfl)
theorem dX4_whoCan_18 : decode cX4_whoCan 18 = .ok (.getfield 9, 3) := dk_180 0 9 (dk_at dksX4_whoCan_0 18 rfl rfl)
theorem dX4_whoCan_21 : decode cX4_whoCan 21 = .ok (.iconst 2, 1) := dk_5 (dk_at dksX4_whoCan_0 21 rfl rfl)
theorem dX4_whoCan_22 : decode cX4_whoCan 22 = .ok (.iaload, 1) := dk_46 (dk_at dksX4_whoCan_0 22 rfl rfl)
theorem dX4_whoCan_23 : decode cX4_whoCan 23 = .ok (.if_icmp .ge 24, 3) := dk_162 0 24 (dk_at dksX4_whoCan_1 0 rfl rfl)
theorem dX4_whoCan_26 : decode cX4_whoCan 26 = .ok (.aload_n 0, 1) := dk_42 (dk_at dksX4_whoCan_1 3 rfl rfl)
theorem dX4_whoCan_27 : decode cX4_whoCan 27 = .ok (.iload_n 2, 1) := dk_28 (dk_at dksX4_whoCan_1 4 rfl rfl)
theorem dX4_whoCan_28 : decode cX4_whoCan 28 = .ok (.iload_n 3, 1) := dk_29 (dk_at dksX4_whoCan_1 5 rfl rfl)
theorem dX4_whoCan_29 : decode cX4_whoCan 29 = .ok (.invokevirtual 201, 3) := dk_182 0 201 (dk_at dksX4_whoCan_1 6 rfl rfl)
theorem dX4_whoCan_32 : decode cX4_whoCan 32 = .ok (.ifCond .lt 9, 3) := dk_155 0 9 (dk_at dksX4_whoCan_1 9 rfl rfl)
theorem dX4_whoCan_35 : decode cX4_whoCan 35 = .ok (.iload_n 1, 1) := dk_27 (dk_at dksX4_whoCan_1 12 rfl rfl)
theorem dX4_whoCan_36 : decode cX4_whoCan 36 = .ok (.iconst 1, 1) := dk_4 (dk_at dksX4_whoCan_1 13 rfl rfl)
theorem dX4_whoCan_37 : decode cX4_whoCan 37 = .ok (.iload_n 2, 1) := dk_28 (dk_at dksX4_whoCan_1 14 rfl rfl)
theorem dX4_whoCan_38 : decode cX4_whoCan 38 = .ok (.ishl, 1) := dk_120 (dk_at dksX4_whoCan_1 15 rfl rfl)
theorem dX4_whoCan_39 : decode cX4_whoCan 39 = .ok (.ior, 1) := dk_128 (dk_at dksX4_whoCan_1 16 rfl rfl)
theorem dX4_whoCan_40 : decode cX4_whoCan 40 = .ok (.istore_n 1, 1) := dk_60 (dk_at dksX4_whoCan_1 17 rfl rfl)
theorem dX4_whoCan_41 : decode cX4_whoCan 41 = .ok (.iinc 3 1, 3) := dk_132 3 1 (dk_at dksX4_whoCan_1 18 rfl rfl)
theorem dX4_whoCan_44 : decode cX4_whoCan 44 = .ok (.goto (-28), 3) := dk_167 255 228 (dk_at dksX4_whoCan_1 21 rfl rfl)
theorem dX4_whoCan_47 : decode cX4_whoCan 47 = .ok (.iinc 2 1, 3) := dk_132 2 1 (dk_at dksX4_whoCan_2 0 rfl rfl)
theorem dX4_whoCan_50 : decode cX4_whoCan 50 = .ok (.goto (-46), 3) := dk_167 255 210 (dk_at dksX4_whoCan_2 3 rfl rfl)
theorem dX4_whoCan_53 : decode cX4_whoCan 53 = .ok (.iload_n 1, 1) := dk_27 (dk_at dksX4_whoCan_2 6 rfl rfl)
theorem dX4_whoCan_54 : decode cX4_whoCan 54 = .ok (.ireturn, 1) := dk_172 (dk_at dksX4_whoCan_2 7 rfl rfl)
abbrev cX4_bestBlade : ByteArray := prog_22_method_54_code
def yX4_bestBlade : MethodName := ⟨RX4, "bestBlade", "(II)I"⟩
def dkwX4_bestBlade_2 : List UInt8 := [163, 0, 6, 167, 0, 12, 21, 5, 62, 42, 180, 0, 195, 54, 4, 132, 5, 1, 167, 255, 201, 29, 172]
abbrev dktX4_bestBlade_2 : List UInt8 := dkwX4_bestBlade_2 ++ []
def dkwX4_bestBlade_1 : List UInt8 := [182, 0, 151, 153, 0, 6, 167, 0, 32, 42, 21, 5, 27, 28, 182, 0, 198, 42, 180, 0, 195, 21, 4]
abbrev dktX4_bestBlade_1 : List UInt8 := dkwX4_bestBlade_1 ++ dktX4_bestBlade_2
def dkwX4_bestBlade_0 : List UInt8 := [16, 252, 62, 3, 54, 4, 3, 54, 5, 21, 5, 42, 180, 0, 9, 3, 46, 162, 0, 50, 42, 21, 5]
abbrev dktX4_bestBlade_0 : List UInt8 := dkwX4_bestBlade_0 ++ dktX4_bestBlade_1
theorem dksX4_bestBlade_0 : cX4_bestBlade.data.toList.drop 0 = dktX4_bestBlade_0 := by decide +kernel
theorem dksX4_bestBlade_1 : cX4_bestBlade.data.toList.drop 23 = dktX4_bestBlade_1 := dk_seg dksX4_bestBlade_0 23 rfl rfl
theorem dksX4_bestBlade_2 : cX4_bestBlade.data.toList.drop 46 = dktX4_bestBlade_2 := dk_seg dksX4_bestBlade_1 23 rfl rfl
theorem dX4_bestBlade_0 : decode cX4_bestBlade 0 = .ok (.bipush (-4), 2) := dk_16 252 (dk_at dksX4_bestBlade_0 0 rfl rfl)
theorem dX4_bestBlade_2 : decode cX4_bestBlade 2 = .ok (.istore_n 3, 1) := dk_62 (dk_at dksX4_bestBlade_0 2 rfl rfl)
theorem dX4_bestBlade_3 : decode cX4_bestBlade 3 = .ok (.iconst 0, 1) := dk_3 (dk_at dksX4_bestBlade_0 3 rfl rfl)
theorem dX4_bestBlade_4 : decode cX4_bestBlade 4 = .ok (.istore 4, 2) := dk_54 4 (dk_at dksX4_bestBlade_0 4 rfl rfl)
theorem dX4_bestBlade_6 : decode cX4_bestBlade 6 = .ok (.iconst 0, 1) := dk_3 (dk_at dksX4_bestBlade_0 6 rfl rfl)
theorem dX4_bestBlade_7 : decode cX4_bestBlade 7 = .ok (.istore 5, 2) := dk_54 5 (dk_at dksX4_bestBlade_0 7 rfl rfl)
theorem dX4_bestBlade_9 : decode cX4_bestBlade 9 = .ok (.iload 5, 2) := dk_21 5 (dk_at dksX4_bestBlade_0 9 rfl rfl)
theorem dX4_bestBlade_11 : decode cX4_bestBlade 11 = .ok (.aload_n 0, 1) := dk_42 (dk_at dksX4_bestBlade_0 11 rfl rfl)
theorem dX4_bestBlade_12 : decode cX4_bestBlade 12 = .ok (.getfield 9, 3) := dk_180 0 9 (dk_at dksX4_bestBlade_0 12 rfl rfl)
theorem dX4_bestBlade_15 : decode cX4_bestBlade 15 = .ok (.iconst 0, 1) := dk_3 (dk_at dksX4_bestBlade_0 15 rfl rfl)
theorem dX4_bestBlade_16 : decode cX4_bestBlade 16 = .ok (.iaload, 1) := dk_46 (dk_at dksX4_bestBlade_0 16 rfl rfl)
theorem dX4_bestBlade_17 : decode cX4_bestBlade 17 = .ok (.if_icmp .ge 50, 3) := dk_162 0 50 (dk_at dksX4_bestBlade_0 17 rfl rfl)
theorem dX4_bestBlade_20 : decode cX4_bestBlade 20 = .ok (.aload_n 0, 1) := dk_42 (dk_at dksX4_bestBlade_0 20 rfl rfl)
theorem dX4_bestBlade_21 : decode cX4_bestBlade 21 = .ok (.iload 5, 2) := dk_21 5 (dk_at dksX4_bestBlade_0 21 rfl rfl)
theorem dX4_bestBlade_23 : decode cX4_bestBlade 23 = .ok (.invokevirtual 151, 3) := dk_182 0 151 (dk_at dksX4_bestBlade_1 0 rfl rfl)
theorem dX4_bestBlade_26 : decode cX4_bestBlade 26 = .ok (.ifCond .eq 6, 3) := dk_153 0 6 (dk_at dksX4_bestBlade_1 3 rfl rfl)
theorem dX4_bestBlade_29 : decode cX4_bestBlade 29 = .ok (.goto 32, 3) := dk_167 0 32 (dk_at dksX4_bestBlade_1 6 rfl rfl)
theorem dX4_bestBlade_32 : decode cX4_bestBlade 32 = .ok (.aload_n 0, 1) := dk_42 (dk_at dksX4_bestBlade_1 9 rfl rfl)
theorem dX4_bestBlade_33 : decode cX4_bestBlade 33 = .ok (.iload 5, 2) := dk_21 5 (dk_at dksX4_bestBlade_1 10 rfl rfl)
theorem dX4_bestBlade_35 : decode cX4_bestBlade 35 = .ok (.iload_n 1, 1) := dk_27 (dk_at dksX4_bestBlade_1 12 rfl rfl)
theorem dX4_bestBlade_36 : decode cX4_bestBlade 36 = .ok (.iload_n 2, 1) := dk_28 (dk_at dksX4_bestBlade_1 13 rfl rfl)
theorem dX4_bestBlade_37 : decode cX4_bestBlade 37 = .ok (.invokevirtual 198, 3) := dk_182 0 198 (dk_at dksX4_bestBlade_1 14 rfl rfl)
theorem dX4_bestBlade_40 : decode cX4_bestBlade 40 = .ok (.aload_n 0, 1) := dk_42 (dk_at dksX4_bestBlade_1 17 rfl rfl)
theorem dX4_bestBlade_41 : decode cX4_bestBlade 41 = .ok (.getfield 195, 3) := dk_180 0 195 (dk_at dksX4_bestBlade_1 18 rfl rfl)
theorem dX4_bestBlade_44 : decode cX4_bestBlade 44 = .ok (.iload 4, 2) := dk_21 4 (dk_at dksX4_bestBlade_1 21 rfl rfl)
theorem dX4_bestBlade_46 : decode cX4_bestBlade 46 = .ok (.if_icmp .gt 6, 3) := dk_163 0 6 (dk_at dksX4_bestBlade_2 0 rfl rfl)
theorem dX4_bestBlade_49 : decode cX4_bestBlade 49 = .ok (.goto 12, 3) := dk_167 0 12 (dk_at dksX4_bestBlade_2 3 rfl rfl)
theorem dX4_bestBlade_52 : decode cX4_bestBlade 52 = .ok (.iload 5, 2) := dk_21 5 (dk_at dksX4_bestBlade_2 6 rfl rfl)
theorem dX4_bestBlade_54 : decode cX4_bestBlade 54 = .ok (.istore_n 3, 1) := dk_62 (dk_at dksX4_bestBlade_2 8 rfl rfl)
theorem dX4_bestBlade_55 : decode cX4_bestBlade 55 = .ok (.aload_n 0, 1) := dk_42 (dk_at dksX4_bestBlade_2 9 rfl rfl)
theorem dX4_bestBlade_56 : decode cX4_bestBlade 56 = .ok (.getfield 195, 3) := dk_180 0 195 (dk_at dksX4_bestBlade_2 10 rfl rfl)
theorem dX4_bestBlade_59 : decode cX4_bestBlade 59 = .ok (.istore 4, 2) := dk_54 4 (dk_at dksX4_bestBlade_2 13 rfl rfl)
theorem dX4_bestBlade_61 : decode cX4_bestBlade 61 = .ok (.iinc 5 1, 3) := dk_132 5 1 (dk_at dksX4_bestBlade_2 15 rfl rfl)
theorem dX4_bestBlade_64 : decode cX4_bestBlade 64 = .ok (.goto (-55), 3) := dk_167 255 201 (dk_at dksX4_bestBlade_2 18 rfl rfl)
theorem dX4_bestBlade_67 : decode cX4_bestBlade 67 = .ok (.iload_n 3, 1) := dk_29 (dk_at dksX4_bestBlade_2 21 rfl rfl)
theorem dX4_bestBlade_68 : decode cX4_bestBlade 68 = .ok (.ireturn, 1) := dk_172 (dk_at dksX4_bestBlade_2 22 rfl rfl)
abbrev cX4_which : ByteArray := prog_22_method_55_code
def yX4_which : MethodName := ⟨RX4, "which", "(II)I"⟩
def dkwX4_which_1 : List UInt8 := [167, 0, 4, 2, 172]
abbrev dktX4_which_1 : List UInt8 := dkwX4_which_1 ++ []
def dkwX4_which_0 : List UInt8 := [42, 27, 182, 0, 66, 153, 0, 20, 42, 28, 182, 0, 69, 153, 0, 12, 42, 27, 28, 182, 0, 201]
abbrev dktX4_which_0 : List UInt8 := dkwX4_which_0 ++ dktX4_which_1
theorem dksX4_which_0 : cX4_which.data.toList.drop 0 = dktX4_which_0 := by decide +kernel
theorem dksX4_which_1 : cX4_which.data.toList.drop 22 = dktX4_which_1 := dk_seg dksX4_which_0 22 rfl rfl
theorem dX4_which_0 : decode cX4_which 0 = .ok (.aload_n 0, 1) := dk_42 (dk_at dksX4_which_0 0 rfl rfl)
theorem dX4_which_1 : decode cX4_which 1 = .ok (.iload_n 1, 1) := dk_27 (dk_at dksX4_which_0 1 rfl rfl)
theorem dX4_which_2 : decode cX4_which 2 = .ok (.invokevirtual 66, 3) := dk_182 0 66 (dk_at dksX4_which_0 2 rfl rfl)
theorem dX4_which_5 : decode cX4_which 5 = .ok (.ifCond .eq 20, 3) := dk_153 0 20 (dk_at dksX4_which_0 5 rfl rfl)
theorem dX4_which_8 : decode cX4_which 8 = .ok (.aload_n 0, 1) := dk_42 (dk_at dksX4_which_0 8 rfl rfl)
theorem dX4_which_9 : decode cX4_which 9 = .ok (.iload_n 2, 1) := dk_28 (dk_at dksX4_which_0 9 rfl rfl)
theorem dX4_which_10 : decode cX4_which 10 = .ok (.invokevirtual 69, 3) := dk_182 0 69 (dk_at dksX4_which_0 10 rfl rfl)
theorem dX4_which_13 : decode cX4_which 13 = .ok (.ifCond .eq 12, 3) := dk_153 0 12 (dk_at dksX4_which_0 13 rfl rfl)
theorem dX4_which_16 : decode cX4_which 16 = .ok (.aload_n 0, 1) := dk_42 (dk_at dksX4_which_0 16 rfl rfl)
theorem dX4_which_17 : decode cX4_which 17 = .ok (.iload_n 1, 1) := dk_27 (dk_at dksX4_which_0 17 rfl rfl)
theorem dX4_which_18 : decode cX4_which 18 = .ok (.iload_n 2, 1) := dk_28 (dk_at dksX4_which_0 18 rfl rfl)
theorem dX4_which_19 : decode cX4_which 19 = .ok (.invokevirtual 201, 3) := dk_182 0 201 (dk_at dksX4_which_0 19 rfl rfl)
theorem dX4_which_22 : decode cX4_which 22 = .ok (.goto 4, 3) := dk_167 0 4 (dk_at dksX4_which_1 0 rfl rfl)
theorem dX4_which_25 : decode cX4_which 25 = .ok (.iconst (-1), 1) := dk_2 (dk_at dksX4_which_1 3 rfl rfl)
theorem dX4_which_26 : decode cX4_which 26 = .ok (.ireturn, 1) := dk_172 (dk_at dksX4_which_1 4 rfl rfl)
abbrev cX4_wrong : ByteArray := prog_22_method_56_code
def yX4_wrong : MethodName := ⟨RX4, "wrong", "(IIIII)I"⟩
def dkwX4_wrong_5 : List UInt8 := [167, 0, 4, 3, 128, 172]
abbrev dktX4_wrong_5 : List UInt8 := dkwX4_wrong_5 ++ []
def dkwX4_wrong_4 : List UInt8 := [167, 0, 4, 3, 128, 54, 6, 21, 6, 21, 5, 42, 28, 29, 182, 0, 107, 164, 0, 8, 16, 16]
abbrev dktX4_wrong_4 : List UInt8 := dkwX4_wrong_4 ++ dktX4_wrong_5
def dkwX4_wrong_3 : List UInt8 := [167, 0, 4, 3, 128, 54, 6, 21, 6, 21, 5, 42, 28, 29, 182, 0, 92, 162, 0, 8, 16, 8]
abbrev dktX4_wrong_3 : List UInt8 := dkwX4_wrong_3 ++ dktX4_wrong_4
def dkwX4_wrong_2 : List UInt8 := [164, 0, 7, 5, 167, 0, 4, 3, 128, 54, 6, 21, 6, 21, 4, 42, 28, 182, 0, 104, 164, 0, 7, 7]
abbrev dktX4_wrong_2 : List UInt8 := dkwX4_wrong_2 ++ dktX4_wrong_3
def dkwX4_wrong_1 : List UInt8 := [182, 0, 98, 162, 0, 7, 4, 167, 0, 4, 3, 54, 6, 21, 6, 21, 4, 42, 27, 28, 29, 182, 0, 101]
abbrev dktX4_wrong_1 : List UInt8 := dkwX4_wrong_1 ++ dktX4_wrong_2
def dkwX4_wrong_0 : List UInt8 := [42, 27, 28, 29, 21, 4, 21, 5, 182, 0, 177, 154, 0, 5, 2, 172, 21, 4, 42, 27, 28, 29]
abbrev dktX4_wrong_0 : List UInt8 := dkwX4_wrong_0 ++ dktX4_wrong_1
theorem dksX4_wrong_0 : cX4_wrong.data.toList.drop 0 = dktX4_wrong_0 := by decide +kernel
theorem dksX4_wrong_1 : cX4_wrong.data.toList.drop 22 = dktX4_wrong_1 := dk_seg dksX4_wrong_0 22 rfl rfl
theorem dksX4_wrong_2 : cX4_wrong.data.toList.drop 46 = dktX4_wrong_2 := dk_seg dksX4_wrong_1 24 rfl rfl
theorem dksX4_wrong_3 : cX4_wrong.data.toList.drop 70 = dktX4_wrong_3 := dk_seg dksX4_wrong_2 24 rfl rfl
theorem dksX4_wrong_4 : cX4_wrong.data.toList.drop 92 = dktX4_wrong_4 := dk_seg dksX4_wrong_3 22 rfl rfl
theorem dksX4_wrong_5 : cX4_wrong.data.toList.drop 114 = dktX4_wrong_5 := dk_seg dksX4_wrong_4 22 rfl rfl
theorem dX4_wrong_0 : decode cX4_wrong 0 = .ok (.aload_n 0, 1) := dk_42 (dk_at dksX4_wrong_0 0 rfl rfl)
theorem dX4_wrong_1 : decode cX4_wrong 1 = .ok (.iload_n 1, 1) := dk_27 (dk_at dksX4_wrong_0 1 rfl rfl)
theorem dX4_wrong_2 : decode cX4_wrong 2 = .ok (.iload_n 2, 1) := dk_28 (dk_at dksX4_wrong_0 2 rfl rfl)
theorem dX4_wrong_3 : decode cX4_wrong 3 = .ok (.iload_n 3, 1) := dk_29 (dk_at dksX4_wrong_0 3 rfl rfl)
theorem dX4_wrong_4 : decode cX4_wrong 4 = .ok (.iload 4, 2) := dk_21 4 (dk_at dksX4_wrong_0 4 rfl rfl)
theorem dX4_wrong_6 : decode cX4_wrong 6 = .ok (.iload 5, 2) := dk_21 5 (dk_at dksX4_wrong_0 6 rfl rfl)
theorem dX4_wrong_8 : decode cX4_wrong 8 = .ok (.invokevirtual 177, 3) := dk_182 0 177 (dk_at dksX4_wrong_0 8 rfl rfl)
theorem dX4_wrong_11 : decode cX4_wrong 11 = .ok (.ifCond .ne 5, 3) := dk_154 0 5 (dk_at dksX4_wrong_0 11 rfl rfl)
theorem dX4_wrong_14 : decode cX4_wrong 14 = .ok (.iconst (-1), 1) := dk_2 (dk_at dksX4_wrong_0 14 rfl rfl)
theorem dX4_wrong_15 : decode cX4_wrong 15 = .ok (.ireturn, 1) := dk_172 (dk_at dksX4_wrong_0 15 rfl rfl)
theorem dX4_wrong_16 : decode cX4_wrong 16 = .ok (.iload 4, 2) := dk_21 4 (dk_at dksX4_wrong_0 16 rfl rfl)
theorem dX4_wrong_18 : decode cX4_wrong 18 = .ok (.aload_n 0, 1) := dk_42 (dk_at dksX4_wrong_0 18 rfl rfl)
theorem dX4_wrong_19 : decode cX4_wrong 19 = .ok (.iload_n 1, 1) := dk_27 (dk_at dksX4_wrong_0 19 rfl rfl)
theorem dX4_wrong_20 : decode cX4_wrong 20 = .ok (.iload_n 2, 1) := dk_28 (dk_at dksX4_wrong_0 20 rfl rfl)
theorem dX4_wrong_21 : decode cX4_wrong 21 = .ok (.iload_n 3, 1) := dk_29 (dk_at dksX4_wrong_0 21 rfl rfl)
theorem dX4_wrong_22 : decode cX4_wrong 22 = .ok (.invokevirtual 98, 3) := dk_182 0 98 (dk_at dksX4_wrong_1 0 rfl rfl)
theorem dX4_wrong_25 : decode cX4_wrong 25 = .ok (.if_icmp .ge 7, 3) := dk_162 0 7 (dk_at dksX4_wrong_1 3 rfl rfl)
theorem dX4_wrong_28 : decode cX4_wrong 28 = .ok (.iconst 1, 1) := dk_4 (dk_at dksX4_wrong_1 6 rfl rfl)
theorem dX4_wrong_29 : decode cX4_wrong 29 = .ok (.goto 4, 3) := dk_167 0 4 (dk_at dksX4_wrong_1 7 rfl rfl)
theorem dX4_wrong_32 : decode cX4_wrong 32 = .ok (.iconst 0, 1) := dk_3 (dk_at dksX4_wrong_1 10 rfl rfl)
theorem dX4_wrong_33 : decode cX4_wrong 33 = .ok (.istore 6, 2) := dk_54 6 (dk_at dksX4_wrong_1 11 rfl rfl)
theorem dX4_wrong_35 : decode cX4_wrong 35 = .ok (.iload 6, 2) := dk_21 6 (dk_at dksX4_wrong_1 13 rfl rfl)
theorem dX4_wrong_37 : decode cX4_wrong 37 = .ok (.iload 4, 2) := dk_21 4 (dk_at dksX4_wrong_1 15 rfl rfl)
theorem dX4_wrong_39 : decode cX4_wrong 39 = .ok (.aload_n 0, 1) := dk_42 (dk_at dksX4_wrong_1 17 rfl rfl)
theorem dX4_wrong_40 : decode cX4_wrong 40 = .ok (.iload_n 1, 1) := dk_27 (dk_at dksX4_wrong_1 18 rfl rfl)
theorem dX4_wrong_41 : decode cX4_wrong 41 = .ok (.iload_n 2, 1) := dk_28 (dk_at dksX4_wrong_1 19 rfl rfl)
theorem dX4_wrong_42 : decode cX4_wrong 42 = .ok (.iload_n 3, 1) := dk_29 (dk_at dksX4_wrong_1 20 rfl rfl)
theorem dX4_wrong_43 : decode cX4_wrong 43 = .ok (.invokevirtual 101, 3) := dk_182 0 101 (dk_at dksX4_wrong_1 21 rfl rfl)
theorem dX4_wrong_46 : decode cX4_wrong 46 = .ok (.if_icmp .le 7, 3) := dk_164 0 7 (dk_at dksX4_wrong_2 0 rfl rfl)
theorem dX4_wrong_49 : decode cX4_wrong 49 = .ok (.iconst 2, 1) := dk_5 (dk_at dksX4_wrong_2 3 rfl rfl)
theorem dX4_wrong_50 : decode cX4_wrong 50 = .ok (.goto 4, 3) := dk_167 0 4 (dk_at dksX4_wrong_2 4 rfl rfl)
theorem dX4_wrong_53 : decode cX4_wrong 53 = .ok (.iconst 0, 1) := dk_3 (dk_at dksX4_wrong_2 7 rfl rfl)
theorem dX4_wrong_54 : decode cX4_wrong 54 = .ok (.ior, 1) := dk_128 (dk_at dksX4_wrong_2 8 rfl rfl)
theorem dX4_wrong_55 : decode cX4_wrong 55 = .ok (.istore 6, 2) := dk_54 6 (dk_at dksX4_wrong_2 9 rfl rfl)
theorem dX4_wrong_57 : decode cX4_wrong 57 = .ok (.iload 6, 2) := dk_21 6 (dk_at dksX4_wrong_2 11 rfl rfl)
theorem dX4_wrong_59 : decode cX4_wrong 59 = .ok (.iload 4, 2) := dk_21 4 (dk_at dksX4_wrong_2 13 rfl rfl)
theorem dX4_wrong_61 : decode cX4_wrong 61 = .ok (.aload_n 0, 1) := dk_42 (dk_at dksX4_wrong_2 15 rfl rfl)
theorem dX4_wrong_62 : decode cX4_wrong 62 = .ok (.iload_n 2, 1) := dk_28 (dk_at dksX4_wrong_2 16 rfl rfl)
theorem dX4_wrong_63 : decode cX4_wrong 63 = .ok (.invokevirtual 104, 3) := dk_182 0 104 (dk_at dksX4_wrong_2 17 rfl rfl)
theorem dX4_wrong_66 : decode cX4_wrong 66 = .ok (.if_icmp .le 7, 3) := dk_164 0 7 (dk_at dksX4_wrong_2 20 rfl rfl)
theorem dX4_wrong_69 : decode cX4_wrong 69 = .ok (.iconst 4, 1) := dk_7 (dk_at dksX4_wrong_2 23 rfl rfl)
theorem dX4_wrong_70 : decode cX4_wrong 70 = .ok (.goto 4, 3) := dk_167 0 4 (dk_at dksX4_wrong_3 0 rfl rfl)
theorem dX4_wrong_73 : decode cX4_wrong 73 = .ok (.iconst 0, 1) := dk_3 (dk_at dksX4_wrong_3 3 rfl rfl)
theorem dX4_wrong_74 : decode cX4_wrong 74 = .ok (.ior, 1) := dk_128 (dk_at dksX4_wrong_3 4 rfl rfl)
theorem dX4_wrong_75 : decode cX4_wrong 75 = .ok (.istore 6, 2) := dk_54 6 (dk_at dksX4_wrong_3 5 rfl rfl)
theorem dX4_wrong_77 : decode cX4_wrong 77 = .ok (.iload 6, 2) := dk_21 6 (dk_at dksX4_wrong_3 7 rfl rfl)
theorem dX4_wrong_79 : decode cX4_wrong 79 = .ok (.iload 5, 2) := dk_21 5 (dk_at dksX4_wrong_3 9 rfl rfl)
theorem dX4_wrong_81 : decode cX4_wrong 81 = .ok (.aload_n 0, 1) := dk_42 (dk_at dksX4_wrong_3 11 rfl rfl)
theorem dX4_wrong_82 : decode cX4_wrong 82 = .ok (.iload_n 2, 1) := dk_28 (dk_at dksX4_wrong_3 12 rfl rfl)
theorem dX4_wrong_83 : decode cX4_wrong 83 = .ok (.iload_n 3, 1) := dk_29 (dk_at dksX4_wrong_3 13 rfl rfl)
theorem dX4_wrong_84 : decode cX4_wrong 84 = .ok (.invokevirtual 92, 3) := dk_182 0 92 (dk_at dksX4_wrong_3 14 rfl rfl)
theorem dX4_wrong_87 : decode cX4_wrong 87 = .ok (.if_icmp .ge 8, 3) := dk_162 0 8 (dk_at dksX4_wrong_3 17 rfl rfl)
theorem dX4_wrong_90 : decode cX4_wrong 90 = .ok (.bipush 8, 2) := dk_16 8 (dk_at dksX4_wrong_3 20 rfl rfl)
theorem dX4_wrong_92 : decode cX4_wrong 92 = .ok (.goto 4, 3) := dk_167 0 4 (dk_at dksX4_wrong_4 0 rfl rfl)
theorem dX4_wrong_95 : decode cX4_wrong 95 = .ok (.iconst 0, 1) := dk_3 (dk_at dksX4_wrong_4 3 rfl rfl)
theorem dX4_wrong_96 : decode cX4_wrong 96 = .ok (.ior, 1) := dk_128 (dk_at dksX4_wrong_4 4 rfl rfl)
theorem dX4_wrong_97 : decode cX4_wrong 97 = .ok (.istore 6, 2) := dk_54 6 (dk_at dksX4_wrong_4 5 rfl rfl)
theorem dX4_wrong_99 : decode cX4_wrong 99 = .ok (.iload 6, 2) := dk_21 6 (dk_at dksX4_wrong_4 7 rfl rfl)
theorem dX4_wrong_101 : decode cX4_wrong 101 = .ok (.iload 5, 2) := dk_21 5 (dk_at dksX4_wrong_4 9 rfl rfl)
theorem dX4_wrong_103 : decode cX4_wrong 103 = .ok (.aload_n 0, 1) := dk_42 (dk_at dksX4_wrong_4 11 rfl rfl)
theorem dX4_wrong_104 : decode cX4_wrong 104 = .ok (.iload_n 2, 1) := dk_28 (dk_at dksX4_wrong_4 12 rfl rfl)
theorem dX4_wrong_105 : decode cX4_wrong 105 = .ok (.iload_n 3, 1) := dk_29 (dk_at dksX4_wrong_4 13 rfl rfl)
theorem dX4_wrong_106 : decode cX4_wrong 106 = .ok (.invokevirtual 107, 3) := dk_182 0 107 (dk_at dksX4_wrong_4 14 rfl rfl)
theorem dX4_wrong_109 : decode cX4_wrong 109 = .ok (.if_icmp .le 8, 3) := dk_164 0 8 (dk_at dksX4_wrong_4 17 rfl rfl)
theorem dX4_wrong_112 : decode cX4_wrong 112 = .ok (.bipush 16, 2) := dk_16 16 (dk_at dksX4_wrong_4 20 rfl rfl)
theorem dX4_wrong_114 : decode cX4_wrong 114 = .ok (.goto 4, 3) := dk_167 0 4 (dk_at dksX4_wrong_5 0 rfl rfl)
theorem dX4_wrong_117 : decode cX4_wrong 117 = .ok (.iconst 0, 1) := dk_3 (dk_at dksX4_wrong_5 3 rfl rfl)
theorem dX4_wrong_118 : decode cX4_wrong 118 = .ok (.ior, 1) := dk_128 (dk_at dksX4_wrong_5 4 rfl rfl)
theorem dX4_wrong_119 : decode cX4_wrong 119 = .ok (.ireturn, 1) := dk_172 (dk_at dksX4_wrong_5 5 rfl rfl)
abbrev cX4_next : ByteArray := prog_22_method_57_code
def yX4_next : MethodName := ⟨RX4, "next", "(IIIII)I"⟩
def dkwX4_next_7 : List UInt8 := [167, 0, 5, 21, 7, 172]
abbrev dktX4_next_7 : List UInt8 := dkwX4_next_7 ++ []
def dkwX4_next_6 : List UInt8 := [132, 9, 1, 167, 255, 180, 132, 8, 1, 167, 255, 164, 21, 6, 155, 0, 8, 21, 5, 154, 0, 8, 21, 6]
abbrev dktX4_next_6 : List UInt8 := dkwX4_next_6 ++ dktX4_next_7
def dkwX4_next_5 : List UInt8 := [21, 10, 21, 7, 161, 0, 6, 167, 0, 17, 16, 100, 21, 8, 104, 21, 9, 96, 54, 6, 21, 10, 54, 7]
abbrev dktX4_next_5 : List UInt8 := dkwX4_next_5 ++ dktX4_next_6
def dkwX4_next_4 : List UInt8 := [21, 4, 16, 100, 108, 100, 184, 0, 205, 21, 9, 21, 4, 16, 100, 112, 100, 184, 0, 205, 96, 54, 10]
abbrev dktX4_next_4 : List UInt8 := dkwX4_next_4 ++ dktX4_next_5
def dkwX4_next_3 : List UInt8 := [16, 60, 163, 0, 75, 42, 27, 28, 29, 21, 8, 21, 9, 182, 0, 181, 154, 0, 6, 167, 0, 52, 21, 8]
abbrev dktX4_next_3 : List UInt8 := dkwX4_next_3 ++ dktX4_next_4
def dkwX4_next_2 : List UInt8 := [172, 16, 252, 54, 6, 18, 204, 54, 7, 3, 54, 8, 21, 8, 16, 60, 163, 0, 91, 3, 54, 9, 21, 9]
abbrev dktX4_next_2 : List UInt8 := dkwX4_next_2 ++ dktX4_next_3
def dkwX4_next_1 : List UInt8 := [163, 0, 23, 21, 4, 16, 100, 112, 16, 60, 163, 0, 13, 21, 5, 3, 4, 184, 0, 58, 154, 0, 5, 2]
abbrev dktX4_next_1 : List UInt8 := dkwX4_next_1 ++ dktX4_next_2
def dkwX4_next_0 : List UInt8 := [42, 27, 28, 29, 182, 0, 148, 153, 0, 38, 21, 4, 155, 0, 33, 21, 4, 16, 100, 108, 16, 60]
abbrev dktX4_next_0 : List UInt8 := dkwX4_next_0 ++ dktX4_next_1
theorem dksX4_next_0 : cX4_next.data.toList.drop 0 = dktX4_next_0 := by decide +kernel
theorem dksX4_next_1 : cX4_next.data.toList.drop 22 = dktX4_next_1 := dk_seg dksX4_next_0 22 rfl rfl
theorem dksX4_next_2 : cX4_next.data.toList.drop 46 = dktX4_next_2 := dk_seg dksX4_next_1 24 rfl rfl
theorem dksX4_next_3 : cX4_next.data.toList.drop 70 = dktX4_next_3 := dk_seg dksX4_next_2 24 rfl rfl
theorem dksX4_next_4 : cX4_next.data.toList.drop 94 = dktX4_next_4 := dk_seg dksX4_next_3 24 rfl rfl
theorem dksX4_next_5 : cX4_next.data.toList.drop 117 = dktX4_next_5 := dk_seg dksX4_next_4 23 rfl rfl
theorem dksX4_next_6 : cX4_next.data.toList.drop 141 = dktX4_next_6 := dk_seg dksX4_next_5 24 rfl rfl
theorem dksX4_next_7 : cX4_next.data.toList.drop 165 = dktX4_next_7 := dk_seg dksX4_next_6 24 rfl rfl
theorem dX4_next_0 : decode cX4_next 0 = .ok (.aload_n 0, 1) := dk_42 (dk_at dksX4_next_0 0 rfl rfl)
theorem dX4_next_1 : decode cX4_next 1 = .ok (.iload_n 1, 1) := dk_27 (dk_at dksX4_next_0 1 rfl rfl)
theorem dX4_next_2 : decode cX4_next 2 = .ok (.iload_n 2, 1) := dk_28 (dk_at dksX4_next_0 2 rfl rfl)
theorem dX4_next_3 : decode cX4_next 3 = .ok (.iload_n 3, 1) := dk_29 (dk_at dksX4_next_0 3 rfl rfl)
theorem dX4_next_4 : decode cX4_next 4 = .ok (.invokevirtual 148, 3) := dk_182 0 148 (dk_at dksX4_next_0 4 rfl rfl)
theorem dX4_next_7 : decode cX4_next 7 = .ok (.ifCond .eq 38, 3) := dk_153 0 38 (dk_at dksX4_next_0 7 rfl rfl)
theorem dX4_next_10 : decode cX4_next 10 = .ok (.iload 4, 2) := dk_21 4 (dk_at dksX4_next_0 10 rfl rfl)
theorem dX4_next_12 : decode cX4_next 12 = .ok (.ifCond .lt 33, 3) := dk_155 0 33 (dk_at dksX4_next_0 12 rfl rfl)
theorem dX4_next_15 : decode cX4_next 15 = .ok (.iload 4, 2) := dk_21 4 (dk_at dksX4_next_0 15 rfl rfl)
theorem dX4_next_17 : decode cX4_next 17 = .ok (.bipush 100, 2) := dk_16 100 (dk_at dksX4_next_0 17 rfl rfl)
theorem dX4_next_19 : decode cX4_next 19 = .ok (.idiv, 1) := dk_108 (dk_at dksX4_next_0 19 rfl rfl)
theorem dX4_next_20 : decode cX4_next 20 = .ok (.bipush 60, 2) := dk_16 60 (dk_at dksX4_next_0 20 rfl rfl)
theorem dX4_next_22 : decode cX4_next 22 = .ok (.if_icmp .gt 23, 3) := dk_163 0 23 (dk_at dksX4_next_1 0 rfl rfl)
theorem dX4_next_25 : decode cX4_next 25 = .ok (.iload 4, 2) := dk_21 4 (dk_at dksX4_next_1 3 rfl rfl)
theorem dX4_next_27 : decode cX4_next 27 = .ok (.bipush 100, 2) := dk_16 100 (dk_at dksX4_next_1 5 rfl rfl)
theorem dX4_next_29 : decode cX4_next 29 = .ok (.irem, 1) := dk_112 (dk_at dksX4_next_1 7 rfl rfl)
theorem dX4_next_30 : decode cX4_next 30 = .ok (.bipush 60, 2) := dk_16 60 (dk_at dksX4_next_1 8 rfl rfl)
theorem dX4_next_32 : decode cX4_next 32 = .ok (.if_icmp .gt 13, 3) := dk_163 0 13 (dk_at dksX4_next_1 10 rfl rfl)
theorem dX4_next_35 : decode cX4_next 35 = .ok (.iload 5, 2) := dk_21 5 (dk_at dksX4_next_1 13 rfl rfl)
theorem dX4_next_37 : decode cX4_next 37 = .ok (.iconst 0, 1) := dk_3 (dk_at dksX4_next_1 15 rfl rfl)
theorem dX4_next_38 : decode cX4_next 38 = .ok (.iconst 1, 1) := dk_4 (dk_at dksX4_next_1 16 rfl rfl)
theorem dX4_next_39 : decode cX4_next 39 = .ok (.invokestatic 58, 3) := dk_184 0 58 (dk_at dksX4_next_1 17 rfl rfl)
theorem dX4_next_42 : decode cX4_next 42 = .ok (.ifCond .ne 5, 3) := dk_154 0 5 (dk_at dksX4_next_1 20 rfl rfl)
theorem dX4_next_45 : decode cX4_next 45 = .ok (.iconst (-1), 1) := dk_2 (dk_at dksX4_next_1 23 rfl rfl)
theorem dX4_next_46 : decode cX4_next 46 = .ok (.ireturn, 1) := dk_172 (dk_at dksX4_next_2 0 rfl rfl)
theorem dX4_next_47 : decode cX4_next 47 = .ok (.bipush (-4), 2) := dk_16 252 (dk_at dksX4_next_2 1 rfl rfl)
theorem dX4_next_49 : decode cX4_next 49 = .ok (.istore 6, 2) := dk_54 6 (dk_at dksX4_next_2 3 rfl rfl)
theorem dX4_next_51 : decode cX4_next 51 = .ok (.ldc 204, 2) := dk_18 204 (dk_at dksX4_next_2 5 rfl rfl)
theorem dX4_next_53 : decode cX4_next 53 = .ok (.istore 7, 2) := dk_54 7 (dk_at dksX4_next_2 7 rfl rfl)
theorem dX4_next_55 : decode cX4_next 55 = .ok (.iconst 0, 1) := dk_3 (dk_at dksX4_next_2 9 rfl rfl)
theorem dX4_next_56 : decode cX4_next 56 = .ok (.istore 8, 2) := dk_54 8 (dk_at dksX4_next_2 10 rfl rfl)
theorem dX4_next_58 : decode cX4_next 58 = .ok (.iload 8, 2) := dk_21 8 (dk_at dksX4_next_2 12 rfl rfl)
theorem dX4_next_60 : decode cX4_next 60 = .ok (.bipush 60, 2) := dk_16 60 (dk_at dksX4_next_2 14 rfl rfl)
theorem dX4_next_62 : decode cX4_next 62 = .ok (.if_icmp .gt 91, 3) := dk_163 0 91 (dk_at dksX4_next_2 16 rfl rfl)
theorem dX4_next_65 : decode cX4_next 65 = .ok (.iconst 0, 1) := dk_3 (dk_at dksX4_next_2 19 rfl rfl)
theorem dX4_next_66 : decode cX4_next 66 = .ok (.istore 9, 2) := dk_54 9 (dk_at dksX4_next_2 20 rfl rfl)
theorem dX4_next_68 : decode cX4_next 68 = .ok (.iload 9, 2) := dk_21 9 (dk_at dksX4_next_2 22 rfl rfl)
theorem dX4_next_70 : decode cX4_next 70 = .ok (.bipush 60, 2) := dk_16 60 (dk_at dksX4_next_3 0 rfl rfl)
theorem dX4_next_72 : decode cX4_next 72 = .ok (.if_icmp .gt 75, 3) := dk_163 0 75 (dk_at dksX4_next_3 2 rfl rfl)
theorem dX4_next_75 : decode cX4_next 75 = .ok (.aload_n 0, 1) := dk_42 (dk_at dksX4_next_3 5 rfl rfl)
theorem dX4_next_76 : decode cX4_next 76 = .ok (.iload_n 1, 1) := dk_27 (dk_at dksX4_next_3 6 rfl rfl)
theorem dX4_next_77 : decode cX4_next 77 = .ok (.iload_n 2, 1) := dk_28 (dk_at dksX4_next_3 7 rfl rfl)
theorem dX4_next_78 : decode cX4_next 78 = .ok (.iload_n 3, 1) := dk_29 (dk_at dksX4_next_3 8 rfl rfl)
theorem dX4_next_79 : decode cX4_next 79 = .ok (.iload 8, 2) := dk_21 8 (dk_at dksX4_next_3 9 rfl rfl)
theorem dX4_next_81 : decode cX4_next 81 = .ok (.iload 9, 2) := dk_21 9 (dk_at dksX4_next_3 11 rfl rfl)
theorem dX4_next_83 : decode cX4_next 83 = .ok (.invokevirtual 181, 3) := dk_182 0 181 (dk_at dksX4_next_3 13 rfl rfl)
theorem dX4_next_86 : decode cX4_next 86 = .ok (.ifCond .ne 6, 3) := dk_154 0 6 (dk_at dksX4_next_3 16 rfl rfl)
theorem dX4_next_89 : decode cX4_next 89 = .ok (.goto 52, 3) := dk_167 0 52 (dk_at dksX4_next_3 19 rfl rfl)
theorem dX4_next_92 : decode cX4_next 92 = .ok (.iload 8, 2) := dk_21 8 (dk_at dksX4_next_3 22 rfl rfl)
theorem dX4_next_94 : decode cX4_next 94 = .ok (.iload 4, 2) := dk_21 4 (dk_at dksX4_next_4 0 rfl rfl)
theorem dX4_next_96 : decode cX4_next 96 = .ok (.bipush 100, 2) := dk_16 100 (dk_at dksX4_next_4 2 rfl rfl)
theorem dX4_next_98 : decode cX4_next 98 = .ok (.idiv, 1) := dk_108 (dk_at dksX4_next_4 4 rfl rfl)
theorem dX4_next_99 : decode cX4_next 99 = .ok (.isub, 1) := dk_100 (dk_at dksX4_next_4 5 rfl rfl)
theorem dX4_next_100 : decode cX4_next 100 = .ok (.invokestatic 205, 3) := dk_184 0 205 (dk_at dksX4_next_4 6 rfl rfl)
theorem dX4_next_103 : decode cX4_next 103 = .ok (.iload 9, 2) := dk_21 9 (dk_at dksX4_next_4 9 rfl rfl)
theorem dX4_next_105 : decode cX4_next 105 = .ok (.iload 4, 2) := dk_21 4 (dk_at dksX4_next_4 11 rfl rfl)
theorem dX4_next_107 : decode cX4_next 107 = .ok (.bipush 100, 2) := dk_16 100 (dk_at dksX4_next_4 13 rfl rfl)
theorem dX4_next_109 : decode cX4_next 109 = .ok (.irem, 1) := dk_112 (dk_at dksX4_next_4 15 rfl rfl)
theorem dX4_next_110 : decode cX4_next 110 = .ok (.isub, 1) := dk_100 (dk_at dksX4_next_4 16 rfl rfl)
theorem dX4_next_111 : decode cX4_next 111 = .ok (.invokestatic 205, 3) := dk_184 0 205 (dk_at dksX4_next_4 17 rfl rfl)
theorem dX4_next_114 : decode cX4_next 114 = .ok (.iadd, 1) := dk_96 (dk_at dksX4_next_4 20 rfl rfl)
theorem dX4_next_115 : decode cX4_next 115 = .ok (.istore 10, 2) := dk_54 10 (dk_at dksX4_next_4 21 rfl rfl)
theorem dX4_next_117 : decode cX4_next 117 = .ok (.iload 10, 2) := dk_21 10 (dk_at dksX4_next_5 0 rfl rfl)
theorem dX4_next_119 : decode cX4_next 119 = .ok (.iload 7, 2) := dk_21 7 (dk_at dksX4_next_5 2 rfl rfl)
theorem dX4_next_121 : decode cX4_next 121 = .ok (.if_icmp .lt 6, 3) := dk_161 0 6 (dk_at dksX4_next_5 4 rfl rfl)
theorem dX4_next_124 : decode cX4_next 124 = .ok (.goto 17, 3) := dk_167 0 17 (dk_at dksX4_next_5 7 rfl rfl)
theorem dX4_next_127 : decode cX4_next 127 = .ok (.bipush 100, 2) := dk_16 100 (dk_at dksX4_next_5 10 rfl rfl)
theorem dX4_next_129 : decode cX4_next 129 = .ok (.iload 8, 2) := dk_21 8 (dk_at dksX4_next_5 12 rfl rfl)
theorem dX4_next_131 : decode cX4_next 131 = .ok (.imul, 1) := dk_104 (dk_at dksX4_next_5 14 rfl rfl)
theorem dX4_next_132 : decode cX4_next 132 = .ok (.iload 9, 2) := dk_21 9 (dk_at dksX4_next_5 15 rfl rfl)
theorem dX4_next_134 : decode cX4_next 134 = .ok (.iadd, 1) := dk_96 (dk_at dksX4_next_5 17 rfl rfl)
theorem dX4_next_135 : decode cX4_next 135 = .ok (.istore 6, 2) := dk_54 6 (dk_at dksX4_next_5 18 rfl rfl)
theorem dX4_next_137 : decode cX4_next 137 = .ok (.iload 10, 2) := dk_21 10 (dk_at dksX4_next_5 20 rfl rfl)
theorem dX4_next_139 : decode cX4_next 139 = .ok (.istore 7, 2) := dk_54 7 (dk_at dksX4_next_5 22 rfl rfl)
theorem dX4_next_141 : decode cX4_next 141 = .ok (.iinc 9 1, 3) := dk_132 9 1 (dk_at dksX4_next_6 0 rfl rfl)
theorem dX4_next_144 : decode cX4_next 144 = .ok (.goto (-76), 3) := dk_167 255 180 (dk_at dksX4_next_6 3 rfl rfl)
theorem dX4_next_147 : decode cX4_next 147 = .ok (.iinc 8 1, 3) := dk_132 8 1 (dk_at dksX4_next_6 6 rfl rfl)
theorem dX4_next_150 : decode cX4_next 150 = .ok (.goto (-92), 3) := dk_167 255 164 (dk_at dksX4_next_6 9 rfl rfl)
theorem dX4_next_153 : decode cX4_next 153 = .ok (.iload 6, 2) := dk_21 6 (dk_at dksX4_next_6 12 rfl rfl)
theorem dX4_next_155 : decode cX4_next 155 = .ok (.ifCond .lt 8, 3) := dk_155 0 8 (dk_at dksX4_next_6 14 rfl rfl)
theorem dX4_next_158 : decode cX4_next 158 = .ok (.iload 5, 2) := dk_21 5 (dk_at dksX4_next_6 17 rfl rfl)
theorem dX4_next_160 : decode cX4_next 160 = .ok (.ifCond .ne 8, 3) := dk_154 0 8 (dk_at dksX4_next_6 19 rfl rfl)
theorem dX4_next_163 : decode cX4_next 163 = .ok (.iload 6, 2) := dk_21 6 (dk_at dksX4_next_6 22 rfl rfl)
theorem dX4_next_165 : decode cX4_next 165 = .ok (.goto 5, 3) := dk_167 0 5 (dk_at dksX4_next_7 0 rfl rfl)
theorem dX4_next_168 : decode cX4_next 168 = .ok (.iload 7, 2) := dk_21 7 (dk_at dksX4_next_7 3 rfl rfl)
theorem dX4_next_170 : decode cX4_next 170 = .ok (.ireturn, 1) := dk_172 (dk_at dksX4_next_7 5 rfl rfl)
abbrev cX4_size : ByteArray := prog_22_method_3_code
def yX4_size : MethodName := ⟨RX4, "size", "(I)I"⟩
def dkwX4_size_0 : List UInt8 := [26, 156, 0, 8, 26, 116, 167, 0, 4, 26, 172]
abbrev dktX4_size_0 : List UInt8 := dkwX4_size_0 ++ []
theorem dksX4_size_0 : cX4_size.data.toList.drop 0 = dktX4_size_0 := by decide +kernel
theorem dX4_size_0 : decode cX4_size 0 = .ok (.iload_n 0, 1) := dk_26 (dk_at dksX4_size_0 0 rfl rfl)
theorem dX4_size_1 : decode cX4_size 1 = .ok (.ifCond .ge 8, 3) := dk_156 0 8 (dk_at dksX4_size_0 1 rfl rfl)
theorem dX4_size_4 : decode cX4_size 4 = .ok (.iload_n 0, 1) := dk_26 (dk_at dksX4_size_0 4 rfl rfl)
theorem dX4_size_5 : decode cX4_size 5 = .ok (.ineg, 1) := dk_116 (dk_at dksX4_size_0 5 rfl rfl)
theorem dX4_size_6 : decode cX4_size 6 = .ok (.goto 4, 3) := dk_167 0 4 (dk_at dksX4_size_0 6 rfl rfl)
theorem dX4_size_9 : decode cX4_size 9 = .ok (.iload_n 0, 1) := dk_26 (dk_at dksX4_size_0 9 rfl rfl)
theorem dX4_size_10 : decode cX4_size 10 = .ok (.ireturn, 1) := dk_172 (dk_at dksX4_size_0 10 rfl rfl)
abbrev cX4_halves : ByteArray := prog_22_method_58_code
def yX4_halves : MethodName := ⟨RX4, "halves", "(III)I"⟩
def dkwX4_halves_3 : List UInt8 := [21, 7, 4, 100, 54, 5, 167, 0, 6, 21, 6, 172, 132, 6, 1, 167, 255, 192, 16, 252, 172]
abbrev dktX4_halves_3 : List UInt8 := dkwX4_halves_3 ++ []
def dkwX4_halves_2 : List UInt8 := [162, 0, 12, 21, 7, 4, 96, 54, 4, 167, 0, 27, 21, 7, 42, 27, 28, 29, 182, 0, 101, 164, 0, 12]
abbrev dktX4_halves_2 : List UInt8 := dkwX4_halves_2 ++ dktX4_halves_3
def dkwX4_halves_1 : List UInt8 := [21, 5, 163, 0, 63, 21, 4, 21, 5, 96, 5, 108, 54, 7, 21, 7, 42, 27, 28, 29, 182, 0, 98]
abbrev dktX4_halves_1 : List UInt8 := dkwX4_halves_1 ++ dktX4_halves_2
def dkwX4_halves_0 : List UInt8 := [42, 27, 28, 29, 182, 0, 148, 154, 0, 5, 2, 172, 3, 54, 4, 16, 60, 54, 5, 4, 54, 6, 21, 4]
abbrev dktX4_halves_0 : List UInt8 := dkwX4_halves_0 ++ dktX4_halves_1
theorem dksX4_halves_0 : cX4_halves.data.toList.drop 0 = dktX4_halves_0 := by decide +kernel
theorem dksX4_halves_1 : cX4_halves.data.toList.drop 24 = dktX4_halves_1 := dk_seg dksX4_halves_0 24 rfl rfl
theorem dksX4_halves_2 : cX4_halves.data.toList.drop 47 = dktX4_halves_2 := dk_seg dksX4_halves_1 23 rfl rfl
theorem dksX4_halves_3 : cX4_halves.data.toList.drop 71 = dktX4_halves_3 := dk_seg dksX4_halves_2 24 rfl rfl
theorem dX4_halves_0 : decode cX4_halves 0 = .ok (.aload_n 0, 1) := dk_42 (dk_at dksX4_halves_0 0 rfl rfl)
theorem dX4_halves_1 : decode cX4_halves 1 = .ok (.iload_n 1, 1) := dk_27 (dk_at dksX4_halves_0 1 rfl rfl)
theorem dX4_halves_2 : decode cX4_halves 2 = .ok (.iload_n 2, 1) := dk_28 (dk_at dksX4_halves_0 2 rfl rfl)
theorem dX4_halves_3 : decode cX4_halves 3 = .ok (.iload_n 3, 1) := dk_29 (dk_at dksX4_halves_0 3 rfl rfl)
theorem dX4_halves_4 : decode cX4_halves 4 = .ok (.invokevirtual 148, 3) := dk_182 0 148 (dk_at dksX4_halves_0 4 rfl rfl)
theorem dX4_halves_7 : decode cX4_halves 7 = .ok (.ifCond .ne 5, 3) := dk_154 0 5 (dk_at dksX4_halves_0 7 rfl rfl)
theorem dX4_halves_10 : decode cX4_halves 10 = .ok (.iconst (-1), 1) := dk_2 (dk_at dksX4_halves_0 10 rfl rfl)
theorem dX4_halves_11 : decode cX4_halves 11 = .ok (.ireturn, 1) := dk_172 (dk_at dksX4_halves_0 11 rfl rfl)
theorem dX4_halves_12 : decode cX4_halves 12 = .ok (.iconst 0, 1) := dk_3 (dk_at dksX4_halves_0 12 rfl rfl)
theorem dX4_halves_13 : decode cX4_halves 13 = .ok (.istore 4, 2) := dk_54 4 (dk_at dksX4_halves_0 13 rfl rfl)
theorem dX4_halves_15 : decode cX4_halves 15 = .ok (.bipush 60, 2) := dk_16 60 (dk_at dksX4_halves_0 15 rfl rfl)
theorem dX4_halves_17 : decode cX4_halves 17 = .ok (.istore 5, 2) := dk_54 5 (dk_at dksX4_halves_0 17 rfl rfl)
theorem dX4_halves_19 : decode cX4_halves 19 = .ok (.iconst 1, 1) := dk_4 (dk_at dksX4_halves_0 19 rfl rfl)
theorem dX4_halves_20 : decode cX4_halves 20 = .ok (.istore 6, 2) := dk_54 6 (dk_at dksX4_halves_0 20 rfl rfl)
theorem dX4_halves_22 : decode cX4_halves 22 = .ok (.iload 4, 2) := dk_21 4 (dk_at dksX4_halves_0 22 rfl rfl)
theorem dX4_halves_24 : decode cX4_halves 24 = .ok (.iload 5, 2) := dk_21 5 (dk_at dksX4_halves_1 0 rfl rfl)
theorem dX4_halves_26 : decode cX4_halves 26 = .ok (.if_icmp .gt 63, 3) := dk_163 0 63 (dk_at dksX4_halves_1 2 rfl rfl)
theorem dX4_halves_29 : decode cX4_halves 29 = .ok (.iload 4, 2) := dk_21 4 (dk_at dksX4_halves_1 5 rfl rfl)
theorem dX4_halves_31 : decode cX4_halves 31 = .ok (.iload 5, 2) := dk_21 5 (dk_at dksX4_halves_1 7 rfl rfl)
theorem dX4_halves_33 : decode cX4_halves 33 = .ok (.iadd, 1) := dk_96 (dk_at dksX4_halves_1 9 rfl rfl)
theorem dX4_halves_34 : decode cX4_halves 34 = .ok (.iconst 2, 1) := dk_5 (dk_at dksX4_halves_1 10 rfl rfl)
theorem dX4_halves_35 : decode cX4_halves 35 = .ok (.idiv, 1) := dk_108 (dk_at dksX4_halves_1 11 rfl rfl)
theorem dX4_halves_36 : decode cX4_halves 36 = .ok (.istore 7, 2) := dk_54 7 (dk_at dksX4_halves_1 12 rfl rfl)
theorem dX4_halves_38 : decode cX4_halves 38 = .ok (.iload 7, 2) := dk_21 7 (dk_at dksX4_halves_1 14 rfl rfl)
theorem dX4_halves_40 : decode cX4_halves 40 = .ok (.aload_n 0, 1) := dk_42 (dk_at dksX4_halves_1 16 rfl rfl)
theorem dX4_halves_41 : decode cX4_halves 41 = .ok (.iload_n 1, 1) := dk_27 (dk_at dksX4_halves_1 17 rfl rfl)
theorem dX4_halves_42 : decode cX4_halves 42 = .ok (.iload_n 2, 1) := dk_28 (dk_at dksX4_halves_1 18 rfl rfl)
theorem dX4_halves_43 : decode cX4_halves 43 = .ok (.iload_n 3, 1) := dk_29 (dk_at dksX4_halves_1 19 rfl rfl)
theorem dX4_halves_44 : decode cX4_halves 44 = .ok (.invokevirtual 98, 3) := dk_182 0 98 (dk_at dksX4_halves_1 20 rfl rfl)
theorem dX4_halves_47 : decode cX4_halves 47 = .ok (.if_icmp .ge 12, 3) := dk_162 0 12 (dk_at dksX4_halves_2 0 rfl rfl)
theorem dX4_halves_50 : decode cX4_halves 50 = .ok (.iload 7, 2) := dk_21 7 (dk_at dksX4_halves_2 3 rfl rfl)
theorem dX4_halves_52 : decode cX4_halves 52 = .ok (.iconst 1, 1) := dk_4 (dk_at dksX4_halves_2 5 rfl rfl)
theorem dX4_halves_53 : decode cX4_halves 53 = .ok (.iadd, 1) := dk_96 (dk_at dksX4_halves_2 6 rfl rfl)
theorem dX4_halves_54 : decode cX4_halves 54 = .ok (.istore 4, 2) := dk_54 4 (dk_at dksX4_halves_2 7 rfl rfl)
theorem dX4_halves_56 : decode cX4_halves 56 = .ok (.goto 27, 3) := dk_167 0 27 (dk_at dksX4_halves_2 9 rfl rfl)
theorem dX4_halves_59 : decode cX4_halves 59 = .ok (.iload 7, 2) := dk_21 7 (dk_at dksX4_halves_2 12 rfl rfl)
theorem dX4_halves_61 : decode cX4_halves 61 = .ok (.aload_n 0, 1) := dk_42 (dk_at dksX4_halves_2 14 rfl rfl)
theorem dX4_halves_62 : decode cX4_halves 62 = .ok (.iload_n 1, 1) := dk_27 (dk_at dksX4_halves_2 15 rfl rfl)
theorem dX4_halves_63 : decode cX4_halves 63 = .ok (.iload_n 2, 1) := dk_28 (dk_at dksX4_halves_2 16 rfl rfl)
theorem dX4_halves_64 : decode cX4_halves 64 = .ok (.iload_n 3, 1) := dk_29 (dk_at dksX4_halves_2 17 rfl rfl)
theorem dX4_halves_65 : decode cX4_halves 65 = .ok (.invokevirtual 101, 3) := dk_182 0 101 (dk_at dksX4_halves_2 18 rfl rfl)
theorem dX4_halves_68 : decode cX4_halves 68 = .ok (.if_icmp .le 12, 3) := dk_164 0 12 (dk_at dksX4_halves_2 21 rfl rfl)
theorem dX4_halves_71 : decode cX4_halves 71 = .ok (.iload 7, 2) := dk_21 7 (dk_at dksX4_halves_3 0 rfl rfl)
theorem dX4_halves_73 : decode cX4_halves 73 = .ok (.iconst 1, 1) := dk_4 (dk_at dksX4_halves_3 2 rfl rfl)
theorem dX4_halves_74 : decode cX4_halves 74 = .ok (.isub, 1) := dk_100 (dk_at dksX4_halves_3 3 rfl rfl)
theorem dX4_halves_75 : decode cX4_halves 75 = .ok (.istore 5, 2) := dk_54 5 (dk_at dksX4_halves_3 4 rfl rfl)
theorem dX4_halves_77 : decode cX4_halves 77 = .ok (.goto 6, 3) := dk_167 0 6 (dk_at dksX4_halves_3 6 rfl rfl)
theorem dX4_halves_80 : decode cX4_halves 80 = .ok (.iload 6, 2) := dk_21 6 (dk_at dksX4_halves_3 9 rfl rfl)
theorem dX4_halves_82 : decode cX4_halves 82 = .ok (.ireturn, 1) := dk_172 (dk_at dksX4_halves_3 11 rfl rfl)
theorem dX4_halves_83 : decode cX4_halves 83 = .ok (.iinc 6 1, 3) := dk_132 6 1 (dk_at dksX4_halves_3 12 rfl rfl)
theorem dX4_halves_86 : decode cX4_halves 86 = .ok (.goto (-64), 3) := dk_167 255 192 (dk_at dksX4_halves_3 15 rfl rfl)
theorem dX4_halves_89 : decode cX4_halves 89 = .ok (.bipush (-4), 2) := dk_16 252 (dk_at dksX4_halves_3 18 rfl rfl)
theorem dX4_halves_91 : decode cX4_halves 91 = .ok (.ireturn, 1) := dk_172 (dk_at dksX4_halves_3 20 rfl rfl)
abbrev cX4_ways : ByteArray := prog_22_method_62_code
def yX4_ways : MethodName := ⟨RX4, "ways", "(II)I"⟩
def dkwX4_ways_2 : List UInt8 := [132, 4, 1, 167, 255, 231, 29, 172]
abbrev dktX4_ways_2 : List UInt8 := dkwX4_ways_2 ++ []
def dkwX4_ways_1 : List UInt8 := [54, 4, 21, 4, 42, 180, 0, 9, 3, 46, 162, 0, 20, 29, 42, 21, 4, 27, 28, 182, 0, 210, 96, 62]
abbrev dktX4_ways_1 : List UInt8 := dkwX4_ways_1 ++ dktX4_ways_2
def dkwX4_ways_0 : List UInt8 := [42, 27, 182, 0, 66, 153, 0, 13, 28, 3, 16, 99, 184, 0, 58, 154, 0, 5, 2, 172, 3, 62, 3]
abbrev dktX4_ways_0 : List UInt8 := dkwX4_ways_0 ++ dktX4_ways_1
theorem dksX4_ways_0 : cX4_ways.data.toList.drop 0 = dktX4_ways_0 := by decide +kernel
theorem dksX4_ways_1 : cX4_ways.data.toList.drop 23 = dktX4_ways_1 := dk_seg dksX4_ways_0 23 rfl rfl
theorem dksX4_ways_2 : cX4_ways.data.toList.drop 47 = dktX4_ways_2 := dk_seg dksX4_ways_1 24 rfl rfl
theorem dX4_ways_0 : decode cX4_ways 0 = .ok (.aload_n 0, 1) := dk_42 (dk_at dksX4_ways_0 0 rfl rfl)
theorem dX4_ways_1 : decode cX4_ways 1 = .ok (.iload_n 1, 1) := dk_27 (dk_at dksX4_ways_0 1 rfl rfl)
theorem dX4_ways_2 : decode cX4_ways 2 = .ok (.invokevirtual 66, 3) := dk_182 0 66 (dk_at dksX4_ways_0 2 rfl rfl)
theorem dX4_ways_5 : decode cX4_ways 5 = .ok (.ifCond .eq 13, 3) := dk_153 0 13 (dk_at dksX4_ways_0 5 rfl rfl)
theorem dX4_ways_8 : decode cX4_ways 8 = .ok (.iload_n 2, 1) := dk_28 (dk_at dksX4_ways_0 8 rfl rfl)
theorem dX4_ways_9 : decode cX4_ways 9 = .ok (.iconst 0, 1) := dk_3 (dk_at dksX4_ways_0 9 rfl rfl)
theorem dX4_ways_10 : decode cX4_ways 10 = .ok (.bipush 99, 2) := dk_16 99 (dk_at dksX4_ways_0 10 rfl rfl)
theorem dX4_ways_12 : decode cX4_ways 12 = .ok (.invokestatic 58, 3) := dk_184 0 58 (dk_at dksX4_ways_0 12 rfl rfl)
theorem dX4_ways_15 : decode cX4_ways 15 = .ok (.ifCond .ne 5, 3) := dk_154 0 5 (dk_at dksX4_ways_0 15 rfl rfl)
theorem dX4_ways_18 : decode cX4_ways 18 = .ok (.iconst (-1), 1) := dk_2 (dk_at dksX4_ways_0 18 rfl rfl)
theorem dX4_ways_19 : decode cX4_ways 19 = .ok (.ireturn, 1) := dk_172 (dk_at dksX4_ways_0 19 rfl rfl)
theorem dX4_ways_20 : decode cX4_ways 20 = .ok (.iconst 0, 1) := dk_3 (dk_at dksX4_ways_0 20 rfl rfl)
theorem dX4_ways_21 : decode cX4_ways 21 = .ok (.istore_n 3, 1) := dk_62 (dk_at dksX4_ways_0 21 rfl rfl)
theorem dX4_ways_22 : decode cX4_ways 22 = .ok (.iconst 0, 1) := dk_3 (dk_at dksX4_ways_0 22 rfl rfl)
theorem dX4_ways_23 : decode cX4_ways 23 = .ok (.istore 4, 2) := dk_54 4 (dk_at dksX4_ways_1 0 rfl rfl)
theorem dX4_ways_25 : decode cX4_ways 25 = .ok (.iload 4, 2) := dk_21 4 (dk_at dksX4_ways_1 2 rfl rfl)
theorem dX4_ways_27 : decode cX4_ways 27 = .ok (.aload_n 0, 1) := dk_42 (dk_at dksX4_ways_1 4 rfl rfl)
theorem dX4_ways_28 : decode cX4_ways 28 = .ok (.getfield 9, 3) := dk_180 0 9 (dk_at dksX4_ways_1 5 rfl rfl)
theorem dX4_ways_31 : decode cX4_ways 31 = .ok (.iconst 0, 1) := dk_3 (dk_at dksX4_ways_1 8 rfl rfl)
theorem dX4_ways_32 : decode cX4_ways 32 = .ok (.iaload, 1) := dk_46 (dk_at dksX4_ways_1 9 rfl rfl)
theorem dX4_ways_33 : decode cX4_ways 33 = .ok (.if_icmp .ge 20, 3) := dk_162 0 20 (dk_at dksX4_ways_1 10 rfl rfl)
theorem dX4_ways_36 : decode cX4_ways 36 = .ok (.iload_n 3, 1) := dk_29 (dk_at dksX4_ways_1 13 rfl rfl)
theorem dX4_ways_37 : decode cX4_ways 37 = .ok (.aload_n 0, 1) := dk_42 (dk_at dksX4_ways_1 14 rfl rfl)
theorem dX4_ways_38 : decode cX4_ways 38 = .ok (.iload 4, 2) := dk_21 4 (dk_at dksX4_ways_1 15 rfl rfl)
theorem dX4_ways_40 : decode cX4_ways 40 = .ok (.iload_n 1, 1) := dk_27 (dk_at dksX4_ways_1 17 rfl rfl)
theorem dX4_ways_41 : decode cX4_ways 41 = .ok (.iload_n 2, 1) := dk_28 (dk_at dksX4_ways_1 18 rfl rfl)
theorem dX4_ways_42 : decode cX4_ways 42 = .ok (.invokevirtual 210, 3) := dk_182 0 210 (dk_at dksX4_ways_1 19 rfl rfl)
theorem dX4_ways_45 : decode cX4_ways 45 = .ok (.iadd, 1) := dk_96 (dk_at dksX4_ways_1 22 rfl rfl)
theorem dX4_ways_46 : decode cX4_ways 46 = .ok (.istore_n 3, 1) := dk_62 (dk_at dksX4_ways_1 23 rfl rfl)
theorem dX4_ways_47 : decode cX4_ways 47 = .ok (.iinc 4 1, 3) := dk_132 4 1 (dk_at dksX4_ways_2 0 rfl rfl)
theorem dX4_ways_50 : decode cX4_ways 50 = .ok (.goto (-25), 3) := dk_167 255 231 (dk_at dksX4_ways_2 3 rfl rfl)
theorem dX4_ways_53 : decode cX4_ways 53 = .ok (.iload_n 3, 1) := dk_29 (dk_at dksX4_ways_2 6 rfl rfl)
theorem dX4_ways_54 : decode cX4_ways 54 = .ok (.ireturn, 1) := dk_172 (dk_at dksX4_ways_2 7 rfl rfl)
abbrev cX4_waysBy : ByteArray := prog_22_method_60_code
def yX4_waysBy : MethodName := ⟨RX4, "waysBy", "(III)I"⟩
def dkwX4_waysBy_5 : List UInt8 := [167, 255, 156, 21, 4, 172]
abbrev dktX4_waysBy_5 : List UInt8 := dkwX4_waysBy_5 ++ []
def dkwX4_waysBy_4 : List UInt8 := [167, 0, 4, 3, 96, 54, 4, 132, 7, 1, 167, 255, 221, 132, 6, 1, 167, 255, 189, 132, 5, 1]
abbrev dktX4_waysBy_4 : List UInt8 := dkwX4_waysBy_4 ++ dktX4_waysBy_5
def dkwX4_waysBy_3 : List UInt8 := [16, 10, 162, 0, 34, 21, 4, 42, 27, 21, 5, 21, 6, 21, 7, 182, 0, 184, 29, 160, 0, 7, 4]
abbrev dktX4_waysBy_3 : List UInt8 := dkwX4_waysBy_3 ++ dktX4_waysBy_4
def dkwX4_waysBy_2 : List UInt8 := [163, 0, 66, 42, 27, 28, 21, 5, 21, 6, 182, 0, 110, 154, 0, 6, 167, 0, 44, 3, 54, 7, 21, 7]
abbrev dktX4_waysBy_2 : List UInt8 := dkwX4_waysBy_2 ++ dktX4_waysBy_3
def dkwX4_waysBy_1 : List UInt8 := [162, 0, 95, 42, 28, 21, 5, 182, 0, 207, 154, 0, 6, 167, 0, 76, 3, 54, 6, 21, 6, 16, 60]
abbrev dktX4_waysBy_1 : List UInt8 := dkwX4_waysBy_1 ++ dktX4_waysBy_2
def dkwX4_waysBy_0 : List UInt8 := [42, 27, 182, 0, 151, 153, 0, 5, 3, 172, 3, 54, 4, 3, 54, 5, 21, 5, 42, 180, 0, 9, 5, 46]
abbrev dktX4_waysBy_0 : List UInt8 := dkwX4_waysBy_0 ++ dktX4_waysBy_1
theorem dksX4_waysBy_0 : cX4_waysBy.data.toList.drop 0 = dktX4_waysBy_0 := by decide +kernel
theorem dksX4_waysBy_1 : cX4_waysBy.data.toList.drop 24 = dktX4_waysBy_1 := dk_seg dksX4_waysBy_0 24 rfl rfl
theorem dksX4_waysBy_2 : cX4_waysBy.data.toList.drop 47 = dktX4_waysBy_2 := dk_seg dksX4_waysBy_1 23 rfl rfl
theorem dksX4_waysBy_3 : cX4_waysBy.data.toList.drop 71 = dktX4_waysBy_3 := dk_seg dksX4_waysBy_2 24 rfl rfl
theorem dksX4_waysBy_4 : cX4_waysBy.data.toList.drop 94 = dktX4_waysBy_4 := dk_seg dksX4_waysBy_3 23 rfl rfl
theorem dksX4_waysBy_5 : cX4_waysBy.data.toList.drop 116 = dktX4_waysBy_5 := dk_seg dksX4_waysBy_4 22 rfl rfl
theorem dX4_waysBy_0 : decode cX4_waysBy 0 = .ok (.aload_n 0, 1) := dk_42 (dk_at dksX4_waysBy_0 0 rfl rfl)
theorem dX4_waysBy_1 : decode cX4_waysBy 1 = .ok (.iload_n 1, 1) := dk_27 (dk_at dksX4_waysBy_0 1 rfl rfl)
theorem dX4_waysBy_2 : decode cX4_waysBy 2 = .ok (.invokevirtual 151, 3) := dk_182 0 151 (dk_at dksX4_waysBy_0 2 rfl rfl)
theorem dX4_waysBy_5 : decode cX4_waysBy 5 = .ok (.ifCond .eq 5, 3) := dk_153 0 5 (dk_at dksX4_waysBy_0 5 rfl rfl)
theorem dX4_waysBy_8 : decode cX4_waysBy 8 = .ok (.iconst 0, 1) := dk_3 (dk_at dksX4_waysBy_0 8 rfl rfl)
theorem dX4_waysBy_9 : decode cX4_waysBy 9 = .ok (.ireturn, 1) := dk_172 (dk_at dksX4_waysBy_0 9 rfl rfl)
theorem dX4_waysBy_10 : decode cX4_waysBy 10 = .ok (.iconst 0, 1) := dk_3 (dk_at dksX4_waysBy_0 10 rfl rfl)
theorem dX4_waysBy_11 : decode cX4_waysBy 11 = .ok (.istore 4, 2) := dk_54 4 (dk_at dksX4_waysBy_0 11 rfl rfl)
theorem dX4_waysBy_13 : decode cX4_waysBy 13 = .ok (.iconst 0, 1) := dk_3 (dk_at dksX4_waysBy_0 13 rfl rfl)
theorem dX4_waysBy_14 : decode cX4_waysBy 14 = .ok (.istore 5, 2) := dk_54 5 (dk_at dksX4_waysBy_0 14 rfl rfl)
theorem dX4_waysBy_16 : decode cX4_waysBy 16 = .ok (.iload 5, 2) := dk_21 5 (dk_at dksX4_waysBy_0 16 rfl rfl)
theorem dX4_waysBy_18 : decode cX4_waysBy 18 = .ok (.aload_n 0, 1) := dk_42 (dk_at dksX4_waysBy_0 18 rfl rfl)
theorem dX4_waysBy_19 : decode cX4_waysBy 19 = .ok (.getfield 9, 3) := dk_180 0 9 (dk_at dksX4_waysBy_0 19 rfl rfl)
theorem dX4_waysBy_22 : decode cX4_waysBy 22 = .ok (.iconst 2, 1) := dk_5 (dk_at dksX4_waysBy_0 22 rfl rfl)
theorem dX4_waysBy_23 : decode cX4_waysBy 23 = .ok (.iaload, 1) := dk_46 (dk_at dksX4_waysBy_0 23 rfl rfl)
theorem dX4_waysBy_24 : decode cX4_waysBy 24 = .ok (.if_icmp .ge 95, 3) := dk_162 0 95 (dk_at dksX4_waysBy_1 0 rfl rfl)
theorem dX4_waysBy_27 : decode cX4_waysBy 27 = .ok (.aload_n 0, 1) := dk_42 (dk_at dksX4_waysBy_1 3 rfl rfl)
theorem dX4_waysBy_28 : decode cX4_waysBy 28 = .ok (.iload_n 2, 1) := dk_28 (dk_at dksX4_waysBy_1 4 rfl rfl)
theorem dX4_waysBy_29 : decode cX4_waysBy 29 = .ok (.iload 5, 2) := dk_21 5 (dk_at dksX4_waysBy_1 5 rfl rfl)
theorem dX4_waysBy_31 : decode cX4_waysBy 31 = .ok (.invokevirtual 207, 3) := dk_182 0 207 (dk_at dksX4_waysBy_1 7 rfl rfl)
theorem dX4_waysBy_34 : decode cX4_waysBy 34 = .ok (.ifCond .ne 6, 3) := dk_154 0 6 (dk_at dksX4_waysBy_1 10 rfl rfl)
theorem dX4_waysBy_37 : decode cX4_waysBy 37 = .ok (.goto 76, 3) := dk_167 0 76 (dk_at dksX4_waysBy_1 13 rfl rfl)
theorem dX4_waysBy_40 : decode cX4_waysBy 40 = .ok (.iconst 0, 1) := dk_3 (dk_at dksX4_waysBy_1 16 rfl rfl)
theorem dX4_waysBy_41 : decode cX4_waysBy 41 = .ok (.istore 6, 2) := dk_54 6 (dk_at dksX4_waysBy_1 17 rfl rfl)
theorem dX4_waysBy_43 : decode cX4_waysBy 43 = .ok (.iload 6, 2) := dk_21 6 (dk_at dksX4_waysBy_1 19 rfl rfl)
theorem dX4_waysBy_45 : decode cX4_waysBy 45 = .ok (.bipush 60, 2) := dk_16 60 (dk_at dksX4_waysBy_1 21 rfl rfl)
theorem dX4_waysBy_47 : decode cX4_waysBy 47 = .ok (.if_icmp .gt 66, 3) := dk_163 0 66 (dk_at dksX4_waysBy_2 0 rfl rfl)
theorem dX4_waysBy_50 : decode cX4_waysBy 50 = .ok (.aload_n 0, 1) := dk_42 (dk_at dksX4_waysBy_2 3 rfl rfl)
theorem dX4_waysBy_51 : decode cX4_waysBy 51 = .ok (.iload_n 1, 1) := dk_27 (dk_at dksX4_waysBy_2 4 rfl rfl)
theorem dX4_waysBy_52 : decode cX4_waysBy 52 = .ok (.iload_n 2, 1) := dk_28 (dk_at dksX4_waysBy_2 5 rfl rfl)
theorem dX4_waysBy_53 : decode cX4_waysBy 53 = .ok (.iload 5, 2) := dk_21 5 (dk_at dksX4_waysBy_2 6 rfl rfl)
theorem dX4_waysBy_55 : decode cX4_waysBy 55 = .ok (.iload 6, 2) := dk_21 6 (dk_at dksX4_waysBy_2 8 rfl rfl)
theorem dX4_waysBy_57 : decode cX4_waysBy 57 = .ok (.invokevirtual 110, 3) := dk_182 0 110 (dk_at dksX4_waysBy_2 10 rfl rfl)
theorem dX4_waysBy_60 : decode cX4_waysBy 60 = .ok (.ifCond .ne 6, 3) := dk_154 0 6 (dk_at dksX4_waysBy_2 13 rfl rfl)
theorem dX4_waysBy_63 : decode cX4_waysBy 63 = .ok (.goto 44, 3) := dk_167 0 44 (dk_at dksX4_waysBy_2 16 rfl rfl)
theorem dX4_waysBy_66 : decode cX4_waysBy 66 = .ok (.iconst 0, 1) := dk_3 (dk_at dksX4_waysBy_2 19 rfl rfl)
theorem dX4_waysBy_67 : decode cX4_waysBy 67 = .ok (.istore 7, 2) := dk_54 7 (dk_at dksX4_waysBy_2 20 rfl rfl)
theorem dX4_waysBy_69 : decode cX4_waysBy 69 = .ok (.iload 7, 2) := dk_21 7 (dk_at dksX4_waysBy_2 22 rfl rfl)
theorem dX4_waysBy_71 : decode cX4_waysBy 71 = .ok (.bipush 10, 2) := dk_16 10 (dk_at dksX4_waysBy_3 0 rfl rfl)
theorem dX4_waysBy_73 : decode cX4_waysBy 73 = .ok (.if_icmp .ge 34, 3) := dk_162 0 34 (dk_at dksX4_waysBy_3 2 rfl rfl)
theorem dX4_waysBy_76 : decode cX4_waysBy 76 = .ok (.iload 4, 2) := dk_21 4 (dk_at dksX4_waysBy_3 5 rfl rfl)
theorem dX4_waysBy_78 : decode cX4_waysBy 78 = .ok (.aload_n 0, 1) := dk_42 (dk_at dksX4_waysBy_3 7 rfl rfl)
theorem dX4_waysBy_79 : decode cX4_waysBy 79 = .ok (.iload_n 1, 1) := dk_27 (dk_at dksX4_waysBy_3 8 rfl rfl)
theorem dX4_waysBy_80 : decode cX4_waysBy 80 = .ok (.iload 5, 2) := dk_21 5 (dk_at dksX4_waysBy_3 9 rfl rfl)
theorem dX4_waysBy_82 : decode cX4_waysBy 82 = .ok (.iload 6, 2) := dk_21 6 (dk_at dksX4_waysBy_3 11 rfl rfl)
theorem dX4_waysBy_84 : decode cX4_waysBy 84 = .ok (.iload 7, 2) := dk_21 7 (dk_at dksX4_waysBy_3 13 rfl rfl)
theorem dX4_waysBy_86 : decode cX4_waysBy 86 = .ok (.invokevirtual 184, 3) := dk_182 0 184 (dk_at dksX4_waysBy_3 15 rfl rfl)
theorem dX4_waysBy_89 : decode cX4_waysBy 89 = .ok (.iload_n 3, 1) := dk_29 (dk_at dksX4_waysBy_3 18 rfl rfl)
theorem dX4_waysBy_90 : decode cX4_waysBy 90 = .ok (.if_icmp .ne 7, 3) := dk_160 0 7 (dk_at dksX4_waysBy_3 19 rfl rfl)
theorem dX4_waysBy_93 : decode cX4_waysBy 93 = .ok (.iconst 1, 1) := dk_4 (dk_at dksX4_waysBy_3 22 rfl rfl)
theorem dX4_waysBy_94 : decode cX4_waysBy 94 = .ok (.goto 4, 3) := dk_167 0 4 (dk_at dksX4_waysBy_4 0 rfl rfl)
theorem dX4_waysBy_97 : decode cX4_waysBy 97 = .ok (.iconst 0, 1) := dk_3 (dk_at dksX4_waysBy_4 3 rfl rfl)
theorem dX4_waysBy_98 : decode cX4_waysBy 98 = .ok (.iadd, 1) := dk_96 (dk_at dksX4_waysBy_4 4 rfl rfl)
theorem dX4_waysBy_99 : decode cX4_waysBy 99 = .ok (.istore 4, 2) := dk_54 4 (dk_at dksX4_waysBy_4 5 rfl rfl)
theorem dX4_waysBy_101 : decode cX4_waysBy 101 = .ok (.iinc 7 1, 3) := dk_132 7 1 (dk_at dksX4_waysBy_4 7 rfl rfl)
theorem dX4_waysBy_104 : decode cX4_waysBy 104 = .ok (.goto (-35), 3) := dk_167 255 221 (dk_at dksX4_waysBy_4 10 rfl rfl)
theorem dX4_waysBy_107 : decode cX4_waysBy 107 = .ok (.iinc 6 1, 3) := dk_132 6 1 (dk_at dksX4_waysBy_4 13 rfl rfl)
theorem dX4_waysBy_110 : decode cX4_waysBy 110 = .ok (.goto (-67), 3) := dk_167 255 189 (dk_at dksX4_waysBy_4 16 rfl rfl)
theorem dX4_waysBy_113 : decode cX4_waysBy 113 = .ok (.iinc 5 1, 3) := dk_132 5 1 (dk_at dksX4_waysBy_4 19 rfl rfl)
theorem dX4_waysBy_116 : decode cX4_waysBy 116 = .ok (.goto (-100), 3) := dk_167 255 156 (dk_at dksX4_waysBy_5 0 rfl rfl)
theorem dX4_waysBy_119 : decode cX4_waysBy 119 = .ok (.iload 4, 2) := dk_21 4 (dk_at dksX4_waysBy_5 3 rfl rfl)
theorem dX4_waysBy_121 : decode cX4_waysBy 121 = .ok (.ireturn, 1) := dk_172 (dk_at dksX4_waysBy_5 5 rfl rfl)
abbrev cX4_canAnyForce : ByteArray := prog_22_method_59_code
def yX4_canAnyForce : MethodName := ⟨RX4, "canAnyForce", "(II)Z"⟩
def dkwX4_canAnyForce_1 : List UInt8 := [167, 255, 235, 3, 172]
abbrev dktX4_canAnyForce_1 : List UInt8 := dkwX4_canAnyForce_1 ++ []
def dkwX4_canAnyForce_0 : List UInt8 := [3, 62, 29, 16, 60, 163, 0, 21, 42, 27, 28, 29, 182, 0, 114, 153, 0, 5, 4, 172, 132, 3, 1]
abbrev dktX4_canAnyForce_0 : List UInt8 := dkwX4_canAnyForce_0 ++ dktX4_canAnyForce_1
theorem dksX4_canAnyForce_0 : cX4_canAnyForce.data.toList.drop 0 = dktX4_canAnyForce_0 := by decide +kernel
theorem dksX4_canAnyForce_1 : cX4_canAnyForce.data.toList.drop 23 = dktX4_canAnyForce_1 := dk_seg dksX4_canAnyForce_0 23 rfl rfl
theorem dX4_canAnyForce_0 : decode cX4_canAnyForce 0 = .ok (.iconst 0, 1) := dk_3 (dk_at dksX4_canAnyForce_0 0 rfl rfl)
theorem dX4_canAnyForce_1 : decode cX4_canAnyForce 1 = .ok (.istore_n 3, 1) := dk_62 (dk_at dksX4_canAnyForce_0 1 rfl rfl)
theorem dX4_canAnyForce_2 : decode cX4_canAnyForce 2 = .ok (.iload_n 3, 1) := dk_29 (dk_at dksX4_canAnyForce_0 2 rfl rfl)
theorem dX4_canAnyForce_3 : decode cX4_canAnyForce 3 = .ok (.bipush 60, 2) := dk_16 60 (dk_at dksX4_canAnyForce_0 3 rfl rfl)
theorem dX4_canAnyForce_5 : decode cX4_canAnyForce 5 = .ok (.if_icmp .gt 21, 3) := dk_163 0 21 (dk_at dksX4_canAnyForce_0 5 rfl rfl)
theorem dX4_canAnyForce_8 : decode cX4_canAnyForce 8 = .ok (.aload_n 0, 1) := dk_42 (dk_at dksX4_canAnyForce_0 8 rfl rfl)
theorem dX4_canAnyForce_9 : decode cX4_canAnyForce 9 = .ok (.iload_n 1, 1) := dk_27 (dk_at dksX4_canAnyForce_0 9 rfl rfl)
theorem dX4_canAnyForce_10 : decode cX4_canAnyForce 10 = .ok (.iload_n 2, 1) := dk_28 (dk_at dksX4_canAnyForce_0 10 rfl rfl)
theorem dX4_canAnyForce_11 : decode cX4_canAnyForce 11 = .ok (.iload_n 3, 1) := dk_29 (dk_at dksX4_canAnyForce_0 11 rfl rfl)
theorem dX4_canAnyForce_12 : decode cX4_canAnyForce 12 = .ok (.invokevirtual 114, 3) := dk_182 0 114 (dk_at dksX4_canAnyForce_0 12 rfl rfl)
theorem dX4_canAnyForce_15 : decode cX4_canAnyForce 15 = .ok (.ifCond .eq 5, 3) := dk_153 0 5 (dk_at dksX4_canAnyForce_0 15 rfl rfl)
theorem dX4_canAnyForce_18 : decode cX4_canAnyForce 18 = .ok (.iconst 1, 1) := dk_4 (dk_at dksX4_canAnyForce_0 18 rfl rfl)
theorem dX4_canAnyForce_19 : decode cX4_canAnyForce 19 = .ok (.ireturn, 1) := dk_172 (dk_at dksX4_canAnyForce_0 19 rfl rfl)
theorem dX4_canAnyForce_20 : decode cX4_canAnyForce 20 = .ok (.iinc 3 1, 3) := dk_132 3 1 (dk_at dksX4_canAnyForce_0 20 rfl rfl)
theorem dX4_canAnyForce_23 : decode cX4_canAnyForce 23 = .ok (.goto (-21), 3) := dk_167 255 235 (dk_at dksX4_canAnyForce_1 0 rfl rfl)
theorem dX4_canAnyForce_26 : decode cX4_canAnyForce 26 = .ok (.iconst 0, 1) := dk_3 (dk_at dksX4_canAnyForce_1 3 rfl rfl)
theorem dX4_canAnyForce_27 : decode cX4_canAnyForce 27 = .ok (.ireturn, 1) := dk_172 (dk_at dksX4_canAnyForce_1 4 rfl rfl)
abbrev cX4_tune : ByteArray := prog_22_method_63_code
def yX4_tune : MethodName := ⟨RX4, "tune", "(III)I"⟩
def dkwX4_tune_8 : List UInt8 := [167, 255, 176, 3, 172]
abbrev dktX4_tune_8 : List UInt8 := dkwX4_tune_8 ++ []
def dkwX4_tune_7 : List UInt8 := [122, 4, 126, 4, 160, 0, 10, 21, 9, 153, 0, 5, 4, 172, 132, 8, 1, 167, 255, 192, 132, 7, 1]
abbrev dktX4_tune_7 : List UInt8 := dkwX4_tune_7 ++ dktX4_tune_8
def dkwX4_tune_6 : List UInt8 := [54, 9, 21, 7, 21, 8, 159, 0, 32, 21, 4, 21, 7, 122, 4, 126, 4, 160, 0, 21, 21, 5, 21, 8]
abbrev dktX4_tune_6 : List UInt8 := dkwX4_tune_6 ++ dktX4_tune_7
def dkwX4_tune_5 : List UInt8 := [21, 8, 16, 6, 162, 0, 63, 21, 6, 4, 21, 7, 120, 2, 130, 126, 4, 21, 8, 120, 2, 130, 126]
abbrev dktX4_tune_5 : List UInt8 := dkwX4_tune_5 ++ dktX4_tune_6
def dkwX4_tune_4 : List UInt8 := [158, 0, 7, 4, 167, 0, 4, 3, 96, 172, 3, 54, 7, 21, 7, 16, 6, 162, 0, 79, 3, 54, 8]
abbrev dktX4_tune_4 : List UInt8 := dkwX4_tune_4 ++ dktX4_tune_5
def dkwX4_tune_3 : List UInt8 := [21, 4, 158, 0, 7, 4, 167, 0, 4, 3, 21, 5, 158, 0, 7, 4, 167, 0, 4, 3, 96, 21, 6]
abbrev dktX4_tune_3 : List UInt8 := dkwX4_tune_3 ++ dktX4_tune_4
def dkwX4_tune_2 : List UInt8 := [16, 100, 112, 182, 0, 214, 54, 5, 42, 27, 28, 16, 100, 112, 182, 0, 214, 54, 6, 29, 4, 160, 0, 36]
abbrev dktX4_tune_2 : List UInt8 := dkwX4_tune_2 ++ dktX4_tune_3
def dkwX4_tune_1 : List UInt8 := [154, 0, 5, 2, 172, 42, 27, 28, 17, 39, 16, 108, 182, 0, 214, 54, 4, 42, 27, 28, 16, 100, 108]
abbrev dktX4_tune_1 : List UInt8 := dkwX4_tune_1 ++ dktX4_tune_2
def dkwX4_tune_0 : List UInt8 := [42, 27, 182, 0, 66, 153, 0, 22, 28, 3, 18, 213, 184, 0, 58, 153, 0, 12, 29, 3, 4, 184, 0, 58]
abbrev dktX4_tune_0 : List UInt8 := dkwX4_tune_0 ++ dktX4_tune_1
theorem dksX4_tune_0 : cX4_tune.data.toList.drop 0 = dktX4_tune_0 := by decide +kernel
theorem dksX4_tune_1 : cX4_tune.data.toList.drop 24 = dktX4_tune_1 := dk_seg dksX4_tune_0 24 rfl rfl
theorem dksX4_tune_2 : cX4_tune.data.toList.drop 47 = dktX4_tune_2 := dk_seg dksX4_tune_1 23 rfl rfl
theorem dksX4_tune_3 : cX4_tune.data.toList.drop 71 = dktX4_tune_3 := dk_seg dksX4_tune_2 24 rfl rfl
theorem dksX4_tune_4 : cX4_tune.data.toList.drop 94 = dktX4_tune_4 := dk_seg dksX4_tune_3 23 rfl rfl
theorem dksX4_tune_5 : cX4_tune.data.toList.drop 117 = dktX4_tune_5 := dk_seg dksX4_tune_4 23 rfl rfl
theorem dksX4_tune_6 : cX4_tune.data.toList.drop 140 = dktX4_tune_6 := dk_seg dksX4_tune_5 23 rfl rfl
theorem dksX4_tune_7 : cX4_tune.data.toList.drop 164 = dktX4_tune_7 := dk_seg dksX4_tune_6 24 rfl rfl
theorem dksX4_tune_8 : cX4_tune.data.toList.drop 187 = dktX4_tune_8 := dk_seg dksX4_tune_7 23 rfl rfl
theorem dX4_tune_0 : decode cX4_tune 0 = .ok (.aload_n 0, 1) := dk_42 (dk_at dksX4_tune_0 0 rfl rfl)
theorem dX4_tune_1 : decode cX4_tune 1 = .ok (.iload_n 1, 1) := dk_27 (dk_at dksX4_tune_0 1 rfl rfl)
theorem dX4_tune_2 : decode cX4_tune 2 = .ok (.invokevirtual 66, 3) := dk_182 0 66 (dk_at dksX4_tune_0 2 rfl rfl)
theorem dX4_tune_5 : decode cX4_tune 5 = .ok (.ifCond .eq 22, 3) := dk_153 0 22 (dk_at dksX4_tune_0 5 rfl rfl)
theorem dX4_tune_8 : decode cX4_tune 8 = .ok (.iload_n 2, 1) := dk_28 (dk_at dksX4_tune_0 8 rfl rfl)
theorem dX4_tune_9 : decode cX4_tune 9 = .ok (.iconst 0, 1) := dk_3 (dk_at dksX4_tune_0 9 rfl rfl)
theorem dX4_tune_10 : decode cX4_tune 10 = .ok (.ldc 213, 2) := dk_18 213 (dk_at dksX4_tune_0 10 rfl rfl)
theorem dX4_tune_12 : decode cX4_tune 12 = .ok (.invokestatic 58, 3) := dk_184 0 58 (dk_at dksX4_tune_0 12 rfl rfl)
theorem dX4_tune_15 : decode cX4_tune 15 = .ok (.ifCond .eq 12, 3) := dk_153 0 12 (dk_at dksX4_tune_0 15 rfl rfl)
theorem dX4_tune_18 : decode cX4_tune 18 = .ok (.iload_n 3, 1) := dk_29 (dk_at dksX4_tune_0 18 rfl rfl)
theorem dX4_tune_19 : decode cX4_tune 19 = .ok (.iconst 0, 1) := dk_3 (dk_at dksX4_tune_0 19 rfl rfl)
theorem dX4_tune_20 : decode cX4_tune 20 = .ok (.iconst 1, 1) := dk_4 (dk_at dksX4_tune_0 20 rfl rfl)
theorem dX4_tune_21 : decode cX4_tune 21 = .ok (.invokestatic 58, 3) := dk_184 0 58 (dk_at dksX4_tune_0 21 rfl rfl)
theorem dX4_tune_24 : decode cX4_tune 24 = .ok (.ifCond .ne 5, 3) := dk_154 0 5 (dk_at dksX4_tune_1 0 rfl rfl)
theorem dX4_tune_27 : decode cX4_tune 27 = .ok (.iconst (-1), 1) := dk_2 (dk_at dksX4_tune_1 3 rfl rfl)
theorem dX4_tune_28 : decode cX4_tune 28 = .ok (.ireturn, 1) := dk_172 (dk_at dksX4_tune_1 4 rfl rfl)
theorem dX4_tune_29 : decode cX4_tune 29 = .ok (.aload_n 0, 1) := dk_42 (dk_at dksX4_tune_1 5 rfl rfl)
theorem dX4_tune_30 : decode cX4_tune 30 = .ok (.iload_n 1, 1) := dk_27 (dk_at dksX4_tune_1 6 rfl rfl)
theorem dX4_tune_31 : decode cX4_tune 31 = .ok (.iload_n 2, 1) := dk_28 (dk_at dksX4_tune_1 7 rfl rfl)
theorem dX4_tune_32 : decode cX4_tune 32 = .ok (.sipush 10000, 3) := dk_17 39 16 (dk_at dksX4_tune_1 8 rfl rfl)
theorem dX4_tune_35 : decode cX4_tune 35 = .ok (.idiv, 1) := dk_108 (dk_at dksX4_tune_1 11 rfl rfl)
theorem dX4_tune_36 : decode cX4_tune 36 = .ok (.invokevirtual 214, 3) := dk_182 0 214 (dk_at dksX4_tune_1 12 rfl rfl)
theorem dX4_tune_39 : decode cX4_tune 39 = .ok (.istore 4, 2) := dk_54 4 (dk_at dksX4_tune_1 15 rfl rfl)
theorem dX4_tune_41 : decode cX4_tune 41 = .ok (.aload_n 0, 1) := dk_42 (dk_at dksX4_tune_1 17 rfl rfl)
theorem dX4_tune_42 : decode cX4_tune 42 = .ok (.iload_n 1, 1) := dk_27 (dk_at dksX4_tune_1 18 rfl rfl)
theorem dX4_tune_43 : decode cX4_tune 43 = .ok (.iload_n 2, 1) := dk_28 (dk_at dksX4_tune_1 19 rfl rfl)
theorem dX4_tune_44 : decode cX4_tune 44 = .ok (.bipush 100, 2) := dk_16 100 (dk_at dksX4_tune_1 20 rfl rfl)
theorem dX4_tune_46 : decode cX4_tune 46 = .ok (.idiv, 1) := dk_108 (dk_at dksX4_tune_1 22 rfl rfl)
theorem dX4_tune_47 : decode cX4_tune 47 = .ok (.bipush 100, 2) := dk_16 100 (dk_at dksX4_tune_2 0 rfl rfl)
theorem dX4_tune_49 : decode cX4_tune 49 = .ok (.irem, 1) := dk_112 (dk_at dksX4_tune_2 2 rfl rfl)
theorem dX4_tune_50 : decode cX4_tune 50 = .ok (.invokevirtual 214, 3) := dk_182 0 214 (dk_at dksX4_tune_2 3 rfl rfl)
theorem dX4_tune_53 : decode cX4_tune 53 = .ok (.istore 5, 2) := dk_54 5 (dk_at dksX4_tune_2 6 rfl rfl)
theorem dX4_tune_55 : decode cX4_tune 55 = .ok (.aload_n 0, 1) := dk_42 (dk_at dksX4_tune_2 8 rfl rfl)
theorem dX4_tune_56 : decode cX4_tune 56 = .ok (.iload_n 1, 1) := dk_27 (dk_at dksX4_tune_2 9 rfl rfl)
theorem dX4_tune_57 : decode cX4_tune 57 = .ok (.iload_n 2, 1) := dk_28 (dk_at dksX4_tune_2 10 rfl rfl)
theorem dX4_tune_58 : decode cX4_tune 58 = .ok (.bipush 100, 2) := dk_16 100 (dk_at dksX4_tune_2 11 rfl rfl)
theorem dX4_tune_60 : decode cX4_tune 60 = .ok (.irem, 1) := dk_112 (dk_at dksX4_tune_2 13 rfl rfl)
theorem dX4_tune_61 : decode cX4_tune 61 = .ok (.invokevirtual 214, 3) := dk_182 0 214 (dk_at dksX4_tune_2 14 rfl rfl)
theorem dX4_tune_64 : decode cX4_tune 64 = .ok (.istore 6, 2) := dk_54 6 (dk_at dksX4_tune_2 17 rfl rfl)
theorem dX4_tune_66 : decode cX4_tune 66 = .ok (.iload_n 3, 1) := dk_29 (dk_at dksX4_tune_2 19 rfl rfl)
theorem dX4_tune_67 : decode cX4_tune 67 = .ok (.iconst 1, 1) := dk_4 (dk_at dksX4_tune_2 20 rfl rfl)
theorem dX4_tune_68 : decode cX4_tune 68 = .ok (.if_icmp .ne 36, 3) := dk_160 0 36 (dk_at dksX4_tune_2 21 rfl rfl)
theorem dX4_tune_71 : decode cX4_tune 71 = .ok (.iload 4, 2) := dk_21 4 (dk_at dksX4_tune_3 0 rfl rfl)
theorem dX4_tune_73 : decode cX4_tune 73 = .ok (.ifCond .le 7, 3) := dk_158 0 7 (dk_at dksX4_tune_3 2 rfl rfl)
theorem dX4_tune_76 : decode cX4_tune 76 = .ok (.iconst 1, 1) := dk_4 (dk_at dksX4_tune_3 5 rfl rfl)
theorem dX4_tune_77 : decode cX4_tune 77 = .ok (.goto 4, 3) := dk_167 0 4 (dk_at dksX4_tune_3 6 rfl rfl)
theorem dX4_tune_80 : decode cX4_tune 80 = .ok (.iconst 0, 1) := dk_3 (dk_at dksX4_tune_3 9 rfl rfl)
theorem dX4_tune_81 : decode cX4_tune 81 = .ok (.iload 5, 2) := dk_21 5 (dk_at dksX4_tune_3 10 rfl rfl)
theorem dX4_tune_83 : decode cX4_tune 83 = .ok (.ifCond .le 7, 3) := dk_158 0 7 (dk_at dksX4_tune_3 12 rfl rfl)
theorem dX4_tune_86 : decode cX4_tune 86 = .ok (.iconst 1, 1) := dk_4 (dk_at dksX4_tune_3 15 rfl rfl)
theorem dX4_tune_87 : decode cX4_tune 87 = .ok (.goto 4, 3) := dk_167 0 4 (dk_at dksX4_tune_3 16 rfl rfl)
theorem dX4_tune_90 : decode cX4_tune 90 = .ok (.iconst 0, 1) := dk_3 (dk_at dksX4_tune_3 19 rfl rfl)
theorem dX4_tune_91 : decode cX4_tune 91 = .ok (.iadd, 1) := dk_96 (dk_at dksX4_tune_3 20 rfl rfl)
theorem dX4_tune_92 : decode cX4_tune 92 = .ok (.iload 6, 2) := dk_21 6 (dk_at dksX4_tune_3 21 rfl rfl)
theorem dX4_tune_94 : decode cX4_tune 94 = .ok (.ifCond .le 7, 3) := dk_158 0 7 (dk_at dksX4_tune_4 0 rfl rfl)
theorem dX4_tune_97 : decode cX4_tune 97 = .ok (.iconst 1, 1) := dk_4 (dk_at dksX4_tune_4 3 rfl rfl)
theorem dX4_tune_98 : decode cX4_tune 98 = .ok (.goto 4, 3) := dk_167 0 4 (dk_at dksX4_tune_4 4 rfl rfl)
theorem dX4_tune_101 : decode cX4_tune 101 = .ok (.iconst 0, 1) := dk_3 (dk_at dksX4_tune_4 7 rfl rfl)
theorem dX4_tune_102 : decode cX4_tune 102 = .ok (.iadd, 1) := dk_96 (dk_at dksX4_tune_4 8 rfl rfl)
theorem dX4_tune_103 : decode cX4_tune 103 = .ok (.ireturn, 1) := dk_172 (dk_at dksX4_tune_4 9 rfl rfl)
theorem dX4_tune_104 : decode cX4_tune 104 = .ok (.iconst 0, 1) := dk_3 (dk_at dksX4_tune_4 10 rfl rfl)
theorem dX4_tune_105 : decode cX4_tune 105 = .ok (.istore 7, 2) := dk_54 7 (dk_at dksX4_tune_4 11 rfl rfl)
theorem dX4_tune_107 : decode cX4_tune 107 = .ok (.iload 7, 2) := dk_21 7 (dk_at dksX4_tune_4 13 rfl rfl)
theorem dX4_tune_109 : decode cX4_tune 109 = .ok (.bipush 6, 2) := dk_16 6 (dk_at dksX4_tune_4 15 rfl rfl)
theorem dX4_tune_111 : decode cX4_tune 111 = .ok (.if_icmp .ge 79, 3) := dk_162 0 79 (dk_at dksX4_tune_4 17 rfl rfl)
theorem dX4_tune_114 : decode cX4_tune 114 = .ok (.iconst 0, 1) := dk_3 (dk_at dksX4_tune_4 20 rfl rfl)
theorem dX4_tune_115 : decode cX4_tune 115 = .ok (.istore 8, 2) := dk_54 8 (dk_at dksX4_tune_4 21 rfl rfl)
theorem dX4_tune_117 : decode cX4_tune 117 = .ok (.iload 8, 2) := dk_21 8 (dk_at dksX4_tune_5 0 rfl rfl)
theorem dX4_tune_119 : decode cX4_tune 119 = .ok (.bipush 6, 2) := dk_16 6 (dk_at dksX4_tune_5 2 rfl rfl)
theorem dX4_tune_121 : decode cX4_tune 121 = .ok (.if_icmp .ge 63, 3) := dk_162 0 63 (dk_at dksX4_tune_5 4 rfl rfl)
theorem dX4_tune_124 : decode cX4_tune 124 = .ok (.iload 6, 2) := dk_21 6 (dk_at dksX4_tune_5 7 rfl rfl)
theorem dX4_tune_126 : decode cX4_tune 126 = .ok (.iconst 1, 1) := dk_4 (dk_at dksX4_tune_5 9 rfl rfl)
theorem dX4_tune_127 : decode cX4_tune 127 = .ok (.iload 7, 2) := dk_21 7 (dk_at dksX4_tune_5 10 rfl rfl)
theorem dX4_tune_129 : decode cX4_tune 129 = .ok (.ishl, 1) := dk_120 (dk_at dksX4_tune_5 12 rfl rfl)
theorem dX4_tune_130 : decode cX4_tune 130 = .ok (.iconst (-1), 1) := dk_2 (dk_at dksX4_tune_5 13 rfl rfl)
theorem dX4_tune_131 : decode cX4_tune 131 = .ok (.ixor, 1) := dk_130 (dk_at dksX4_tune_5 14 rfl rfl)
theorem dX4_tune_132 : decode cX4_tune 132 = .ok (.iand, 1) := dk_126 (dk_at dksX4_tune_5 15 rfl rfl)
theorem dX4_tune_133 : decode cX4_tune 133 = .ok (.iconst 1, 1) := dk_4 (dk_at dksX4_tune_5 16 rfl rfl)
theorem dX4_tune_134 : decode cX4_tune 134 = .ok (.iload 8, 2) := dk_21 8 (dk_at dksX4_tune_5 17 rfl rfl)
theorem dX4_tune_136 : decode cX4_tune 136 = .ok (.ishl, 1) := dk_120 (dk_at dksX4_tune_5 19 rfl rfl)
theorem dX4_tune_137 : decode cX4_tune 137 = .ok (.iconst (-1), 1) := dk_2 (dk_at dksX4_tune_5 20 rfl rfl)
theorem dX4_tune_138 : decode cX4_tune 138 = .ok (.ixor, 1) := dk_130 (dk_at dksX4_tune_5 21 rfl rfl)
theorem dX4_tune_139 : decode cX4_tune 139 = .ok (.iand, 1) := dk_126 (dk_at dksX4_tune_5 22 rfl rfl)
theorem dX4_tune_140 : decode cX4_tune 140 = .ok (.istore 9, 2) := dk_54 9 (dk_at dksX4_tune_6 0 rfl rfl)
theorem dX4_tune_142 : decode cX4_tune 142 = .ok (.iload 7, 2) := dk_21 7 (dk_at dksX4_tune_6 2 rfl rfl)
theorem dX4_tune_144 : decode cX4_tune 144 = .ok (.iload 8, 2) := dk_21 8 (dk_at dksX4_tune_6 4 rfl rfl)
theorem dX4_tune_146 : decode cX4_tune 146 = .ok (.if_icmp .eq 32, 3) := dk_159 0 32 (dk_at dksX4_tune_6 6 rfl rfl)
theorem dX4_tune_149 : decode cX4_tune 149 = .ok (.iload 4, 2) := dk_21 4 (dk_at dksX4_tune_6 9 rfl rfl)
theorem dX4_tune_151 : decode cX4_tune 151 = .ok (.iload 7, 2) := dk_21 7 (dk_at dksX4_tune_6 11 rfl rfl)
theorem dX4_tune_153 : decode cX4_tune 153 = .ok (.ishr, 1) := dk_122 (dk_at dksX4_tune_6 13 rfl rfl)
theorem dX4_tune_154 : decode cX4_tune 154 = .ok (.iconst 1, 1) := dk_4 (dk_at dksX4_tune_6 14 rfl rfl)
theorem dX4_tune_155 : decode cX4_tune 155 = .ok (.iand, 1) := dk_126 (dk_at dksX4_tune_6 15 rfl rfl)
theorem dX4_tune_156 : decode cX4_tune 156 = .ok (.iconst 1, 1) := dk_4 (dk_at dksX4_tune_6 16 rfl rfl)
theorem dX4_tune_157 : decode cX4_tune 157 = .ok (.if_icmp .ne 21, 3) := dk_160 0 21 (dk_at dksX4_tune_6 17 rfl rfl)
theorem dX4_tune_160 : decode cX4_tune 160 = .ok (.iload 5, 2) := dk_21 5 (dk_at dksX4_tune_6 20 rfl rfl)
theorem dX4_tune_162 : decode cX4_tune 162 = .ok (.iload 8, 2) := dk_21 8 (dk_at dksX4_tune_6 22 rfl rfl)
theorem dX4_tune_164 : decode cX4_tune 164 = .ok (.ishr, 1) := dk_122 (dk_at dksX4_tune_7 0 rfl rfl)
theorem dX4_tune_165 : decode cX4_tune 165 = .ok (.iconst 1, 1) := dk_4 (dk_at dksX4_tune_7 1 rfl rfl)
theorem dX4_tune_166 : decode cX4_tune 166 = .ok (.iand, 1) := dk_126 (dk_at dksX4_tune_7 2 rfl rfl)
theorem dX4_tune_167 : decode cX4_tune 167 = .ok (.iconst 1, 1) := dk_4 (dk_at dksX4_tune_7 3 rfl rfl)
theorem dX4_tune_168 : decode cX4_tune 168 = .ok (.if_icmp .ne 10, 3) := dk_160 0 10 (dk_at dksX4_tune_7 4 rfl rfl)
theorem dX4_tune_171 : decode cX4_tune 171 = .ok (.iload 9, 2) := dk_21 9 (dk_at dksX4_tune_7 7 rfl rfl)
theorem dX4_tune_173 : decode cX4_tune 173 = .ok (.ifCond .eq 5, 3) := dk_153 0 5 (dk_at dksX4_tune_7 9 rfl rfl)
theorem dX4_tune_176 : decode cX4_tune 176 = .ok (.iconst 1, 1) := dk_4 (dk_at dksX4_tune_7 12 rfl rfl)
theorem dX4_tune_177 : decode cX4_tune 177 = .ok (.ireturn, 1) := dk_172 (dk_at dksX4_tune_7 13 rfl rfl)
theorem dX4_tune_178 : decode cX4_tune 178 = .ok (.iinc 8 1, 3) := dk_132 8 1 (dk_at dksX4_tune_7 14 rfl rfl)
theorem dX4_tune_181 : decode cX4_tune 181 = .ok (.goto (-64), 3) := dk_167 255 192 (dk_at dksX4_tune_7 17 rfl rfl)
theorem dX4_tune_184 : decode cX4_tune 184 = .ok (.iinc 7 1, 3) := dk_132 7 1 (dk_at dksX4_tune_7 20 rfl rfl)
theorem dX4_tune_187 : decode cX4_tune 187 = .ok (.goto (-80), 3) := dk_167 255 176 (dk_at dksX4_tune_8 0 rfl rfl)
theorem dX4_tune_190 : decode cX4_tune 190 = .ok (.iconst 0, 1) := dk_3 (dk_at dksX4_tune_8 3 rfl rfl)
theorem dX4_tune_191 : decode cX4_tune 191 = .ok (.ireturn, 1) := dk_172 (dk_at dksX4_tune_8 4 rfl rfl)
abbrev cX4_bladesFor : ByteArray := prog_22_method_61_code
def yX4_bladesFor : MethodName := ⟨RX4, "bladesFor", "(II)I"⟩
def dkwX4_bladesFor_1 : List UInt8 := [158, 0, 10, 29, 4, 21, 4, 120, 128, 62, 132, 4, 1, 167, 255, 224, 29, 172]
abbrev dktX4_bladesFor_1 : List UInt8 := dkwX4_bladesFor_1 ++ []
def dkwX4_bladesFor_0 : List UInt8 := [3, 62, 3, 54, 4, 21, 4, 42, 180, 0, 9, 3, 46, 162, 0, 27, 42, 21, 4, 27, 28, 182, 0, 210]
abbrev dktX4_bladesFor_0 : List UInt8 := dkwX4_bladesFor_0 ++ dktX4_bladesFor_1
theorem dksX4_bladesFor_0 : cX4_bladesFor.data.toList.drop 0 = dktX4_bladesFor_0 := by decide +kernel
theorem dksX4_bladesFor_1 : cX4_bladesFor.data.toList.drop 24 = dktX4_bladesFor_1 := dk_seg dksX4_bladesFor_0 24 rfl rfl
theorem dX4_bladesFor_0 : decode cX4_bladesFor 0 = .ok (.iconst 0, 1) := dk_3 (dk_at dksX4_bladesFor_0 0 rfl rfl)
theorem dX4_bladesFor_1 : decode cX4_bladesFor 1 = .ok (.istore_n 3, 1) := dk_62 (dk_at dksX4_bladesFor_0 1 rfl rfl)
theorem dX4_bladesFor_2 : decode cX4_bladesFor 2 = .ok (.iconst 0, 1) := dk_3 (dk_at dksX4_bladesFor_0 2 rfl rfl)
theorem dX4_bladesFor_3 : decode cX4_bladesFor 3 = .ok (.istore 4, 2) := dk_54 4 (dk_at dksX4_bladesFor_0 3 rfl rfl)
theorem dX4_bladesFor_5 : decode cX4_bladesFor 5 = .ok (.iload 4, 2) := dk_21 4 (dk_at dksX4_bladesFor_0 5 rfl rfl)
theorem dX4_bladesFor_7 : decode cX4_bladesFor 7 = .ok (.aload_n 0, 1) := dk_42 (dk_at dksX4_bladesFor_0 7 rfl rfl)
theorem dX4_bladesFor_8 : decode cX4_bladesFor 8 = .ok (.getfield 9, 3) := dk_180 0 9 (dk_at dksX4_bladesFor_0 8 rfl rfl)
theorem dX4_bladesFor_11 : decode cX4_bladesFor 11 = .ok (.iconst 0, 1) := dk_3 (dk_at dksX4_bladesFor_0 11 rfl rfl)
theorem dX4_bladesFor_12 : decode cX4_bladesFor 12 = .ok (.iaload, 1) := dk_46 (dk_at dksX4_bladesFor_0 12 rfl rfl)
theorem dX4_bladesFor_13 : decode cX4_bladesFor 13 = .ok (.if_icmp .ge 27, 3) := dk_162 0 27 (dk_at dksX4_bladesFor_0 13 rfl rfl)
theorem dX4_bladesFor_16 : decode cX4_bladesFor 16 = .ok (.aload_n 0, 1) := dk_42 (dk_at dksX4_bladesFor_0 16 rfl rfl)
theorem dX4_bladesFor_17 : decode cX4_bladesFor 17 = .ok (.iload 4, 2) := dk_21 4 (dk_at dksX4_bladesFor_0 17 rfl rfl)
theorem dX4_bladesFor_19 : decode cX4_bladesFor 19 = .ok (.iload_n 1, 1) := dk_27 (dk_at dksX4_bladesFor_0 19 rfl rfl)
theorem dX4_bladesFor_20 : decode cX4_bladesFor 20 = .ok (.iload_n 2, 1) := dk_28 (dk_at dksX4_bladesFor_0 20 rfl rfl)
theorem dX4_bladesFor_21 : decode cX4_bladesFor 21 = .ok (.invokevirtual 210, 3) := dk_182 0 210 (dk_at dksX4_bladesFor_0 21 rfl rfl)
theorem dX4_bladesFor_24 : decode cX4_bladesFor 24 = .ok (.ifCond .le 10, 3) := dk_158 0 10 (dk_at dksX4_bladesFor_1 0 rfl rfl)
theorem dX4_bladesFor_27 : decode cX4_bladesFor 27 = .ok (.iload_n 3, 1) := dk_29 (dk_at dksX4_bladesFor_1 3 rfl rfl)
theorem dX4_bladesFor_28 : decode cX4_bladesFor 28 = .ok (.iconst 1, 1) := dk_4 (dk_at dksX4_bladesFor_1 4 rfl rfl)
theorem dX4_bladesFor_29 : decode cX4_bladesFor 29 = .ok (.iload 4, 2) := dk_21 4 (dk_at dksX4_bladesFor_1 5 rfl rfl)
theorem dX4_bladesFor_31 : decode cX4_bladesFor 31 = .ok (.ishl, 1) := dk_120 (dk_at dksX4_bladesFor_1 7 rfl rfl)
theorem dX4_bladesFor_32 : decode cX4_bladesFor 32 = .ok (.ior, 1) := dk_128 (dk_at dksX4_bladesFor_1 8 rfl rfl)
theorem dX4_bladesFor_33 : decode cX4_bladesFor 33 = .ok (.istore_n 3, 1) := dk_62 (dk_at dksX4_bladesFor_1 9 rfl rfl)
theorem dX4_bladesFor_34 : decode cX4_bladesFor 34 = .ok (.iinc 4 1, 3) := dk_132 4 1 (dk_at dksX4_bladesFor_1 10 rfl rfl)
theorem dX4_bladesFor_37 : decode cX4_bladesFor 37 = .ok (.goto (-32), 3) := dk_167 255 224 (dk_at dksX4_bladesFor_1 13 rfl rfl)
theorem dX4_bladesFor_40 : decode cX4_bladesFor 40 = .ok (.iload_n 3, 1) := dk_29 (dk_at dksX4_bladesFor_1 16 rfl rfl)
theorem dX4_bladesFor_41 : decode cX4_bladesFor 41 = .ok (.ireturn, 1) := dk_172 (dk_at dksX4_bladesFor_1 17 rfl rfl)
abbrev cX4_lasts : ByteArray := prog_22_method_65_code
def yX4_lasts : MethodName := ⟨RX4, "lasts", "(III)I"⟩
def dkwX4_lasts_1 : List UInt8 := [172, 42, 27, 182, 0, 151, 153, 0, 8, 16, 253, 167, 0, 10, 42, 27, 28, 29, 182, 0, 217, 172]
abbrev dktX4_lasts_1 : List UInt8 := dkwX4_lasts_1 ++ []
def dkwX4_lasts_0 : List UInt8 := [42, 27, 182, 0, 62, 153, 0, 18, 42, 28, 182, 0, 69, 153, 0, 10, 29, 184, 0, 174, 154, 0, 5, 2]
abbrev dktX4_lasts_0 : List UInt8 := dkwX4_lasts_0 ++ dktX4_lasts_1
theorem dksX4_lasts_0 : cX4_lasts.data.toList.drop 0 = dktX4_lasts_0 := by decide +kernel
theorem dksX4_lasts_1 : cX4_lasts.data.toList.drop 24 = dktX4_lasts_1 := dk_seg dksX4_lasts_0 24 rfl rfl
theorem dX4_lasts_0 : decode cX4_lasts 0 = .ok (.aload_n 0, 1) := dk_42 (dk_at dksX4_lasts_0 0 rfl rfl)
theorem dX4_lasts_1 : decode cX4_lasts 1 = .ok (.iload_n 1, 1) := dk_27 (dk_at dksX4_lasts_0 1 rfl rfl)
theorem dX4_lasts_2 : decode cX4_lasts 2 = .ok (.invokevirtual 62, 3) := dk_182 0 62 (dk_at dksX4_lasts_0 2 rfl rfl)
theorem dX4_lasts_5 : decode cX4_lasts 5 = .ok (.ifCond .eq 18, 3) := dk_153 0 18 (dk_at dksX4_lasts_0 5 rfl rfl)
theorem dX4_lasts_8 : decode cX4_lasts 8 = .ok (.aload_n 0, 1) := dk_42 (dk_at dksX4_lasts_0 8 rfl rfl)
theorem dX4_lasts_9 : decode cX4_lasts 9 = .ok (.iload_n 2, 1) := dk_28 (dk_at dksX4_lasts_0 9 rfl rfl)
theorem dX4_lasts_10 : decode cX4_lasts 10 = .ok (.invokevirtual 69, 3) := dk_182 0 69 (dk_at dksX4_lasts_0 10 rfl rfl)
theorem dX4_lasts_13 : decode cX4_lasts 13 = .ok (.ifCond .eq 10, 3) := dk_153 0 10 (dk_at dksX4_lasts_0 13 rfl rfl)
theorem dX4_lasts_16 : decode cX4_lasts 16 = .ok (.iload_n 3, 1) := dk_29 (dk_at dksX4_lasts_0 16 rfl rfl)
theorem dX4_lasts_17 : decode cX4_lasts 17 = .ok (.invokestatic 174, 3) := dk_184 0 174 (dk_at dksX4_lasts_0 17 rfl rfl)
theorem dX4_lasts_20 : decode cX4_lasts 20 = .ok (.ifCond .ne 5, 3) := dk_154 0 5 (dk_at dksX4_lasts_0 20 rfl rfl)
theorem dX4_lasts_23 : decode cX4_lasts 23 = .ok (.iconst (-1), 1) := dk_2 (dk_at dksX4_lasts_0 23 rfl rfl)
theorem dX4_lasts_24 : decode cX4_lasts 24 = .ok (.ireturn, 1) := dk_172 (dk_at dksX4_lasts_1 0 rfl rfl)
theorem dX4_lasts_25 : decode cX4_lasts 25 = .ok (.aload_n 0, 1) := dk_42 (dk_at dksX4_lasts_1 1 rfl rfl)
theorem dX4_lasts_26 : decode cX4_lasts 26 = .ok (.iload_n 1, 1) := dk_27 (dk_at dksX4_lasts_1 2 rfl rfl)
theorem dX4_lasts_27 : decode cX4_lasts 27 = .ok (.invokevirtual 151, 3) := dk_182 0 151 (dk_at dksX4_lasts_1 3 rfl rfl)
theorem dX4_lasts_30 : decode cX4_lasts 30 = .ok (.ifCond .eq 8, 3) := dk_153 0 8 (dk_at dksX4_lasts_1 6 rfl rfl)
theorem dX4_lasts_33 : decode cX4_lasts 33 = .ok (.bipush (-3), 2) := dk_16 253 (dk_at dksX4_lasts_1 9 rfl rfl)
theorem dX4_lasts_35 : decode cX4_lasts 35 = .ok (.goto 10, 3) := dk_167 0 10 (dk_at dksX4_lasts_1 11 rfl rfl)
theorem dX4_lasts_38 : decode cX4_lasts 38 = .ok (.aload_n 0, 1) := dk_42 (dk_at dksX4_lasts_1 14 rfl rfl)
theorem dX4_lasts_39 : decode cX4_lasts 39 = .ok (.iload_n 1, 1) := dk_27 (dk_at dksX4_lasts_1 15 rfl rfl)
theorem dX4_lasts_40 : decode cX4_lasts 40 = .ok (.iload_n 2, 1) := dk_28 (dk_at dksX4_lasts_1 16 rfl rfl)
theorem dX4_lasts_41 : decode cX4_lasts 41 = .ok (.iload_n 3, 1) := dk_29 (dk_at dksX4_lasts_1 17 rfl rfl)
theorem dX4_lasts_42 : decode cX4_lasts 42 = .ok (.invokevirtual 217, 3) := dk_182 0 217 (dk_at dksX4_lasts_1 18 rfl rfl)
theorem dX4_lasts_45 : decode cX4_lasts 45 = .ok (.ireturn, 1) := dk_172 (dk_at dksX4_lasts_1 21 rfl rfl)
abbrev cX4_lastsOf : ByteArray := prog_22_method_64_code
def yX4_lastsOf : MethodName := ⟨RX4, "lastsOf", "(III)I"⟩
def dkwX4_lastsOf_2 : List UInt8 := [21, 5, 172, 132, 5, 1, 167, 255, 214, 16, 99, 172]
abbrev dktX4_lastsOf_2 : List UInt8 := dkwX4_lastsOf_2 ++ []
def dkwX4_lastsOf_1 : List UInt8 := [182, 0, 154, 96, 54, 4, 21, 4, 42, 27, 4, 182, 0, 72, 42, 27, 5, 182, 0, 72, 96, 164, 0, 6]
abbrev dktX4_lastsOf_1 : List UInt8 := dkwX4_lastsOf_1 ++ dktX4_lastsOf_2
def dkwX4_lastsOf_0 : List UInt8 := [42, 27, 6, 182, 0, 72, 54, 4, 4, 54, 5, 21, 5, 16, 99, 162, 0, 41, 21, 4, 42, 28, 29]
abbrev dktX4_lastsOf_0 : List UInt8 := dkwX4_lastsOf_0 ++ dktX4_lastsOf_1
theorem dksX4_lastsOf_0 : cX4_lastsOf.data.toList.drop 0 = dktX4_lastsOf_0 := by decide +kernel
theorem dksX4_lastsOf_1 : cX4_lastsOf.data.toList.drop 23 = dktX4_lastsOf_1 := dk_seg dksX4_lastsOf_0 23 rfl rfl
theorem dksX4_lastsOf_2 : cX4_lastsOf.data.toList.drop 47 = dktX4_lastsOf_2 := dk_seg dksX4_lastsOf_1 24 rfl rfl
theorem dX4_lastsOf_0 : decode cX4_lastsOf 0 = .ok (.aload_n 0, 1) := dk_42 (dk_at dksX4_lastsOf_0 0 rfl rfl)
theorem dX4_lastsOf_1 : decode cX4_lastsOf 1 = .ok (.iload_n 1, 1) := dk_27 (dk_at dksX4_lastsOf_0 1 rfl rfl)
theorem dX4_lastsOf_2 : decode cX4_lastsOf 2 = .ok (.iconst 3, 1) := dk_6 (dk_at dksX4_lastsOf_0 2 rfl rfl)
theorem dX4_lastsOf_3 : decode cX4_lastsOf 3 = .ok (.invokevirtual 72, 3) := dk_182 0 72 (dk_at dksX4_lastsOf_0 3 rfl rfl)
theorem dX4_lastsOf_6 : decode cX4_lastsOf 6 = .ok (.istore 4, 2) := dk_54 4 (dk_at dksX4_lastsOf_0 6 rfl rfl)
theorem dX4_lastsOf_8 : decode cX4_lastsOf 8 = .ok (.iconst 1, 1) := dk_4 (dk_at dksX4_lastsOf_0 8 rfl rfl)
theorem dX4_lastsOf_9 : decode cX4_lastsOf 9 = .ok (.istore 5, 2) := dk_54 5 (dk_at dksX4_lastsOf_0 9 rfl rfl)
theorem dX4_lastsOf_11 : decode cX4_lastsOf 11 = .ok (.iload 5, 2) := dk_21 5 (dk_at dksX4_lastsOf_0 11 rfl rfl)
theorem dX4_lastsOf_13 : decode cX4_lastsOf 13 = .ok (.bipush 99, 2) := dk_16 99 (dk_at dksX4_lastsOf_0 13 rfl rfl)
theorem dX4_lastsOf_15 : decode cX4_lastsOf 15 = .ok (.if_icmp .ge 41, 3) := dk_162 0 41 (dk_at dksX4_lastsOf_0 15 rfl rfl)
theorem dX4_lastsOf_18 : decode cX4_lastsOf 18 = .ok (.iload 4, 2) := dk_21 4 (dk_at dksX4_lastsOf_0 18 rfl rfl)
theorem dX4_lastsOf_20 : decode cX4_lastsOf 20 = .ok (.aload_n 0, 1) := dk_42 (dk_at dksX4_lastsOf_0 20 rfl rfl)
theorem dX4_lastsOf_21 : decode cX4_lastsOf 21 = .ok (.iload_n 2, 1) := dk_28 (dk_at dksX4_lastsOf_0 21 rfl rfl)
theorem dX4_lastsOf_22 : decode cX4_lastsOf 22 = .ok (.iload_n 3, 1) := dk_29 (dk_at dksX4_lastsOf_0 22 rfl rfl)
theorem dX4_lastsOf_23 : decode cX4_lastsOf 23 = .ok (.invokevirtual 154, 3) := dk_182 0 154 (dk_at dksX4_lastsOf_1 0 rfl rfl)
theorem dX4_lastsOf_26 : decode cX4_lastsOf 26 = .ok (.iadd, 1) := dk_96 (dk_at dksX4_lastsOf_1 3 rfl rfl)
theorem dX4_lastsOf_27 : decode cX4_lastsOf 27 = .ok (.istore 4, 2) := dk_54 4 (dk_at dksX4_lastsOf_1 4 rfl rfl)
theorem dX4_lastsOf_29 : decode cX4_lastsOf 29 = .ok (.iload 4, 2) := dk_21 4 (dk_at dksX4_lastsOf_1 6 rfl rfl)
theorem dX4_lastsOf_31 : decode cX4_lastsOf 31 = .ok (.aload_n 0, 1) := dk_42 (dk_at dksX4_lastsOf_1 8 rfl rfl)
theorem dX4_lastsOf_32 : decode cX4_lastsOf 32 = .ok (.iload_n 1, 1) := dk_27 (dk_at dksX4_lastsOf_1 9 rfl rfl)
theorem dX4_lastsOf_33 : decode cX4_lastsOf 33 = .ok (.iconst 1, 1) := dk_4 (dk_at dksX4_lastsOf_1 10 rfl rfl)
theorem dX4_lastsOf_34 : decode cX4_lastsOf 34 = .ok (.invokevirtual 72, 3) := dk_182 0 72 (dk_at dksX4_lastsOf_1 11 rfl rfl)
theorem dX4_lastsOf_37 : decode cX4_lastsOf 37 = .ok (.aload_n 0, 1) := dk_42 (dk_at dksX4_lastsOf_1 14 rfl rfl)
theorem dX4_lastsOf_38 : decode cX4_lastsOf 38 = .ok (.iload_n 1, 1) := dk_27 (dk_at dksX4_lastsOf_1 15 rfl rfl)
theorem dX4_lastsOf_39 : decode cX4_lastsOf 39 = .ok (.iconst 2, 1) := dk_5 (dk_at dksX4_lastsOf_1 16 rfl rfl)
theorem dX4_lastsOf_40 : decode cX4_lastsOf 40 = .ok (.invokevirtual 72, 3) := dk_182 0 72 (dk_at dksX4_lastsOf_1 17 rfl rfl)
theorem dX4_lastsOf_43 : decode cX4_lastsOf 43 = .ok (.iadd, 1) := dk_96 (dk_at dksX4_lastsOf_1 20 rfl rfl)
theorem dX4_lastsOf_44 : decode cX4_lastsOf 44 = .ok (.if_icmp .le 6, 3) := dk_164 0 6 (dk_at dksX4_lastsOf_1 21 rfl rfl)
theorem dX4_lastsOf_47 : decode cX4_lastsOf 47 = .ok (.iload 5, 2) := dk_21 5 (dk_at dksX4_lastsOf_2 0 rfl rfl)
theorem dX4_lastsOf_49 : decode cX4_lastsOf 49 = .ok (.ireturn, 1) := dk_172 (dk_at dksX4_lastsOf_2 2 rfl rfl)
theorem dX4_lastsOf_50 : decode cX4_lastsOf 50 = .ok (.iinc 5 1, 3) := dk_132 5 1 (dk_at dksX4_lastsOf_2 3 rfl rfl)
theorem dX4_lastsOf_53 : decode cX4_lastsOf 53 = .ok (.goto (-42), 3) := dk_167 255 214 (dk_at dksX4_lastsOf_2 6 rfl rfl)
theorem dX4_lastsOf_56 : decode cX4_lastsOf 56 = .ok (.bipush 99, 2) := dk_16 99 (dk_at dksX4_lastsOf_2 9 rfl rfl)
theorem dX4_lastsOf_58 : decode cX4_lastsOf 58 = .ok (.ireturn, 1) := dk_172 (dk_at dksX4_lastsOf_2 11 rfl rfl)
abbrev cX4_bestForce : ByteArray := prog_22_method_66_code
def yX4_bestForce : MethodName := ⟨RX4, "bestForce", "(III)I"⟩
def dkwX4_bestForce_4 : List UInt8 := [21, 4, 172]
abbrev dktX4_bestForce_4 : List UInt8 := dkwX4_bestForce_4 ++ []
def dkwX4_bestForce_3 : List UInt8 := [182, 0, 217, 42, 27, 29, 21, 4, 182, 0, 217, 164, 0, 7, 21, 5, 54, 4, 132, 5, 1, 167, 255, 200]
abbrev dktX4_bestForce_3 : List UInt8 := dkwX4_bestForce_3 ++ dktX4_bestForce_4
def dkwX4_bestForce_2 : List UInt8 := [158, 0, 48, 42, 28, 29, 21, 5, 182, 0, 114, 153, 0, 31, 21, 4, 155, 0, 22, 42, 27, 29, 21, 5]
abbrev dktX4_bestForce_2 : List UInt8 := dkwX4_bestForce_2 ++ dktX4_bestForce_3
def dkwX4_bestForce_1 : List UInt8 := [27, 28, 29, 182, 0, 198, 16, 252, 54, 4, 3, 54, 5, 21, 5, 16, 60, 163, 0, 55, 42, 180, 0, 195]
abbrev dktX4_bestForce_1 : List UInt8 := dkwX4_bestForce_1 ++ dktX4_bestForce_2
def dkwX4_bestForce_0 : List UInt8 := [42, 27, 28, 29, 182, 0, 148, 154, 0, 5, 2, 172, 42, 27, 182, 0, 151, 153, 0, 6, 16, 253, 172, 42]
abbrev dktX4_bestForce_0 : List UInt8 := dkwX4_bestForce_0 ++ dktX4_bestForce_1
theorem dksX4_bestForce_0 : cX4_bestForce.data.toList.drop 0 = dktX4_bestForce_0 := by decide +kernel
theorem dksX4_bestForce_1 : cX4_bestForce.data.toList.drop 24 = dktX4_bestForce_1 := dk_seg dksX4_bestForce_0 24 rfl rfl
theorem dksX4_bestForce_2 : cX4_bestForce.data.toList.drop 48 = dktX4_bestForce_2 := dk_seg dksX4_bestForce_1 24 rfl rfl
theorem dksX4_bestForce_3 : cX4_bestForce.data.toList.drop 72 = dktX4_bestForce_3 := dk_seg dksX4_bestForce_2 24 rfl rfl
theorem dksX4_bestForce_4 : cX4_bestForce.data.toList.drop 96 = dktX4_bestForce_4 := dk_seg dksX4_bestForce_3 24 rfl rfl
theorem dX4_bestForce_0 : decode cX4_bestForce 0 = .ok (.aload_n 0, 1) := dk_42 (dk_at dksX4_bestForce_0 0 rfl rfl)
theorem dX4_bestForce_1 : decode cX4_bestForce 1 = .ok (.iload_n 1, 1) := dk_27 (dk_at dksX4_bestForce_0 1 rfl rfl)
theorem dX4_bestForce_2 : decode cX4_bestForce 2 = .ok (.iload_n 2, 1) := dk_28 (dk_at dksX4_bestForce_0 2 rfl rfl)
theorem dX4_bestForce_3 : decode cX4_bestForce 3 = .ok (.iload_n 3, 1) := dk_29 (dk_at dksX4_bestForce_0 3 rfl rfl)
theorem dX4_bestForce_4 : decode cX4_bestForce 4 = .ok (.invokevirtual 148, 3) := dk_182 0 148 (dk_at dksX4_bestForce_0 4 rfl rfl)
theorem dX4_bestForce_7 : decode cX4_bestForce 7 = .ok (.ifCond .ne 5, 3) := dk_154 0 5 (dk_at dksX4_bestForce_0 7 rfl rfl)
theorem dX4_bestForce_10 : decode cX4_bestForce 10 = .ok (.iconst (-1), 1) := dk_2 (dk_at dksX4_bestForce_0 10 rfl rfl)
theorem dX4_bestForce_11 : decode cX4_bestForce 11 = .ok (.ireturn, 1) := dk_172 (dk_at dksX4_bestForce_0 11 rfl rfl)
theorem dX4_bestForce_12 : decode cX4_bestForce 12 = .ok (.aload_n 0, 1) := dk_42 (dk_at dksX4_bestForce_0 12 rfl rfl)
theorem dX4_bestForce_13 : decode cX4_bestForce 13 = .ok (.iload_n 1, 1) := dk_27 (dk_at dksX4_bestForce_0 13 rfl rfl)
theorem dX4_bestForce_14 : decode cX4_bestForce 14 = .ok (.invokevirtual 151, 3) := dk_182 0 151 (dk_at dksX4_bestForce_0 14 rfl rfl)
theorem dX4_bestForce_17 : decode cX4_bestForce 17 = .ok (.ifCond .eq 6, 3) := dk_153 0 6 (dk_at dksX4_bestForce_0 17 rfl rfl)
theorem dX4_bestForce_20 : decode cX4_bestForce 20 = .ok (.bipush (-3), 2) := dk_16 253 (dk_at dksX4_bestForce_0 20 rfl rfl)
theorem dX4_bestForce_22 : decode cX4_bestForce 22 = .ok (.ireturn, 1) := dk_172 (dk_at dksX4_bestForce_0 22 rfl rfl)
theorem dX4_bestForce_23 : decode cX4_bestForce 23 = .ok (.aload_n 0, 1) := dk_42 (dk_at dksX4_bestForce_0 23 rfl rfl)
theorem dX4_bestForce_24 : decode cX4_bestForce 24 = .ok (.iload_n 1, 1) := dk_27 (dk_at dksX4_bestForce_1 0 rfl rfl)
theorem dX4_bestForce_25 : decode cX4_bestForce 25 = .ok (.iload_n 2, 1) := dk_28 (dk_at dksX4_bestForce_1 1 rfl rfl)
theorem dX4_bestForce_26 : decode cX4_bestForce 26 = .ok (.iload_n 3, 1) := dk_29 (dk_at dksX4_bestForce_1 2 rfl rfl)
theorem dX4_bestForce_27 : decode cX4_bestForce 27 = .ok (.invokevirtual 198, 3) := dk_182 0 198 (dk_at dksX4_bestForce_1 3 rfl rfl)
theorem dX4_bestForce_30 : decode cX4_bestForce 30 = .ok (.bipush (-4), 2) := dk_16 252 (dk_at dksX4_bestForce_1 6 rfl rfl)
theorem dX4_bestForce_32 : decode cX4_bestForce 32 = .ok (.istore 4, 2) := dk_54 4 (dk_at dksX4_bestForce_1 8 rfl rfl)
theorem dX4_bestForce_34 : decode cX4_bestForce 34 = .ok (.iconst 0, 1) := dk_3 (dk_at dksX4_bestForce_1 10 rfl rfl)
theorem dX4_bestForce_35 : decode cX4_bestForce 35 = .ok (.istore 5, 2) := dk_54 5 (dk_at dksX4_bestForce_1 11 rfl rfl)
theorem dX4_bestForce_37 : decode cX4_bestForce 37 = .ok (.iload 5, 2) := dk_21 5 (dk_at dksX4_bestForce_1 13 rfl rfl)
theorem dX4_bestForce_39 : decode cX4_bestForce 39 = .ok (.bipush 60, 2) := dk_16 60 (dk_at dksX4_bestForce_1 15 rfl rfl)
theorem dX4_bestForce_41 : decode cX4_bestForce 41 = .ok (.if_icmp .gt 55, 3) := dk_163 0 55 (dk_at dksX4_bestForce_1 17 rfl rfl)
theorem dX4_bestForce_44 : decode cX4_bestForce 44 = .ok (.aload_n 0, 1) := dk_42 (dk_at dksX4_bestForce_1 20 rfl rfl)
theorem dX4_bestForce_45 : decode cX4_bestForce 45 = .ok (.getfield 195, 3) := dk_180 0 195 (dk_at dksX4_bestForce_1 21 rfl rfl)
theorem dX4_bestForce_48 : decode cX4_bestForce 48 = .ok (.ifCond .le 48, 3) := dk_158 0 48 (dk_at dksX4_bestForce_2 0 rfl rfl)
theorem dX4_bestForce_51 : decode cX4_bestForce 51 = .ok (.aload_n 0, 1) := dk_42 (dk_at dksX4_bestForce_2 3 rfl rfl)
theorem dX4_bestForce_52 : decode cX4_bestForce 52 = .ok (.iload_n 2, 1) := dk_28 (dk_at dksX4_bestForce_2 4 rfl rfl)
theorem dX4_bestForce_53 : decode cX4_bestForce 53 = .ok (.iload_n 3, 1) := dk_29 (dk_at dksX4_bestForce_2 5 rfl rfl)
theorem dX4_bestForce_54 : decode cX4_bestForce 54 = .ok (.iload 5, 2) := dk_21 5 (dk_at dksX4_bestForce_2 6 rfl rfl)
theorem dX4_bestForce_56 : decode cX4_bestForce 56 = .ok (.invokevirtual 114, 3) := dk_182 0 114 (dk_at dksX4_bestForce_2 8 rfl rfl)
theorem dX4_bestForce_59 : decode cX4_bestForce 59 = .ok (.ifCond .eq 31, 3) := dk_153 0 31 (dk_at dksX4_bestForce_2 11 rfl rfl)
theorem dX4_bestForce_62 : decode cX4_bestForce 62 = .ok (.iload 4, 2) := dk_21 4 (dk_at dksX4_bestForce_2 14 rfl rfl)
theorem dX4_bestForce_64 : decode cX4_bestForce 64 = .ok (.ifCond .lt 22, 3) := dk_155 0 22 (dk_at dksX4_bestForce_2 16 rfl rfl)
theorem dX4_bestForce_67 : decode cX4_bestForce 67 = .ok (.aload_n 0, 1) := dk_42 (dk_at dksX4_bestForce_2 19 rfl rfl)
theorem dX4_bestForce_68 : decode cX4_bestForce 68 = .ok (.iload_n 1, 1) := dk_27 (dk_at dksX4_bestForce_2 20 rfl rfl)
theorem dX4_bestForce_69 : decode cX4_bestForce 69 = .ok (.iload_n 3, 1) := dk_29 (dk_at dksX4_bestForce_2 21 rfl rfl)
theorem dX4_bestForce_70 : decode cX4_bestForce 70 = .ok (.iload 5, 2) := dk_21 5 (dk_at dksX4_bestForce_2 22 rfl rfl)
theorem dX4_bestForce_72 : decode cX4_bestForce 72 = .ok (.invokevirtual 217, 3) := dk_182 0 217 (dk_at dksX4_bestForce_3 0 rfl rfl)
theorem dX4_bestForce_75 : decode cX4_bestForce 75 = .ok (.aload_n 0, 1) := dk_42 (dk_at dksX4_bestForce_3 3 rfl rfl)
theorem dX4_bestForce_76 : decode cX4_bestForce 76 = .ok (.iload_n 1, 1) := dk_27 (dk_at dksX4_bestForce_3 4 rfl rfl)
theorem dX4_bestForce_77 : decode cX4_bestForce 77 = .ok (.iload_n 3, 1) := dk_29 (dk_at dksX4_bestForce_3 5 rfl rfl)
theorem dX4_bestForce_78 : decode cX4_bestForce 78 = .ok (.iload 4, 2) := dk_21 4 (dk_at dksX4_bestForce_3 6 rfl rfl)
theorem dX4_bestForce_80 : decode cX4_bestForce 80 = .ok (.invokevirtual 217, 3) := dk_182 0 217 (dk_at dksX4_bestForce_3 8 rfl rfl)
theorem dX4_bestForce_83 : decode cX4_bestForce 83 = .ok (.if_icmp .le 7, 3) := dk_164 0 7 (dk_at dksX4_bestForce_3 11 rfl rfl)
theorem dX4_bestForce_86 : decode cX4_bestForce 86 = .ok (.iload 5, 2) := dk_21 5 (dk_at dksX4_bestForce_3 14 rfl rfl)
theorem dX4_bestForce_88 : decode cX4_bestForce 88 = .ok (.istore 4, 2) := dk_54 4 (dk_at dksX4_bestForce_3 16 rfl rfl)
theorem dX4_bestForce_90 : decode cX4_bestForce 90 = .ok (.iinc 5 1, 3) := dk_132 5 1 (dk_at dksX4_bestForce_3 18 rfl rfl)
theorem dX4_bestForce_93 : decode cX4_bestForce 93 = .ok (.goto (-56), 3) := dk_167 255 200 (dk_at dksX4_bestForce_3 21 rfl rfl)
theorem dX4_bestForce_96 : decode cX4_bestForce 96 = .ok (.iload 4, 2) := dk_21 4 (dk_at dksX4_bestForce_4 0 rfl rfl)
theorem dX4_bestForce_98 : decode cX4_bestForce 98 = .ok (.ireturn, 1) := dk_172 (dk_at dksX4_bestForce_4 2 rfl rfl)
abbrev cX4_clash : ByteArray := prog_22_method_67_code
def yX4_clash : MethodName := ⟨RX4, "clash", "(III)I"⟩
def dkwX4_clash_6 : List UInt8 := [21, 5, 172]
abbrev dktX4_clash_6 : List UInt8 := dkwX4_clash_6 ++ []
def dkwX4_clash_5 : List UInt8 := [132, 4, 1, 132, 7, 1, 167, 255, 186, 132, 6, 1, 167, 255, 163, 29, 154, 0, 8, 21, 4, 167, 0, 5]
abbrev dktX4_clash_5 : List UInt8 := dkwX4_clash_5 ++ dktX4_clash_6
def dkwX4_clash_4 : List UInt8 := [167, 0, 26, 21, 4, 154, 0, 14, 16, 10, 21, 6, 104, 21, 7, 96, 167, 0, 5, 21, 5, 54, 5]
abbrev dktX4_clash_4 : List UInt8 := dkwX4_clash_4 ++ dktX4_clash_5
def dkwX4_clash_3 : List UInt8 := [182, 0, 184, 42, 21, 7, 27, 28, 3, 182, 0, 184, 100, 184, 0, 205, 4, 5, 184, 0, 58, 154, 0, 6]
abbrev dktX4_clash_3 : List UInt8 := dkwX4_clash_3 ++ dktX4_clash_4
def dkwX4_clash_2 : List UInt8 := [21, 6, 4, 96, 54, 7, 21, 7, 42, 180, 0, 9, 3, 46, 162, 0, 65, 42, 21, 6, 27, 28, 3]
abbrev dktX4_clash_2 : List UInt8 := dkwX4_clash_2 ++ dktX4_clash_3
def dkwX4_clash_1 : List UInt8 := [2, 172, 3, 54, 4, 16, 252, 54, 5, 3, 54, 6, 21, 6, 42, 180, 0, 9, 3, 46, 162, 0, 88]
abbrev dktX4_clash_1 : List UInt8 := dkwX4_clash_1 ++ dktX4_clash_2
def dkwX4_clash_0 : List UInt8 := [42, 27, 182, 0, 69, 153, 0, 19, 28, 184, 0, 174, 153, 0, 12, 29, 3, 4, 184, 0, 58, 154, 0, 5]
abbrev dktX4_clash_0 : List UInt8 := dkwX4_clash_0 ++ dktX4_clash_1
theorem dksX4_clash_0 : cX4_clash.data.toList.drop 0 = dktX4_clash_0 := by decide +kernel
theorem dksX4_clash_1 : cX4_clash.data.toList.drop 24 = dktX4_clash_1 := dk_seg dksX4_clash_0 24 rfl rfl
theorem dksX4_clash_2 : cX4_clash.data.toList.drop 47 = dktX4_clash_2 := dk_seg dksX4_clash_1 23 rfl rfl
theorem dksX4_clash_3 : cX4_clash.data.toList.drop 70 = dktX4_clash_3 := dk_seg dksX4_clash_2 23 rfl rfl
theorem dksX4_clash_4 : cX4_clash.data.toList.drop 94 = dktX4_clash_4 := dk_seg dksX4_clash_3 24 rfl rfl
theorem dksX4_clash_5 : cX4_clash.data.toList.drop 117 = dktX4_clash_5 := dk_seg dksX4_clash_4 23 rfl rfl
theorem dksX4_clash_6 : cX4_clash.data.toList.drop 141 = dktX4_clash_6 := dk_seg dksX4_clash_5 24 rfl rfl
theorem dX4_clash_0 : decode cX4_clash 0 = .ok (.aload_n 0, 1) := dk_42 (dk_at dksX4_clash_0 0 rfl rfl)
theorem dX4_clash_1 : decode cX4_clash 1 = .ok (.iload_n 1, 1) := dk_27 (dk_at dksX4_clash_0 1 rfl rfl)
theorem dX4_clash_2 : decode cX4_clash 2 = .ok (.invokevirtual 69, 3) := dk_182 0 69 (dk_at dksX4_clash_0 2 rfl rfl)
theorem dX4_clash_5 : decode cX4_clash 5 = .ok (.ifCond .eq 19, 3) := dk_153 0 19 (dk_at dksX4_clash_0 5 rfl rfl)
theorem dX4_clash_8 : decode cX4_clash 8 = .ok (.iload_n 2, 1) := dk_28 (dk_at dksX4_clash_0 8 rfl rfl)
theorem dX4_clash_9 : decode cX4_clash 9 = .ok (.invokestatic 174, 3) := dk_184 0 174 (dk_at dksX4_clash_0 9 rfl rfl)
theorem dX4_clash_12 : decode cX4_clash 12 = .ok (.ifCond .eq 12, 3) := dk_153 0 12 (dk_at dksX4_clash_0 12 rfl rfl)
theorem dX4_clash_15 : decode cX4_clash 15 = .ok (.iload_n 3, 1) := dk_29 (dk_at dksX4_clash_0 15 rfl rfl)
theorem dX4_clash_16 : decode cX4_clash 16 = .ok (.iconst 0, 1) := dk_3 (dk_at dksX4_clash_0 16 rfl rfl)
theorem dX4_clash_17 : decode cX4_clash 17 = .ok (.iconst 1, 1) := dk_4 (dk_at dksX4_clash_0 17 rfl rfl)
theorem dX4_clash_18 : decode cX4_clash 18 = .ok (.invokestatic 58, 3) := dk_184 0 58 (dk_at dksX4_clash_0 18 rfl rfl)
theorem dX4_clash_21 : decode cX4_clash 21 = .ok (.ifCond .ne 5, 3) := dk_154 0 5 (dk_at dksX4_clash_0 21 rfl rfl)
theorem dX4_clash_24 : decode cX4_clash 24 = .ok (.iconst (-1), 1) := dk_2 (dk_at dksX4_clash_1 0 rfl rfl)
theorem dX4_clash_25 : decode cX4_clash 25 = .ok (.ireturn, 1) := dk_172 (dk_at dksX4_clash_1 1 rfl rfl)
theorem dX4_clash_26 : decode cX4_clash 26 = .ok (.iconst 0, 1) := dk_3 (dk_at dksX4_clash_1 2 rfl rfl)
theorem dX4_clash_27 : decode cX4_clash 27 = .ok (.istore 4, 2) := dk_54 4 (dk_at dksX4_clash_1 3 rfl rfl)
theorem dX4_clash_29 : decode cX4_clash 29 = .ok (.bipush (-4), 2) := dk_16 252 (dk_at dksX4_clash_1 5 rfl rfl)
theorem dX4_clash_31 : decode cX4_clash 31 = .ok (.istore 5, 2) := dk_54 5 (dk_at dksX4_clash_1 7 rfl rfl)
theorem dX4_clash_33 : decode cX4_clash 33 = .ok (.iconst 0, 1) := dk_3 (dk_at dksX4_clash_1 9 rfl rfl)
theorem dX4_clash_34 : decode cX4_clash 34 = .ok (.istore 6, 2) := dk_54 6 (dk_at dksX4_clash_1 10 rfl rfl)
theorem dX4_clash_36 : decode cX4_clash 36 = .ok (.iload 6, 2) := dk_21 6 (dk_at dksX4_clash_1 12 rfl rfl)
theorem dX4_clash_38 : decode cX4_clash 38 = .ok (.aload_n 0, 1) := dk_42 (dk_at dksX4_clash_1 14 rfl rfl)
theorem dX4_clash_39 : decode cX4_clash 39 = .ok (.getfield 9, 3) := dk_180 0 9 (dk_at dksX4_clash_1 15 rfl rfl)
theorem dX4_clash_42 : decode cX4_clash 42 = .ok (.iconst 0, 1) := dk_3 (dk_at dksX4_clash_1 18 rfl rfl)
theorem dX4_clash_43 : decode cX4_clash 43 = .ok (.iaload, 1) := dk_46 (dk_at dksX4_clash_1 19 rfl rfl)
theorem dX4_clash_44 : decode cX4_clash 44 = .ok (.if_icmp .ge 88, 3) := dk_162 0 88 (dk_at dksX4_clash_1 20 rfl rfl)
theorem dX4_clash_47 : decode cX4_clash 47 = .ok (.iload 6, 2) := dk_21 6 (dk_at dksX4_clash_2 0 rfl rfl)
theorem dX4_clash_49 : decode cX4_clash 49 = .ok (.iconst 1, 1) := dk_4 (dk_at dksX4_clash_2 2 rfl rfl)
theorem dX4_clash_50 : decode cX4_clash 50 = .ok (.iadd, 1) := dk_96 (dk_at dksX4_clash_2 3 rfl rfl)
theorem dX4_clash_51 : decode cX4_clash 51 = .ok (.istore 7, 2) := dk_54 7 (dk_at dksX4_clash_2 4 rfl rfl)
theorem dX4_clash_53 : decode cX4_clash 53 = .ok (.iload 7, 2) := dk_21 7 (dk_at dksX4_clash_2 6 rfl rfl)
theorem dX4_clash_55 : decode cX4_clash 55 = .ok (.aload_n 0, 1) := dk_42 (dk_at dksX4_clash_2 8 rfl rfl)
theorem dX4_clash_56 : decode cX4_clash 56 = .ok (.getfield 9, 3) := dk_180 0 9 (dk_at dksX4_clash_2 9 rfl rfl)
theorem dX4_clash_59 : decode cX4_clash 59 = .ok (.iconst 0, 1) := dk_3 (dk_at dksX4_clash_2 12 rfl rfl)
theorem dX4_clash_60 : decode cX4_clash 60 = .ok (.iaload, 1) := dk_46 (dk_at dksX4_clash_2 13 rfl rfl)
theorem dX4_clash_61 : decode cX4_clash 61 = .ok (.if_icmp .ge 65, 3) := dk_162 0 65 (dk_at dksX4_clash_2 14 rfl rfl)
theorem dX4_clash_64 : decode cX4_clash 64 = .ok (.aload_n 0, 1) := dk_42 (dk_at dksX4_clash_2 17 rfl rfl)
theorem dX4_clash_65 : decode cX4_clash 65 = .ok (.iload 6, 2) := dk_21 6 (dk_at dksX4_clash_2 18 rfl rfl)
theorem dX4_clash_67 : decode cX4_clash 67 = .ok (.iload_n 1, 1) := dk_27 (dk_at dksX4_clash_2 20 rfl rfl)
theorem dX4_clash_68 : decode cX4_clash 68 = .ok (.iload_n 2, 1) := dk_28 (dk_at dksX4_clash_2 21 rfl rfl)
theorem dX4_clash_69 : decode cX4_clash 69 = .ok (.iconst 0, 1) := dk_3 (dk_at dksX4_clash_2 22 rfl rfl)
theorem dX4_clash_70 : decode cX4_clash 70 = .ok (.invokevirtual 184, 3) := dk_182 0 184 (dk_at dksX4_clash_3 0 rfl rfl)
theorem dX4_clash_73 : decode cX4_clash 73 = .ok (.aload_n 0, 1) := dk_42 (dk_at dksX4_clash_3 3 rfl rfl)
theorem dX4_clash_74 : decode cX4_clash 74 = .ok (.iload 7, 2) := dk_21 7 (dk_at dksX4_clash_3 4 rfl rfl)
theorem dX4_clash_76 : decode cX4_clash 76 = .ok (.iload_n 1, 1) := dk_27 (dk_at dksX4_clash_3 6 rfl rfl)
theorem dX4_clash_77 : decode cX4_clash 77 = .ok (.iload_n 2, 1) := dk_28 (dk_at dksX4_clash_3 7 rfl rfl)
theorem dX4_clash_78 : decode cX4_clash 78 = .ok (.iconst 0, 1) := dk_3 (dk_at dksX4_clash_3 8 rfl rfl)
theorem dX4_clash_79 : decode cX4_clash 79 = .ok (.invokevirtual 184, 3) := dk_182 0 184 (dk_at dksX4_clash_3 9 rfl rfl)
theorem dX4_clash_82 : decode cX4_clash 82 = .ok (.isub, 1) := dk_100 (dk_at dksX4_clash_3 12 rfl rfl)
theorem dX4_clash_83 : decode cX4_clash 83 = .ok (.invokestatic 205, 3) := dk_184 0 205 (dk_at dksX4_clash_3 13 rfl rfl)
theorem dX4_clash_86 : decode cX4_clash 86 = .ok (.iconst 1, 1) := dk_4 (dk_at dksX4_clash_3 16 rfl rfl)
theorem dX4_clash_87 : decode cX4_clash 87 = .ok (.iconst 2, 1) := dk_5 (dk_at dksX4_clash_3 17 rfl rfl)
theorem dX4_clash_88 : decode cX4_clash 88 = .ok (.invokestatic 58, 3) := dk_184 0 58 (dk_at dksX4_clash_3 18 rfl rfl)
theorem dX4_clash_91 : decode cX4_clash 91 = .ok (.ifCond .ne 6, 3) := dk_154 0 6 (dk_at dksX4_clash_3 21 rfl rfl)
theorem dX4_clash_94 : decode cX4_clash 94 = .ok (.goto 26, 3) := dk_167 0 26 (dk_at dksX4_clash_4 0 rfl rfl)
theorem dX4_clash_97 : decode cX4_clash 97 = .ok (.iload 4, 2) := dk_21 4 (dk_at dksX4_clash_4 3 rfl rfl)
theorem dX4_clash_99 : decode cX4_clash 99 = .ok (.ifCond .ne 14, 3) := dk_154 0 14 (dk_at dksX4_clash_4 5 rfl rfl)
theorem dX4_clash_102 : decode cX4_clash 102 = .ok (.bipush 10, 2) := dk_16 10 (dk_at dksX4_clash_4 8 rfl rfl)
theorem dX4_clash_104 : decode cX4_clash 104 = .ok (.iload 6, 2) := dk_21 6 (dk_at dksX4_clash_4 10 rfl rfl)
theorem dX4_clash_106 : decode cX4_clash 106 = .ok (.imul, 1) := dk_104 (dk_at dksX4_clash_4 12 rfl rfl)
theorem dX4_clash_107 : decode cX4_clash 107 = .ok (.iload 7, 2) := dk_21 7 (dk_at dksX4_clash_4 13 rfl rfl)
theorem dX4_clash_109 : decode cX4_clash 109 = .ok (.iadd, 1) := dk_96 (dk_at dksX4_clash_4 15 rfl rfl)
theorem dX4_clash_110 : decode cX4_clash 110 = .ok (.goto 5, 3) := dk_167 0 5 (dk_at dksX4_clash_4 16 rfl rfl)
theorem dX4_clash_113 : decode cX4_clash 113 = .ok (.iload 5, 2) := dk_21 5 (dk_at dksX4_clash_4 19 rfl rfl)
theorem dX4_clash_115 : decode cX4_clash 115 = .ok (.istore 5, 2) := dk_54 5 (dk_at dksX4_clash_4 21 rfl rfl)
theorem dX4_clash_117 : decode cX4_clash 117 = .ok (.iinc 4 1, 3) := dk_132 4 1 (dk_at dksX4_clash_5 0 rfl rfl)
theorem dX4_clash_120 : decode cX4_clash 120 = .ok (.iinc 7 1, 3) := dk_132 7 1 (dk_at dksX4_clash_5 3 rfl rfl)
theorem dX4_clash_123 : decode cX4_clash 123 = .ok (.goto (-70), 3) := dk_167 255 186 (dk_at dksX4_clash_5 6 rfl rfl)
theorem dX4_clash_126 : decode cX4_clash 126 = .ok (.iinc 6 1, 3) := dk_132 6 1 (dk_at dksX4_clash_5 9 rfl rfl)
theorem dX4_clash_129 : decode cX4_clash 129 = .ok (.goto (-93), 3) := dk_167 255 163 (dk_at dksX4_clash_5 12 rfl rfl)
theorem dX4_clash_132 : decode cX4_clash 132 = .ok (.iload_n 3, 1) := dk_29 (dk_at dksX4_clash_5 15 rfl rfl)
theorem dX4_clash_133 : decode cX4_clash 133 = .ok (.ifCond .ne 8, 3) := dk_154 0 8 (dk_at dksX4_clash_5 16 rfl rfl)
theorem dX4_clash_136 : decode cX4_clash 136 = .ok (.iload 4, 2) := dk_21 4 (dk_at dksX4_clash_5 19 rfl rfl)
theorem dX4_clash_138 : decode cX4_clash 138 = .ok (.goto 5, 3) := dk_167 0 5 (dk_at dksX4_clash_5 21 rfl rfl)
theorem dX4_clash_141 : decode cX4_clash 141 = .ok (.iload 5, 2) := dk_21 5 (dk_at dksX4_clash_6 0 rfl rfl)
theorem dX4_clash_143 : decode cX4_clash 143 = .ok (.ireturn, 1) := dk_172 (dk_at dksX4_clash_6 2 rfl rfl)
abbrev cX4_heard : ByteArray := prog_22_method_68_code
def yX4_heard : MethodName := ⟨RX4, "heard", "(II)I"⟩
def dkwX4_heard_3 : List UInt8 := [167, 0, 4, 3, 128, 62, 29, 27, 16, 7, 112, 6, 160, 0, 8, 16, 8, 167, 0, 4, 3, 128, 172]
abbrev dktX4_heard_3 : List UInt8 := dkwX4_heard_3 ++ []
def dkwX4_heard_2 : List UInt8 := [163, 0, 7, 5, 167, 0, 4, 3, 128, 62, 29, 27, 16, 60, 164, 0, 13, 28, 16, 20, 164, 0, 7, 7]
abbrev dktX4_heard_2 : List UInt8 := dkwX4_heard_2 ++ dktX4_heard_3
def dkwX4_heard_1 : List UInt8 := [164, 0, 7, 4, 167, 0, 4, 3, 62, 29, 27, 16, 50, 16, 70, 184, 0, 58, 153, 0, 13, 28, 16, 20]
abbrev dktX4_heard_1 : List UInt8 := dkwX4_heard_1 ++ dktX4_heard_2
def dkwX4_heard_0 : List UInt8 := [27, 3, 16, 99, 184, 0, 58, 153, 0, 10, 28, 184, 0, 174, 154, 0, 5, 2, 172, 27, 16, 70]
abbrev dktX4_heard_0 : List UInt8 := dkwX4_heard_0 ++ dktX4_heard_1
theorem dksX4_heard_0 : cX4_heard.data.toList.drop 0 = dktX4_heard_0 := by decide +kernel
theorem dksX4_heard_1 : cX4_heard.data.toList.drop 22 = dktX4_heard_1 := dk_seg dksX4_heard_0 22 rfl rfl
theorem dksX4_heard_2 : cX4_heard.data.toList.drop 46 = dktX4_heard_2 := dk_seg dksX4_heard_1 24 rfl rfl
theorem dksX4_heard_3 : cX4_heard.data.toList.drop 70 = dktX4_heard_3 := dk_seg dksX4_heard_2 24 rfl rfl
theorem dX4_heard_0 : decode cX4_heard 0 = .ok (.iload_n 1, 1) := dk_27 (dk_at dksX4_heard_0 0 rfl rfl)
theorem dX4_heard_1 : decode cX4_heard 1 = .ok (.iconst 0, 1) := dk_3 (dk_at dksX4_heard_0 1 rfl rfl)
theorem dX4_heard_2 : decode cX4_heard 2 = .ok (.bipush 99, 2) := dk_16 99 (dk_at dksX4_heard_0 2 rfl rfl)
theorem dX4_heard_4 : decode cX4_heard 4 = .ok (.invokestatic 58, 3) := dk_184 0 58 (dk_at dksX4_heard_0 4 rfl rfl)
theorem dX4_heard_7 : decode cX4_heard 7 = .ok (.ifCond .eq 10, 3) := dk_153 0 10 (dk_at dksX4_heard_0 7 rfl rfl)
theorem dX4_heard_10 : decode cX4_heard 10 = .ok (.iload_n 2, 1) := dk_28 (dk_at dksX4_heard_0 10 rfl rfl)
theorem dX4_heard_11 : decode cX4_heard 11 = .ok (.invokestatic 174, 3) := dk_184 0 174 (dk_at dksX4_heard_0 11 rfl rfl)
theorem dX4_heard_14 : decode cX4_heard 14 = .ok (.ifCond .ne 5, 3) := dk_154 0 5 (dk_at dksX4_heard_0 14 rfl rfl)
theorem dX4_heard_17 : decode cX4_heard 17 = .ok (.iconst (-1), 1) := dk_2 (dk_at dksX4_heard_0 17 rfl rfl)
theorem dX4_heard_18 : decode cX4_heard 18 = .ok (.ireturn, 1) := dk_172 (dk_at dksX4_heard_0 18 rfl rfl)
theorem dX4_heard_19 : decode cX4_heard 19 = .ok (.iload_n 1, 1) := dk_27 (dk_at dksX4_heard_0 19 rfl rfl)
theorem dX4_heard_20 : decode cX4_heard 20 = .ok (.bipush 70, 2) := dk_16 70 (dk_at dksX4_heard_0 20 rfl rfl)
theorem dX4_heard_22 : decode cX4_heard 22 = .ok (.if_icmp .le 7, 3) := dk_164 0 7 (dk_at dksX4_heard_1 0 rfl rfl)
theorem dX4_heard_25 : decode cX4_heard 25 = .ok (.iconst 1, 1) := dk_4 (dk_at dksX4_heard_1 3 rfl rfl)
theorem dX4_heard_26 : decode cX4_heard 26 = .ok (.goto 4, 3) := dk_167 0 4 (dk_at dksX4_heard_1 4 rfl rfl)
theorem dX4_heard_29 : decode cX4_heard 29 = .ok (.iconst 0, 1) := dk_3 (dk_at dksX4_heard_1 7 rfl rfl)
theorem dX4_heard_30 : decode cX4_heard 30 = .ok (.istore_n 3, 1) := dk_62 (dk_at dksX4_heard_1 8 rfl rfl)
theorem dX4_heard_31 : decode cX4_heard 31 = .ok (.iload_n 3, 1) := dk_29 (dk_at dksX4_heard_1 9 rfl rfl)
theorem dX4_heard_32 : decode cX4_heard 32 = .ok (.iload_n 1, 1) := dk_27 (dk_at dksX4_heard_1 10 rfl rfl)
theorem dX4_heard_33 : decode cX4_heard 33 = .ok (.bipush 50, 2) := dk_16 50 (dk_at dksX4_heard_1 11 rfl rfl)
theorem dX4_heard_35 : decode cX4_heard 35 = .ok (.bipush 70, 2) := dk_16 70 (dk_at dksX4_heard_1 13 rfl rfl)
theorem dX4_heard_37 : decode cX4_heard 37 = .ok (.invokestatic 58, 3) := dk_184 0 58 (dk_at dksX4_heard_1 15 rfl rfl)
theorem dX4_heard_40 : decode cX4_heard 40 = .ok (.ifCond .eq 13, 3) := dk_153 0 13 (dk_at dksX4_heard_1 18 rfl rfl)
theorem dX4_heard_43 : decode cX4_heard 43 = .ok (.iload_n 2, 1) := dk_28 (dk_at dksX4_heard_1 21 rfl rfl)
theorem dX4_heard_44 : decode cX4_heard 44 = .ok (.bipush 20, 2) := dk_16 20 (dk_at dksX4_heard_1 22 rfl rfl)
theorem dX4_heard_46 : decode cX4_heard 46 = .ok (.if_icmp .gt 7, 3) := dk_163 0 7 (dk_at dksX4_heard_2 0 rfl rfl)
theorem dX4_heard_49 : decode cX4_heard 49 = .ok (.iconst 2, 1) := dk_5 (dk_at dksX4_heard_2 3 rfl rfl)
theorem dX4_heard_50 : decode cX4_heard 50 = .ok (.goto 4, 3) := dk_167 0 4 (dk_at dksX4_heard_2 4 rfl rfl)
theorem dX4_heard_53 : decode cX4_heard 53 = .ok (.iconst 0, 1) := dk_3 (dk_at dksX4_heard_2 7 rfl rfl)
theorem dX4_heard_54 : decode cX4_heard 54 = .ok (.ior, 1) := dk_128 (dk_at dksX4_heard_2 8 rfl rfl)
theorem dX4_heard_55 : decode cX4_heard 55 = .ok (.istore_n 3, 1) := dk_62 (dk_at dksX4_heard_2 9 rfl rfl)
theorem dX4_heard_56 : decode cX4_heard 56 = .ok (.iload_n 3, 1) := dk_29 (dk_at dksX4_heard_2 10 rfl rfl)
theorem dX4_heard_57 : decode cX4_heard 57 = .ok (.iload_n 1, 1) := dk_27 (dk_at dksX4_heard_2 11 rfl rfl)
theorem dX4_heard_58 : decode cX4_heard 58 = .ok (.bipush 60, 2) := dk_16 60 (dk_at dksX4_heard_2 12 rfl rfl)
theorem dX4_heard_60 : decode cX4_heard 60 = .ok (.if_icmp .le 13, 3) := dk_164 0 13 (dk_at dksX4_heard_2 14 rfl rfl)
theorem dX4_heard_63 : decode cX4_heard 63 = .ok (.iload_n 2, 1) := dk_28 (dk_at dksX4_heard_2 17 rfl rfl)
theorem dX4_heard_64 : decode cX4_heard 64 = .ok (.bipush 20, 2) := dk_16 20 (dk_at dksX4_heard_2 18 rfl rfl)
theorem dX4_heard_66 : decode cX4_heard 66 = .ok (.if_icmp .le 7, 3) := dk_164 0 7 (dk_at dksX4_heard_2 20 rfl rfl)
theorem dX4_heard_69 : decode cX4_heard 69 = .ok (.iconst 4, 1) := dk_7 (dk_at dksX4_heard_2 23 rfl rfl)
theorem dX4_heard_70 : decode cX4_heard 70 = .ok (.goto 4, 3) := dk_167 0 4 (dk_at dksX4_heard_3 0 rfl rfl)
theorem dX4_heard_73 : decode cX4_heard 73 = .ok (.iconst 0, 1) := dk_3 (dk_at dksX4_heard_3 3 rfl rfl)
theorem dX4_heard_74 : decode cX4_heard 74 = .ok (.ior, 1) := dk_128 (dk_at dksX4_heard_3 4 rfl rfl)
theorem dX4_heard_75 : decode cX4_heard 75 = .ok (.istore_n 3, 1) := dk_62 (dk_at dksX4_heard_3 5 rfl rfl)
theorem dX4_heard_76 : decode cX4_heard 76 = .ok (.iload_n 3, 1) := dk_29 (dk_at dksX4_heard_3 6 rfl rfl)
theorem dX4_heard_77 : decode cX4_heard 77 = .ok (.iload_n 1, 1) := dk_27 (dk_at dksX4_heard_3 7 rfl rfl)
theorem dX4_heard_78 : decode cX4_heard 78 = .ok (.bipush 7, 2) := dk_16 7 (dk_at dksX4_heard_3 8 rfl rfl)
theorem dX4_heard_80 : decode cX4_heard 80 = .ok (.irem, 1) := dk_112 (dk_at dksX4_heard_3 10 rfl rfl)
theorem dX4_heard_81 : decode cX4_heard 81 = .ok (.iconst 3, 1) := dk_6 (dk_at dksX4_heard_3 11 rfl rfl)
theorem dX4_heard_82 : decode cX4_heard 82 = .ok (.if_icmp .ne 8, 3) := dk_160 0 8 (dk_at dksX4_heard_3 12 rfl rfl)
theorem dX4_heard_85 : decode cX4_heard 85 = .ok (.bipush 8, 2) := dk_16 8 (dk_at dksX4_heard_3 15 rfl rfl)
theorem dX4_heard_87 : decode cX4_heard 87 = .ok (.goto 4, 3) := dk_167 0 4 (dk_at dksX4_heard_3 17 rfl rfl)
theorem dX4_heard_90 : decode cX4_heard 90 = .ok (.iconst 0, 1) := dk_3 (dk_at dksX4_heard_3 20 rfl rfl)
theorem dX4_heard_91 : decode cX4_heard 91 = .ok (.ior, 1) := dk_128 (dk_at dksX4_heard_3 21 rfl rfl)
theorem dX4_heard_92 : decode cX4_heard 92 = .ok (.ireturn, 1) := dk_172 (dk_at dksX4_heard_3 22 rfl rfl)
abbrev cX4_nearer : ByteArray := prog_22_method_74_code
def yX4_nearer : MethodName := ⟨RX4, "nearer", "(IIII)J"⟩
def dkwX4_nearer_2 : List UInt8 := [184, 0, 239, 173]
abbrev dktX4_nearer_2 : List UInt8 := dkwX4_nearer_2 ++ []
def dkwX4_nearer_1 : List UInt8 := [184, 0, 58, 154, 0, 7, 20, 0, 229, 173, 42, 27, 28, 29, 182, 0, 231, 29, 184, 0, 235, 21, 4]
abbrev dktX4_nearer_1 : List UInt8 := dkwX4_nearer_1 ++ dktX4_nearer_2
def dkwX4_nearer_0 : List UInt8 := [27, 28, 184, 0, 226, 153, 0, 23, 29, 3, 16, 9, 184, 0, 58, 153, 0, 13, 21, 4, 3, 4]
abbrev dktX4_nearer_0 : List UInt8 := dkwX4_nearer_0 ++ dktX4_nearer_1
theorem dksX4_nearer_0 : cX4_nearer.data.toList.drop 0 = dktX4_nearer_0 := by decide +kernel
theorem dksX4_nearer_1 : cX4_nearer.data.toList.drop 22 = dktX4_nearer_1 := dk_seg dksX4_nearer_0 22 rfl rfl
theorem dksX4_nearer_2 : cX4_nearer.data.toList.drop 45 = dktX4_nearer_2 := dk_seg dksX4_nearer_1 23 rfl rfl
theorem dX4_nearer_0 : decode cX4_nearer 0 = .ok (.iload_n 1, 1) := dk_27 (dk_at dksX4_nearer_0 0 rfl rfl)
theorem dX4_nearer_1 : decode cX4_nearer 1 = .ok (.iload_n 2, 1) := dk_28 (dk_at dksX4_nearer_0 1 rfl rfl)
theorem dX4_nearer_2 : decode cX4_nearer 2 = .ok (.invokestatic 226, 3) := dk_184 0 226 (dk_at dksX4_nearer_0 2 rfl rfl)
theorem dX4_nearer_5 : decode cX4_nearer 5 = .ok (.ifCond .eq 23, 3) := dk_153 0 23 (dk_at dksX4_nearer_0 5 rfl rfl)
theorem dX4_nearer_8 : decode cX4_nearer 8 = .ok (.iload_n 3, 1) := dk_29 (dk_at dksX4_nearer_0 8 rfl rfl)
theorem dX4_nearer_9 : decode cX4_nearer 9 = .ok (.iconst 0, 1) := dk_3 (dk_at dksX4_nearer_0 9 rfl rfl)
theorem dX4_nearer_10 : decode cX4_nearer 10 = .ok (.bipush 9, 2) := dk_16 9 (dk_at dksX4_nearer_0 10 rfl rfl)
theorem dX4_nearer_12 : decode cX4_nearer 12 = .ok (.invokestatic 58, 3) := dk_184 0 58 (dk_at dksX4_nearer_0 12 rfl rfl)
theorem dX4_nearer_15 : decode cX4_nearer 15 = .ok (.ifCond .eq 13, 3) := dk_153 0 13 (dk_at dksX4_nearer_0 15 rfl rfl)
theorem dX4_nearer_18 : decode cX4_nearer 18 = .ok (.iload 4, 2) := dk_21 4 (dk_at dksX4_nearer_0 18 rfl rfl)
theorem dX4_nearer_20 : decode cX4_nearer 20 = .ok (.iconst 0, 1) := dk_3 (dk_at dksX4_nearer_0 20 rfl rfl)
theorem dX4_nearer_21 : decode cX4_nearer 21 = .ok (.iconst 1, 1) := dk_4 (dk_at dksX4_nearer_0 21 rfl rfl)
theorem dX4_nearer_22 : decode cX4_nearer 22 = .ok (.invokestatic 58, 3) := dk_184 0 58 (dk_at dksX4_nearer_1 0 rfl rfl)
theorem dX4_nearer_25 : decode cX4_nearer 25 = .ok (.ifCond .ne 7, 3) := dk_154 0 7 (dk_at dksX4_nearer_1 3 rfl rfl)
theorem dX4_nearer_28 : decode cX4_nearer 28 = .ok (.ldc2_w 229, 3) := dk_20 0 229 (dk_at dksX4_nearer_1 6 rfl rfl)
theorem dX4_nearer_31 : decode cX4_nearer 31 = .ok (.lreturn, 1) := dk_173 (dk_at dksX4_nearer_1 9 rfl rfl)
theorem dX4_nearer_32 : decode cX4_nearer 32 = .ok (.aload_n 0, 1) := dk_42 (dk_at dksX4_nearer_1 10 rfl rfl)
theorem dX4_nearer_33 : decode cX4_nearer 33 = .ok (.iload_n 1, 1) := dk_27 (dk_at dksX4_nearer_1 11 rfl rfl)
theorem dX4_nearer_34 : decode cX4_nearer 34 = .ok (.iload_n 2, 1) := dk_28 (dk_at dksX4_nearer_1 12 rfl rfl)
theorem dX4_nearer_35 : decode cX4_nearer 35 = .ok (.iload_n 3, 1) := dk_29 (dk_at dksX4_nearer_1 13 rfl rfl)
theorem dX4_nearer_36 : decode cX4_nearer 36 = .ok (.invokevirtual 231, 3) := dk_182 0 231 (dk_at dksX4_nearer_1 14 rfl rfl)
theorem dX4_nearer_39 : decode cX4_nearer 39 = .ok (.iload_n 3, 1) := dk_29 (dk_at dksX4_nearer_1 17 rfl rfl)
theorem dX4_nearer_40 : decode cX4_nearer 40 = .ok (.invokestatic 235, 3) := dk_184 0 235 (dk_at dksX4_nearer_1 18 rfl rfl)
theorem dX4_nearer_43 : decode cX4_nearer 43 = .ok (.iload 4, 2) := dk_21 4 (dk_at dksX4_nearer_1 21 rfl rfl)
theorem dX4_nearer_45 : decode cX4_nearer 45 = .ok (.invokestatic 239, 3) := dk_184 0 239 (dk_at dksX4_nearer_2 0 rfl rfl)
theorem dX4_nearer_48 : decode cX4_nearer 48 = .ok (.lreturn, 1) := dk_173 (dk_at dksX4_nearer_2 3 rfl rfl)
abbrev cX4_areOdds : ByteArray := prog_22_method_73_code
def yX4_areOdds : MethodName := ⟨RX4, "areOdds", "(II)Z"⟩
def dkwX4_areOdds_1 : List UInt8 := [16, 100, 108, 27, 16, 100, 112, 96, 16, 10, 163, 0, 7, 4, 167, 0, 4, 3, 172]
abbrev dktX4_areOdds_1 : List UInt8 := dkwX4_areOdds_1 ++ []
def dkwX4_areOdds_0 : List UInt8 := [26, 3, 16, 12, 184, 0, 58, 153, 0, 34, 27, 155, 0, 30, 27, 16, 100, 108, 16, 10, 163, 0, 21, 27]
abbrev dktX4_areOdds_0 : List UInt8 := dkwX4_areOdds_0 ++ dktX4_areOdds_1
theorem dksX4_areOdds_0 : cX4_areOdds.data.toList.drop 0 = dktX4_areOdds_0 := by decide +kernel
theorem dksX4_areOdds_1 : cX4_areOdds.data.toList.drop 24 = dktX4_areOdds_1 := dk_seg dksX4_areOdds_0 24 rfl rfl
theorem dX4_areOdds_0 : decode cX4_areOdds 0 = .ok (.iload_n 0, 1) := dk_26 (dk_at dksX4_areOdds_0 0 rfl rfl)
theorem dX4_areOdds_1 : decode cX4_areOdds 1 = .ok (.iconst 0, 1) := dk_3 (dk_at dksX4_areOdds_0 1 rfl rfl)
theorem dX4_areOdds_2 : decode cX4_areOdds 2 = .ok (.bipush 12, 2) := dk_16 12 (dk_at dksX4_areOdds_0 2 rfl rfl)
theorem dX4_areOdds_4 : decode cX4_areOdds 4 = .ok (.invokestatic 58, 3) := dk_184 0 58 (dk_at dksX4_areOdds_0 4 rfl rfl)
theorem dX4_areOdds_7 : decode cX4_areOdds 7 = .ok (.ifCond .eq 34, 3) := dk_153 0 34 (dk_at dksX4_areOdds_0 7 rfl rfl)
theorem dX4_areOdds_10 : decode cX4_areOdds 10 = .ok (.iload_n 1, 1) := dk_27 (dk_at dksX4_areOdds_0 10 rfl rfl)
theorem dX4_areOdds_11 : decode cX4_areOdds 11 = .ok (.ifCond .lt 30, 3) := dk_155 0 30 (dk_at dksX4_areOdds_0 11 rfl rfl)
theorem dX4_areOdds_14 : decode cX4_areOdds 14 = .ok (.iload_n 1, 1) := dk_27 (dk_at dksX4_areOdds_0 14 rfl rfl)
theorem dX4_areOdds_15 : decode cX4_areOdds 15 = .ok (.bipush 100, 2) := dk_16 100 (dk_at dksX4_areOdds_0 15 rfl rfl)
theorem dX4_areOdds_17 : decode cX4_areOdds 17 = .ok (.idiv, 1) := dk_108 (dk_at dksX4_areOdds_0 17 rfl rfl)
theorem dX4_areOdds_18 : decode cX4_areOdds 18 = .ok (.bipush 10, 2) := dk_16 10 (dk_at dksX4_areOdds_0 18 rfl rfl)
theorem dX4_areOdds_20 : decode cX4_areOdds 20 = .ok (.if_icmp .gt 21, 3) := dk_163 0 21 (dk_at dksX4_areOdds_0 20 rfl rfl)
theorem dX4_areOdds_23 : decode cX4_areOdds 23 = .ok (.iload_n 1, 1) := dk_27 (dk_at dksX4_areOdds_0 23 rfl rfl)
theorem dX4_areOdds_24 : decode cX4_areOdds 24 = .ok (.bipush 100, 2) := dk_16 100 (dk_at dksX4_areOdds_1 0 rfl rfl)
theorem dX4_areOdds_26 : decode cX4_areOdds 26 = .ok (.idiv, 1) := dk_108 (dk_at dksX4_areOdds_1 2 rfl rfl)
theorem dX4_areOdds_27 : decode cX4_areOdds 27 = .ok (.iload_n 1, 1) := dk_27 (dk_at dksX4_areOdds_1 3 rfl rfl)
theorem dX4_areOdds_28 : decode cX4_areOdds 28 = .ok (.bipush 100, 2) := dk_16 100 (dk_at dksX4_areOdds_1 4 rfl rfl)
theorem dX4_areOdds_30 : decode cX4_areOdds 30 = .ok (.irem, 1) := dk_112 (dk_at dksX4_areOdds_1 6 rfl rfl)
theorem dX4_areOdds_31 : decode cX4_areOdds 31 = .ok (.iadd, 1) := dk_96 (dk_at dksX4_areOdds_1 7 rfl rfl)
theorem dX4_areOdds_32 : decode cX4_areOdds 32 = .ok (.bipush 10, 2) := dk_16 10 (dk_at dksX4_areOdds_1 8 rfl rfl)
theorem dX4_areOdds_34 : decode cX4_areOdds 34 = .ok (.if_icmp .gt 7, 3) := dk_163 0 7 (dk_at dksX4_areOdds_1 10 rfl rfl)
theorem dX4_areOdds_37 : decode cX4_areOdds 37 = .ok (.iconst 1, 1) := dk_4 (dk_at dksX4_areOdds_1 13 rfl rfl)
theorem dX4_areOdds_38 : decode cX4_areOdds 38 = .ok (.goto 4, 3) := dk_167 0 4 (dk_at dksX4_areOdds_1 14 rfl rfl)
theorem dX4_areOdds_41 : decode cX4_areOdds 41 = .ok (.iconst 0, 1) := dk_3 (dk_at dksX4_areOdds_1 17 rfl rfl)
theorem dX4_areOdds_42 : decode cX4_areOdds 42 = .ok (.ireturn, 1) := dk_172 (dk_at dksX4_areOdds_1 18 rfl rfl)
abbrev cX4_nearParts : ByteArray := prog_22_method_71_code
def yX4_nearParts : MethodName := ⟨RX4, "nearParts", "(III)J"⟩
def dkwX4_nearParts_10 : List UInt8 := [180, 0, 26, 3, 47, 173]
abbrev dktX4_nearParts_10 : List UInt8 := dkwX4_nearParts_10 ++ []
def dkwX4_nearParts_9 : List UInt8 := [21, 7, 42, 180, 0, 30, 21, 7, 47, 80, 132, 7, 1, 167, 255, 232, 132, 6, 1, 167, 255, 72, 42]
abbrev dktX4_nearParts_9 : List UInt8 := dkwX4_nearParts_9 ++ dktX4_nearParts_10
def dkwX4_nearParts_8 : List UInt8 := [105, 97, 80, 132, 7, 1, 167, 255, 157, 3, 54, 7, 21, 7, 16, 13, 162, 0, 23, 42, 180, 0, 26]
abbrev dktX4_nearParts_8 : List UInt8 := dkwX4_nearParts_8 ++ dktX4_nearParts_9
def dkwX4_nearParts_7 : List UInt8 := [42, 180, 0, 30, 21, 7, 92, 47, 16, 10, 21, 4, 100, 21, 5, 100, 133, 42, 180, 0, 26, 21, 7, 47]
abbrev dktX4_nearParts_7 : List UInt8 := dkwX4_nearParts_7 ++ dktX4_nearParts_8
def dkwX4_nearParts_6 : List UInt8 := [105, 97, 80, 42, 180, 0, 30, 21, 8, 92, 47, 21, 5, 133, 42, 180, 0, 26, 21, 7, 47, 105, 97, 80]
abbrev dktX4_nearParts_6 : List UInt8 := dkwX4_nearParts_6 ++ dktX4_nearParts_7
def dkwX4_nearParts_5 : List UInt8 := [4, 96, 54, 8, 42, 180, 0, 30, 21, 7, 4, 100, 92, 47, 21, 4, 133, 42, 180, 0, 26, 21, 7, 47]
abbrev dktX4_nearParts_5 : List UInt8 := dkwX4_nearParts_5 ++ dktX4_nearParts_6
def dkwX4_nearParts_4 : List UInt8 := [4, 54, 7, 21, 7, 16, 13, 162, 0, 98, 21, 7, 16, 12, 160, 0, 8, 16, 12, 167, 0, 7, 21, 7]
abbrev dktX4_nearParts_4 : List UInt8 := dkwX4_nearParts_4 ++ dktX4_nearParts_5
def dkwX4_nearParts_3 : List UInt8 := [9, 80, 132, 7, 1, 167, 255, 238, 42, 180, 0, 30, 3, 20, 0, 224, 42, 180, 0, 26, 3, 47, 105, 80]
abbrev dktX4_nearParts_3 : List UInt8 := dkwX4_nearParts_3 ++ dktX4_nearParts_4
def dkwX4_nearParts_2 : List UInt8 := [54, 6, 21, 6, 29, 162, 0, 184, 3, 54, 7, 21, 7, 16, 13, 162, 0, 17, 42, 180, 0, 30, 21, 7]
abbrev dktX4_nearParts_2 : List UInt8 := dkwX4_nearParts_2 ++ dktX4_nearParts_3
def dkwX4_nearParts_1 : List UInt8 := [180, 0, 26, 21, 6, 21, 6, 27, 160, 0, 7, 10, 167, 0, 4, 9, 80, 132, 6, 1, 167, 255, 228, 3]
abbrev dktX4_nearParts_1 : List UInt8 := dkwX4_nearParts_1 ++ dktX4_nearParts_2
def dkwX4_nearParts_0 : List UInt8 := [28, 16, 100, 108, 54, 4, 28, 16, 100, 112, 54, 5, 3, 54, 6, 21, 6, 16, 13, 162, 0, 27, 42]
abbrev dktX4_nearParts_0 : List UInt8 := dkwX4_nearParts_0 ++ dktX4_nearParts_1
theorem dksX4_nearParts_0 : cX4_nearParts.data.toList.drop 0 = dktX4_nearParts_0 := by decide +kernel
theorem dksX4_nearParts_1 : cX4_nearParts.data.toList.drop 23 = dktX4_nearParts_1 := dk_seg dksX4_nearParts_0 23 rfl rfl
theorem dksX4_nearParts_2 : cX4_nearParts.data.toList.drop 47 = dktX4_nearParts_2 := dk_seg dksX4_nearParts_1 24 rfl rfl
theorem dksX4_nearParts_3 : cX4_nearParts.data.toList.drop 71 = dktX4_nearParts_3 := dk_seg dksX4_nearParts_2 24 rfl rfl
theorem dksX4_nearParts_4 : cX4_nearParts.data.toList.drop 95 = dktX4_nearParts_4 := dk_seg dksX4_nearParts_3 24 rfl rfl
theorem dksX4_nearParts_5 : cX4_nearParts.data.toList.drop 119 = dktX4_nearParts_5 := dk_seg dksX4_nearParts_4 24 rfl rfl
theorem dksX4_nearParts_6 : cX4_nearParts.data.toList.drop 143 = dktX4_nearParts_6 := dk_seg dksX4_nearParts_5 24 rfl rfl
theorem dksX4_nearParts_7 : cX4_nearParts.data.toList.drop 167 = dktX4_nearParts_7 := dk_seg dksX4_nearParts_6 24 rfl rfl
theorem dksX4_nearParts_8 : cX4_nearParts.data.toList.drop 191 = dktX4_nearParts_8 := dk_seg dksX4_nearParts_7 24 rfl rfl
theorem dksX4_nearParts_9 : cX4_nearParts.data.toList.drop 214 = dktX4_nearParts_9 := dk_seg dksX4_nearParts_8 23 rfl rfl
theorem dksX4_nearParts_10 : cX4_nearParts.data.toList.drop 237 = dktX4_nearParts_10 := dk_seg dksX4_nearParts_9 23 rfl rfl
theorem dX4_nearParts_0 : decode cX4_nearParts 0 = .ok (.iload_n 2, 1) := dk_28 (dk_at dksX4_nearParts_0 0 rfl rfl)
theorem dX4_nearParts_1 : decode cX4_nearParts 1 = .ok (.bipush 100, 2) := dk_16 100 (dk_at dksX4_nearParts_0 1 rfl rfl)
theorem dX4_nearParts_3 : decode cX4_nearParts 3 = .ok (.idiv, 1) := dk_108 (dk_at dksX4_nearParts_0 3 rfl rfl)
theorem dX4_nearParts_4 : decode cX4_nearParts 4 = .ok (.istore 4, 2) := dk_54 4 (dk_at dksX4_nearParts_0 4 rfl rfl)
theorem dX4_nearParts_6 : decode cX4_nearParts 6 = .ok (.iload_n 2, 1) := dk_28 (dk_at dksX4_nearParts_0 6 rfl rfl)
theorem dX4_nearParts_7 : decode cX4_nearParts 7 = .ok (.bipush 100, 2) := dk_16 100 (dk_at dksX4_nearParts_0 7 rfl rfl)
theorem dX4_nearParts_9 : decode cX4_nearParts 9 = .ok (.irem, 1) := dk_112 (dk_at dksX4_nearParts_0 9 rfl rfl)
theorem dX4_nearParts_10 : decode cX4_nearParts 10 = .ok (.istore 5, 2) := dk_54 5 (dk_at dksX4_nearParts_0 10 rfl rfl)
theorem dX4_nearParts_12 : decode cX4_nearParts 12 = .ok (.iconst 0, 1) := dk_3 (dk_at dksX4_nearParts_0 12 rfl rfl)
theorem dX4_nearParts_13 : decode cX4_nearParts 13 = .ok (.istore 6, 2) := dk_54 6 (dk_at dksX4_nearParts_0 13 rfl rfl)
theorem dX4_nearParts_15 : decode cX4_nearParts 15 = .ok (.iload 6, 2) := dk_21 6 (dk_at dksX4_nearParts_0 15 rfl rfl)
theorem dX4_nearParts_17 : decode cX4_nearParts 17 = .ok (.bipush 13, 2) := dk_16 13 (dk_at dksX4_nearParts_0 17 rfl rfl)
theorem dX4_nearParts_19 : decode cX4_nearParts 19 = .ok (.if_icmp .ge 27, 3) := dk_162 0 27 (dk_at dksX4_nearParts_0 19 rfl rfl)
theorem dX4_nearParts_22 : decode cX4_nearParts 22 = .ok (.aload_n 0, 1) := dk_42 (dk_at dksX4_nearParts_0 22 rfl rfl)
theorem dX4_nearParts_23 : decode cX4_nearParts 23 = .ok (.getfield 26, 3) := dk_180 0 26 (dk_at dksX4_nearParts_1 0 rfl rfl)
theorem dX4_nearParts_26 : decode cX4_nearParts 26 = .ok (.iload 6, 2) := dk_21 6 (dk_at dksX4_nearParts_1 3 rfl rfl)
theorem dX4_nearParts_28 : decode cX4_nearParts 28 = .ok (.iload 6, 2) := dk_21 6 (dk_at dksX4_nearParts_1 5 rfl rfl)
theorem dX4_nearParts_30 : decode cX4_nearParts 30 = .ok (.iload_n 1, 1) := dk_27 (dk_at dksX4_nearParts_1 7 rfl rfl)
theorem dX4_nearParts_31 : decode cX4_nearParts 31 = .ok (.if_icmp .ne 7, 3) := dk_160 0 7 (dk_at dksX4_nearParts_1 8 rfl rfl)
theorem dX4_nearParts_34 : decode cX4_nearParts 34 = .ok (.lconst 1, 1) := dk_10 (dk_at dksX4_nearParts_1 11 rfl rfl)
theorem dX4_nearParts_35 : decode cX4_nearParts 35 = .ok (.goto 4, 3) := dk_167 0 4 (dk_at dksX4_nearParts_1 12 rfl rfl)
theorem dX4_nearParts_38 : decode cX4_nearParts 38 = .ok (.lconst 0, 1) := dk_9 (dk_at dksX4_nearParts_1 15 rfl rfl)
theorem dX4_nearParts_39 : decode cX4_nearParts 39 = .ok (.lastore, 1) := dk_80 (dk_at dksX4_nearParts_1 16 rfl rfl)
theorem dX4_nearParts_40 : decode cX4_nearParts 40 = .ok (.iinc 6 1, 3) := dk_132 6 1 (dk_at dksX4_nearParts_1 17 rfl rfl)
theorem dX4_nearParts_43 : decode cX4_nearParts 43 = .ok (.goto (-28), 3) := dk_167 255 228 (dk_at dksX4_nearParts_1 20 rfl rfl)
theorem dX4_nearParts_46 : decode cX4_nearParts 46 = .ok (.iconst 0, 1) := dk_3 (dk_at dksX4_nearParts_1 23 rfl rfl)
theorem dX4_nearParts_47 : decode cX4_nearParts 47 = .ok (.istore 6, 2) := dk_54 6 (dk_at dksX4_nearParts_2 0 rfl rfl)
theorem dX4_nearParts_49 : decode cX4_nearParts 49 = .ok (.iload 6, 2) := dk_21 6 (dk_at dksX4_nearParts_2 2 rfl rfl)
theorem dX4_nearParts_51 : decode cX4_nearParts 51 = .ok (.iload_n 3, 1) := dk_29 (dk_at dksX4_nearParts_2 4 rfl rfl)
theorem dX4_nearParts_52 : decode cX4_nearParts 52 = .ok (.if_icmp .ge 184, 3) := dk_162 0 184 (dk_at dksX4_nearParts_2 5 rfl rfl)
theorem dX4_nearParts_55 : decode cX4_nearParts 55 = .ok (.iconst 0, 1) := dk_3 (dk_at dksX4_nearParts_2 8 rfl rfl)
theorem dX4_nearParts_56 : decode cX4_nearParts 56 = .ok (.istore 7, 2) := dk_54 7 (dk_at dksX4_nearParts_2 9 rfl rfl)
theorem dX4_nearParts_58 : decode cX4_nearParts 58 = .ok (.iload 7, 2) := dk_21 7 (dk_at dksX4_nearParts_2 11 rfl rfl)
theorem dX4_nearParts_60 : decode cX4_nearParts 60 = .ok (.bipush 13, 2) := dk_16 13 (dk_at dksX4_nearParts_2 13 rfl rfl)
theorem dX4_nearParts_62 : decode cX4_nearParts 62 = .ok (.if_icmp .ge 17, 3) := dk_162 0 17 (dk_at dksX4_nearParts_2 15 rfl rfl)
theorem dX4_nearParts_65 : decode cX4_nearParts 65 = .ok (.aload_n 0, 1) := dk_42 (dk_at dksX4_nearParts_2 18 rfl rfl)
theorem dX4_nearParts_66 : decode cX4_nearParts 66 = .ok (.getfield 30, 3) := dk_180 0 30 (dk_at dksX4_nearParts_2 19 rfl rfl)
theorem dX4_nearParts_69 : decode cX4_nearParts 69 = .ok (.iload 7, 2) := dk_21 7 (dk_at dksX4_nearParts_2 22 rfl rfl)
theorem dX4_nearParts_71 : decode cX4_nearParts 71 = .ok (.lconst 0, 1) := dk_9 (dk_at dksX4_nearParts_3 0 rfl rfl)
theorem dX4_nearParts_72 : decode cX4_nearParts 72 = .ok (.lastore, 1) := dk_80 (dk_at dksX4_nearParts_3 1 rfl rfl)
theorem dX4_nearParts_73 : decode cX4_nearParts 73 = .ok (.iinc 7 1, 3) := dk_132 7 1 (dk_at dksX4_nearParts_3 2 rfl rfl)
theorem dX4_nearParts_76 : decode cX4_nearParts 76 = .ok (.goto (-18), 3) := dk_167 255 238 (dk_at dksX4_nearParts_3 5 rfl rfl)
theorem dX4_nearParts_79 : decode cX4_nearParts 79 = .ok (.aload_n 0, 1) := dk_42 (dk_at dksX4_nearParts_3 8 rfl rfl)
theorem dX4_nearParts_80 : decode cX4_nearParts 80 = .ok (.getfield 30, 3) := dk_180 0 30 (dk_at dksX4_nearParts_3 9 rfl rfl)
theorem dX4_nearParts_83 : decode cX4_nearParts 83 = .ok (.iconst 0, 1) := dk_3 (dk_at dksX4_nearParts_3 12 rfl rfl)
theorem dX4_nearParts_84 : decode cX4_nearParts 84 = .ok (.ldc2_w 224, 3) := dk_20 0 224 (dk_at dksX4_nearParts_3 13 rfl rfl)
theorem dX4_nearParts_87 : decode cX4_nearParts 87 = .ok (.aload_n 0, 1) := dk_42 (dk_at dksX4_nearParts_3 16 rfl rfl)
theorem dX4_nearParts_88 : decode cX4_nearParts 88 = .ok (.getfield 26, 3) := dk_180 0 26 (dk_at dksX4_nearParts_3 17 rfl rfl)
theorem dX4_nearParts_91 : decode cX4_nearParts 91 = .ok (.iconst 0, 1) := dk_3 (dk_at dksX4_nearParts_3 20 rfl rfl)
theorem dX4_nearParts_92 : decode cX4_nearParts 92 = .ok (.laload, 1) := dk_47 (dk_at dksX4_nearParts_3 21 rfl rfl)
theorem dX4_nearParts_93 : decode cX4_nearParts 93 = .ok (.lmul, 1) := dk_105 (dk_at dksX4_nearParts_3 22 rfl rfl)
theorem dX4_nearParts_94 : decode cX4_nearParts 94 = .ok (.lastore, 1) := dk_80 (dk_at dksX4_nearParts_3 23 rfl rfl)
theorem dX4_nearParts_95 : decode cX4_nearParts 95 = .ok (.iconst 1, 1) := dk_4 (dk_at dksX4_nearParts_4 0 rfl rfl)
theorem dX4_nearParts_96 : decode cX4_nearParts 96 = .ok (.istore 7, 2) := dk_54 7 (dk_at dksX4_nearParts_4 1 rfl rfl)
theorem dX4_nearParts_98 : decode cX4_nearParts 98 = .ok (.iload 7, 2) := dk_21 7 (dk_at dksX4_nearParts_4 3 rfl rfl)
theorem dX4_nearParts_100 : decode cX4_nearParts 100 = .ok (.bipush 13, 2) := dk_16 13 (dk_at dksX4_nearParts_4 5 rfl rfl)
theorem dX4_nearParts_102 : decode cX4_nearParts 102 = .ok (.if_icmp .ge 98, 3) := dk_162 0 98 (dk_at dksX4_nearParts_4 7 rfl rfl)
theorem dX4_nearParts_105 : decode cX4_nearParts 105 = .ok (.iload 7, 2) := dk_21 7 (dk_at dksX4_nearParts_4 10 rfl rfl)
theorem dX4_nearParts_107 : decode cX4_nearParts 107 = .ok (.bipush 12, 2) := dk_16 12 (dk_at dksX4_nearParts_4 12 rfl rfl)
theorem dX4_nearParts_109 : decode cX4_nearParts 109 = .ok (.if_icmp .ne 8, 3) := dk_160 0 8 (dk_at dksX4_nearParts_4 14 rfl rfl)
theorem dX4_nearParts_112 : decode cX4_nearParts 112 = .ok (.bipush 12, 2) := dk_16 12 (dk_at dksX4_nearParts_4 17 rfl rfl)
theorem dX4_nearParts_114 : decode cX4_nearParts 114 = .ok (.goto 7, 3) := dk_167 0 7 (dk_at dksX4_nearParts_4 19 rfl rfl)
theorem dX4_nearParts_117 : decode cX4_nearParts 117 = .ok (.iload 7, 2) := dk_21 7 (dk_at dksX4_nearParts_4 22 rfl rfl)
theorem dX4_nearParts_119 : decode cX4_nearParts 119 = .ok (.iconst 1, 1) := dk_4 (dk_at dksX4_nearParts_5 0 rfl rfl)
theorem dX4_nearParts_120 : decode cX4_nearParts 120 = .ok (.iadd, 1) := dk_96 (dk_at dksX4_nearParts_5 1 rfl rfl)
theorem dX4_nearParts_121 : decode cX4_nearParts 121 = .ok (.istore 8, 2) := dk_54 8 (dk_at dksX4_nearParts_5 2 rfl rfl)
theorem dX4_nearParts_123 : decode cX4_nearParts 123 = .ok (.aload_n 0, 1) := dk_42 (dk_at dksX4_nearParts_5 4 rfl rfl)
theorem dX4_nearParts_124 : decode cX4_nearParts 124 = .ok (.getfield 30, 3) := dk_180 0 30 (dk_at dksX4_nearParts_5 5 rfl rfl)
theorem dX4_nearParts_127 : decode cX4_nearParts 127 = .ok (.iload 7, 2) := dk_21 7 (dk_at dksX4_nearParts_5 8 rfl rfl)
theorem dX4_nearParts_129 : decode cX4_nearParts 129 = .ok (.iconst 1, 1) := dk_4 (dk_at dksX4_nearParts_5 10 rfl rfl)
theorem dX4_nearParts_130 : decode cX4_nearParts 130 = .ok (.isub, 1) := dk_100 (dk_at dksX4_nearParts_5 11 rfl rfl)
theorem dX4_nearParts_131 : decode cX4_nearParts 131 = .ok (.dup2, 1) := dk_92 (dk_at dksX4_nearParts_5 12 rfl rfl)
theorem dX4_nearParts_132 : decode cX4_nearParts 132 = .ok (.laload, 1) := dk_47 (dk_at dksX4_nearParts_5 13 rfl rfl)
theorem dX4_nearParts_133 : decode cX4_nearParts 133 = .ok (.iload 4, 2) := dk_21 4 (dk_at dksX4_nearParts_5 14 rfl rfl)
theorem dX4_nearParts_135 : decode cX4_nearParts 135 = .ok (.i2l, 1) := dk_133 (dk_at dksX4_nearParts_5 16 rfl rfl)
theorem dX4_nearParts_136 : decode cX4_nearParts 136 = .ok (.aload_n 0, 1) := dk_42 (dk_at dksX4_nearParts_5 17 rfl rfl)
theorem dX4_nearParts_137 : decode cX4_nearParts 137 = .ok (.getfield 26, 3) := dk_180 0 26 (dk_at dksX4_nearParts_5 18 rfl rfl)
theorem dX4_nearParts_140 : decode cX4_nearParts 140 = .ok (.iload 7, 2) := dk_21 7 (dk_at dksX4_nearParts_5 21 rfl rfl)
theorem dX4_nearParts_142 : decode cX4_nearParts 142 = .ok (.laload, 1) := dk_47 (dk_at dksX4_nearParts_5 23 rfl rfl)
theorem dX4_nearParts_143 : decode cX4_nearParts 143 = .ok (.lmul, 1) := dk_105 (dk_at dksX4_nearParts_6 0 rfl rfl)
theorem dX4_nearParts_144 : decode cX4_nearParts 144 = .ok (.ladd, 1) := dk_97 (dk_at dksX4_nearParts_6 1 rfl rfl)
theorem dX4_nearParts_145 : decode cX4_nearParts 145 = .ok (.lastore, 1) := dk_80 (dk_at dksX4_nearParts_6 2 rfl rfl)
theorem dX4_nearParts_146 : decode cX4_nearParts 146 = .ok (.aload_n 0, 1) := dk_42 (dk_at dksX4_nearParts_6 3 rfl rfl)
theorem dX4_nearParts_147 : decode cX4_nearParts 147 = .ok (.getfield 30, 3) := dk_180 0 30 (dk_at dksX4_nearParts_6 4 rfl rfl)
theorem dX4_nearParts_150 : decode cX4_nearParts 150 = .ok (.iload 8, 2) := dk_21 8 (dk_at dksX4_nearParts_6 7 rfl rfl)
theorem dX4_nearParts_152 : decode cX4_nearParts 152 = .ok (.dup2, 1) := dk_92 (dk_at dksX4_nearParts_6 9 rfl rfl)
theorem dX4_nearParts_153 : decode cX4_nearParts 153 = .ok (.laload, 1) := dk_47 (dk_at dksX4_nearParts_6 10 rfl rfl)
theorem dX4_nearParts_154 : decode cX4_nearParts 154 = .ok (.iload 5, 2) := dk_21 5 (dk_at dksX4_nearParts_6 11 rfl rfl)
theorem dX4_nearParts_156 : decode cX4_nearParts 156 = .ok (.i2l, 1) := dk_133 (dk_at dksX4_nearParts_6 13 rfl rfl)
theorem dX4_nearParts_157 : decode cX4_nearParts 157 = .ok (.aload_n 0, 1) := dk_42 (dk_at dksX4_nearParts_6 14 rfl rfl)
theorem dX4_nearParts_158 : decode cX4_nearParts 158 = .ok (.getfield 26, 3) := dk_180 0 26 (dk_at dksX4_nearParts_6 15 rfl rfl)
theorem dX4_nearParts_161 : decode cX4_nearParts 161 = .ok (.iload 7, 2) := dk_21 7 (dk_at dksX4_nearParts_6 18 rfl rfl)
theorem dX4_nearParts_163 : decode cX4_nearParts 163 = .ok (.laload, 1) := dk_47 (dk_at dksX4_nearParts_6 20 rfl rfl)
theorem dX4_nearParts_164 : decode cX4_nearParts 164 = .ok (.lmul, 1) := dk_105 (dk_at dksX4_nearParts_6 21 rfl rfl)
theorem dX4_nearParts_165 : decode cX4_nearParts 165 = .ok (.ladd, 1) := dk_97 (dk_at dksX4_nearParts_6 22 rfl rfl)
theorem dX4_nearParts_166 : decode cX4_nearParts 166 = .ok (.lastore, 1) := dk_80 (dk_at dksX4_nearParts_6 23 rfl rfl)
theorem dX4_nearParts_167 : decode cX4_nearParts 167 = .ok (.aload_n 0, 1) := dk_42 (dk_at dksX4_nearParts_7 0 rfl rfl)
theorem dX4_nearParts_168 : decode cX4_nearParts 168 = .ok (.getfield 30, 3) := dk_180 0 30 (dk_at dksX4_nearParts_7 1 rfl rfl)
theorem dX4_nearParts_171 : decode cX4_nearParts 171 = .ok (.iload 7, 2) := dk_21 7 (dk_at dksX4_nearParts_7 4 rfl rfl)
theorem dX4_nearParts_173 : decode cX4_nearParts 173 = .ok (.dup2, 1) := dk_92 (dk_at dksX4_nearParts_7 6 rfl rfl)
theorem dX4_nearParts_174 : decode cX4_nearParts 174 = .ok (.laload, 1) := dk_47 (dk_at dksX4_nearParts_7 7 rfl rfl)
theorem dX4_nearParts_175 : decode cX4_nearParts 175 = .ok (.bipush 10, 2) := dk_16 10 (dk_at dksX4_nearParts_7 8 rfl rfl)
theorem dX4_nearParts_177 : decode cX4_nearParts 177 = .ok (.iload 4, 2) := dk_21 4 (dk_at dksX4_nearParts_7 10 rfl rfl)
theorem dX4_nearParts_179 : decode cX4_nearParts 179 = .ok (.isub, 1) := dk_100 (dk_at dksX4_nearParts_7 12 rfl rfl)
theorem dX4_nearParts_180 : decode cX4_nearParts 180 = .ok (.iload 5, 2) := dk_21 5 (dk_at dksX4_nearParts_7 13 rfl rfl)
theorem dX4_nearParts_182 : decode cX4_nearParts 182 = .ok (.isub, 1) := dk_100 (dk_at dksX4_nearParts_7 15 rfl rfl)
theorem dX4_nearParts_183 : decode cX4_nearParts 183 = .ok (.i2l, 1) := dk_133 (dk_at dksX4_nearParts_7 16 rfl rfl)
theorem dX4_nearParts_184 : decode cX4_nearParts 184 = .ok (.aload_n 0, 1) := dk_42 (dk_at dksX4_nearParts_7 17 rfl rfl)
theorem dX4_nearParts_185 : decode cX4_nearParts 185 = .ok (.getfield 26, 3) := dk_180 0 26 (dk_at dksX4_nearParts_7 18 rfl rfl)
theorem dX4_nearParts_188 : decode cX4_nearParts 188 = .ok (.iload 7, 2) := dk_21 7 (dk_at dksX4_nearParts_7 21 rfl rfl)
theorem dX4_nearParts_190 : decode cX4_nearParts 190 = .ok (.laload, 1) := dk_47 (dk_at dksX4_nearParts_7 23 rfl rfl)
theorem dX4_nearParts_191 : decode cX4_nearParts 191 = .ok (.lmul, 1) := dk_105 (dk_at dksX4_nearParts_8 0 rfl rfl)
theorem dX4_nearParts_192 : decode cX4_nearParts 192 = .ok (.ladd, 1) := dk_97 (dk_at dksX4_nearParts_8 1 rfl rfl)
theorem dX4_nearParts_193 : decode cX4_nearParts 193 = .ok (.lastore, 1) := dk_80 (dk_at dksX4_nearParts_8 2 rfl rfl)
theorem dX4_nearParts_194 : decode cX4_nearParts 194 = .ok (.iinc 7 1, 3) := dk_132 7 1 (dk_at dksX4_nearParts_8 3 rfl rfl)
theorem dX4_nearParts_197 : decode cX4_nearParts 197 = .ok (.goto (-99), 3) := dk_167 255 157 (dk_at dksX4_nearParts_8 6 rfl rfl)
theorem dX4_nearParts_200 : decode cX4_nearParts 200 = .ok (.iconst 0, 1) := dk_3 (dk_at dksX4_nearParts_8 9 rfl rfl)
theorem dX4_nearParts_201 : decode cX4_nearParts 201 = .ok (.istore 7, 2) := dk_54 7 (dk_at dksX4_nearParts_8 10 rfl rfl)
theorem dX4_nearParts_203 : decode cX4_nearParts 203 = .ok (.iload 7, 2) := dk_21 7 (dk_at dksX4_nearParts_8 12 rfl rfl)
theorem dX4_nearParts_205 : decode cX4_nearParts 205 = .ok (.bipush 13, 2) := dk_16 13 (dk_at dksX4_nearParts_8 14 rfl rfl)
theorem dX4_nearParts_207 : decode cX4_nearParts 207 = .ok (.if_icmp .ge 23, 3) := dk_162 0 23 (dk_at dksX4_nearParts_8 16 rfl rfl)
theorem dX4_nearParts_210 : decode cX4_nearParts 210 = .ok (.aload_n 0, 1) := dk_42 (dk_at dksX4_nearParts_8 19 rfl rfl)
theorem dX4_nearParts_211 : decode cX4_nearParts 211 = .ok (.getfield 26, 3) := dk_180 0 26 (dk_at dksX4_nearParts_8 20 rfl rfl)
theorem dX4_nearParts_214 : decode cX4_nearParts 214 = .ok (.iload 7, 2) := dk_21 7 (dk_at dksX4_nearParts_9 0 rfl rfl)
theorem dX4_nearParts_216 : decode cX4_nearParts 216 = .ok (.aload_n 0, 1) := dk_42 (dk_at dksX4_nearParts_9 2 rfl rfl)
theorem dX4_nearParts_217 : decode cX4_nearParts 217 = .ok (.getfield 30, 3) := dk_180 0 30 (dk_at dksX4_nearParts_9 3 rfl rfl)
theorem dX4_nearParts_220 : decode cX4_nearParts 220 = .ok (.iload 7, 2) := dk_21 7 (dk_at dksX4_nearParts_9 6 rfl rfl)
theorem dX4_nearParts_222 : decode cX4_nearParts 222 = .ok (.laload, 1) := dk_47 (dk_at dksX4_nearParts_9 8 rfl rfl)
theorem dX4_nearParts_223 : decode cX4_nearParts 223 = .ok (.lastore, 1) := dk_80 (dk_at dksX4_nearParts_9 9 rfl rfl)
theorem dX4_nearParts_224 : decode cX4_nearParts 224 = .ok (.iinc 7 1, 3) := dk_132 7 1 (dk_at dksX4_nearParts_9 10 rfl rfl)
theorem dX4_nearParts_227 : decode cX4_nearParts 227 = .ok (.goto (-24), 3) := dk_167 255 232 (dk_at dksX4_nearParts_9 13 rfl rfl)
theorem dX4_nearParts_230 : decode cX4_nearParts 230 = .ok (.iinc 6 1, 3) := dk_132 6 1 (dk_at dksX4_nearParts_9 16 rfl rfl)
theorem dX4_nearParts_233 : decode cX4_nearParts 233 = .ok (.goto (-184), 3) := dk_167 255 72 (dk_at dksX4_nearParts_9 19 rfl rfl)
theorem dX4_nearParts_236 : decode cX4_nearParts 236 = .ok (.aload_n 0, 1) := dk_42 (dk_at dksX4_nearParts_9 22 rfl rfl)
theorem dX4_nearParts_237 : decode cX4_nearParts 237 = .ok (.getfield 26, 3) := dk_180 0 26 (dk_at dksX4_nearParts_10 0 rfl rfl)
theorem dX4_nearParts_240 : decode cX4_nearParts 240 = .ok (.iconst 0, 1) := dk_3 (dk_at dksX4_nearParts_10 3 rfl rfl)
theorem dX4_nearParts_241 : decode cX4_nearParts 241 = .ok (.laload, 1) := dk_47 (dk_at dksX4_nearParts_10 4 rfl rfl)
theorem dX4_nearParts_242 : decode cX4_nearParts 242 = .ok (.lreturn, 1) := dk_173 (dk_at dksX4_nearParts_10 5 rfl rfl)
abbrev cX4_tens : ByteArray := prog_22_method_72_code
def yX4_tens : MethodName := ⟨RX4, "tens", "(I)J"⟩
def dkwX4_tens_0 : List UInt8 := [10, 64, 3, 62, 29, 26, 162, 0, 15, 31, 20, 0, 224, 105, 64, 132, 3, 1, 167, 255, 242, 31, 173]
abbrev dktX4_tens_0 : List UInt8 := dkwX4_tens_0 ++ []
theorem dksX4_tens_0 : cX4_tens.data.toList.drop 0 = dktX4_tens_0 := by decide +kernel
theorem dX4_tens_0 : decode cX4_tens 0 = .ok (.lconst 1, 1) := dk_10 (dk_at dksX4_tens_0 0 rfl rfl)
theorem dX4_tens_1 : decode cX4_tens 1 = .ok (.lstore_n 1, 1) := dk_64 (dk_at dksX4_tens_0 1 rfl rfl)
theorem dX4_tens_2 : decode cX4_tens 2 = .ok (.iconst 0, 1) := dk_3 (dk_at dksX4_tens_0 2 rfl rfl)
theorem dX4_tens_3 : decode cX4_tens 3 = .ok (.istore_n 3, 1) := dk_62 (dk_at dksX4_tens_0 3 rfl rfl)
theorem dX4_tens_4 : decode cX4_tens 4 = .ok (.iload_n 3, 1) := dk_29 (dk_at dksX4_tens_0 4 rfl rfl)
theorem dX4_tens_5 : decode cX4_tens 5 = .ok (.iload_n 0, 1) := dk_26 (dk_at dksX4_tens_0 5 rfl rfl)
theorem dX4_tens_6 : decode cX4_tens 6 = .ok (.if_icmp .ge 15, 3) := dk_162 0 15 (dk_at dksX4_tens_0 6 rfl rfl)
theorem dX4_tens_9 : decode cX4_tens 9 = .ok (.lload_n 1, 1) := dk_31 (dk_at dksX4_tens_0 9 rfl rfl)
theorem dX4_tens_10 : decode cX4_tens 10 = .ok (.ldc2_w 224, 3) := dk_20 0 224 (dk_at dksX4_tens_0 10 rfl rfl)
theorem dX4_tens_13 : decode cX4_tens 13 = .ok (.lmul, 1) := dk_105 (dk_at dksX4_tens_0 13 rfl rfl)
theorem dX4_tens_14 : decode cX4_tens 14 = .ok (.lstore_n 1, 1) := dk_64 (dk_at dksX4_tens_0 14 rfl rfl)
theorem dX4_tens_15 : decode cX4_tens 15 = .ok (.iinc 3 1, 3) := dk_132 3 1 (dk_at dksX4_tens_0 15 rfl rfl)
theorem dX4_tens_18 : decode cX4_tens 18 = .ok (.goto (-14), 3) := dk_167 255 242 (dk_at dksX4_tens_0 18 rfl rfl)
theorem dX4_tens_21 : decode cX4_tens 21 = .ok (.lload_n 1, 1) := dk_31 (dk_at dksX4_tens_0 21 rfl rfl)
theorem dX4_tens_22 : decode cX4_tens 22 = .ok (.lreturn, 1) := dk_173 (dk_at dksX4_tens_0 22 rfl rfl)
abbrev cX4_partOf : ByteArray := prog_22_method_70_code
def yX4_partOf : MethodName := ⟨RX4, "partOf", "(JJI)J"⟩
def dkwX4_partOf_1 : List UInt8 := [184, 0, 220, 109, 173]
abbrev dktX4_partOf_1 : List UInt8 := dkwX4_partOf_1 ++ []
def dkwX4_partOf_0 : List UInt8 := [30, 9, 148, 154, 0, 7, 21, 4, 133, 173, 21, 4, 154, 0, 7, 30, 167, 0, 4, 32, 30, 32]
abbrev dktX4_partOf_0 : List UInt8 := dkwX4_partOf_0 ++ dktX4_partOf_1
theorem dksX4_partOf_0 : cX4_partOf.data.toList.drop 0 = dktX4_partOf_0 := by decide +kernel
theorem dksX4_partOf_1 : cX4_partOf.data.toList.drop 22 = dktX4_partOf_1 := dk_seg dksX4_partOf_0 22 rfl rfl
theorem dX4_partOf_0 : decode cX4_partOf 0 = .ok (.lload_n 0, 1) := dk_30 (dk_at dksX4_partOf_0 0 rfl rfl)
theorem dX4_partOf_1 : decode cX4_partOf 1 = .ok (.lconst 0, 1) := dk_9 (dk_at dksX4_partOf_0 1 rfl rfl)
theorem dX4_partOf_2 : decode cX4_partOf 2 = .ok (.lcmp, 1) := dk_148 (dk_at dksX4_partOf_0 2 rfl rfl)
theorem dX4_partOf_3 : decode cX4_partOf 3 = .ok (.ifCond .ne 7, 3) := dk_154 0 7 (dk_at dksX4_partOf_0 3 rfl rfl)
theorem dX4_partOf_6 : decode cX4_partOf 6 = .ok (.iload 4, 2) := dk_21 4 (dk_at dksX4_partOf_0 6 rfl rfl)
theorem dX4_partOf_8 : decode cX4_partOf 8 = .ok (.i2l, 1) := dk_133 (dk_at dksX4_partOf_0 8 rfl rfl)
theorem dX4_partOf_9 : decode cX4_partOf 9 = .ok (.lreturn, 1) := dk_173 (dk_at dksX4_partOf_0 9 rfl rfl)
theorem dX4_partOf_10 : decode cX4_partOf 10 = .ok (.iload 4, 2) := dk_21 4 (dk_at dksX4_partOf_0 10 rfl rfl)
theorem dX4_partOf_12 : decode cX4_partOf 12 = .ok (.ifCond .ne 7, 3) := dk_154 0 7 (dk_at dksX4_partOf_0 12 rfl rfl)
theorem dX4_partOf_15 : decode cX4_partOf 15 = .ok (.lload_n 0, 1) := dk_30 (dk_at dksX4_partOf_0 15 rfl rfl)
theorem dX4_partOf_16 : decode cX4_partOf 16 = .ok (.goto 4, 3) := dk_167 0 4 (dk_at dksX4_partOf_0 16 rfl rfl)
theorem dX4_partOf_19 : decode cX4_partOf 19 = .ok (.lload_n 2, 1) := dk_32 (dk_at dksX4_partOf_0 19 rfl rfl)
theorem dX4_partOf_20 : decode cX4_partOf 20 = .ok (.lload_n 0, 1) := dk_30 (dk_at dksX4_partOf_0 20 rfl rfl)
theorem dX4_partOf_21 : decode cX4_partOf 21 = .ok (.lload_n 2, 1) := dk_32 (dk_at dksX4_partOf_0 21 rfl rfl)
theorem dX4_partOf_22 : decode cX4_partOf 22 = .ok (.invokestatic 220, 3) := dk_184 0 220 (dk_at dksX4_partOf_1 0 rfl rfl)
theorem dX4_partOf_25 : decode cX4_partOf 25 = .ok (.ldiv, 1) := dk_109 (dk_at dksX4_partOf_1 3 rfl rfl)
theorem dX4_partOf_26 : decode cX4_partOf 26 = .ok (.lreturn, 1) := dk_173 (dk_at dksX4_partOf_1 4 rfl rfl)
abbrev cX4_gcd : ByteArray := prog_22_method_69_code
def yX4_gcd : MethodName := ⟨RX4, "gcd", "(JJ)J"⟩
def dkwX4_gcd_1 : List UInt8 := [22, 8, 55, 6, 167, 255, 234, 22, 4, 173]
abbrev dktX4_gcd_1 : List UInt8 := dkwX4_gcd_1 ++ []
def dkwX4_gcd_0 : List UInt8 := [30, 55, 4, 32, 55, 6, 22, 6, 9, 148, 153, 0, 21, 22, 4, 22, 6, 113, 55, 8, 22, 6, 55, 4]
abbrev dktX4_gcd_0 : List UInt8 := dkwX4_gcd_0 ++ dktX4_gcd_1
theorem dksX4_gcd_0 : cX4_gcd.data.toList.drop 0 = dktX4_gcd_0 := by decide +kernel
theorem dksX4_gcd_1 : cX4_gcd.data.toList.drop 24 = dktX4_gcd_1 := dk_seg dksX4_gcd_0 24 rfl rfl
theorem dX4_gcd_0 : decode cX4_gcd 0 = .ok (.lload_n 0, 1) := dk_30 (dk_at dksX4_gcd_0 0 rfl rfl)
theorem dX4_gcd_1 : decode cX4_gcd 1 = .ok (.lstore 4, 2) := dk_55 4 (dk_at dksX4_gcd_0 1 rfl rfl)
theorem dX4_gcd_3 : decode cX4_gcd 3 = .ok (.lload_n 2, 1) := dk_32 (dk_at dksX4_gcd_0 3 rfl rfl)
theorem dX4_gcd_4 : decode cX4_gcd 4 = .ok (.lstore 6, 2) := dk_55 6 (dk_at dksX4_gcd_0 4 rfl rfl)
theorem dX4_gcd_6 : decode cX4_gcd 6 = .ok (.lload 6, 2) := dk_22 6 (dk_at dksX4_gcd_0 6 rfl rfl)
theorem dX4_gcd_8 : decode cX4_gcd 8 = .ok (.lconst 0, 1) := dk_9 (dk_at dksX4_gcd_0 8 rfl rfl)
theorem dX4_gcd_9 : decode cX4_gcd 9 = .ok (.lcmp, 1) := dk_148 (dk_at dksX4_gcd_0 9 rfl rfl)
theorem dX4_gcd_10 : decode cX4_gcd 10 = .ok (.ifCond .eq 21, 3) := dk_153 0 21 (dk_at dksX4_gcd_0 10 rfl rfl)
theorem dX4_gcd_13 : decode cX4_gcd 13 = .ok (.lload 4, 2) := dk_22 4 (dk_at dksX4_gcd_0 13 rfl rfl)
theorem dX4_gcd_15 : decode cX4_gcd 15 = .ok (.lload 6, 2) := dk_22 6 (dk_at dksX4_gcd_0 15 rfl rfl)
theorem dX4_gcd_17 : decode cX4_gcd 17 = .ok (.lrem, 1) := dk_113 (dk_at dksX4_gcd_0 17 rfl rfl)
theorem dX4_gcd_18 : decode cX4_gcd 18 = .ok (.lstore 8, 2) := dk_55 8 (dk_at dksX4_gcd_0 18 rfl rfl)
theorem dX4_gcd_20 : decode cX4_gcd 20 = .ok (.lload 6, 2) := dk_22 6 (dk_at dksX4_gcd_0 20 rfl rfl)
theorem dX4_gcd_22 : decode cX4_gcd 22 = .ok (.lstore 4, 2) := dk_55 4 (dk_at dksX4_gcd_0 22 rfl rfl)
theorem dX4_gcd_24 : decode cX4_gcd 24 = .ok (.lload 8, 2) := dk_22 8 (dk_at dksX4_gcd_1 0 rfl rfl)
theorem dX4_gcd_26 : decode cX4_gcd 26 = .ok (.lstore 6, 2) := dk_55 6 (dk_at dksX4_gcd_1 2 rfl rfl)
theorem dX4_gcd_28 : decode cX4_gcd 28 = .ok (.goto (-22), 3) := dk_167 255 234 (dk_at dksX4_gcd_1 4 rfl rfl)
theorem dX4_gcd_31 : decode cX4_gcd 31 = .ok (.lload 4, 2) := dk_22 4 (dk_at dksX4_gcd_1 7 rfl rfl)
theorem dX4_gcd_33 : decode cX4_gcd 33 = .ok (.lreturn, 1) := dk_173 (dk_at dksX4_gcd_1 9 rfl rfl)
abbrev cX4_often : ByteArray := prog_22_method_75_code
def yX4_often : MethodName := ⟨RX4, "often", "(II)I"⟩
def dkwX4_often_1 : List UInt8 := [29, 182, 0, 231, 105, 29, 184, 0, 235, 148, 155, 0, 5, 29, 172, 132, 3, 1, 167, 255, 226, 16, 252, 172]
abbrev dktX4_often_1 : List UInt8 := dkwX4_often_1 ++ []
def dkwX4_often_0 : List UInt8 := [27, 28, 184, 0, 226, 154, 0, 5, 2, 172, 3, 62, 29, 16, 10, 162, 0, 30, 20, 0, 243, 42, 27, 28]
abbrev dktX4_often_0 : List UInt8 := dkwX4_often_0 ++ dktX4_often_1
theorem dksX4_often_0 : cX4_often.data.toList.drop 0 = dktX4_often_0 := by decide +kernel
theorem dksX4_often_1 : cX4_often.data.toList.drop 24 = dktX4_often_1 := dk_seg dksX4_often_0 24 rfl rfl
theorem dX4_often_0 : decode cX4_often 0 = .ok (.iload_n 1, 1) := dk_27 (dk_at dksX4_often_0 0 rfl rfl)
theorem dX4_often_1 : decode cX4_often 1 = .ok (.iload_n 2, 1) := dk_28 (dk_at dksX4_often_0 1 rfl rfl)
theorem dX4_often_2 : decode cX4_often 2 = .ok (.invokestatic 226, 3) := dk_184 0 226 (dk_at dksX4_often_0 2 rfl rfl)
theorem dX4_often_5 : decode cX4_often 5 = .ok (.ifCond .ne 5, 3) := dk_154 0 5 (dk_at dksX4_often_0 5 rfl rfl)
theorem dX4_often_8 : decode cX4_often 8 = .ok (.iconst (-1), 1) := dk_2 (dk_at dksX4_often_0 8 rfl rfl)
theorem dX4_often_9 : decode cX4_often 9 = .ok (.ireturn, 1) := dk_172 (dk_at dksX4_often_0 9 rfl rfl)
theorem dX4_often_10 : decode cX4_often 10 = .ok (.iconst 0, 1) := dk_3 (dk_at dksX4_often_0 10 rfl rfl)
theorem dX4_often_11 : decode cX4_often 11 = .ok (.istore_n 3, 1) := dk_62 (dk_at dksX4_often_0 11 rfl rfl)
theorem dX4_often_12 : decode cX4_often 12 = .ok (.iload_n 3, 1) := dk_29 (dk_at dksX4_often_0 12 rfl rfl)
theorem dX4_often_13 : decode cX4_often 13 = .ok (.bipush 10, 2) := dk_16 10 (dk_at dksX4_often_0 13 rfl rfl)
theorem dX4_often_15 : decode cX4_often 15 = .ok (.if_icmp .ge 30, 3) := dk_162 0 30 (dk_at dksX4_often_0 15 rfl rfl)
theorem dX4_often_18 : decode cX4_often 18 = .ok (.ldc2_w 243, 3) := dk_20 0 243 (dk_at dksX4_often_0 18 rfl rfl)
theorem dX4_often_21 : decode cX4_often 21 = .ok (.aload_n 0, 1) := dk_42 (dk_at dksX4_often_0 21 rfl rfl)
theorem dX4_often_22 : decode cX4_often 22 = .ok (.iload_n 1, 1) := dk_27 (dk_at dksX4_often_0 22 rfl rfl)
theorem dX4_often_23 : decode cX4_often 23 = .ok (.iload_n 2, 1) := dk_28 (dk_at dksX4_often_0 23 rfl rfl)
theorem dX4_often_24 : decode cX4_often 24 = .ok (.iload_n 3, 1) := dk_29 (dk_at dksX4_often_1 0 rfl rfl)
theorem dX4_often_25 : decode cX4_often 25 = .ok (.invokevirtual 231, 3) := dk_182 0 231 (dk_at dksX4_often_1 1 rfl rfl)
theorem dX4_often_28 : decode cX4_often 28 = .ok (.lmul, 1) := dk_105 (dk_at dksX4_often_1 4 rfl rfl)
theorem dX4_often_29 : decode cX4_often 29 = .ok (.iload_n 3, 1) := dk_29 (dk_at dksX4_often_1 5 rfl rfl)
theorem dX4_often_30 : decode cX4_often 30 = .ok (.invokestatic 235, 3) := dk_184 0 235 (dk_at dksX4_often_1 6 rfl rfl)
theorem dX4_often_33 : decode cX4_often 33 = .ok (.lcmp, 1) := dk_148 (dk_at dksX4_often_1 9 rfl rfl)
theorem dX4_often_34 : decode cX4_often 34 = .ok (.ifCond .lt 5, 3) := dk_155 0 5 (dk_at dksX4_often_1 10 rfl rfl)
theorem dX4_often_37 : decode cX4_often 37 = .ok (.iload_n 3, 1) := dk_29 (dk_at dksX4_often_1 13 rfl rfl)
theorem dX4_often_38 : decode cX4_often 38 = .ok (.ireturn, 1) := dk_172 (dk_at dksX4_often_1 14 rfl rfl)
theorem dX4_often_39 : decode cX4_often 39 = .ok (.iinc 3 1, 3) := dk_132 3 1 (dk_at dksX4_often_1 15 rfl rfl)
theorem dX4_often_42 : decode cX4_often 42 = .ok (.goto (-30), 3) := dk_167 255 226 (dk_at dksX4_often_1 18 rfl rfl)
theorem dX4_often_45 : decode cX4_often 45 = .ok (.bipush (-4), 2) := dk_16 252 (dk_at dksX4_often_1 21 rfl rfl)
theorem dX4_often_47 : decode cX4_often 47 = .ok (.ireturn, 1) := dk_172 (dk_at dksX4_often_1 23 rfl rfl)
abbrev cX4_answer : ByteArray := prog_22_method_76_code
def yX4_answer : MethodName := ⟨RX4, "answer", "(III)J"⟩
def dkwX4_answer_3 : List UInt8 := [167, 0, 4, 9, 55, 6, 22, 6, 22, 4, 22, 6, 97, 20, 0, 247, 97, 29, 184, 0, 239, 173]
abbrev dktX4_answer_3 : List UInt8 := dkwX4_answer_3 ++ []
def dkwX4_answer_2 : List UInt8 := [167, 0, 4, 9, 55, 4, 28, 4, 160, 0, 9, 20, 0, 224, 167, 0, 14, 28, 154, 0, 9, 20, 0, 245]
abbrev dktX4_answer_2 : List UInt8 := dkwX4_answer_2 ++ dktX4_answer_3
def dkwX4_answer_1 : List UInt8 := [184, 0, 58, 154, 0, 7, 20, 0, 229, 173, 28, 154, 0, 14, 27, 5, 160, 0, 9, 20, 0, 224]
abbrev dktX4_answer_1 : List UInt8 := dkwX4_answer_1 ++ dktX4_answer_2
def dkwX4_answer_0 : List UInt8 := [27, 3, 16, 9, 184, 0, 58, 153, 0, 22, 28, 3, 16, 9, 184, 0, 58, 153, 0, 12, 29, 3, 4]
abbrev dktX4_answer_0 : List UInt8 := dkwX4_answer_0 ++ dktX4_answer_1
theorem dksX4_answer_0 : cX4_answer.data.toList.drop 0 = dktX4_answer_0 := by decide +kernel
theorem dksX4_answer_1 : cX4_answer.data.toList.drop 23 = dktX4_answer_1 := dk_seg dksX4_answer_0 23 rfl rfl
theorem dksX4_answer_2 : cX4_answer.data.toList.drop 45 = dktX4_answer_2 := dk_seg dksX4_answer_1 22 rfl rfl
theorem dksX4_answer_3 : cX4_answer.data.toList.drop 69 = dktX4_answer_3 := dk_seg dksX4_answer_2 24 rfl rfl
theorem dX4_answer_0 : decode cX4_answer 0 = .ok (.iload_n 1, 1) := dk_27 (dk_at dksX4_answer_0 0 rfl rfl)
theorem dX4_answer_1 : decode cX4_answer 1 = .ok (.iconst 0, 1) := dk_3 (dk_at dksX4_answer_0 1 rfl rfl)
theorem dX4_answer_2 : decode cX4_answer 2 = .ok (.bipush 9, 2) := dk_16 9 (dk_at dksX4_answer_0 2 rfl rfl)
theorem dX4_answer_4 : decode cX4_answer 4 = .ok (.invokestatic 58, 3) := dk_184 0 58 (dk_at dksX4_answer_0 4 rfl rfl)
theorem dX4_answer_7 : decode cX4_answer 7 = .ok (.ifCond .eq 22, 3) := dk_153 0 22 (dk_at dksX4_answer_0 7 rfl rfl)
theorem dX4_answer_10 : decode cX4_answer 10 = .ok (.iload_n 2, 1) := dk_28 (dk_at dksX4_answer_0 10 rfl rfl)
theorem dX4_answer_11 : decode cX4_answer 11 = .ok (.iconst 0, 1) := dk_3 (dk_at dksX4_answer_0 11 rfl rfl)
theorem dX4_answer_12 : decode cX4_answer 12 = .ok (.bipush 9, 2) := dk_16 9 (dk_at dksX4_answer_0 12 rfl rfl)
theorem dX4_answer_14 : decode cX4_answer 14 = .ok (.invokestatic 58, 3) := dk_184 0 58 (dk_at dksX4_answer_0 14 rfl rfl)
theorem dX4_answer_17 : decode cX4_answer 17 = .ok (.ifCond .eq 12, 3) := dk_153 0 12 (dk_at dksX4_answer_0 17 rfl rfl)
theorem dX4_answer_20 : decode cX4_answer 20 = .ok (.iload_n 3, 1) := dk_29 (dk_at dksX4_answer_0 20 rfl rfl)
theorem dX4_answer_21 : decode cX4_answer 21 = .ok (.iconst 0, 1) := dk_3 (dk_at dksX4_answer_0 21 rfl rfl)
theorem dX4_answer_22 : decode cX4_answer 22 = .ok (.iconst 1, 1) := dk_4 (dk_at dksX4_answer_0 22 rfl rfl)
theorem dX4_answer_23 : decode cX4_answer 23 = .ok (.invokestatic 58, 3) := dk_184 0 58 (dk_at dksX4_answer_1 0 rfl rfl)
theorem dX4_answer_26 : decode cX4_answer 26 = .ok (.ifCond .ne 7, 3) := dk_154 0 7 (dk_at dksX4_answer_1 3 rfl rfl)
theorem dX4_answer_29 : decode cX4_answer 29 = .ok (.ldc2_w 229, 3) := dk_20 0 229 (dk_at dksX4_answer_1 6 rfl rfl)
theorem dX4_answer_32 : decode cX4_answer 32 = .ok (.lreturn, 1) := dk_173 (dk_at dksX4_answer_1 9 rfl rfl)
theorem dX4_answer_33 : decode cX4_answer 33 = .ok (.iload_n 2, 1) := dk_28 (dk_at dksX4_answer_1 10 rfl rfl)
theorem dX4_answer_34 : decode cX4_answer 34 = .ok (.ifCond .ne 14, 3) := dk_154 0 14 (dk_at dksX4_answer_1 11 rfl rfl)
theorem dX4_answer_37 : decode cX4_answer 37 = .ok (.iload_n 1, 1) := dk_27 (dk_at dksX4_answer_1 14 rfl rfl)
theorem dX4_answer_38 : decode cX4_answer 38 = .ok (.iconst 2, 1) := dk_5 (dk_at dksX4_answer_1 15 rfl rfl)
theorem dX4_answer_39 : decode cX4_answer 39 = .ok (.if_icmp .ne 9, 3) := dk_160 0 9 (dk_at dksX4_answer_1 16 rfl rfl)
theorem dX4_answer_42 : decode cX4_answer 42 = .ok (.ldc2_w 224, 3) := dk_20 0 224 (dk_at dksX4_answer_1 19 rfl rfl)
theorem dX4_answer_45 : decode cX4_answer 45 = .ok (.goto 4, 3) := dk_167 0 4 (dk_at dksX4_answer_2 0 rfl rfl)
theorem dX4_answer_48 : decode cX4_answer 48 = .ok (.lconst 0, 1) := dk_9 (dk_at dksX4_answer_2 3 rfl rfl)
theorem dX4_answer_49 : decode cX4_answer 49 = .ok (.lstore 4, 2) := dk_55 4 (dk_at dksX4_answer_2 4 rfl rfl)
theorem dX4_answer_51 : decode cX4_answer 51 = .ok (.iload_n 2, 1) := dk_28 (dk_at dksX4_answer_2 6 rfl rfl)
theorem dX4_answer_52 : decode cX4_answer 52 = .ok (.iconst 1, 1) := dk_4 (dk_at dksX4_answer_2 7 rfl rfl)
theorem dX4_answer_53 : decode cX4_answer 53 = .ok (.if_icmp .ne 9, 3) := dk_160 0 9 (dk_at dksX4_answer_2 8 rfl rfl)
theorem dX4_answer_56 : decode cX4_answer 56 = .ok (.ldc2_w 224, 3) := dk_20 0 224 (dk_at dksX4_answer_2 11 rfl rfl)
theorem dX4_answer_59 : decode cX4_answer 59 = .ok (.goto 14, 3) := dk_167 0 14 (dk_at dksX4_answer_2 14 rfl rfl)
theorem dX4_answer_62 : decode cX4_answer 62 = .ok (.iload_n 2, 1) := dk_28 (dk_at dksX4_answer_2 17 rfl rfl)
theorem dX4_answer_63 : decode cX4_answer 63 = .ok (.ifCond .ne 9, 3) := dk_154 0 9 (dk_at dksX4_answer_2 18 rfl rfl)
theorem dX4_answer_66 : decode cX4_answer 66 = .ok (.ldc2_w 245, 3) := dk_20 0 245 (dk_at dksX4_answer_2 21 rfl rfl)
theorem dX4_answer_69 : decode cX4_answer 69 = .ok (.goto 4, 3) := dk_167 0 4 (dk_at dksX4_answer_3 0 rfl rfl)
theorem dX4_answer_72 : decode cX4_answer 72 = .ok (.lconst 0, 1) := dk_9 (dk_at dksX4_answer_3 3 rfl rfl)
theorem dX4_answer_73 : decode cX4_answer 73 = .ok (.lstore 6, 2) := dk_55 6 (dk_at dksX4_answer_3 4 rfl rfl)
theorem dX4_answer_75 : decode cX4_answer 75 = .ok (.lload 6, 2) := dk_22 6 (dk_at dksX4_answer_3 6 rfl rfl)
theorem dX4_answer_77 : decode cX4_answer 77 = .ok (.lload 4, 2) := dk_22 4 (dk_at dksX4_answer_3 8 rfl rfl)
theorem dX4_answer_79 : decode cX4_answer 79 = .ok (.lload 6, 2) := dk_22 6 (dk_at dksX4_answer_3 10 rfl rfl)
theorem dX4_answer_81 : decode cX4_answer 81 = .ok (.ladd, 1) := dk_97 (dk_at dksX4_answer_3 12 rfl rfl)
theorem dX4_answer_82 : decode cX4_answer 82 = .ok (.ldc2_w 247, 3) := dk_20 0 247 (dk_at dksX4_answer_3 13 rfl rfl)
theorem dX4_answer_85 : decode cX4_answer 85 = .ok (.ladd, 1) := dk_97 (dk_at dksX4_answer_3 16 rfl rfl)
theorem dX4_answer_86 : decode cX4_answer 86 = .ok (.iload_n 3, 1) := dk_29 (dk_at dksX4_answer_3 17 rfl rfl)
theorem dX4_answer_87 : decode cX4_answer 87 = .ok (.invokestatic 239, 3) := dk_184 0 239 (dk_at dksX4_answer_3 18 rfl rfl)
theorem dX4_answer_90 : decode cX4_answer 90 = .ok (.lreturn, 1) := dk_173 (dk_at dksX4_answer_3 21 rfl rfl)
abbrev cX4_telling : ByteArray := prog_22_method_78_code
def yX4_telling : MethodName := ⟨RX4, "telling", "(IIII)I"⟩
def dkwX4_telling_3 : List UInt8 := [21, 7, 54, 5, 42, 180, 0, 195, 54, 6, 132, 7, 1, 167, 255, 220, 21, 5, 172]
abbrev dktX4_telling_3 : List UInt8 := dkwX4_telling_3 ++ []
def dkwX4_telling_2 : List UInt8 := [21, 7, 6, 162, 0, 36, 42, 27, 28, 29, 21, 7, 182, 0, 249, 21, 6, 163, 0, 6, 167, 0, 13]
abbrev dktX4_telling_2 : List UInt8 := dkwX4_telling_2 ++ dktX4_telling_3
def dkwX4_telling_1 : List UInt8 := [6, 162, 0, 13, 42, 27, 28, 29, 21, 4, 182, 0, 249, 172, 16, 252, 54, 5, 3, 54, 6, 3, 54, 7]
abbrev dktX4_telling_1 : List UInt8 := dkwX4_telling_1 ++ dktX4_telling_2
def dkwX4_telling_0 : List UInt8 := [42, 27, 28, 29, 182, 0, 148, 153, 0, 13, 21, 4, 3, 6, 184, 0, 58, 154, 0, 5, 2, 172, 21, 4]
abbrev dktX4_telling_0 : List UInt8 := dkwX4_telling_0 ++ dktX4_telling_1
theorem dksX4_telling_0 : cX4_telling.data.toList.drop 0 = dktX4_telling_0 := by decide +kernel
theorem dksX4_telling_1 : cX4_telling.data.toList.drop 24 = dktX4_telling_1 := dk_seg dksX4_telling_0 24 rfl rfl
theorem dksX4_telling_2 : cX4_telling.data.toList.drop 48 = dktX4_telling_2 := dk_seg dksX4_telling_1 24 rfl rfl
theorem dksX4_telling_3 : cX4_telling.data.toList.drop 71 = dktX4_telling_3 := dk_seg dksX4_telling_2 23 rfl rfl
theorem dX4_telling_0 : decode cX4_telling 0 = .ok (.aload_n 0, 1) := dk_42 (dk_at dksX4_telling_0 0 rfl rfl)
theorem dX4_telling_1 : decode cX4_telling 1 = .ok (.iload_n 1, 1) := dk_27 (dk_at dksX4_telling_0 1 rfl rfl)
theorem dX4_telling_2 : decode cX4_telling 2 = .ok (.iload_n 2, 1) := dk_28 (dk_at dksX4_telling_0 2 rfl rfl)
theorem dX4_telling_3 : decode cX4_telling 3 = .ok (.iload_n 3, 1) := dk_29 (dk_at dksX4_telling_0 3 rfl rfl)
theorem dX4_telling_4 : decode cX4_telling 4 = .ok (.invokevirtual 148, 3) := dk_182 0 148 (dk_at dksX4_telling_0 4 rfl rfl)
theorem dX4_telling_7 : decode cX4_telling 7 = .ok (.ifCond .eq 13, 3) := dk_153 0 13 (dk_at dksX4_telling_0 7 rfl rfl)
theorem dX4_telling_10 : decode cX4_telling 10 = .ok (.iload 4, 2) := dk_21 4 (dk_at dksX4_telling_0 10 rfl rfl)
theorem dX4_telling_12 : decode cX4_telling 12 = .ok (.iconst 0, 1) := dk_3 (dk_at dksX4_telling_0 12 rfl rfl)
theorem dX4_telling_13 : decode cX4_telling 13 = .ok (.iconst 3, 1) := dk_6 (dk_at dksX4_telling_0 13 rfl rfl)
theorem dX4_telling_14 : decode cX4_telling 14 = .ok (.invokestatic 58, 3) := dk_184 0 58 (dk_at dksX4_telling_0 14 rfl rfl)
theorem dX4_telling_17 : decode cX4_telling 17 = .ok (.ifCond .ne 5, 3) := dk_154 0 5 (dk_at dksX4_telling_0 17 rfl rfl)
theorem dX4_telling_20 : decode cX4_telling 20 = .ok (.iconst (-1), 1) := dk_2 (dk_at dksX4_telling_0 20 rfl rfl)
theorem dX4_telling_21 : decode cX4_telling 21 = .ok (.ireturn, 1) := dk_172 (dk_at dksX4_telling_0 21 rfl rfl)
theorem dX4_telling_22 : decode cX4_telling 22 = .ok (.iload 4, 2) := dk_21 4 (dk_at dksX4_telling_0 22 rfl rfl)
theorem dX4_telling_24 : decode cX4_telling 24 = .ok (.iconst 3, 1) := dk_6 (dk_at dksX4_telling_1 0 rfl rfl)
theorem dX4_telling_25 : decode cX4_telling 25 = .ok (.if_icmp .ge 13, 3) := dk_162 0 13 (dk_at dksX4_telling_1 1 rfl rfl)
theorem dX4_telling_28 : decode cX4_telling 28 = .ok (.aload_n 0, 1) := dk_42 (dk_at dksX4_telling_1 4 rfl rfl)
theorem dX4_telling_29 : decode cX4_telling 29 = .ok (.iload_n 1, 1) := dk_27 (dk_at dksX4_telling_1 5 rfl rfl)
theorem dX4_telling_30 : decode cX4_telling 30 = .ok (.iload_n 2, 1) := dk_28 (dk_at dksX4_telling_1 6 rfl rfl)
theorem dX4_telling_31 : decode cX4_telling 31 = .ok (.iload_n 3, 1) := dk_29 (dk_at dksX4_telling_1 7 rfl rfl)
theorem dX4_telling_32 : decode cX4_telling 32 = .ok (.iload 4, 2) := dk_21 4 (dk_at dksX4_telling_1 8 rfl rfl)
theorem dX4_telling_34 : decode cX4_telling 34 = .ok (.invokevirtual 249, 3) := dk_182 0 249 (dk_at dksX4_telling_1 10 rfl rfl)
theorem dX4_telling_37 : decode cX4_telling 37 = .ok (.ireturn, 1) := dk_172 (dk_at dksX4_telling_1 13 rfl rfl)
theorem dX4_telling_38 : decode cX4_telling 38 = .ok (.bipush (-4), 2) := dk_16 252 (dk_at dksX4_telling_1 14 rfl rfl)
theorem dX4_telling_40 : decode cX4_telling 40 = .ok (.istore 5, 2) := dk_54 5 (dk_at dksX4_telling_1 16 rfl rfl)
theorem dX4_telling_42 : decode cX4_telling 42 = .ok (.iconst 0, 1) := dk_3 (dk_at dksX4_telling_1 18 rfl rfl)
theorem dX4_telling_43 : decode cX4_telling 43 = .ok (.istore 6, 2) := dk_54 6 (dk_at dksX4_telling_1 19 rfl rfl)
theorem dX4_telling_45 : decode cX4_telling 45 = .ok (.iconst 0, 1) := dk_3 (dk_at dksX4_telling_1 21 rfl rfl)
theorem dX4_telling_46 : decode cX4_telling 46 = .ok (.istore 7, 2) := dk_54 7 (dk_at dksX4_telling_1 22 rfl rfl)
theorem dX4_telling_48 : decode cX4_telling 48 = .ok (.iload 7, 2) := dk_21 7 (dk_at dksX4_telling_2 0 rfl rfl)
theorem dX4_telling_50 : decode cX4_telling 50 = .ok (.iconst 3, 1) := dk_6 (dk_at dksX4_telling_2 2 rfl rfl)
theorem dX4_telling_51 : decode cX4_telling 51 = .ok (.if_icmp .ge 36, 3) := dk_162 0 36 (dk_at dksX4_telling_2 3 rfl rfl)
theorem dX4_telling_54 : decode cX4_telling 54 = .ok (.aload_n 0, 1) := dk_42 (dk_at dksX4_telling_2 6 rfl rfl)
theorem dX4_telling_55 : decode cX4_telling 55 = .ok (.iload_n 1, 1) := dk_27 (dk_at dksX4_telling_2 7 rfl rfl)
theorem dX4_telling_56 : decode cX4_telling 56 = .ok (.iload_n 2, 1) := dk_28 (dk_at dksX4_telling_2 8 rfl rfl)
theorem dX4_telling_57 : decode cX4_telling 57 = .ok (.iload_n 3, 1) := dk_29 (dk_at dksX4_telling_2 9 rfl rfl)
theorem dX4_telling_58 : decode cX4_telling 58 = .ok (.iload 7, 2) := dk_21 7 (dk_at dksX4_telling_2 10 rfl rfl)
theorem dX4_telling_60 : decode cX4_telling 60 = .ok (.invokevirtual 249, 3) := dk_182 0 249 (dk_at dksX4_telling_2 12 rfl rfl)
theorem dX4_telling_63 : decode cX4_telling 63 = .ok (.iload 6, 2) := dk_21 6 (dk_at dksX4_telling_2 15 rfl rfl)
theorem dX4_telling_65 : decode cX4_telling 65 = .ok (.if_icmp .gt 6, 3) := dk_163 0 6 (dk_at dksX4_telling_2 17 rfl rfl)
theorem dX4_telling_68 : decode cX4_telling 68 = .ok (.goto 13, 3) := dk_167 0 13 (dk_at dksX4_telling_2 20 rfl rfl)
theorem dX4_telling_71 : decode cX4_telling 71 = .ok (.iload 7, 2) := dk_21 7 (dk_at dksX4_telling_3 0 rfl rfl)
theorem dX4_telling_73 : decode cX4_telling 73 = .ok (.istore 5, 2) := dk_54 5 (dk_at dksX4_telling_3 2 rfl rfl)
theorem dX4_telling_75 : decode cX4_telling 75 = .ok (.aload_n 0, 1) := dk_42 (dk_at dksX4_telling_3 4 rfl rfl)
theorem dX4_telling_76 : decode cX4_telling 76 = .ok (.getfield 195, 3) := dk_180 0 195 (dk_at dksX4_telling_3 5 rfl rfl)
theorem dX4_telling_79 : decode cX4_telling 79 = .ok (.istore 6, 2) := dk_54 6 (dk_at dksX4_telling_3 8 rfl rfl)
theorem dX4_telling_81 : decode cX4_telling 81 = .ok (.iinc 7 1, 3) := dk_132 7 1 (dk_at dksX4_telling_3 10 rfl rfl)
theorem dX4_telling_84 : decode cX4_telling 84 = .ok (.goto (-36), 3) := dk_167 255 220 (dk_at dksX4_telling_3 13 rfl rfl)
theorem dX4_telling_87 : decode cX4_telling 87 = .ok (.iload 5, 2) := dk_21 5 (dk_at dksX4_telling_3 16 rfl rfl)
theorem dX4_telling_89 : decode cX4_telling 89 = .ok (.ireturn, 1) := dk_172 (dk_at dksX4_telling_3 18 rfl rfl)
abbrev cX4_whereBy : ByteArray := prog_22_method_77_code
def yX4_whereBy : MethodName := ⟨RX4, "whereBy", "(IIII)I"⟩
def dkwX4_whereBy_0 : List UInt8 := [42, 21, 4, 181, 0, 19, 42, 27, 28, 29, 182, 0, 198, 42, 6, 181, 0, 19, 42, 180, 0, 195, 172]
abbrev dktX4_whereBy_0 : List UInt8 := dkwX4_whereBy_0 ++ []
theorem dksX4_whereBy_0 : cX4_whereBy.data.toList.drop 0 = dktX4_whereBy_0 := by decide +kernel
theorem dX4_whereBy_0 : decode cX4_whereBy 0 = .ok (.aload_n 0, 1) := dk_42 (dk_at dksX4_whereBy_0 0 rfl rfl)
theorem dX4_whereBy_1 : decode cX4_whereBy 1 = .ok (.iload 4, 2) := dk_21 4 (dk_at dksX4_whereBy_0 1 rfl rfl)
theorem dX4_whereBy_3 : decode cX4_whereBy 3 = .ok (.putfield 19, 3) := dk_181 0 19 (dk_at dksX4_whereBy_0 3 rfl rfl)
theorem dX4_whereBy_6 : decode cX4_whereBy 6 = .ok (.aload_n 0, 1) := dk_42 (dk_at dksX4_whereBy_0 6 rfl rfl)
theorem dX4_whereBy_7 : decode cX4_whereBy 7 = .ok (.iload_n 1, 1) := dk_27 (dk_at dksX4_whereBy_0 7 rfl rfl)
theorem dX4_whereBy_8 : decode cX4_whereBy 8 = .ok (.iload_n 2, 1) := dk_28 (dk_at dksX4_whereBy_0 8 rfl rfl)
theorem dX4_whereBy_9 : decode cX4_whereBy 9 = .ok (.iload_n 3, 1) := dk_29 (dk_at dksX4_whereBy_0 9 rfl rfl)
theorem dX4_whereBy_10 : decode cX4_whereBy 10 = .ok (.invokevirtual 198, 3) := dk_182 0 198 (dk_at dksX4_whereBy_0 10 rfl rfl)
theorem dX4_whereBy_13 : decode cX4_whereBy 13 = .ok (.aload_n 0, 1) := dk_42 (dk_at dksX4_whereBy_0 13 rfl rfl)
theorem dX4_whereBy_14 : decode cX4_whereBy 14 = .ok (.iconst 3, 1) := dk_6 (dk_at dksX4_whereBy_0 14 rfl rfl)
theorem dX4_whereBy_15 : decode cX4_whereBy 15 = .ok (.putfield 19, 3) := dk_181 0 19 (dk_at dksX4_whereBy_0 15 rfl rfl)
theorem dX4_whereBy_18 : decode cX4_whereBy 18 = .ok (.aload_n 0, 1) := dk_42 (dk_at dksX4_whereBy_0 18 rfl rfl)
theorem dX4_whereBy_19 : decode cX4_whereBy 19 = .ok (.getfield 195, 3) := dk_180 0 195 (dk_at dksX4_whereBy_0 19 rfl rfl)
theorem dX4_whereBy_22 : decode cX4_whereBy 22 = .ok (.ireturn, 1) := dk_172 (dk_at dksX4_whereBy_0 22 rfl rfl)
abbrev cX4_odds : ByteArray := prog_22_method_80_code
def yX4_odds : MethodName := ⟨RX4, "odds", "(IIII)J"⟩
def dkwX4_odds_1 : List UInt8 := [42, 27, 28, 29, 182, 0, 198, 42, 180, 0, 195, 133, 42, 28, 182, 0, 252, 133, 21, 4, 184, 0, 239, 173]
abbrev dktX4_odds_1 : List UInt8 := dkwX4_odds_1 ++ []
def dkwX4_odds_0 : List UInt8 := [42, 27, 28, 29, 182, 0, 148, 153, 0, 13, 21, 4, 3, 4, 184, 0, 58, 154, 0, 7, 20, 0, 229, 173]
abbrev dktX4_odds_0 : List UInt8 := dkwX4_odds_0 ++ dktX4_odds_1
theorem dksX4_odds_0 : cX4_odds.data.toList.drop 0 = dktX4_odds_0 := by decide +kernel
theorem dksX4_odds_1 : cX4_odds.data.toList.drop 24 = dktX4_odds_1 := dk_seg dksX4_odds_0 24 rfl rfl
theorem dX4_odds_0 : decode cX4_odds 0 = .ok (.aload_n 0, 1) := dk_42 (dk_at dksX4_odds_0 0 rfl rfl)
theorem dX4_odds_1 : decode cX4_odds 1 = .ok (.iload_n 1, 1) := dk_27 (dk_at dksX4_odds_0 1 rfl rfl)
theorem dX4_odds_2 : decode cX4_odds 2 = .ok (.iload_n 2, 1) := dk_28 (dk_at dksX4_odds_0 2 rfl rfl)
theorem dX4_odds_3 : decode cX4_odds 3 = .ok (.iload_n 3, 1) := dk_29 (dk_at dksX4_odds_0 3 rfl rfl)
theorem dX4_odds_4 : decode cX4_odds 4 = .ok (.invokevirtual 148, 3) := dk_182 0 148 (dk_at dksX4_odds_0 4 rfl rfl)
theorem dX4_odds_7 : decode cX4_odds 7 = .ok (.ifCond .eq 13, 3) := dk_153 0 13 (dk_at dksX4_odds_0 7 rfl rfl)
theorem dX4_odds_10 : decode cX4_odds 10 = .ok (.iload 4, 2) := dk_21 4 (dk_at dksX4_odds_0 10 rfl rfl)
theorem dX4_odds_12 : decode cX4_odds 12 = .ok (.iconst 0, 1) := dk_3 (dk_at dksX4_odds_0 12 rfl rfl)
theorem dX4_odds_13 : decode cX4_odds 13 = .ok (.iconst 1, 1) := dk_4 (dk_at dksX4_odds_0 13 rfl rfl)
theorem dX4_odds_14 : decode cX4_odds 14 = .ok (.invokestatic 58, 3) := dk_184 0 58 (dk_at dksX4_odds_0 14 rfl rfl)
theorem dX4_odds_17 : decode cX4_odds 17 = .ok (.ifCond .ne 7, 3) := dk_154 0 7 (dk_at dksX4_odds_0 17 rfl rfl)
theorem dX4_odds_20 : decode cX4_odds 20 = .ok (.ldc2_w 229, 3) := dk_20 0 229 (dk_at dksX4_odds_0 20 rfl rfl)
theorem dX4_odds_23 : decode cX4_odds 23 = .ok (.lreturn, 1) := dk_173 (dk_at dksX4_odds_0 23 rfl rfl)
theorem dX4_odds_24 : decode cX4_odds 24 = .ok (.aload_n 0, 1) := dk_42 (dk_at dksX4_odds_1 0 rfl rfl)
theorem dX4_odds_25 : decode cX4_odds 25 = .ok (.iload_n 1, 1) := dk_27 (dk_at dksX4_odds_1 1 rfl rfl)
theorem dX4_odds_26 : decode cX4_odds 26 = .ok (.iload_n 2, 1) := dk_28 (dk_at dksX4_odds_1 2 rfl rfl)
theorem dX4_odds_27 : decode cX4_odds 27 = .ok (.iload_n 3, 1) := dk_29 (dk_at dksX4_odds_1 3 rfl rfl)
theorem dX4_odds_28 : decode cX4_odds 28 = .ok (.invokevirtual 198, 3) := dk_182 0 198 (dk_at dksX4_odds_1 4 rfl rfl)
theorem dX4_odds_31 : decode cX4_odds 31 = .ok (.aload_n 0, 1) := dk_42 (dk_at dksX4_odds_1 7 rfl rfl)
theorem dX4_odds_32 : decode cX4_odds 32 = .ok (.getfield 195, 3) := dk_180 0 195 (dk_at dksX4_odds_1 8 rfl rfl)
theorem dX4_odds_35 : decode cX4_odds 35 = .ok (.i2l, 1) := dk_133 (dk_at dksX4_odds_1 11 rfl rfl)
theorem dX4_odds_36 : decode cX4_odds 36 = .ok (.aload_n 0, 1) := dk_42 (dk_at dksX4_odds_1 12 rfl rfl)
theorem dX4_odds_37 : decode cX4_odds 37 = .ok (.iload_n 2, 1) := dk_28 (dk_at dksX4_odds_1 13 rfl rfl)
theorem dX4_odds_38 : decode cX4_odds 38 = .ok (.invokevirtual 252, 3) := dk_182 0 252 (dk_at dksX4_odds_1 14 rfl rfl)
theorem dX4_odds_41 : decode cX4_odds 41 = .ok (.i2l, 1) := dk_133 (dk_at dksX4_odds_1 17 rfl rfl)
theorem dX4_odds_42 : decode cX4_odds 42 = .ok (.iload 4, 2) := dk_21 4 (dk_at dksX4_odds_1 18 rfl rfl)
theorem dX4_odds_44 : decode cX4_odds 44 = .ok (.invokestatic 239, 3) := dk_184 0 239 (dk_at dksX4_odds_1 20 rfl rfl)
theorem dX4_odds_47 : decode cX4_odds 47 = .ok (.lreturn, 1) := dk_173 (dk_at dksX4_odds_1 23 rfl rfl)
abbrev cX4_allPairs : ByteArray := prog_22_method_79_code
def yX4_allPairs : MethodName := ⟨RX4, "allPairs", "(I)I"⟩
def dkwX4_allPairs_0 : List UInt8 := [42, 27, 182, 0, 104, 4, 96, 16, 61, 104, 172]
abbrev dktX4_allPairs_0 : List UInt8 := dkwX4_allPairs_0 ++ []
theorem dksX4_allPairs_0 : cX4_allPairs.data.toList.drop 0 = dktX4_allPairs_0 := by decide +kernel
theorem dX4_allPairs_0 : decode cX4_allPairs 0 = .ok (.aload_n 0, 1) := dk_42 (dk_at dksX4_allPairs_0 0 rfl rfl)
theorem dX4_allPairs_1 : decode cX4_allPairs 1 = .ok (.iload_n 1, 1) := dk_27 (dk_at dksX4_allPairs_0 1 rfl rfl)
theorem dX4_allPairs_2 : decode cX4_allPairs 2 = .ok (.invokevirtual 104, 3) := dk_182 0 104 (dk_at dksX4_allPairs_0 2 rfl rfl)
theorem dX4_allPairs_5 : decode cX4_allPairs 5 = .ok (.iconst 1, 1) := dk_4 (dk_at dksX4_allPairs_0 5 rfl rfl)
theorem dX4_allPairs_6 : decode cX4_allPairs 6 = .ok (.iadd, 1) := dk_96 (dk_at dksX4_allPairs_0 6 rfl rfl)
theorem dX4_allPairs_7 : decode cX4_allPairs 7 = .ok (.bipush 61, 2) := dk_16 61 (dk_at dksX4_allPairs_0 7 rfl rfl)
theorem dX4_allPairs_9 : decode cX4_allPairs 9 = .ok (.imul, 1) := dk_104 (dk_at dksX4_allPairs_0 9 rfl rfl)
theorem dX4_allPairs_10 : decode cX4_allPairs 10 = .ok (.ireturn, 1) := dk_172 (dk_at dksX4_allPairs_0 10 rfl rfl)
abbrev cX4_enough : ByteArray := prog_22_method_81_code
def yX4_enough : MethodName := ⟨RX4, "enough", "(III)I"⟩
def dkwX4_enough_2 : List UInt8 := [132, 4, 1, 167, 255, 228, 16, 252, 172]
abbrev dktX4_enough_2 : List UInt8 := dkwX4_enough_2 ++ []
def dkwX4_enough_1 : List UInt8 := [16, 50, 163, 0, 27, 21, 4, 42, 180, 0, 195, 104, 42, 28, 182, 0, 252, 161, 0, 6, 21, 4, 172]
abbrev dktX4_enough_1 : List UInt8 := dkwX4_enough_1 ++ dktX4_enough_2
def dkwX4_enough_0 : List UInt8 := [42, 27, 28, 29, 182, 0, 148, 154, 0, 5, 2, 172, 42, 27, 28, 29, 182, 0, 198, 4, 54, 4, 21, 4]
abbrev dktX4_enough_0 : List UInt8 := dkwX4_enough_0 ++ dktX4_enough_1
theorem dksX4_enough_0 : cX4_enough.data.toList.drop 0 = dktX4_enough_0 := by decide +kernel
theorem dksX4_enough_1 : cX4_enough.data.toList.drop 24 = dktX4_enough_1 := dk_seg dksX4_enough_0 24 rfl rfl
theorem dksX4_enough_2 : cX4_enough.data.toList.drop 47 = dktX4_enough_2 := dk_seg dksX4_enough_1 23 rfl rfl
theorem dX4_enough_0 : decode cX4_enough 0 = .ok (.aload_n 0, 1) := dk_42 (dk_at dksX4_enough_0 0 rfl rfl)
theorem dX4_enough_1 : decode cX4_enough 1 = .ok (.iload_n 1, 1) := dk_27 (dk_at dksX4_enough_0 1 rfl rfl)
theorem dX4_enough_2 : decode cX4_enough 2 = .ok (.iload_n 2, 1) := dk_28 (dk_at dksX4_enough_0 2 rfl rfl)
theorem dX4_enough_3 : decode cX4_enough 3 = .ok (.iload_n 3, 1) := dk_29 (dk_at dksX4_enough_0 3 rfl rfl)
theorem dX4_enough_4 : decode cX4_enough 4 = .ok (.invokevirtual 148, 3) := dk_182 0 148 (dk_at dksX4_enough_0 4 rfl rfl)
theorem dX4_enough_7 : decode cX4_enough 7 = .ok (.ifCond .ne 5, 3) := dk_154 0 5 (dk_at dksX4_enough_0 7 rfl rfl)
theorem dX4_enough_10 : decode cX4_enough 10 = .ok (.iconst (-1), 1) := dk_2 (dk_at dksX4_enough_0 10 rfl rfl)
theorem dX4_enough_11 : decode cX4_enough 11 = .ok (.ireturn, 1) := dk_172 (dk_at dksX4_enough_0 11 rfl rfl)
theorem dX4_enough_12 : decode cX4_enough 12 = .ok (.aload_n 0, 1) := dk_42 (dk_at dksX4_enough_0 12 rfl rfl)
theorem dX4_enough_13 : decode cX4_enough 13 = .ok (.iload_n 1, 1) := dk_27 (dk_at dksX4_enough_0 13 rfl rfl)
theorem dX4_enough_14 : decode cX4_enough 14 = .ok (.iload_n 2, 1) := dk_28 (dk_at dksX4_enough_0 14 rfl rfl)
theorem dX4_enough_15 : decode cX4_enough 15 = .ok (.iload_n 3, 1) := dk_29 (dk_at dksX4_enough_0 15 rfl rfl)
theorem dX4_enough_16 : decode cX4_enough 16 = .ok (.invokevirtual 198, 3) := dk_182 0 198 (dk_at dksX4_enough_0 16 rfl rfl)
theorem dX4_enough_19 : decode cX4_enough 19 = .ok (.iconst 1, 1) := dk_4 (dk_at dksX4_enough_0 19 rfl rfl)
theorem dX4_enough_20 : decode cX4_enough 20 = .ok (.istore 4, 2) := dk_54 4 (dk_at dksX4_enough_0 20 rfl rfl)
theorem dX4_enough_22 : decode cX4_enough 22 = .ok (.iload 4, 2) := dk_21 4 (dk_at dksX4_enough_0 22 rfl rfl)
theorem dX4_enough_24 : decode cX4_enough 24 = .ok (.bipush 50, 2) := dk_16 50 (dk_at dksX4_enough_1 0 rfl rfl)
theorem dX4_enough_26 : decode cX4_enough 26 = .ok (.if_icmp .gt 27, 3) := dk_163 0 27 (dk_at dksX4_enough_1 2 rfl rfl)
theorem dX4_enough_29 : decode cX4_enough 29 = .ok (.iload 4, 2) := dk_21 4 (dk_at dksX4_enough_1 5 rfl rfl)
theorem dX4_enough_31 : decode cX4_enough 31 = .ok (.aload_n 0, 1) := dk_42 (dk_at dksX4_enough_1 7 rfl rfl)
theorem dX4_enough_32 : decode cX4_enough 32 = .ok (.getfield 195, 3) := dk_180 0 195 (dk_at dksX4_enough_1 8 rfl rfl)
theorem dX4_enough_35 : decode cX4_enough 35 = .ok (.imul, 1) := dk_104 (dk_at dksX4_enough_1 11 rfl rfl)
theorem dX4_enough_36 : decode cX4_enough 36 = .ok (.aload_n 0, 1) := dk_42 (dk_at dksX4_enough_1 12 rfl rfl)
theorem dX4_enough_37 : decode cX4_enough 37 = .ok (.iload_n 2, 1) := dk_28 (dk_at dksX4_enough_1 13 rfl rfl)
theorem dX4_enough_38 : decode cX4_enough 38 = .ok (.invokevirtual 252, 3) := dk_182 0 252 (dk_at dksX4_enough_1 14 rfl rfl)
theorem dX4_enough_41 : decode cX4_enough 41 = .ok (.if_icmp .lt 6, 3) := dk_161 0 6 (dk_at dksX4_enough_1 17 rfl rfl)
theorem dX4_enough_44 : decode cX4_enough 44 = .ok (.iload 4, 2) := dk_21 4 (dk_at dksX4_enough_1 20 rfl rfl)
theorem dX4_enough_46 : decode cX4_enough 46 = .ok (.ireturn, 1) := dk_172 (dk_at dksX4_enough_1 22 rfl rfl)
theorem dX4_enough_47 : decode cX4_enough 47 = .ok (.iinc 4 1, 3) := dk_132 4 1 (dk_at dksX4_enough_2 0 rfl rfl)
theorem dX4_enough_50 : decode cX4_enough 50 = .ok (.goto (-28), 3) := dk_167 255 228 (dk_at dksX4_enough_2 3 rfl rfl)
theorem dX4_enough_53 : decode cX4_enough 53 = .ok (.bipush (-4), 2) := dk_16 252 (dk_at dksX4_enough_2 6 rfl rfl)
theorem dX4_enough_55 : decode cX4_enough 55 = .ok (.ireturn, 1) := dk_172 (dk_at dksX4_enough_2 8 rfl rfl)
abbrev cX4_heap : ByteArray := prog_22_method_83_code
def yX4_heap : MethodName := ⟨RX4, "heap", "(III)I"⟩
def dkwX4_heap_5 : List UInt8 := [21, 5, 167, 0, 5, 21, 6, 172]
abbrev dktX4_heap_5 : List UInt8 := dkwX4_heap_5 ++ []
def dkwX4_heap_4 : List UInt8 := [167, 0, 4, 3, 96, 54, 5, 42, 180, 0, 192, 54, 6, 132, 7, 255, 167, 255, 199, 29, 154, 0, 8]
abbrev dktX4_heap_4 : List UInt8 := dkwX4_heap_4 ++ dktX4_heap_5
def dkwX4_heap_3 : List UInt8 := [46, 182, 0, 255, 54, 8, 21, 8, 154, 0, 6, 16, 252, 172, 21, 5, 21, 8, 4, 160, 0, 7, 4]
abbrev dktX4_heap_3 : List UInt8 := dkwX4_heap_3 ++ dktX4_heap_4
def dkwX4_heap_2 : List UInt8 := [28, 46, 4, 100, 54, 7, 21, 7, 155, 0, 58, 42, 27, 42, 180, 0, 48, 16, 100, 28, 104, 21, 7, 96]
abbrev dktX4_heap_2 : List UInt8 := dkwX4_heap_2 ++ dktX4_heap_3
def dkwX4_heap_1 : List UInt8 := [182, 0, 157, 54, 4, 21, 4, 153, 0, 6, 21, 4, 172, 3, 54, 5, 16, 252, 54, 6, 42, 180, 0, 45]
abbrev dktX4_heap_1 : List UInt8 := dkwX4_heap_1 ++ dktX4_heap_2
def dkwX4_heap_0 : List UInt8 := [42, 27, 182, 0, 69, 153, 0, 12, 29, 3, 4, 184, 0, 58, 154, 0, 5, 2, 172, 42, 28, 2]
abbrev dktX4_heap_0 : List UInt8 := dkwX4_heap_0 ++ dktX4_heap_1
theorem dksX4_heap_0 : cX4_heap.data.toList.drop 0 = dktX4_heap_0 := by decide +kernel
theorem dksX4_heap_1 : cX4_heap.data.toList.drop 22 = dktX4_heap_1 := dk_seg dksX4_heap_0 22 rfl rfl
theorem dksX4_heap_2 : cX4_heap.data.toList.drop 46 = dktX4_heap_2 := dk_seg dksX4_heap_1 24 rfl rfl
theorem dksX4_heap_3 : cX4_heap.data.toList.drop 70 = dktX4_heap_3 := dk_seg dksX4_heap_2 24 rfl rfl
theorem dksX4_heap_4 : cX4_heap.data.toList.drop 93 = dktX4_heap_4 := dk_seg dksX4_heap_3 23 rfl rfl
theorem dksX4_heap_5 : cX4_heap.data.toList.drop 116 = dktX4_heap_5 := dk_seg dksX4_heap_4 23 rfl rfl
theorem dX4_heap_0 : decode cX4_heap 0 = .ok (.aload_n 0, 1) := dk_42 (dk_at dksX4_heap_0 0 rfl rfl)
theorem dX4_heap_1 : decode cX4_heap 1 = .ok (.iload_n 1, 1) := dk_27 (dk_at dksX4_heap_0 1 rfl rfl)
theorem dX4_heap_2 : decode cX4_heap 2 = .ok (.invokevirtual 69, 3) := dk_182 0 69 (dk_at dksX4_heap_0 2 rfl rfl)
theorem dX4_heap_5 : decode cX4_heap 5 = .ok (.ifCond .eq 12, 3) := dk_153 0 12 (dk_at dksX4_heap_0 5 rfl rfl)
theorem dX4_heap_8 : decode cX4_heap 8 = .ok (.iload_n 3, 1) := dk_29 (dk_at dksX4_heap_0 8 rfl rfl)
theorem dX4_heap_9 : decode cX4_heap 9 = .ok (.iconst 0, 1) := dk_3 (dk_at dksX4_heap_0 9 rfl rfl)
theorem dX4_heap_10 : decode cX4_heap 10 = .ok (.iconst 1, 1) := dk_4 (dk_at dksX4_heap_0 10 rfl rfl)
theorem dX4_heap_11 : decode cX4_heap 11 = .ok (.invokestatic 58, 3) := dk_184 0 58 (dk_at dksX4_heap_0 11 rfl rfl)
theorem dX4_heap_14 : decode cX4_heap 14 = .ok (.ifCond .ne 5, 3) := dk_154 0 5 (dk_at dksX4_heap_0 14 rfl rfl)
theorem dX4_heap_17 : decode cX4_heap 17 = .ok (.iconst (-1), 1) := dk_2 (dk_at dksX4_heap_0 17 rfl rfl)
theorem dX4_heap_18 : decode cX4_heap 18 = .ok (.ireturn, 1) := dk_172 (dk_at dksX4_heap_0 18 rfl rfl)
theorem dX4_heap_19 : decode cX4_heap 19 = .ok (.aload_n 0, 1) := dk_42 (dk_at dksX4_heap_0 19 rfl rfl)
theorem dX4_heap_20 : decode cX4_heap 20 = .ok (.iload_n 2, 1) := dk_28 (dk_at dksX4_heap_0 20 rfl rfl)
theorem dX4_heap_21 : decode cX4_heap 21 = .ok (.iconst (-1), 1) := dk_2 (dk_at dksX4_heap_0 21 rfl rfl)
theorem dX4_heap_22 : decode cX4_heap 22 = .ok (.invokevirtual 157, 3) := dk_182 0 157 (dk_at dksX4_heap_1 0 rfl rfl)
theorem dX4_heap_25 : decode cX4_heap 25 = .ok (.istore 4, 2) := dk_54 4 (dk_at dksX4_heap_1 3 rfl rfl)
theorem dX4_heap_27 : decode cX4_heap 27 = .ok (.iload 4, 2) := dk_21 4 (dk_at dksX4_heap_1 5 rfl rfl)
theorem dX4_heap_29 : decode cX4_heap 29 = .ok (.ifCond .eq 6, 3) := dk_153 0 6 (dk_at dksX4_heap_1 7 rfl rfl)
theorem dX4_heap_32 : decode cX4_heap 32 = .ok (.iload 4, 2) := dk_21 4 (dk_at dksX4_heap_1 10 rfl rfl)
theorem dX4_heap_34 : decode cX4_heap 34 = .ok (.ireturn, 1) := dk_172 (dk_at dksX4_heap_1 12 rfl rfl)
theorem dX4_heap_35 : decode cX4_heap 35 = .ok (.iconst 0, 1) := dk_3 (dk_at dksX4_heap_1 13 rfl rfl)
theorem dX4_heap_36 : decode cX4_heap 36 = .ok (.istore 5, 2) := dk_54 5 (dk_at dksX4_heap_1 14 rfl rfl)
theorem dX4_heap_38 : decode cX4_heap 38 = .ok (.bipush (-4), 2) := dk_16 252 (dk_at dksX4_heap_1 16 rfl rfl)
theorem dX4_heap_40 : decode cX4_heap 40 = .ok (.istore 6, 2) := dk_54 6 (dk_at dksX4_heap_1 18 rfl rfl)
theorem dX4_heap_42 : decode cX4_heap 42 = .ok (.aload_n 0, 1) := dk_42 (dk_at dksX4_heap_1 20 rfl rfl)
theorem dX4_heap_43 : decode cX4_heap 43 = .ok (.getfield 45, 3) := dk_180 0 45 (dk_at dksX4_heap_1 21 rfl rfl)
theorem dX4_heap_46 : decode cX4_heap 46 = .ok (.iload_n 2, 1) := dk_28 (dk_at dksX4_heap_2 0 rfl rfl)
theorem dX4_heap_47 : decode cX4_heap 47 = .ok (.iaload, 1) := dk_46 (dk_at dksX4_heap_2 1 rfl rfl)
theorem dX4_heap_48 : decode cX4_heap 48 = .ok (.iconst 1, 1) := dk_4 (dk_at dksX4_heap_2 2 rfl rfl)
theorem dX4_heap_49 : decode cX4_heap 49 = .ok (.isub, 1) := dk_100 (dk_at dksX4_heap_2 3 rfl rfl)
theorem dX4_heap_50 : decode cX4_heap 50 = .ok (.istore 7, 2) := dk_54 7 (dk_at dksX4_heap_2 4 rfl rfl)
theorem dX4_heap_52 : decode cX4_heap 52 = .ok (.iload 7, 2) := dk_21 7 (dk_at dksX4_heap_2 6 rfl rfl)
theorem dX4_heap_54 : decode cX4_heap 54 = .ok (.ifCond .lt 58, 3) := dk_155 0 58 (dk_at dksX4_heap_2 8 rfl rfl)
theorem dX4_heap_57 : decode cX4_heap 57 = .ok (.aload_n 0, 1) := dk_42 (dk_at dksX4_heap_2 11 rfl rfl)
theorem dX4_heap_58 : decode cX4_heap 58 = .ok (.iload_n 1, 1) := dk_27 (dk_at dksX4_heap_2 12 rfl rfl)
theorem dX4_heap_59 : decode cX4_heap 59 = .ok (.aload_n 0, 1) := dk_42 (dk_at dksX4_heap_2 13 rfl rfl)
theorem dX4_heap_60 : decode cX4_heap 60 = .ok (.getfield 48, 3) := dk_180 0 48 (dk_at dksX4_heap_2 14 rfl rfl)
theorem dX4_heap_63 : decode cX4_heap 63 = .ok (.bipush 100, 2) := dk_16 100 (dk_at dksX4_heap_2 17 rfl rfl)
theorem dX4_heap_65 : decode cX4_heap 65 = .ok (.iload_n 2, 1) := dk_28 (dk_at dksX4_heap_2 19 rfl rfl)
theorem dX4_heap_66 : decode cX4_heap 66 = .ok (.imul, 1) := dk_104 (dk_at dksX4_heap_2 20 rfl rfl)
theorem dX4_heap_67 : decode cX4_heap 67 = .ok (.iload 7, 2) := dk_21 7 (dk_at dksX4_heap_2 21 rfl rfl)
theorem dX4_heap_69 : decode cX4_heap 69 = .ok (.iadd, 1) := dk_96 (dk_at dksX4_heap_2 23 rfl rfl)
theorem dX4_heap_70 : decode cX4_heap 70 = .ok (.iaload, 1) := dk_46 (dk_at dksX4_heap_3 0 rfl rfl)
theorem dX4_heap_71 : decode cX4_heap 71 = .ok (.invokevirtual 255, 3) := dk_182 0 255 (dk_at dksX4_heap_3 1 rfl rfl)
theorem dX4_heap_74 : decode cX4_heap 74 = .ok (.istore 8, 2) := dk_54 8 (dk_at dksX4_heap_3 4 rfl rfl)
theorem dX4_heap_76 : decode cX4_heap 76 = .ok (.iload 8, 2) := dk_21 8 (dk_at dksX4_heap_3 6 rfl rfl)
theorem dX4_heap_78 : decode cX4_heap 78 = .ok (.ifCond .ne 6, 3) := dk_154 0 6 (dk_at dksX4_heap_3 8 rfl rfl)
theorem dX4_heap_81 : decode cX4_heap 81 = .ok (.bipush (-4), 2) := dk_16 252 (dk_at dksX4_heap_3 11 rfl rfl)
theorem dX4_heap_83 : decode cX4_heap 83 = .ok (.ireturn, 1) := dk_172 (dk_at dksX4_heap_3 13 rfl rfl)
theorem dX4_heap_84 : decode cX4_heap 84 = .ok (.iload 5, 2) := dk_21 5 (dk_at dksX4_heap_3 14 rfl rfl)
theorem dX4_heap_86 : decode cX4_heap 86 = .ok (.iload 8, 2) := dk_21 8 (dk_at dksX4_heap_3 16 rfl rfl)
theorem dX4_heap_88 : decode cX4_heap 88 = .ok (.iconst 1, 1) := dk_4 (dk_at dksX4_heap_3 18 rfl rfl)
theorem dX4_heap_89 : decode cX4_heap 89 = .ok (.if_icmp .ne 7, 3) := dk_160 0 7 (dk_at dksX4_heap_3 19 rfl rfl)
theorem dX4_heap_92 : decode cX4_heap 92 = .ok (.iconst 1, 1) := dk_4 (dk_at dksX4_heap_3 22 rfl rfl)
theorem dX4_heap_93 : decode cX4_heap 93 = .ok (.goto 4, 3) := dk_167 0 4 (dk_at dksX4_heap_4 0 rfl rfl)
theorem dX4_heap_96 : decode cX4_heap 96 = .ok (.iconst 0, 1) := dk_3 (dk_at dksX4_heap_4 3 rfl rfl)
theorem dX4_heap_97 : decode cX4_heap 97 = .ok (.iadd, 1) := dk_96 (dk_at dksX4_heap_4 4 rfl rfl)
theorem dX4_heap_98 : decode cX4_heap 98 = .ok (.istore 5, 2) := dk_54 5 (dk_at dksX4_heap_4 5 rfl rfl)
theorem dX4_heap_100 : decode cX4_heap 100 = .ok (.aload_n 0, 1) := dk_42 (dk_at dksX4_heap_4 7 rfl rfl)
theorem dX4_heap_101 : decode cX4_heap 101 = .ok (.getfield 192, 3) := dk_180 0 192 (dk_at dksX4_heap_4 8 rfl rfl)
theorem dX4_heap_104 : decode cX4_heap 104 = .ok (.istore 6, 2) := dk_54 6 (dk_at dksX4_heap_4 11 rfl rfl)
theorem dX4_heap_106 : decode cX4_heap 106 = .ok (.iinc 7 (-1), 3) := dk_132 7 255 (dk_at dksX4_heap_4 13 rfl rfl)
theorem dX4_heap_109 : decode cX4_heap 109 = .ok (.goto (-57), 3) := dk_167 255 199 (dk_at dksX4_heap_4 16 rfl rfl)
theorem dX4_heap_112 : decode cX4_heap 112 = .ok (.iload_n 3, 1) := dk_29 (dk_at dksX4_heap_4 19 rfl rfl)
theorem dX4_heap_113 : decode cX4_heap 113 = .ok (.ifCond .ne 8, 3) := dk_154 0 8 (dk_at dksX4_heap_4 20 rfl rfl)
theorem dX4_heap_116 : decode cX4_heap 116 = .ok (.iload 5, 2) := dk_21 5 (dk_at dksX4_heap_5 0 rfl rfl)
theorem dX4_heap_118 : decode cX4_heap 118 = .ok (.goto 5, 3) := dk_167 0 5 (dk_at dksX4_heap_5 2 rfl rfl)
theorem dX4_heap_121 : decode cX4_heap 121 = .ok (.iload 6, 2) := dk_21 6 (dk_at dksX4_heap_5 5 rfl rfl)
theorem dX4_heap_123 : decode cX4_heap 123 = .ok (.ireturn, 1) := dk_172 (dk_at dksX4_heap_5 7 rfl rfl)
abbrev cX4_forcesFor : ByteArray := prog_22_method_82_code
def yX4_forcesFor : MethodName := ⟨RX4, "forcesFor", "(II)I"⟩
def dkwX4_forcesFor_1 : List UInt8 := [28, 159, 0, 6, 167, 0, 12, 132, 3, 1, 42, 21, 4, 181, 0, 192, 132, 4, 255, 167, 255, 225, 29, 172]
abbrev dktX4_forcesFor_1 : List UInt8 := dkwX4_forcesFor_1 ++ []
def dkwX4_forcesFor_0 : List UInt8 := [3, 62, 42, 16, 252, 181, 0, 192, 16, 60, 54, 4, 21, 4, 155, 0, 32, 42, 27, 21, 4, 182, 0, 154]
abbrev dktX4_forcesFor_0 : List UInt8 := dkwX4_forcesFor_0 ++ dktX4_forcesFor_1
theorem dksX4_forcesFor_0 : cX4_forcesFor.data.toList.drop 0 = dktX4_forcesFor_0 := by decide +kernel
theorem dksX4_forcesFor_1 : cX4_forcesFor.data.toList.drop 24 = dktX4_forcesFor_1 := dk_seg dksX4_forcesFor_0 24 rfl rfl
theorem dX4_forcesFor_0 : decode cX4_forcesFor 0 = .ok (.iconst 0, 1) := dk_3 (dk_at dksX4_forcesFor_0 0 rfl rfl)
theorem dX4_forcesFor_1 : decode cX4_forcesFor 1 = .ok (.istore_n 3, 1) := dk_62 (dk_at dksX4_forcesFor_0 1 rfl rfl)
theorem dX4_forcesFor_2 : decode cX4_forcesFor 2 = .ok (.aload_n 0, 1) := dk_42 (dk_at dksX4_forcesFor_0 2 rfl rfl)
theorem dX4_forcesFor_3 : decode cX4_forcesFor 3 = .ok (.bipush (-4), 2) := dk_16 252 (dk_at dksX4_forcesFor_0 3 rfl rfl)
theorem dX4_forcesFor_5 : decode cX4_forcesFor 5 = .ok (.putfield 192, 3) := dk_181 0 192 (dk_at dksX4_forcesFor_0 5 rfl rfl)
theorem dX4_forcesFor_8 : decode cX4_forcesFor 8 = .ok (.bipush 60, 2) := dk_16 60 (dk_at dksX4_forcesFor_0 8 rfl rfl)
theorem dX4_forcesFor_10 : decode cX4_forcesFor 10 = .ok (.istore 4, 2) := dk_54 4 (dk_at dksX4_forcesFor_0 10 rfl rfl)
theorem dX4_forcesFor_12 : decode cX4_forcesFor 12 = .ok (.iload 4, 2) := dk_21 4 (dk_at dksX4_forcesFor_0 12 rfl rfl)
theorem dX4_forcesFor_14 : decode cX4_forcesFor 14 = .ok (.ifCond .lt 32, 3) := dk_155 0 32 (dk_at dksX4_forcesFor_0 14 rfl rfl)
theorem dX4_forcesFor_17 : decode cX4_forcesFor 17 = .ok (.aload_n 0, 1) := dk_42 (dk_at dksX4_forcesFor_0 17 rfl rfl)
theorem dX4_forcesFor_18 : decode cX4_forcesFor 18 = .ok (.iload_n 1, 1) := dk_27 (dk_at dksX4_forcesFor_0 18 rfl rfl)
theorem dX4_forcesFor_19 : decode cX4_forcesFor 19 = .ok (.iload 4, 2) := dk_21 4 (dk_at dksX4_forcesFor_0 19 rfl rfl)
theorem dX4_forcesFor_21 : decode cX4_forcesFor 21 = .ok (.invokevirtual 154, 3) := dk_182 0 154 (dk_at dksX4_forcesFor_0 21 rfl rfl)
theorem dX4_forcesFor_24 : decode cX4_forcesFor 24 = .ok (.iload_n 2, 1) := dk_28 (dk_at dksX4_forcesFor_1 0 rfl rfl)
theorem dX4_forcesFor_25 : decode cX4_forcesFor 25 = .ok (.if_icmp .eq 6, 3) := dk_159 0 6 (dk_at dksX4_forcesFor_1 1 rfl rfl)
theorem dX4_forcesFor_28 : decode cX4_forcesFor 28 = .ok (.goto 12, 3) := dk_167 0 12 (dk_at dksX4_forcesFor_1 4 rfl rfl)
theorem dX4_forcesFor_31 : decode cX4_forcesFor 31 = .ok (.iinc 3 1, 3) := dk_132 3 1 (dk_at dksX4_forcesFor_1 7 rfl rfl)
theorem dX4_forcesFor_34 : decode cX4_forcesFor 34 = .ok (.aload_n 0, 1) := dk_42 (dk_at dksX4_forcesFor_1 10 rfl rfl)
theorem dX4_forcesFor_35 : decode cX4_forcesFor 35 = .ok (.iload 4, 2) := dk_21 4 (dk_at dksX4_forcesFor_1 11 rfl rfl)
theorem dX4_forcesFor_37 : decode cX4_forcesFor 37 = .ok (.putfield 192, 3) := dk_181 0 192 (dk_at dksX4_forcesFor_1 13 rfl rfl)
theorem dX4_forcesFor_40 : decode cX4_forcesFor 40 = .ok (.iinc 4 (-1), 3) := dk_132 4 255 (dk_at dksX4_forcesFor_1 16 rfl rfl)
theorem dX4_forcesFor_43 : decode cX4_forcesFor 43 = .ok (.goto (-31), 3) := dk_167 255 225 (dk_at dksX4_forcesFor_1 19 rfl rfl)
theorem dX4_forcesFor_46 : decode cX4_forcesFor 46 = .ok (.iload_n 3, 1) := dk_29 (dk_at dksX4_forcesFor_1 22 rfl rfl)
theorem dX4_forcesFor_47 : decode cX4_forcesFor 47 = .ok (.ireturn, 1) := dk_172 (dk_at dksX4_forcesFor_1 23 rfl rfl)
abbrev cX4_forged : ByteArray := prog_22_method_84_code
def yX4_forged : MethodName := ⟨RX4, "forged", "(II)I"⟩
def dkwX4_forged_2 : List UInt8 := [21, 4, 96, 46, 182, 0, 255, 154, 0, 6, 21, 4, 172, 132, 4, 1, 167, 255, 219, 16, 252, 172]
abbrev dktX4_forged_2 : List UInt8 := dkwX4_forged_2 ++ []
def dkwX4_forged_1 : List UInt8 := [54, 4, 21, 4, 42, 180, 0, 45, 28, 46, 162, 0, 32, 42, 27, 42, 180, 0, 48, 16, 100, 28, 104]
abbrev dktX4_forged_1 : List UInt8 := dkwX4_forged_1 ++ dktX4_forged_2
def dkwX4_forged_0 : List UInt8 := [42, 27, 182, 0, 69, 154, 0, 5, 2, 172, 42, 28, 2, 182, 0, 157, 62, 29, 153, 0, 5, 29, 172, 3]
abbrev dktX4_forged_0 : List UInt8 := dkwX4_forged_0 ++ dktX4_forged_1
theorem dksX4_forged_0 : cX4_forged.data.toList.drop 0 = dktX4_forged_0 := by decide +kernel
theorem dksX4_forged_1 : cX4_forged.data.toList.drop 24 = dktX4_forged_1 := dk_seg dksX4_forged_0 24 rfl rfl
theorem dksX4_forged_2 : cX4_forged.data.toList.drop 47 = dktX4_forged_2 := dk_seg dksX4_forged_1 23 rfl rfl
theorem dX4_forged_0 : decode cX4_forged 0 = .ok (.aload_n 0, 1) := dk_42 (dk_at dksX4_forged_0 0 rfl rfl)
theorem dX4_forged_1 : decode cX4_forged 1 = .ok (.iload_n 1, 1) := dk_27 (dk_at dksX4_forged_0 1 rfl rfl)
theorem dX4_forged_2 : decode cX4_forged 2 = .ok (.invokevirtual 69, 3) := dk_182 0 69 (dk_at dksX4_forged_0 2 rfl rfl)
theorem dX4_forged_5 : decode cX4_forged 5 = .ok (.ifCond .ne 5, 3) := dk_154 0 5 (dk_at dksX4_forged_0 5 rfl rfl)
theorem dX4_forged_8 : decode cX4_forged 8 = .ok (.iconst (-1), 1) := dk_2 (dk_at dksX4_forged_0 8 rfl rfl)
theorem dX4_forged_9 : decode cX4_forged 9 = .ok (.ireturn, 1) := dk_172 (dk_at dksX4_forged_0 9 rfl rfl)
theorem dX4_forged_10 : decode cX4_forged 10 = .ok (.aload_n 0, 1) := dk_42 (dk_at dksX4_forged_0 10 rfl rfl)
theorem dX4_forged_11 : decode cX4_forged 11 = .ok (.iload_n 2, 1) := dk_28 (dk_at dksX4_forged_0 11 rfl rfl)
theorem dX4_forged_12 : decode cX4_forged 12 = .ok (.iconst (-1), 1) := dk_2 (dk_at dksX4_forged_0 12 rfl rfl)
theorem dX4_forged_13 : decode cX4_forged 13 = .ok (.invokevirtual 157, 3) := dk_182 0 157 (dk_at dksX4_forged_0 13 rfl rfl)
theorem dX4_forged_16 : decode cX4_forged 16 = .ok (.istore_n 3, 1) := dk_62 (dk_at dksX4_forged_0 16 rfl rfl)
theorem dX4_forged_17 : decode cX4_forged 17 = .ok (.iload_n 3, 1) := dk_29 (dk_at dksX4_forged_0 17 rfl rfl)
theorem dX4_forged_18 : decode cX4_forged 18 = .ok (.ifCond .eq 5, 3) := dk_153 0 5 (dk_at dksX4_forged_0 18 rfl rfl)
theorem dX4_forged_21 : decode cX4_forged 21 = .ok (.iload_n 3, 1) := dk_29 (dk_at dksX4_forged_0 21 rfl rfl)
theorem dX4_forged_22 : decode cX4_forged 22 = .ok (.ireturn, 1) := dk_172 (dk_at dksX4_forged_0 22 rfl rfl)
theorem dX4_forged_23 : decode cX4_forged 23 = .ok (.iconst 0, 1) := dk_3 (dk_at dksX4_forged_0 23 rfl rfl)
theorem dX4_forged_24 : decode cX4_forged 24 = .ok (.istore 4, 2) := dk_54 4 (dk_at dksX4_forged_1 0 rfl rfl)
theorem dX4_forged_26 : decode cX4_forged 26 = .ok (.iload 4, 2) := dk_21 4 (dk_at dksX4_forged_1 2 rfl rfl)
theorem dX4_forged_28 : decode cX4_forged 28 = .ok (.aload_n 0, 1) := dk_42 (dk_at dksX4_forged_1 4 rfl rfl)
theorem dX4_forged_29 : decode cX4_forged 29 = .ok (.getfield 45, 3) := dk_180 0 45 (dk_at dksX4_forged_1 5 rfl rfl)
theorem dX4_forged_32 : decode cX4_forged 32 = .ok (.iload_n 2, 1) := dk_28 (dk_at dksX4_forged_1 8 rfl rfl)
theorem dX4_forged_33 : decode cX4_forged 33 = .ok (.iaload, 1) := dk_46 (dk_at dksX4_forged_1 9 rfl rfl)
theorem dX4_forged_34 : decode cX4_forged 34 = .ok (.if_icmp .ge 32, 3) := dk_162 0 32 (dk_at dksX4_forged_1 10 rfl rfl)
theorem dX4_forged_37 : decode cX4_forged 37 = .ok (.aload_n 0, 1) := dk_42 (dk_at dksX4_forged_1 13 rfl rfl)
theorem dX4_forged_38 : decode cX4_forged 38 = .ok (.iload_n 1, 1) := dk_27 (dk_at dksX4_forged_1 14 rfl rfl)
theorem dX4_forged_39 : decode cX4_forged 39 = .ok (.aload_n 0, 1) := dk_42 (dk_at dksX4_forged_1 15 rfl rfl)
theorem dX4_forged_40 : decode cX4_forged 40 = .ok (.getfield 48, 3) := dk_180 0 48 (dk_at dksX4_forged_1 16 rfl rfl)
theorem dX4_forged_43 : decode cX4_forged 43 = .ok (.bipush 100, 2) := dk_16 100 (dk_at dksX4_forged_1 19 rfl rfl)
theorem dX4_forged_45 : decode cX4_forged 45 = .ok (.iload_n 2, 1) := dk_28 (dk_at dksX4_forged_1 21 rfl rfl)
theorem dX4_forged_46 : decode cX4_forged 46 = .ok (.imul, 1) := dk_104 (dk_at dksX4_forged_1 22 rfl rfl)
theorem dX4_forged_47 : decode cX4_forged 47 = .ok (.iload 4, 2) := dk_21 4 (dk_at dksX4_forged_2 0 rfl rfl)
theorem dX4_forged_49 : decode cX4_forged 49 = .ok (.iadd, 1) := dk_96 (dk_at dksX4_forged_2 2 rfl rfl)
theorem dX4_forged_50 : decode cX4_forged 50 = .ok (.iaload, 1) := dk_46 (dk_at dksX4_forged_2 3 rfl rfl)
theorem dX4_forged_51 : decode cX4_forged 51 = .ok (.invokevirtual 255, 3) := dk_182 0 255 (dk_at dksX4_forged_2 4 rfl rfl)
theorem dX4_forged_54 : decode cX4_forged 54 = .ok (.ifCond .ne 6, 3) := dk_154 0 6 (dk_at dksX4_forged_2 7 rfl rfl)
theorem dX4_forged_57 : decode cX4_forged 57 = .ok (.iload 4, 2) := dk_21 4 (dk_at dksX4_forged_2 10 rfl rfl)
theorem dX4_forged_59 : decode cX4_forged 59 = .ok (.ireturn, 1) := dk_172 (dk_at dksX4_forged_2 12 rfl rfl)
theorem dX4_forged_60 : decode cX4_forged 60 = .ok (.iinc 4 1, 3) := dk_132 4 1 (dk_at dksX4_forged_2 13 rfl rfl)
theorem dX4_forged_63 : decode cX4_forged 63 = .ok (.goto (-37), 3) := dk_167 255 219 (dk_at dksX4_forged_2 16 rfl rfl)
theorem dX4_forged_66 : decode cX4_forged 66 = .ok (.bipush (-4), 2) := dk_16 252 (dk_at dksX4_forged_2 19 rfl rfl)
theorem dX4_forged_68 : decode cX4_forged 68 = .ok (.ireturn, 1) := dk_172 (dk_at dksX4_forged_2 21 rfl rfl)
abbrev cX4_remainder : ByteArray := prog_22_method_85_code
def yX4_remainder : MethodName := ⟨RX4, "remainder", "(III)I"⟩
def dkwX4_remainder_4 : List UInt8 := [96, 46, 42, 180, 0, 48, 16, 100, 27, 104, 29, 96, 46, 112, 172]
abbrev dktX4_remainder_4 : List UInt8 := dkwX4_remainder_4 ++ []
def dkwX4_remainder_3 : List UInt8 := [54, 4, 21, 4, 153, 0, 11, 18, 204, 21, 4, 100, 167, 0, 26, 42, 180, 0, 48, 16, 100, 27, 104, 28]
abbrev dktX4_remainder_3 : List UInt8 := dkwX4_remainder_3 ++ dktX4_remainder_4
def dkwX4_remainder_2 : List UInt8 := [54, 4, 21, 4, 154, 0, 21, 42, 180, 0, 48, 16, 100, 27, 104, 29, 96, 46, 154, 0, 7, 16, 240]
abbrev dktX4_remainder_2 : List UInt8 := dkwX4_remainder_2 ++ dktX4_remainder_3
def dkwX4_remainder_1 : List UInt8 := [184, 0, 58, 153, 0, 19, 29, 3, 42, 180, 0, 45, 27, 46, 4, 100, 184, 0, 58, 154, 0, 7, 16, 243]
abbrev dktX4_remainder_1 : List UInt8 := dkwX4_remainder_1 ++ dktX4_remainder_2
def dkwX4_remainder_0 : List UInt8 := [42, 27, 2, 182, 0, 157, 54, 4, 21, 4, 154, 0, 39, 28, 3, 42, 180, 0, 45, 27, 46, 4, 100]
abbrev dktX4_remainder_0 : List UInt8 := dkwX4_remainder_0 ++ dktX4_remainder_1
theorem dksX4_remainder_0 : cX4_remainder.data.toList.drop 0 = dktX4_remainder_0 := by decide +kernel
theorem dksX4_remainder_1 : cX4_remainder.data.toList.drop 23 = dktX4_remainder_1 := dk_seg dksX4_remainder_0 23 rfl rfl
theorem dksX4_remainder_2 : cX4_remainder.data.toList.drop 47 = dktX4_remainder_2 := dk_seg dksX4_remainder_1 24 rfl rfl
theorem dksX4_remainder_3 : cX4_remainder.data.toList.drop 70 = dktX4_remainder_3 := dk_seg dksX4_remainder_2 23 rfl rfl
theorem dksX4_remainder_4 : cX4_remainder.data.toList.drop 94 = dktX4_remainder_4 := dk_seg dksX4_remainder_3 24 rfl rfl
theorem dX4_remainder_0 : decode cX4_remainder 0 = .ok (.aload_n 0, 1) := dk_42 (dk_at dksX4_remainder_0 0 rfl rfl)
theorem dX4_remainder_1 : decode cX4_remainder 1 = .ok (.iload_n 1, 1) := dk_27 (dk_at dksX4_remainder_0 1 rfl rfl)
theorem dX4_remainder_2 : decode cX4_remainder 2 = .ok (.iconst (-1), 1) := dk_2 (dk_at dksX4_remainder_0 2 rfl rfl)
theorem dX4_remainder_3 : decode cX4_remainder 3 = .ok (.invokevirtual 157, 3) := dk_182 0 157 (dk_at dksX4_remainder_0 3 rfl rfl)
theorem dX4_remainder_6 : decode cX4_remainder 6 = .ok (.istore 4, 2) := dk_54 4 (dk_at dksX4_remainder_0 6 rfl rfl)
theorem dX4_remainder_8 : decode cX4_remainder 8 = .ok (.iload 4, 2) := dk_21 4 (dk_at dksX4_remainder_0 8 rfl rfl)
theorem dX4_remainder_10 : decode cX4_remainder 10 = .ok (.ifCond .ne 39, 3) := dk_154 0 39 (dk_at dksX4_remainder_0 10 rfl rfl)
theorem dX4_remainder_13 : decode cX4_remainder 13 = .ok (.iload_n 2, 1) := dk_28 (dk_at dksX4_remainder_0 13 rfl rfl)
theorem dX4_remainder_14 : decode cX4_remainder 14 = .ok (.iconst 0, 1) := dk_3 (dk_at dksX4_remainder_0 14 rfl rfl)
theorem dX4_remainder_15 : decode cX4_remainder 15 = .ok (.aload_n 0, 1) := dk_42 (dk_at dksX4_remainder_0 15 rfl rfl)
theorem dX4_remainder_16 : decode cX4_remainder 16 = .ok (.getfield 45, 3) := dk_180 0 45 (dk_at dksX4_remainder_0 16 rfl rfl)
theorem dX4_remainder_19 : decode cX4_remainder 19 = .ok (.iload_n 1, 1) := dk_27 (dk_at dksX4_remainder_0 19 rfl rfl)
theorem dX4_remainder_20 : decode cX4_remainder 20 = .ok (.iaload, 1) := dk_46 (dk_at dksX4_remainder_0 20 rfl rfl)
theorem dX4_remainder_21 : decode cX4_remainder 21 = .ok (.iconst 1, 1) := dk_4 (dk_at dksX4_remainder_0 21 rfl rfl)
theorem dX4_remainder_22 : decode cX4_remainder 22 = .ok (.isub, 1) := dk_100 (dk_at dksX4_remainder_0 22 rfl rfl)
theorem dX4_remainder_23 : decode cX4_remainder 23 = .ok (.invokestatic 58, 3) := dk_184 0 58 (dk_at dksX4_remainder_1 0 rfl rfl)
theorem dX4_remainder_26 : decode cX4_remainder 26 = .ok (.ifCond .eq 19, 3) := dk_153 0 19 (dk_at dksX4_remainder_1 3 rfl rfl)
theorem dX4_remainder_29 : decode cX4_remainder 29 = .ok (.iload_n 3, 1) := dk_29 (dk_at dksX4_remainder_1 6 rfl rfl)
theorem dX4_remainder_30 : decode cX4_remainder 30 = .ok (.iconst 0, 1) := dk_3 (dk_at dksX4_remainder_1 7 rfl rfl)
theorem dX4_remainder_31 : decode cX4_remainder 31 = .ok (.aload_n 0, 1) := dk_42 (dk_at dksX4_remainder_1 8 rfl rfl)
theorem dX4_remainder_32 : decode cX4_remainder 32 = .ok (.getfield 45, 3) := dk_180 0 45 (dk_at dksX4_remainder_1 9 rfl rfl)
theorem dX4_remainder_35 : decode cX4_remainder 35 = .ok (.iload_n 1, 1) := dk_27 (dk_at dksX4_remainder_1 12 rfl rfl)
theorem dX4_remainder_36 : decode cX4_remainder 36 = .ok (.iaload, 1) := dk_46 (dk_at dksX4_remainder_1 13 rfl rfl)
theorem dX4_remainder_37 : decode cX4_remainder 37 = .ok (.iconst 1, 1) := dk_4 (dk_at dksX4_remainder_1 14 rfl rfl)
theorem dX4_remainder_38 : decode cX4_remainder 38 = .ok (.isub, 1) := dk_100 (dk_at dksX4_remainder_1 15 rfl rfl)
theorem dX4_remainder_39 : decode cX4_remainder 39 = .ok (.invokestatic 58, 3) := dk_184 0 58 (dk_at dksX4_remainder_1 16 rfl rfl)
theorem dX4_remainder_42 : decode cX4_remainder 42 = .ok (.ifCond .ne 7, 3) := dk_154 0 7 (dk_at dksX4_remainder_1 19 rfl rfl)
theorem dX4_remainder_45 : decode cX4_remainder 45 = .ok (.bipush (-13), 2) := dk_16 243 (dk_at dksX4_remainder_1 22 rfl rfl)
theorem dX4_remainder_47 : decode cX4_remainder 47 = .ok (.istore 4, 2) := dk_54 4 (dk_at dksX4_remainder_2 0 rfl rfl)
theorem dX4_remainder_49 : decode cX4_remainder 49 = .ok (.iload 4, 2) := dk_21 4 (dk_at dksX4_remainder_2 2 rfl rfl)
theorem dX4_remainder_51 : decode cX4_remainder 51 = .ok (.ifCond .ne 21, 3) := dk_154 0 21 (dk_at dksX4_remainder_2 4 rfl rfl)
theorem dX4_remainder_54 : decode cX4_remainder 54 = .ok (.aload_n 0, 1) := dk_42 (dk_at dksX4_remainder_2 7 rfl rfl)
theorem dX4_remainder_55 : decode cX4_remainder 55 = .ok (.getfield 48, 3) := dk_180 0 48 (dk_at dksX4_remainder_2 8 rfl rfl)
theorem dX4_remainder_58 : decode cX4_remainder 58 = .ok (.bipush 100, 2) := dk_16 100 (dk_at dksX4_remainder_2 11 rfl rfl)
theorem dX4_remainder_60 : decode cX4_remainder 60 = .ok (.iload_n 1, 1) := dk_27 (dk_at dksX4_remainder_2 13 rfl rfl)
theorem dX4_remainder_61 : decode cX4_remainder 61 = .ok (.imul, 1) := dk_104 (dk_at dksX4_remainder_2 14 rfl rfl)
theorem dX4_remainder_62 : decode cX4_remainder 62 = .ok (.iload_n 3, 1) := dk_29 (dk_at dksX4_remainder_2 15 rfl rfl)
theorem dX4_remainder_63 : decode cX4_remainder 63 = .ok (.iadd, 1) := dk_96 (dk_at dksX4_remainder_2 16 rfl rfl)
theorem dX4_remainder_64 : decode cX4_remainder 64 = .ok (.iaload, 1) := dk_46 (dk_at dksX4_remainder_2 17 rfl rfl)
theorem dX4_remainder_65 : decode cX4_remainder 65 = .ok (.ifCond .ne 7, 3) := dk_154 0 7 (dk_at dksX4_remainder_2 18 rfl rfl)
theorem dX4_remainder_68 : decode cX4_remainder 68 = .ok (.bipush (-16), 2) := dk_16 240 (dk_at dksX4_remainder_2 21 rfl rfl)
theorem dX4_remainder_70 : decode cX4_remainder 70 = .ok (.istore 4, 2) := dk_54 4 (dk_at dksX4_remainder_3 0 rfl rfl)
theorem dX4_remainder_72 : decode cX4_remainder 72 = .ok (.iload 4, 2) := dk_21 4 (dk_at dksX4_remainder_3 2 rfl rfl)
theorem dX4_remainder_74 : decode cX4_remainder 74 = .ok (.ifCond .eq 11, 3) := dk_153 0 11 (dk_at dksX4_remainder_3 4 rfl rfl)
theorem dX4_remainder_77 : decode cX4_remainder 77 = .ok (.ldc 204, 2) := dk_18 204 (dk_at dksX4_remainder_3 7 rfl rfl)
theorem dX4_remainder_79 : decode cX4_remainder 79 = .ok (.iload 4, 2) := dk_21 4 (dk_at dksX4_remainder_3 9 rfl rfl)
theorem dX4_remainder_81 : decode cX4_remainder 81 = .ok (.isub, 1) := dk_100 (dk_at dksX4_remainder_3 11 rfl rfl)
theorem dX4_remainder_82 : decode cX4_remainder 82 = .ok (.goto 26, 3) := dk_167 0 26 (dk_at dksX4_remainder_3 12 rfl rfl)
theorem dX4_remainder_85 : decode cX4_remainder 85 = .ok (.aload_n 0, 1) := dk_42 (dk_at dksX4_remainder_3 15 rfl rfl)
theorem dX4_remainder_86 : decode cX4_remainder 86 = .ok (.getfield 48, 3) := dk_180 0 48 (dk_at dksX4_remainder_3 16 rfl rfl)
theorem dX4_remainder_89 : decode cX4_remainder 89 = .ok (.bipush 100, 2) := dk_16 100 (dk_at dksX4_remainder_3 19 rfl rfl)
theorem dX4_remainder_91 : decode cX4_remainder 91 = .ok (.iload_n 1, 1) := dk_27 (dk_at dksX4_remainder_3 21 rfl rfl)
theorem dX4_remainder_92 : decode cX4_remainder 92 = .ok (.imul, 1) := dk_104 (dk_at dksX4_remainder_3 22 rfl rfl)
theorem dX4_remainder_93 : decode cX4_remainder 93 = .ok (.iload_n 2, 1) := dk_28 (dk_at dksX4_remainder_3 23 rfl rfl)
theorem dX4_remainder_94 : decode cX4_remainder 94 = .ok (.iadd, 1) := dk_96 (dk_at dksX4_remainder_4 0 rfl rfl)
theorem dX4_remainder_95 : decode cX4_remainder 95 = .ok (.iaload, 1) := dk_46 (dk_at dksX4_remainder_4 1 rfl rfl)
theorem dX4_remainder_96 : decode cX4_remainder 96 = .ok (.aload_n 0, 1) := dk_42 (dk_at dksX4_remainder_4 2 rfl rfl)
theorem dX4_remainder_97 : decode cX4_remainder 97 = .ok (.getfield 48, 3) := dk_180 0 48 (dk_at dksX4_remainder_4 3 rfl rfl)
theorem dX4_remainder_100 : decode cX4_remainder 100 = .ok (.bipush 100, 2) := dk_16 100 (dk_at dksX4_remainder_4 6 rfl rfl)
theorem dX4_remainder_102 : decode cX4_remainder 102 = .ok (.iload_n 1, 1) := dk_27 (dk_at dksX4_remainder_4 8 rfl rfl)
theorem dX4_remainder_103 : decode cX4_remainder 103 = .ok (.imul, 1) := dk_104 (dk_at dksX4_remainder_4 9 rfl rfl)
theorem dX4_remainder_104 : decode cX4_remainder 104 = .ok (.iload_n 3, 1) := dk_29 (dk_at dksX4_remainder_4 10 rfl rfl)
theorem dX4_remainder_105 : decode cX4_remainder 105 = .ok (.iadd, 1) := dk_96 (dk_at dksX4_remainder_4 11 rfl rfl)
theorem dX4_remainder_106 : decode cX4_remainder 106 = .ok (.iaload, 1) := dk_46 (dk_at dksX4_remainder_4 12 rfl rfl)
theorem dX4_remainder_107 : decode cX4_remainder 107 = .ok (.irem, 1) := dk_112 (dk_at dksX4_remainder_4 13 rfl rfl)
theorem dX4_remainder_108 : decode cX4_remainder 108 = .ok (.ireturn, 1) := dk_172 (dk_at dksX4_remainder_4 14 rfl rfl)
abbrev cX4_judge : ByteArray := prog_22_method_87_code
def yX4_judge : MethodName := ⟨RX4, "judge", "(IIII)I"⟩
def dkwX4_judge_16 : List UInt8 := [167, 255, 48, 16, 252, 172]
abbrev dktX4_judge_16 : List UInt8 := dkwX4_judge_16 ++ []
def dkwX4_judge_15 : List UInt8 := [42, 180, 0, 48, 16, 100, 29, 104, 21, 9, 96, 46, 21, 12, 159, 0, 6, 21, 9, 172, 132, 9, 1]
abbrev dktX4_judge_15 : List UInt8 := dkwX4_judge_15 ++ dktX4_judge_16
def dkwX4_judge_14 : List UInt8 := [42, 180, 0, 48, 16, 100, 29, 104, 21, 9, 96, 46, 42, 180, 0, 42, 29, 46, 184, 1, 6, 159, 0, 23]
abbrev dktX4_judge_14 : List UInt8 := dkwX4_judge_14 ++ dktX4_judge_15
def dkwX4_judge_13 : List UInt8 := [54, 12, 21, 8, 21, 11, 153, 0, 7, 3, 167, 0, 11, 42, 21, 7, 21, 10, 182, 0, 154, 96, 54, 8]
abbrev dktX4_judge_13 : List UInt8 := dkwX4_judge_13 ++ dktX4_judge_14
def dkwX4_judge_12 : List UInt8 := [167, 0, 24, 42, 21, 5, 21, 6, 21, 7, 28, 21, 10, 182, 0, 181, 153, 0, 7, 4, 167, 0, 4, 3]
abbrev dktX4_judge_12 : List UInt8 := dkwX4_judge_12 ++ dktX4_judge_13
def dkwX4_judge_11 : List UInt8 := [21, 5, 5, 182, 0, 72, 96, 164, 0, 7, 4, 167, 0, 4, 3, 54, 11, 21, 11, 153, 0, 7, 5]
abbrev dktX4_judge_11 : List UInt8 := dkwX4_judge_11 ++ dktX4_judge_12
def dkwX4_judge_10 : List UInt8 := [180, 0, 48, 16, 100, 21, 4, 104, 21, 9, 96, 46, 54, 10, 21, 8, 42, 21, 5, 4, 182, 0, 72, 42]
abbrev dktX4_judge_10 : List UInt8 := dkwX4_judge_10 ++ dktX4_judge_11
def dkwX4_judge_9 : List UInt8 := [160, 0, 6, 167, 0, 158, 21, 9, 42, 180, 0, 45, 21, 4, 46, 161, 0, 6, 21, 9, 172, 42]
abbrev dktX4_judge_9 : List UInt8 := dkwX4_judge_9 ++ dktX4_judge_10
def dkwX4_judge_8 : List UInt8 := [161, 0, 30, 42, 180, 0, 48, 16, 100, 29, 104, 21, 9, 96, 46, 42, 180, 0, 42, 29, 46, 184, 1, 6]
abbrev dktX4_judge_8 : List UInt8 := dkwX4_judge_8 ++ dktX4_judge_9
def dkwX4_judge_7 : List UInt8 := [3, 54, 9, 21, 9, 42, 180, 0, 45, 29, 46, 162, 0, 203, 21, 9, 42, 180, 0, 45, 21, 4, 46]
abbrev dktX4_judge_7 : List UInt8 := dkwX4_judge_7 ++ dktX4_judge_8
def dkwX4_judge_6 : List UInt8 := [184, 0, 174, 154, 0, 6, 16, 243, 172, 132, 8, 1, 167, 255, 219, 42, 21, 5, 6, 182, 0, 72, 54, 8]
abbrev dktX4_judge_6 : List UInt8 := dkwX4_judge_6 ++ dktX4_judge_7
def dkwX4_judge_5 : List UInt8 := [180, 0, 45, 21, 4, 46, 162, 0, 31, 42, 180, 0, 48, 16, 100, 21, 4, 104, 21, 8, 96, 46]
abbrev dktX4_judge_5 : List UInt8 := dkwX4_judge_5 ++ dktX4_judge_6
def dkwX4_judge_4 : List UInt8 := [160, 0, 14, 42, 180, 0, 33, 21, 4, 46, 5, 159, 0, 6, 16, 244, 172, 3, 54, 8, 21, 8, 42]
abbrev dktX4_judge_4 : List UInt8 := dkwX4_judge_4 ++ dktX4_judge_5
def dkwX4_judge_3 : List UInt8 := [153, 0, 13, 42, 180, 0, 33, 21, 4, 46, 154, 0, 6, 16, 245, 172, 42, 180, 0, 33, 29, 46, 5]
abbrev dktX4_judge_3 : List UInt8 := dkwX4_judge_3 ++ dktX4_judge_4
def dkwX4_judge_2 : List UInt8 := [184, 1, 3, 153, 0, 11, 21, 4, 184, 1, 3, 154, 0, 5, 2, 172, 42, 180, 0, 33, 29, 46]
abbrev dktX4_judge_2 : List UInt8 := dkwX4_judge_2 ++ dktX4_judge_3
def dkwX4_judge_1 : List UInt8 := [155, 0, 38, 42, 21, 5, 21, 6, 21, 7, 182, 0, 148, 153, 0, 25, 28, 184, 0, 174, 153, 0, 18, 29]
abbrev dktX4_judge_1 : List UInt8 := dkwX4_judge_1 ++ dktX4_judge_2
def dkwX4_judge_0 : List UInt8 := [27, 16, 100, 108, 54, 5, 27, 16, 10, 108, 16, 10, 112, 54, 6, 27, 16, 10, 112, 54, 7, 27]
abbrev dktX4_judge_0 : List UInt8 := dkwX4_judge_0 ++ dktX4_judge_1
theorem dksX4_judge_0 : cX4_judge.data.toList.drop 0 = dktX4_judge_0 := by decide +kernel
theorem dksX4_judge_1 : cX4_judge.data.toList.drop 22 = dktX4_judge_1 := dk_seg dksX4_judge_0 22 rfl rfl
theorem dksX4_judge_2 : cX4_judge.data.toList.drop 46 = dktX4_judge_2 := dk_seg dksX4_judge_1 24 rfl rfl
theorem dksX4_judge_3 : cX4_judge.data.toList.drop 68 = dktX4_judge_3 := dk_seg dksX4_judge_2 22 rfl rfl
theorem dksX4_judge_4 : cX4_judge.data.toList.drop 91 = dktX4_judge_4 := dk_seg dksX4_judge_3 23 rfl rfl
theorem dksX4_judge_5 : cX4_judge.data.toList.drop 114 = dktX4_judge_5 := dk_seg dksX4_judge_4 23 rfl rfl
theorem dksX4_judge_6 : cX4_judge.data.toList.drop 136 = dktX4_judge_6 := dk_seg dksX4_judge_5 22 rfl rfl
theorem dksX4_judge_7 : cX4_judge.data.toList.drop 160 = dktX4_judge_7 := dk_seg dksX4_judge_6 24 rfl rfl
theorem dksX4_judge_8 : cX4_judge.data.toList.drop 183 = dktX4_judge_8 := dk_seg dksX4_judge_7 23 rfl rfl
theorem dksX4_judge_9 : cX4_judge.data.toList.drop 207 = dktX4_judge_9 := dk_seg dksX4_judge_8 24 rfl rfl
theorem dksX4_judge_10 : cX4_judge.data.toList.drop 229 = dktX4_judge_10 := dk_seg dksX4_judge_9 22 rfl rfl
theorem dksX4_judge_11 : cX4_judge.data.toList.drop 253 = dktX4_judge_11 := dk_seg dksX4_judge_10 24 rfl rfl
theorem dksX4_judge_12 : cX4_judge.data.toList.drop 276 = dktX4_judge_12 := dk_seg dksX4_judge_11 23 rfl rfl
theorem dksX4_judge_13 : cX4_judge.data.toList.drop 300 = dktX4_judge_13 := dk_seg dksX4_judge_12 24 rfl rfl
theorem dksX4_judge_14 : cX4_judge.data.toList.drop 324 = dktX4_judge_14 := dk_seg dksX4_judge_13 24 rfl rfl
theorem dksX4_judge_15 : cX4_judge.data.toList.drop 348 = dktX4_judge_15 := dk_seg dksX4_judge_14 24 rfl rfl
theorem dksX4_judge_16 : cX4_judge.data.toList.drop 371 = dktX4_judge_16 := dk_seg dksX4_judge_15 23 rfl rfl
theorem dX4_judge_0 : decode cX4_judge 0 = .ok (.iload_n 1, 1) := dk_27 (dk_at dksX4_judge_0 0 rfl rfl)
theorem dX4_judge_1 : decode cX4_judge 1 = .ok (.bipush 100, 2) := dk_16 100 (dk_at dksX4_judge_0 1 rfl rfl)
theorem dX4_judge_3 : decode cX4_judge 3 = .ok (.idiv, 1) := dk_108 (dk_at dksX4_judge_0 3 rfl rfl)
theorem dX4_judge_4 : decode cX4_judge 4 = .ok (.istore 5, 2) := dk_54 5 (dk_at dksX4_judge_0 4 rfl rfl)
theorem dX4_judge_6 : decode cX4_judge 6 = .ok (.iload_n 1, 1) := dk_27 (dk_at dksX4_judge_0 6 rfl rfl)
theorem dX4_judge_7 : decode cX4_judge 7 = .ok (.bipush 10, 2) := dk_16 10 (dk_at dksX4_judge_0 7 rfl rfl)
theorem dX4_judge_9 : decode cX4_judge 9 = .ok (.idiv, 1) := dk_108 (dk_at dksX4_judge_0 9 rfl rfl)
theorem dX4_judge_10 : decode cX4_judge 10 = .ok (.bipush 10, 2) := dk_16 10 (dk_at dksX4_judge_0 10 rfl rfl)
theorem dX4_judge_12 : decode cX4_judge 12 = .ok (.irem, 1) := dk_112 (dk_at dksX4_judge_0 12 rfl rfl)
theorem dX4_judge_13 : decode cX4_judge 13 = .ok (.istore 6, 2) := dk_54 6 (dk_at dksX4_judge_0 13 rfl rfl)
theorem dX4_judge_15 : decode cX4_judge 15 = .ok (.iload_n 1, 1) := dk_27 (dk_at dksX4_judge_0 15 rfl rfl)
theorem dX4_judge_16 : decode cX4_judge 16 = .ok (.bipush 10, 2) := dk_16 10 (dk_at dksX4_judge_0 16 rfl rfl)
theorem dX4_judge_18 : decode cX4_judge 18 = .ok (.irem, 1) := dk_112 (dk_at dksX4_judge_0 18 rfl rfl)
theorem dX4_judge_19 : decode cX4_judge 19 = .ok (.istore 7, 2) := dk_54 7 (dk_at dksX4_judge_0 19 rfl rfl)
theorem dX4_judge_21 : decode cX4_judge 21 = .ok (.iload_n 1, 1) := dk_27 (dk_at dksX4_judge_0 21 rfl rfl)
theorem dX4_judge_22 : decode cX4_judge 22 = .ok (.ifCond .lt 38, 3) := dk_155 0 38 (dk_at dksX4_judge_1 0 rfl rfl)
theorem dX4_judge_25 : decode cX4_judge 25 = .ok (.aload_n 0, 1) := dk_42 (dk_at dksX4_judge_1 3 rfl rfl)
theorem dX4_judge_26 : decode cX4_judge 26 = .ok (.iload 5, 2) := dk_21 5 (dk_at dksX4_judge_1 4 rfl rfl)
theorem dX4_judge_28 : decode cX4_judge 28 = .ok (.iload 6, 2) := dk_21 6 (dk_at dksX4_judge_1 6 rfl rfl)
theorem dX4_judge_30 : decode cX4_judge 30 = .ok (.iload 7, 2) := dk_21 7 (dk_at dksX4_judge_1 8 rfl rfl)
theorem dX4_judge_32 : decode cX4_judge 32 = .ok (.invokevirtual 148, 3) := dk_182 0 148 (dk_at dksX4_judge_1 10 rfl rfl)
theorem dX4_judge_35 : decode cX4_judge 35 = .ok (.ifCond .eq 25, 3) := dk_153 0 25 (dk_at dksX4_judge_1 13 rfl rfl)
theorem dX4_judge_38 : decode cX4_judge 38 = .ok (.iload_n 2, 1) := dk_28 (dk_at dksX4_judge_1 16 rfl rfl)
theorem dX4_judge_39 : decode cX4_judge 39 = .ok (.invokestatic 174, 3) := dk_184 0 174 (dk_at dksX4_judge_1 17 rfl rfl)
theorem dX4_judge_42 : decode cX4_judge 42 = .ok (.ifCond .eq 18, 3) := dk_153 0 18 (dk_at dksX4_judge_1 20 rfl rfl)
theorem dX4_judge_45 : decode cX4_judge 45 = .ok (.iload_n 3, 1) := dk_29 (dk_at dksX4_judge_1 23 rfl rfl)
theorem dX4_judge_46 : decode cX4_judge 46 = .ok (.invokestatic 259, 3) := dk_184 1 3 (dk_at dksX4_judge_2 0 rfl rfl)
theorem dX4_judge_49 : decode cX4_judge 49 = .ok (.ifCond .eq 11, 3) := dk_153 0 11 (dk_at dksX4_judge_2 3 rfl rfl)
theorem dX4_judge_52 : decode cX4_judge 52 = .ok (.iload 4, 2) := dk_21 4 (dk_at dksX4_judge_2 6 rfl rfl)
theorem dX4_judge_54 : decode cX4_judge 54 = .ok (.invokestatic 259, 3) := dk_184 1 3 (dk_at dksX4_judge_2 8 rfl rfl)
theorem dX4_judge_57 : decode cX4_judge 57 = .ok (.ifCond .ne 5, 3) := dk_154 0 5 (dk_at dksX4_judge_2 11 rfl rfl)
theorem dX4_judge_60 : decode cX4_judge 60 = .ok (.iconst (-1), 1) := dk_2 (dk_at dksX4_judge_2 14 rfl rfl)
theorem dX4_judge_61 : decode cX4_judge 61 = .ok (.ireturn, 1) := dk_172 (dk_at dksX4_judge_2 15 rfl rfl)
theorem dX4_judge_62 : decode cX4_judge 62 = .ok (.aload_n 0, 1) := dk_42 (dk_at dksX4_judge_2 16 rfl rfl)
theorem dX4_judge_63 : decode cX4_judge 63 = .ok (.getfield 33, 3) := dk_180 0 33 (dk_at dksX4_judge_2 17 rfl rfl)
theorem dX4_judge_66 : decode cX4_judge 66 = .ok (.iload_n 3, 1) := dk_29 (dk_at dksX4_judge_2 20 rfl rfl)
theorem dX4_judge_67 : decode cX4_judge 67 = .ok (.iaload, 1) := dk_46 (dk_at dksX4_judge_2 21 rfl rfl)
theorem dX4_judge_68 : decode cX4_judge 68 = .ok (.ifCond .eq 13, 3) := dk_153 0 13 (dk_at dksX4_judge_3 0 rfl rfl)
theorem dX4_judge_71 : decode cX4_judge 71 = .ok (.aload_n 0, 1) := dk_42 (dk_at dksX4_judge_3 3 rfl rfl)
theorem dX4_judge_72 : decode cX4_judge 72 = .ok (.getfield 33, 3) := dk_180 0 33 (dk_at dksX4_judge_3 4 rfl rfl)
theorem dX4_judge_75 : decode cX4_judge 75 = .ok (.iload 4, 2) := dk_21 4 (dk_at dksX4_judge_3 7 rfl rfl)
theorem dX4_judge_77 : decode cX4_judge 77 = .ok (.iaload, 1) := dk_46 (dk_at dksX4_judge_3 9 rfl rfl)
theorem dX4_judge_78 : decode cX4_judge 78 = .ok (.ifCond .ne 6, 3) := dk_154 0 6 (dk_at dksX4_judge_3 10 rfl rfl)
theorem dX4_judge_81 : decode cX4_judge 81 = .ok (.bipush (-11), 2) := dk_16 245 (dk_at dksX4_judge_3 13 rfl rfl)
theorem dX4_judge_83 : decode cX4_judge 83 = .ok (.ireturn, 1) := dk_172 (dk_at dksX4_judge_3 15 rfl rfl)
theorem dX4_judge_84 : decode cX4_judge 84 = .ok (.aload_n 0, 1) := dk_42 (dk_at dksX4_judge_3 16 rfl rfl)
theorem dX4_judge_85 : decode cX4_judge 85 = .ok (.getfield 33, 3) := dk_180 0 33 (dk_at dksX4_judge_3 17 rfl rfl)
theorem dX4_judge_88 : decode cX4_judge 88 = .ok (.iload_n 3, 1) := dk_29 (dk_at dksX4_judge_3 20 rfl rfl)
theorem dX4_judge_89 : decode cX4_judge 89 = .ok (.iaload, 1) := dk_46 (dk_at dksX4_judge_3 21 rfl rfl)
theorem dX4_judge_90 : decode cX4_judge 90 = .ok (.iconst 2, 1) := dk_5 (dk_at dksX4_judge_3 22 rfl rfl)
theorem dX4_judge_91 : decode cX4_judge 91 = .ok (.if_icmp .ne 14, 3) := dk_160 0 14 (dk_at dksX4_judge_4 0 rfl rfl)
theorem dX4_judge_94 : decode cX4_judge 94 = .ok (.aload_n 0, 1) := dk_42 (dk_at dksX4_judge_4 3 rfl rfl)
theorem dX4_judge_95 : decode cX4_judge 95 = .ok (.getfield 33, 3) := dk_180 0 33 (dk_at dksX4_judge_4 4 rfl rfl)
theorem dX4_judge_98 : decode cX4_judge 98 = .ok (.iload 4, 2) := dk_21 4 (dk_at dksX4_judge_4 7 rfl rfl)
theorem dX4_judge_100 : decode cX4_judge 100 = .ok (.iaload, 1) := dk_46 (dk_at dksX4_judge_4 9 rfl rfl)
theorem dX4_judge_101 : decode cX4_judge 101 = .ok (.iconst 2, 1) := dk_5 (dk_at dksX4_judge_4 10 rfl rfl)
theorem dX4_judge_102 : decode cX4_judge 102 = .ok (.if_icmp .eq 6, 3) := dk_159 0 6 (dk_at dksX4_judge_4 11 rfl rfl)
theorem dX4_judge_105 : decode cX4_judge 105 = .ok (.bipush (-12), 2) := dk_16 244 (dk_at dksX4_judge_4 14 rfl rfl)
theorem dX4_judge_107 : decode cX4_judge 107 = .ok (.ireturn, 1) := dk_172 (dk_at dksX4_judge_4 16 rfl rfl)
theorem dX4_judge_108 : decode cX4_judge 108 = .ok (.iconst 0, 1) := dk_3 (dk_at dksX4_judge_4 17 rfl rfl)
theorem dX4_judge_109 : decode cX4_judge 109 = .ok (.istore 8, 2) := dk_54 8 (dk_at dksX4_judge_4 18 rfl rfl)
theorem dX4_judge_111 : decode cX4_judge 111 = .ok (.iload 8, 2) := dk_21 8 (dk_at dksX4_judge_4 20 rfl rfl)
theorem dX4_judge_113 : decode cX4_judge 113 = .ok (.aload_n 0, 1) := dk_42 (dk_at dksX4_judge_4 22 rfl rfl)
theorem dX4_judge_114 : decode cX4_judge 114 = .ok (.getfield 45, 3) := dk_180 0 45 (dk_at dksX4_judge_5 0 rfl rfl)
theorem dX4_judge_117 : decode cX4_judge 117 = .ok (.iload 4, 2) := dk_21 4 (dk_at dksX4_judge_5 3 rfl rfl)
theorem dX4_judge_119 : decode cX4_judge 119 = .ok (.iaload, 1) := dk_46 (dk_at dksX4_judge_5 5 rfl rfl)
theorem dX4_judge_120 : decode cX4_judge 120 = .ok (.if_icmp .ge 31, 3) := dk_162 0 31 (dk_at dksX4_judge_5 6 rfl rfl)
theorem dX4_judge_123 : decode cX4_judge 123 = .ok (.aload_n 0, 1) := dk_42 (dk_at dksX4_judge_5 9 rfl rfl)
theorem dX4_judge_124 : decode cX4_judge 124 = .ok (.getfield 48, 3) := dk_180 0 48 (dk_at dksX4_judge_5 10 rfl rfl)
theorem dX4_judge_127 : decode cX4_judge 127 = .ok (.bipush 100, 2) := dk_16 100 (dk_at dksX4_judge_5 13 rfl rfl)
theorem dX4_judge_129 : decode cX4_judge 129 = .ok (.iload 4, 2) := dk_21 4 (dk_at dksX4_judge_5 15 rfl rfl)
theorem dX4_judge_131 : decode cX4_judge 131 = .ok (.imul, 1) := dk_104 (dk_at dksX4_judge_5 17 rfl rfl)
theorem dX4_judge_132 : decode cX4_judge 132 = .ok (.iload 8, 2) := dk_21 8 (dk_at dksX4_judge_5 18 rfl rfl)
theorem dX4_judge_134 : decode cX4_judge 134 = .ok (.iadd, 1) := dk_96 (dk_at dksX4_judge_5 20 rfl rfl)
theorem dX4_judge_135 : decode cX4_judge 135 = .ok (.iaload, 1) := dk_46 (dk_at dksX4_judge_5 21 rfl rfl)
theorem dX4_judge_136 : decode cX4_judge 136 = .ok (.invokestatic 174, 3) := dk_184 0 174 (dk_at dksX4_judge_6 0 rfl rfl)
theorem dX4_judge_139 : decode cX4_judge 139 = .ok (.ifCond .ne 6, 3) := dk_154 0 6 (dk_at dksX4_judge_6 3 rfl rfl)
theorem dX4_judge_142 : decode cX4_judge 142 = .ok (.bipush (-13), 2) := dk_16 243 (dk_at dksX4_judge_6 6 rfl rfl)
theorem dX4_judge_144 : decode cX4_judge 144 = .ok (.ireturn, 1) := dk_172 (dk_at dksX4_judge_6 8 rfl rfl)
theorem dX4_judge_145 : decode cX4_judge 145 = .ok (.iinc 8 1, 3) := dk_132 8 1 (dk_at dksX4_judge_6 9 rfl rfl)
theorem dX4_judge_148 : decode cX4_judge 148 = .ok (.goto (-37), 3) := dk_167 255 219 (dk_at dksX4_judge_6 12 rfl rfl)
theorem dX4_judge_151 : decode cX4_judge 151 = .ok (.aload_n 0, 1) := dk_42 (dk_at dksX4_judge_6 15 rfl rfl)
theorem dX4_judge_152 : decode cX4_judge 152 = .ok (.iload 5, 2) := dk_21 5 (dk_at dksX4_judge_6 16 rfl rfl)
theorem dX4_judge_154 : decode cX4_judge 154 = .ok (.iconst 3, 1) := dk_6 (dk_at dksX4_judge_6 18 rfl rfl)
theorem dX4_judge_155 : decode cX4_judge 155 = .ok (.invokevirtual 72, 3) := dk_182 0 72 (dk_at dksX4_judge_6 19 rfl rfl)
theorem dX4_judge_158 : decode cX4_judge 158 = .ok (.istore 8, 2) := dk_54 8 (dk_at dksX4_judge_6 22 rfl rfl)
theorem dX4_judge_160 : decode cX4_judge 160 = .ok (.iconst 0, 1) := dk_3 (dk_at dksX4_judge_7 0 rfl rfl)
theorem dX4_judge_161 : decode cX4_judge 161 = .ok (.istore 9, 2) := dk_54 9 (dk_at dksX4_judge_7 1 rfl rfl)
theorem dX4_judge_163 : decode cX4_judge 163 = .ok (.iload 9, 2) := dk_21 9 (dk_at dksX4_judge_7 3 rfl rfl)
theorem dX4_judge_165 : decode cX4_judge 165 = .ok (.aload_n 0, 1) := dk_42 (dk_at dksX4_judge_7 5 rfl rfl)
theorem dX4_judge_166 : decode cX4_judge 166 = .ok (.getfield 45, 3) := dk_180 0 45 (dk_at dksX4_judge_7 6 rfl rfl)
theorem dX4_judge_169 : decode cX4_judge 169 = .ok (.iload_n 3, 1) := dk_29 (dk_at dksX4_judge_7 9 rfl rfl)
theorem dX4_judge_170 : decode cX4_judge 170 = .ok (.iaload, 1) := dk_46 (dk_at dksX4_judge_7 10 rfl rfl)
theorem dX4_judge_171 : decode cX4_judge 171 = .ok (.if_icmp .ge 203, 3) := dk_162 0 203 (dk_at dksX4_judge_7 11 rfl rfl)
theorem dX4_judge_174 : decode cX4_judge 174 = .ok (.iload 9, 2) := dk_21 9 (dk_at dksX4_judge_7 14 rfl rfl)
theorem dX4_judge_176 : decode cX4_judge 176 = .ok (.aload_n 0, 1) := dk_42 (dk_at dksX4_judge_7 16 rfl rfl)
theorem dX4_judge_177 : decode cX4_judge 177 = .ok (.getfield 45, 3) := dk_180 0 45 (dk_at dksX4_judge_7 17 rfl rfl)
theorem dX4_judge_180 : decode cX4_judge 180 = .ok (.iload 4, 2) := dk_21 4 (dk_at dksX4_judge_7 20 rfl rfl)
theorem dX4_judge_182 : decode cX4_judge 182 = .ok (.iaload, 1) := dk_46 (dk_at dksX4_judge_7 22 rfl rfl)
theorem dX4_judge_183 : decode cX4_judge 183 = .ok (.if_icmp .lt 30, 3) := dk_161 0 30 (dk_at dksX4_judge_8 0 rfl rfl)
theorem dX4_judge_186 : decode cX4_judge 186 = .ok (.aload_n 0, 1) := dk_42 (dk_at dksX4_judge_8 3 rfl rfl)
theorem dX4_judge_187 : decode cX4_judge 187 = .ok (.getfield 48, 3) := dk_180 0 48 (dk_at dksX4_judge_8 4 rfl rfl)
theorem dX4_judge_190 : decode cX4_judge 190 = .ok (.bipush 100, 2) := dk_16 100 (dk_at dksX4_judge_8 7 rfl rfl)
theorem dX4_judge_192 : decode cX4_judge 192 = .ok (.iload_n 3, 1) := dk_29 (dk_at dksX4_judge_8 9 rfl rfl)
theorem dX4_judge_193 : decode cX4_judge 193 = .ok (.imul, 1) := dk_104 (dk_at dksX4_judge_8 10 rfl rfl)
theorem dX4_judge_194 : decode cX4_judge 194 = .ok (.iload 9, 2) := dk_21 9 (dk_at dksX4_judge_8 11 rfl rfl)
theorem dX4_judge_196 : decode cX4_judge 196 = .ok (.iadd, 1) := dk_96 (dk_at dksX4_judge_8 13 rfl rfl)
theorem dX4_judge_197 : decode cX4_judge 197 = .ok (.iaload, 1) := dk_46 (dk_at dksX4_judge_8 14 rfl rfl)
theorem dX4_judge_198 : decode cX4_judge 198 = .ok (.aload_n 0, 1) := dk_42 (dk_at dksX4_judge_8 15 rfl rfl)
theorem dX4_judge_199 : decode cX4_judge 199 = .ok (.getfield 42, 3) := dk_180 0 42 (dk_at dksX4_judge_8 16 rfl rfl)
theorem dX4_judge_202 : decode cX4_judge 202 = .ok (.iload_n 3, 1) := dk_29 (dk_at dksX4_judge_8 19 rfl rfl)
theorem dX4_judge_203 : decode cX4_judge 203 = .ok (.iaload, 1) := dk_46 (dk_at dksX4_judge_8 20 rfl rfl)
theorem dX4_judge_204 : decode cX4_judge 204 = .ok (.invokestatic 262, 3) := dk_184 1 6 (dk_at dksX4_judge_8 21 rfl rfl)
theorem dX4_judge_207 : decode cX4_judge 207 = .ok (.if_icmp .ne 6, 3) := dk_160 0 6 (dk_at dksX4_judge_9 0 rfl rfl)
theorem dX4_judge_210 : decode cX4_judge 210 = .ok (.goto 158, 3) := dk_167 0 158 (dk_at dksX4_judge_9 3 rfl rfl)
theorem dX4_judge_213 : decode cX4_judge 213 = .ok (.iload 9, 2) := dk_21 9 (dk_at dksX4_judge_9 6 rfl rfl)
theorem dX4_judge_215 : decode cX4_judge 215 = .ok (.aload_n 0, 1) := dk_42 (dk_at dksX4_judge_9 8 rfl rfl)
theorem dX4_judge_216 : decode cX4_judge 216 = .ok (.getfield 45, 3) := dk_180 0 45 (dk_at dksX4_judge_9 9 rfl rfl)
theorem dX4_judge_219 : decode cX4_judge 219 = .ok (.iload 4, 2) := dk_21 4 (dk_at dksX4_judge_9 12 rfl rfl)
theorem dX4_judge_221 : decode cX4_judge 221 = .ok (.iaload, 1) := dk_46 (dk_at dksX4_judge_9 14 rfl rfl)
theorem dX4_judge_222 : decode cX4_judge 222 = .ok (.if_icmp .lt 6, 3) := dk_161 0 6 (dk_at dksX4_judge_9 15 rfl rfl)
theorem dX4_judge_225 : decode cX4_judge 225 = .ok (.iload 9, 2) := dk_21 9 (dk_at dksX4_judge_9 18 rfl rfl)
theorem dX4_judge_227 : decode cX4_judge 227 = .ok (.ireturn, 1) := dk_172 (dk_at dksX4_judge_9 20 rfl rfl)
theorem dX4_judge_228 : decode cX4_judge 228 = .ok (.aload_n 0, 1) := dk_42 (dk_at dksX4_judge_9 21 rfl rfl)
theorem dX4_judge_229 : decode cX4_judge 229 = .ok (.getfield 48, 3) := dk_180 0 48 (dk_at dksX4_judge_10 0 rfl rfl)
theorem dX4_judge_232 : decode cX4_judge 232 = .ok (.bipush 100, 2) := dk_16 100 (dk_at dksX4_judge_10 3 rfl rfl)
theorem dX4_judge_234 : decode cX4_judge 234 = .ok (.iload 4, 2) := dk_21 4 (dk_at dksX4_judge_10 5 rfl rfl)
theorem dX4_judge_236 : decode cX4_judge 236 = .ok (.imul, 1) := dk_104 (dk_at dksX4_judge_10 7 rfl rfl)
theorem dX4_judge_237 : decode cX4_judge 237 = .ok (.iload 9, 2) := dk_21 9 (dk_at dksX4_judge_10 8 rfl rfl)
theorem dX4_judge_239 : decode cX4_judge 239 = .ok (.iadd, 1) := dk_96 (dk_at dksX4_judge_10 10 rfl rfl)
theorem dX4_judge_240 : decode cX4_judge 240 = .ok (.iaload, 1) := dk_46 (dk_at dksX4_judge_10 11 rfl rfl)
theorem dX4_judge_241 : decode cX4_judge 241 = .ok (.istore 10, 2) := dk_54 10 (dk_at dksX4_judge_10 12 rfl rfl)
theorem dX4_judge_243 : decode cX4_judge 243 = .ok (.iload 8, 2) := dk_21 8 (dk_at dksX4_judge_10 14 rfl rfl)
theorem dX4_judge_245 : decode cX4_judge 245 = .ok (.aload_n 0, 1) := dk_42 (dk_at dksX4_judge_10 16 rfl rfl)
theorem dX4_judge_246 : decode cX4_judge 246 = .ok (.iload 5, 2) := dk_21 5 (dk_at dksX4_judge_10 17 rfl rfl)
theorem dX4_judge_248 : decode cX4_judge 248 = .ok (.iconst 1, 1) := dk_4 (dk_at dksX4_judge_10 19 rfl rfl)
theorem dX4_judge_249 : decode cX4_judge 249 = .ok (.invokevirtual 72, 3) := dk_182 0 72 (dk_at dksX4_judge_10 20 rfl rfl)
theorem dX4_judge_252 : decode cX4_judge 252 = .ok (.aload_n 0, 1) := dk_42 (dk_at dksX4_judge_10 23 rfl rfl)
theorem dX4_judge_253 : decode cX4_judge 253 = .ok (.iload 5, 2) := dk_21 5 (dk_at dksX4_judge_11 0 rfl rfl)
theorem dX4_judge_255 : decode cX4_judge 255 = .ok (.iconst 2, 1) := dk_5 (dk_at dksX4_judge_11 2 rfl rfl)
theorem dX4_judge_256 : decode cX4_judge 256 = .ok (.invokevirtual 72, 3) := dk_182 0 72 (dk_at dksX4_judge_11 3 rfl rfl)
theorem dX4_judge_259 : decode cX4_judge 259 = .ok (.iadd, 1) := dk_96 (dk_at dksX4_judge_11 6 rfl rfl)
theorem dX4_judge_260 : decode cX4_judge 260 = .ok (.if_icmp .le 7, 3) := dk_164 0 7 (dk_at dksX4_judge_11 7 rfl rfl)
theorem dX4_judge_263 : decode cX4_judge 263 = .ok (.iconst 1, 1) := dk_4 (dk_at dksX4_judge_11 10 rfl rfl)
theorem dX4_judge_264 : decode cX4_judge 264 = .ok (.goto 4, 3) := dk_167 0 4 (dk_at dksX4_judge_11 11 rfl rfl)
theorem dX4_judge_267 : decode cX4_judge 267 = .ok (.iconst 0, 1) := dk_3 (dk_at dksX4_judge_11 14 rfl rfl)
theorem dX4_judge_268 : decode cX4_judge 268 = .ok (.istore 11, 2) := dk_54 11 (dk_at dksX4_judge_11 15 rfl rfl)
theorem dX4_judge_270 : decode cX4_judge 270 = .ok (.iload 11, 2) := dk_21 11 (dk_at dksX4_judge_11 17 rfl rfl)
theorem dX4_judge_272 : decode cX4_judge 272 = .ok (.ifCond .eq 7, 3) := dk_153 0 7 (dk_at dksX4_judge_11 19 rfl rfl)
theorem dX4_judge_275 : decode cX4_judge 275 = .ok (.iconst 2, 1) := dk_5 (dk_at dksX4_judge_11 22 rfl rfl)
theorem dX4_judge_276 : decode cX4_judge 276 = .ok (.goto 24, 3) := dk_167 0 24 (dk_at dksX4_judge_12 0 rfl rfl)
theorem dX4_judge_279 : decode cX4_judge 279 = .ok (.aload_n 0, 1) := dk_42 (dk_at dksX4_judge_12 3 rfl rfl)
theorem dX4_judge_280 : decode cX4_judge 280 = .ok (.iload 5, 2) := dk_21 5 (dk_at dksX4_judge_12 4 rfl rfl)
theorem dX4_judge_282 : decode cX4_judge 282 = .ok (.iload 6, 2) := dk_21 6 (dk_at dksX4_judge_12 6 rfl rfl)
theorem dX4_judge_284 : decode cX4_judge 284 = .ok (.iload 7, 2) := dk_21 7 (dk_at dksX4_judge_12 8 rfl rfl)
theorem dX4_judge_286 : decode cX4_judge 286 = .ok (.iload_n 2, 1) := dk_28 (dk_at dksX4_judge_12 10 rfl rfl)
theorem dX4_judge_287 : decode cX4_judge 287 = .ok (.iload 10, 2) := dk_21 10 (dk_at dksX4_judge_12 11 rfl rfl)
theorem dX4_judge_289 : decode cX4_judge 289 = .ok (.invokevirtual 181, 3) := dk_182 0 181 (dk_at dksX4_judge_12 13 rfl rfl)
theorem dX4_judge_292 : decode cX4_judge 292 = .ok (.ifCond .eq 7, 3) := dk_153 0 7 (dk_at dksX4_judge_12 16 rfl rfl)
theorem dX4_judge_295 : decode cX4_judge 295 = .ok (.iconst 1, 1) := dk_4 (dk_at dksX4_judge_12 19 rfl rfl)
theorem dX4_judge_296 : decode cX4_judge 296 = .ok (.goto 4, 3) := dk_167 0 4 (dk_at dksX4_judge_12 20 rfl rfl)
theorem dX4_judge_299 : decode cX4_judge 299 = .ok (.iconst 0, 1) := dk_3 (dk_at dksX4_judge_12 23 rfl rfl)
theorem dX4_judge_300 : decode cX4_judge 300 = .ok (.istore 12, 2) := dk_54 12 (dk_at dksX4_judge_13 0 rfl rfl)
theorem dX4_judge_302 : decode cX4_judge 302 = .ok (.iload 8, 2) := dk_21 8 (dk_at dksX4_judge_13 2 rfl rfl)
theorem dX4_judge_304 : decode cX4_judge 304 = .ok (.iload 11, 2) := dk_21 11 (dk_at dksX4_judge_13 4 rfl rfl)
theorem dX4_judge_306 : decode cX4_judge 306 = .ok (.ifCond .eq 7, 3) := dk_153 0 7 (dk_at dksX4_judge_13 6 rfl rfl)
theorem dX4_judge_309 : decode cX4_judge 309 = .ok (.iconst 0, 1) := dk_3 (dk_at dksX4_judge_13 9 rfl rfl)
theorem dX4_judge_310 : decode cX4_judge 310 = .ok (.goto 11, 3) := dk_167 0 11 (dk_at dksX4_judge_13 10 rfl rfl)
theorem dX4_judge_313 : decode cX4_judge 313 = .ok (.aload_n 0, 1) := dk_42 (dk_at dksX4_judge_13 13 rfl rfl)
theorem dX4_judge_314 : decode cX4_judge 314 = .ok (.iload 7, 2) := dk_21 7 (dk_at dksX4_judge_13 14 rfl rfl)
theorem dX4_judge_316 : decode cX4_judge 316 = .ok (.iload 10, 2) := dk_21 10 (dk_at dksX4_judge_13 16 rfl rfl)
theorem dX4_judge_318 : decode cX4_judge 318 = .ok (.invokevirtual 154, 3) := dk_182 0 154 (dk_at dksX4_judge_13 18 rfl rfl)
theorem dX4_judge_321 : decode cX4_judge 321 = .ok (.iadd, 1) := dk_96 (dk_at dksX4_judge_13 21 rfl rfl)
theorem dX4_judge_322 : decode cX4_judge 322 = .ok (.istore 8, 2) := dk_54 8 (dk_at dksX4_judge_13 22 rfl rfl)
theorem dX4_judge_324 : decode cX4_judge 324 = .ok (.aload_n 0, 1) := dk_42 (dk_at dksX4_judge_14 0 rfl rfl)
theorem dX4_judge_325 : decode cX4_judge 325 = .ok (.getfield 48, 3) := dk_180 0 48 (dk_at dksX4_judge_14 1 rfl rfl)
theorem dX4_judge_328 : decode cX4_judge 328 = .ok (.bipush 100, 2) := dk_16 100 (dk_at dksX4_judge_14 4 rfl rfl)
theorem dX4_judge_330 : decode cX4_judge 330 = .ok (.iload_n 3, 1) := dk_29 (dk_at dksX4_judge_14 6 rfl rfl)
theorem dX4_judge_331 : decode cX4_judge 331 = .ok (.imul, 1) := dk_104 (dk_at dksX4_judge_14 7 rfl rfl)
theorem dX4_judge_332 : decode cX4_judge 332 = .ok (.iload 9, 2) := dk_21 9 (dk_at dksX4_judge_14 8 rfl rfl)
theorem dX4_judge_334 : decode cX4_judge 334 = .ok (.iadd, 1) := dk_96 (dk_at dksX4_judge_14 10 rfl rfl)
theorem dX4_judge_335 : decode cX4_judge 335 = .ok (.iaload, 1) := dk_46 (dk_at dksX4_judge_14 11 rfl rfl)
theorem dX4_judge_336 : decode cX4_judge 336 = .ok (.aload_n 0, 1) := dk_42 (dk_at dksX4_judge_14 12 rfl rfl)
theorem dX4_judge_337 : decode cX4_judge 337 = .ok (.getfield 42, 3) := dk_180 0 42 (dk_at dksX4_judge_14 13 rfl rfl)
theorem dX4_judge_340 : decode cX4_judge 340 = .ok (.iload_n 3, 1) := dk_29 (dk_at dksX4_judge_14 16 rfl rfl)
theorem dX4_judge_341 : decode cX4_judge 341 = .ok (.iaload, 1) := dk_46 (dk_at dksX4_judge_14 17 rfl rfl)
theorem dX4_judge_342 : decode cX4_judge 342 = .ok (.invokestatic 262, 3) := dk_184 1 6 (dk_at dksX4_judge_14 18 rfl rfl)
theorem dX4_judge_345 : decode cX4_judge 345 = .ok (.if_icmp .eq 23, 3) := dk_159 0 23 (dk_at dksX4_judge_14 21 rfl rfl)
theorem dX4_judge_348 : decode cX4_judge 348 = .ok (.aload_n 0, 1) := dk_42 (dk_at dksX4_judge_15 0 rfl rfl)
theorem dX4_judge_349 : decode cX4_judge 349 = .ok (.getfield 48, 3) := dk_180 0 48 (dk_at dksX4_judge_15 1 rfl rfl)
theorem dX4_judge_352 : decode cX4_judge 352 = .ok (.bipush 100, 2) := dk_16 100 (dk_at dksX4_judge_15 4 rfl rfl)
theorem dX4_judge_354 : decode cX4_judge 354 = .ok (.iload_n 3, 1) := dk_29 (dk_at dksX4_judge_15 6 rfl rfl)
theorem dX4_judge_355 : decode cX4_judge 355 = .ok (.imul, 1) := dk_104 (dk_at dksX4_judge_15 7 rfl rfl)
theorem dX4_judge_356 : decode cX4_judge 356 = .ok (.iload 9, 2) := dk_21 9 (dk_at dksX4_judge_15 8 rfl rfl)
theorem dX4_judge_358 : decode cX4_judge 358 = .ok (.iadd, 1) := dk_96 (dk_at dksX4_judge_15 10 rfl rfl)
theorem dX4_judge_359 : decode cX4_judge 359 = .ok (.iaload, 1) := dk_46 (dk_at dksX4_judge_15 11 rfl rfl)
theorem dX4_judge_360 : decode cX4_judge 360 = .ok (.iload 12, 2) := dk_21 12 (dk_at dksX4_judge_15 12 rfl rfl)
theorem dX4_judge_362 : decode cX4_judge 362 = .ok (.if_icmp .eq 6, 3) := dk_159 0 6 (dk_at dksX4_judge_15 14 rfl rfl)
theorem dX4_judge_365 : decode cX4_judge 365 = .ok (.iload 9, 2) := dk_21 9 (dk_at dksX4_judge_15 17 rfl rfl)
theorem dX4_judge_367 : decode cX4_judge 367 = .ok (.ireturn, 1) := dk_172 (dk_at dksX4_judge_15 19 rfl rfl)
theorem dX4_judge_368 : decode cX4_judge 368 = .ok (.iinc 9 1, 3) := dk_132 9 1 (dk_at dksX4_judge_15 20 rfl rfl)
theorem dX4_judge_371 : decode cX4_judge 371 = .ok (.goto (-208), 3) := dk_167 255 48 (dk_at dksX4_judge_16 0 rfl rfl)
theorem dX4_judge_374 : decode cX4_judge 374 = .ok (.bipush (-4), 2) := dk_16 252 (dk_at dksX4_judge_16 3 rfl rfl)
theorem dX4_judge_376 : decode cX4_judge 376 = .ok (.ireturn, 1) := dk_172 (dk_at dksX4_judge_16 5 rfl rfl)
abbrev cX4_leastOf : ByteArray := prog_22_method_86_code
def yX4_leastOf : MethodName := ⟨RX4, "leastOf", "(I)I"⟩
def dkwX4_leastOf_0 : List UInt8 := [26, 154, 0, 8, 16, 128, 167, 0, 17, 26, 4, 160, 0, 9, 17, 128, 0, 167, 0, 6, 19, 1, 2, 172]
abbrev dktX4_leastOf_0 : List UInt8 := dkwX4_leastOf_0 ++ []
theorem dksX4_leastOf_0 : cX4_leastOf.data.toList.drop 0 = dktX4_leastOf_0 := by decide +kernel
theorem dX4_leastOf_0 : decode cX4_leastOf 0 = .ok (.iload_n 0, 1) := dk_26 (dk_at dksX4_leastOf_0 0 rfl rfl)
theorem dX4_leastOf_1 : decode cX4_leastOf 1 = .ok (.ifCond .ne 8, 3) := dk_154 0 8 (dk_at dksX4_leastOf_0 1 rfl rfl)
theorem dX4_leastOf_4 : decode cX4_leastOf 4 = .ok (.bipush (-128), 2) := dk_16 128 (dk_at dksX4_leastOf_0 4 rfl rfl)
theorem dX4_leastOf_6 : decode cX4_leastOf 6 = .ok (.goto 17, 3) := dk_167 0 17 (dk_at dksX4_leastOf_0 6 rfl rfl)
theorem dX4_leastOf_9 : decode cX4_leastOf 9 = .ok (.iload_n 0, 1) := dk_26 (dk_at dksX4_leastOf_0 9 rfl rfl)
theorem dX4_leastOf_10 : decode cX4_leastOf 10 = .ok (.iconst 1, 1) := dk_4 (dk_at dksX4_leastOf_0 10 rfl rfl)
theorem dX4_leastOf_11 : decode cX4_leastOf 11 = .ok (.if_icmp .ne 9, 3) := dk_160 0 9 (dk_at dksX4_leastOf_0 11 rfl rfl)
theorem dX4_leastOf_14 : decode cX4_leastOf 14 = .ok (.sipush (-32768), 3) := dk_17 128 0 (dk_at dksX4_leastOf_0 14 rfl rfl)
theorem dX4_leastOf_17 : decode cX4_leastOf 17 = .ok (.goto 6, 3) := dk_167 0 6 (dk_at dksX4_leastOf_0 17 rfl rfl)
theorem dX4_leastOf_20 : decode cX4_leastOf 20 = .ok (.ldc_w 258, 3) := dk_19 1 2 (dk_at dksX4_leastOf_0 20 rfl rfl)
theorem dX4_leastOf_23 : decode cX4_leastOf 23 = .ok (.ireturn, 1) := dk_172 (dk_at dksX4_leastOf_0 23 rfl rfl)
abbrev cX4_walks : ByteArray := prog_22_method_89_code
def yX4_walks : MethodName := ⟨RX4, "walks", "(III)I"⟩
def dkwX4_walks_11 : List UInt8 := [154, 0, 8, 21, 4, 167, 0, 5, 21, 5, 172]
abbrev dktX4_walks_11 : List UInt8 := dkwX4_walks_11 ++ []
def dkwX4_walks_10 : List UInt8 := [132, 7, 1, 167, 255, 223, 132, 6, 1, 167, 255, 94, 42, 180, 0, 16, 42, 180, 0, 9, 184, 0, 164, 29]
abbrev dktX4_walks_10 : List UInt8 := dkwX4_walks_10 ++ dktX4_walks_11
def dkwX4_walks_9 : List UInt8 := [162, 0, 28, 21, 5, 42, 21, 7, 182, 0, 151, 153, 0, 7, 4, 167, 0, 4, 3, 96, 54, 5]
abbrev dktX4_walks_9 : List UInt8 := dkwX4_walks_9 ++ dktX4_walks_10
def dkwX4_walks_8 : List UInt8 := [167, 0, 4, 3, 96, 54, 4, 132, 7, 1, 167, 255, 159, 3, 54, 7, 21, 7, 42, 180, 0, 9, 3, 46]
abbrev dktX4_walks_8 : List UInt8 := dkwX4_walks_8 ++ dktX4_walks_9
def dkwX4_walks_7 : List UInt8 := [182, 1, 15, 182, 1, 18, 54, 12, 21, 4, 21, 12, 158, 0, 15, 21, 12, 5, 112, 4, 160, 0, 7, 4]
abbrev dktX4_walks_7 : List UInt8 := dkwX4_walks_7 ++ dktX4_walks_8
def dkwX4_walks_6 : List UInt8 := [54, 10, 42, 16, 61, 182, 1, 15, 54, 11, 42, 21, 8, 21, 9, 21, 10, 21, 11, 42, 16, 61]
abbrev dktX4_walks_6 : List UInt8 := dkwX4_walks_6 ++ dktX4_walks_7
def dkwX4_walks_5 : List UInt8 := [54, 8, 42, 42, 180, 0, 9, 4, 46, 182, 1, 15, 54, 9, 42, 42, 180, 0, 9, 5, 46, 182, 1, 15]
abbrev dktX4_walks_5 : List UInt8 := dkwX4_walks_5 ++ dktX4_walks_6
def dkwX4_walks_4 : List UInt8 := [184, 0, 164, 3, 54, 7, 21, 7, 16, 10, 162, 0, 96, 42, 42, 180, 0, 9, 3, 46, 182, 1, 15]
abbrev dktX4_walks_4 : List UInt8 := dkwX4_walks_4 ++ dktX4_walks_5
def dkwX4_walks_3 : List UInt8 := [54, 4, 3, 54, 5, 3, 54, 6, 21, 6, 27, 162, 0, 162, 42, 180, 0, 16, 42, 180, 0, 9]
abbrev dktX4_walks_3 : List UInt8 := dkwX4_walks_3 ++ dktX4_walks_4
def dkwX4_walks_2 : List UInt8 := [154, 0, 6, 16, 253, 172, 42, 28, 181, 1, 9, 42, 180, 0, 9, 42, 180, 0, 16, 184, 0, 164, 3]
abbrev dktX4_walks_2 : List UInt8 := dkwX4_walks_2 ++ dktX4_walks_3
def dkwX4_walks_1 : List UInt8 := [180, 0, 9, 3, 46, 153, 0, 21, 42, 180, 0, 9, 4, 46, 153, 0, 12, 42, 180, 0, 9, 5, 46]
abbrev dktX4_walks_1 : List UInt8 := dkwX4_walks_1 ++ dktX4_walks_2
def dkwX4_walks_0 : List UInt8 := [27, 4, 16, 20, 184, 0, 58, 153, 0, 12, 29, 3, 4, 184, 0, 58, 154, 0, 5, 2, 172, 42]
abbrev dktX4_walks_0 : List UInt8 := dkwX4_walks_0 ++ dktX4_walks_1
theorem dksX4_walks_0 : cX4_walks.data.toList.drop 0 = dktX4_walks_0 := by decide +kernel
theorem dksX4_walks_1 : cX4_walks.data.toList.drop 22 = dktX4_walks_1 := dk_seg dksX4_walks_0 22 rfl rfl
theorem dksX4_walks_2 : cX4_walks.data.toList.drop 45 = dktX4_walks_2 := dk_seg dksX4_walks_1 23 rfl rfl
theorem dksX4_walks_3 : cX4_walks.data.toList.drop 68 = dktX4_walks_3 := dk_seg dksX4_walks_2 23 rfl rfl
theorem dksX4_walks_4 : cX4_walks.data.toList.drop 90 = dktX4_walks_4 := dk_seg dksX4_walks_3 22 rfl rfl
theorem dksX4_walks_5 : cX4_walks.data.toList.drop 113 = dktX4_walks_5 := dk_seg dksX4_walks_4 23 rfl rfl
theorem dksX4_walks_6 : cX4_walks.data.toList.drop 137 = dktX4_walks_6 := dk_seg dksX4_walks_5 24 rfl rfl
theorem dksX4_walks_7 : cX4_walks.data.toList.drop 159 = dktX4_walks_7 := dk_seg dksX4_walks_6 22 rfl rfl
theorem dksX4_walks_8 : cX4_walks.data.toList.drop 183 = dktX4_walks_8 := dk_seg dksX4_walks_7 24 rfl rfl
theorem dksX4_walks_9 : cX4_walks.data.toList.drop 207 = dktX4_walks_9 := dk_seg dksX4_walks_8 24 rfl rfl
theorem dksX4_walks_10 : cX4_walks.data.toList.drop 229 = dktX4_walks_10 := dk_seg dksX4_walks_9 22 rfl rfl
theorem dksX4_walks_11 : cX4_walks.data.toList.drop 253 = dktX4_walks_11 := dk_seg dksX4_walks_10 24 rfl rfl
theorem dX4_walks_0 : decode cX4_walks 0 = .ok (.iload_n 1, 1) := dk_27 (dk_at dksX4_walks_0 0 rfl rfl)
theorem dX4_walks_1 : decode cX4_walks 1 = .ok (.iconst 1, 1) := dk_4 (dk_at dksX4_walks_0 1 rfl rfl)
theorem dX4_walks_2 : decode cX4_walks 2 = .ok (.bipush 20, 2) := dk_16 20 (dk_at dksX4_walks_0 2 rfl rfl)
theorem dX4_walks_4 : decode cX4_walks 4 = .ok (.invokestatic 58, 3) := dk_184 0 58 (dk_at dksX4_walks_0 4 rfl rfl)
theorem dX4_walks_7 : decode cX4_walks 7 = .ok (.ifCond .eq 12, 3) := dk_153 0 12 (dk_at dksX4_walks_0 7 rfl rfl)
theorem dX4_walks_10 : decode cX4_walks 10 = .ok (.iload_n 3, 1) := dk_29 (dk_at dksX4_walks_0 10 rfl rfl)
theorem dX4_walks_11 : decode cX4_walks 11 = .ok (.iconst 0, 1) := dk_3 (dk_at dksX4_walks_0 11 rfl rfl)
theorem dX4_walks_12 : decode cX4_walks 12 = .ok (.iconst 1, 1) := dk_4 (dk_at dksX4_walks_0 12 rfl rfl)
theorem dX4_walks_13 : decode cX4_walks 13 = .ok (.invokestatic 58, 3) := dk_184 0 58 (dk_at dksX4_walks_0 13 rfl rfl)
theorem dX4_walks_16 : decode cX4_walks 16 = .ok (.ifCond .ne 5, 3) := dk_154 0 5 (dk_at dksX4_walks_0 16 rfl rfl)
theorem dX4_walks_19 : decode cX4_walks 19 = .ok (.iconst (-1), 1) := dk_2 (dk_at dksX4_walks_0 19 rfl rfl)
theorem dX4_walks_20 : decode cX4_walks 20 = .ok (.ireturn, 1) := dk_172 (dk_at dksX4_walks_0 20 rfl rfl)
theorem dX4_walks_21 : decode cX4_walks 21 = .ok (.aload_n 0, 1) := dk_42 (dk_at dksX4_walks_0 21 rfl rfl)
theorem dX4_walks_22 : decode cX4_walks 22 = .ok (.getfield 9, 3) := dk_180 0 9 (dk_at dksX4_walks_1 0 rfl rfl)
theorem dX4_walks_25 : decode cX4_walks 25 = .ok (.iconst 0, 1) := dk_3 (dk_at dksX4_walks_1 3 rfl rfl)
theorem dX4_walks_26 : decode cX4_walks 26 = .ok (.iaload, 1) := dk_46 (dk_at dksX4_walks_1 4 rfl rfl)
theorem dX4_walks_27 : decode cX4_walks 27 = .ok (.ifCond .eq 21, 3) := dk_153 0 21 (dk_at dksX4_walks_1 5 rfl rfl)
theorem dX4_walks_30 : decode cX4_walks 30 = .ok (.aload_n 0, 1) := dk_42 (dk_at dksX4_walks_1 8 rfl rfl)
theorem dX4_walks_31 : decode cX4_walks 31 = .ok (.getfield 9, 3) := dk_180 0 9 (dk_at dksX4_walks_1 9 rfl rfl)
theorem dX4_walks_34 : decode cX4_walks 34 = .ok (.iconst 1, 1) := dk_4 (dk_at dksX4_walks_1 12 rfl rfl)
theorem dX4_walks_35 : decode cX4_walks 35 = .ok (.iaload, 1) := dk_46 (dk_at dksX4_walks_1 13 rfl rfl)
theorem dX4_walks_36 : decode cX4_walks 36 = .ok (.ifCond .eq 12, 3) := dk_153 0 12 (dk_at dksX4_walks_1 14 rfl rfl)
theorem dX4_walks_39 : decode cX4_walks 39 = .ok (.aload_n 0, 1) := dk_42 (dk_at dksX4_walks_1 17 rfl rfl)
theorem dX4_walks_40 : decode cX4_walks 40 = .ok (.getfield 9, 3) := dk_180 0 9 (dk_at dksX4_walks_1 18 rfl rfl)
theorem dX4_walks_43 : decode cX4_walks 43 = .ok (.iconst 2, 1) := dk_5 (dk_at dksX4_walks_1 21 rfl rfl)
theorem dX4_walks_44 : decode cX4_walks 44 = .ok (.iaload, 1) := dk_46 (dk_at dksX4_walks_1 22 rfl rfl)
theorem dX4_walks_45 : decode cX4_walks 45 = .ok (.ifCond .ne 6, 3) := dk_154 0 6 (dk_at dksX4_walks_2 0 rfl rfl)
theorem dX4_walks_48 : decode cX4_walks 48 = .ok (.bipush (-3), 2) := dk_16 253 (dk_at dksX4_walks_2 3 rfl rfl)
theorem dX4_walks_50 : decode cX4_walks 50 = .ok (.ireturn, 1) := dk_172 (dk_at dksX4_walks_2 5 rfl rfl)
theorem dX4_walks_51 : decode cX4_walks 51 = .ok (.aload_n 0, 1) := dk_42 (dk_at dksX4_walks_2 6 rfl rfl)
theorem dX4_walks_52 : decode cX4_walks 52 = .ok (.iload_n 2, 1) := dk_28 (dk_at dksX4_walks_2 7 rfl rfl)
theorem dX4_walks_53 : decode cX4_walks 53 = .ok (.putfield 265, 3) := dk_181 1 9 (dk_at dksX4_walks_2 8 rfl rfl)
theorem dX4_walks_56 : decode cX4_walks 56 = .ok (.aload_n 0, 1) := dk_42 (dk_at dksX4_walks_2 11 rfl rfl)
theorem dX4_walks_57 : decode cX4_walks 57 = .ok (.getfield 9, 3) := dk_180 0 9 (dk_at dksX4_walks_2 12 rfl rfl)
theorem dX4_walks_60 : decode cX4_walks 60 = .ok (.aload_n 0, 1) := dk_42 (dk_at dksX4_walks_2 15 rfl rfl)
theorem dX4_walks_61 : decode cX4_walks 61 = .ok (.getfield 16, 3) := dk_180 0 16 (dk_at dksX4_walks_2 16 rfl rfl)
theorem dX4_walks_64 : decode cX4_walks 64 = .ok (.invokestatic 164, 3) := dk_184 0 164 (dk_at dksX4_walks_2 19 rfl rfl)
theorem dX4_walks_67 : decode cX4_walks 67 = .ok (.iconst 0, 1) := dk_3 (dk_at dksX4_walks_2 22 rfl rfl)
theorem dX4_walks_68 : decode cX4_walks 68 = .ok (.istore 4, 2) := dk_54 4 (dk_at dksX4_walks_3 0 rfl rfl)
theorem dX4_walks_70 : decode cX4_walks 70 = .ok (.iconst 0, 1) := dk_3 (dk_at dksX4_walks_3 2 rfl rfl)
theorem dX4_walks_71 : decode cX4_walks 71 = .ok (.istore 5, 2) := dk_54 5 (dk_at dksX4_walks_3 3 rfl rfl)
theorem dX4_walks_73 : decode cX4_walks 73 = .ok (.iconst 0, 1) := dk_3 (dk_at dksX4_walks_3 5 rfl rfl)
theorem dX4_walks_74 : decode cX4_walks 74 = .ok (.istore 6, 2) := dk_54 6 (dk_at dksX4_walks_3 6 rfl rfl)
theorem dX4_walks_76 : decode cX4_walks 76 = .ok (.iload 6, 2) := dk_21 6 (dk_at dksX4_walks_3 8 rfl rfl)
theorem dX4_walks_78 : decode cX4_walks 78 = .ok (.iload_n 1, 1) := dk_27 (dk_at dksX4_walks_3 10 rfl rfl)
theorem dX4_walks_79 : decode cX4_walks 79 = .ok (.if_icmp .ge 162, 3) := dk_162 0 162 (dk_at dksX4_walks_3 11 rfl rfl)
theorem dX4_walks_82 : decode cX4_walks 82 = .ok (.aload_n 0, 1) := dk_42 (dk_at dksX4_walks_3 14 rfl rfl)
theorem dX4_walks_83 : decode cX4_walks 83 = .ok (.getfield 16, 3) := dk_180 0 16 (dk_at dksX4_walks_3 15 rfl rfl)
theorem dX4_walks_86 : decode cX4_walks 86 = .ok (.aload_n 0, 1) := dk_42 (dk_at dksX4_walks_3 18 rfl rfl)
theorem dX4_walks_87 : decode cX4_walks 87 = .ok (.getfield 9, 3) := dk_180 0 9 (dk_at dksX4_walks_3 19 rfl rfl)
theorem dX4_walks_90 : decode cX4_walks 90 = .ok (.invokestatic 164, 3) := dk_184 0 164 (dk_at dksX4_walks_4 0 rfl rfl)
theorem dX4_walks_93 : decode cX4_walks 93 = .ok (.iconst 0, 1) := dk_3 (dk_at dksX4_walks_4 3 rfl rfl)
theorem dX4_walks_94 : decode cX4_walks 94 = .ok (.istore 7, 2) := dk_54 7 (dk_at dksX4_walks_4 4 rfl rfl)
theorem dX4_walks_96 : decode cX4_walks 96 = .ok (.iload 7, 2) := dk_21 7 (dk_at dksX4_walks_4 6 rfl rfl)
theorem dX4_walks_98 : decode cX4_walks 98 = .ok (.bipush 10, 2) := dk_16 10 (dk_at dksX4_walks_4 8 rfl rfl)
theorem dX4_walks_100 : decode cX4_walks 100 = .ok (.if_icmp .ge 96, 3) := dk_162 0 96 (dk_at dksX4_walks_4 10 rfl rfl)
theorem dX4_walks_103 : decode cX4_walks 103 = .ok (.aload_n 0, 1) := dk_42 (dk_at dksX4_walks_4 13 rfl rfl)
theorem dX4_walks_104 : decode cX4_walks 104 = .ok (.aload_n 0, 1) := dk_42 (dk_at dksX4_walks_4 14 rfl rfl)
theorem dX4_walks_105 : decode cX4_walks 105 = .ok (.getfield 9, 3) := dk_180 0 9 (dk_at dksX4_walks_4 15 rfl rfl)
theorem dX4_walks_108 : decode cX4_walks 108 = .ok (.iconst 0, 1) := dk_3 (dk_at dksX4_walks_4 18 rfl rfl)
theorem dX4_walks_109 : decode cX4_walks 109 = .ok (.iaload, 1) := dk_46 (dk_at dksX4_walks_4 19 rfl rfl)
theorem dX4_walks_110 : decode cX4_walks 110 = .ok (.invokevirtual 271, 3) := dk_182 1 15 (dk_at dksX4_walks_4 20 rfl rfl)
theorem dX4_walks_113 : decode cX4_walks 113 = .ok (.istore 8, 2) := dk_54 8 (dk_at dksX4_walks_5 0 rfl rfl)
theorem dX4_walks_115 : decode cX4_walks 115 = .ok (.aload_n 0, 1) := dk_42 (dk_at dksX4_walks_5 2 rfl rfl)
theorem dX4_walks_116 : decode cX4_walks 116 = .ok (.aload_n 0, 1) := dk_42 (dk_at dksX4_walks_5 3 rfl rfl)
theorem dX4_walks_117 : decode cX4_walks 117 = .ok (.getfield 9, 3) := dk_180 0 9 (dk_at dksX4_walks_5 4 rfl rfl)
theorem dX4_walks_120 : decode cX4_walks 120 = .ok (.iconst 1, 1) := dk_4 (dk_at dksX4_walks_5 7 rfl rfl)
theorem dX4_walks_121 : decode cX4_walks 121 = .ok (.iaload, 1) := dk_46 (dk_at dksX4_walks_5 8 rfl rfl)
theorem dX4_walks_122 : decode cX4_walks 122 = .ok (.invokevirtual 271, 3) := dk_182 1 15 (dk_at dksX4_walks_5 9 rfl rfl)
theorem dX4_walks_125 : decode cX4_walks 125 = .ok (.istore 9, 2) := dk_54 9 (dk_at dksX4_walks_5 12 rfl rfl)
theorem dX4_walks_127 : decode cX4_walks 127 = .ok (.aload_n 0, 1) := dk_42 (dk_at dksX4_walks_5 14 rfl rfl)
theorem dX4_walks_128 : decode cX4_walks 128 = .ok (.aload_n 0, 1) := dk_42 (dk_at dksX4_walks_5 15 rfl rfl)
theorem dX4_walks_129 : decode cX4_walks 129 = .ok (.getfield 9, 3) := dk_180 0 9 (dk_at dksX4_walks_5 16 rfl rfl)
theorem dX4_walks_132 : decode cX4_walks 132 = .ok (.iconst 2, 1) := dk_5 (dk_at dksX4_walks_5 19 rfl rfl)
theorem dX4_walks_133 : decode cX4_walks 133 = .ok (.iaload, 1) := dk_46 (dk_at dksX4_walks_5 20 rfl rfl)
theorem dX4_walks_134 : decode cX4_walks 134 = .ok (.invokevirtual 271, 3) := dk_182 1 15 (dk_at dksX4_walks_5 21 rfl rfl)
theorem dX4_walks_137 : decode cX4_walks 137 = .ok (.istore 10, 2) := dk_54 10 (dk_at dksX4_walks_6 0 rfl rfl)
theorem dX4_walks_139 : decode cX4_walks 139 = .ok (.aload_n 0, 1) := dk_42 (dk_at dksX4_walks_6 2 rfl rfl)
theorem dX4_walks_140 : decode cX4_walks 140 = .ok (.bipush 61, 2) := dk_16 61 (dk_at dksX4_walks_6 3 rfl rfl)
theorem dX4_walks_142 : decode cX4_walks 142 = .ok (.invokevirtual 271, 3) := dk_182 1 15 (dk_at dksX4_walks_6 5 rfl rfl)
theorem dX4_walks_145 : decode cX4_walks 145 = .ok (.istore 11, 2) := dk_54 11 (dk_at dksX4_walks_6 8 rfl rfl)
theorem dX4_walks_147 : decode cX4_walks 147 = .ok (.aload_n 0, 1) := dk_42 (dk_at dksX4_walks_6 10 rfl rfl)
theorem dX4_walks_148 : decode cX4_walks 148 = .ok (.iload 8, 2) := dk_21 8 (dk_at dksX4_walks_6 11 rfl rfl)
theorem dX4_walks_150 : decode cX4_walks 150 = .ok (.iload 9, 2) := dk_21 9 (dk_at dksX4_walks_6 13 rfl rfl)
theorem dX4_walks_152 : decode cX4_walks 152 = .ok (.iload 10, 2) := dk_21 10 (dk_at dksX4_walks_6 15 rfl rfl)
theorem dX4_walks_154 : decode cX4_walks 154 = .ok (.iload 11, 2) := dk_21 11 (dk_at dksX4_walks_6 17 rfl rfl)
theorem dX4_walks_156 : decode cX4_walks 156 = .ok (.aload_n 0, 1) := dk_42 (dk_at dksX4_walks_6 19 rfl rfl)
theorem dX4_walks_157 : decode cX4_walks 157 = .ok (.bipush 61, 2) := dk_16 61 (dk_at dksX4_walks_6 20 rfl rfl)
theorem dX4_walks_159 : decode cX4_walks 159 = .ok (.invokevirtual 271, 3) := dk_182 1 15 (dk_at dksX4_walks_7 0 rfl rfl)
theorem dX4_walks_162 : decode cX4_walks 162 = .ok (.invokevirtual 274, 3) := dk_182 1 18 (dk_at dksX4_walks_7 3 rfl rfl)
theorem dX4_walks_165 : decode cX4_walks 165 = .ok (.istore 12, 2) := dk_54 12 (dk_at dksX4_walks_7 6 rfl rfl)
theorem dX4_walks_167 : decode cX4_walks 167 = .ok (.iload 4, 2) := dk_21 4 (dk_at dksX4_walks_7 8 rfl rfl)
theorem dX4_walks_169 : decode cX4_walks 169 = .ok (.iload 12, 2) := dk_21 12 (dk_at dksX4_walks_7 10 rfl rfl)
theorem dX4_walks_171 : decode cX4_walks 171 = .ok (.ifCond .le 15, 3) := dk_158 0 15 (dk_at dksX4_walks_7 12 rfl rfl)
theorem dX4_walks_174 : decode cX4_walks 174 = .ok (.iload 12, 2) := dk_21 12 (dk_at dksX4_walks_7 15 rfl rfl)
theorem dX4_walks_176 : decode cX4_walks 176 = .ok (.iconst 2, 1) := dk_5 (dk_at dksX4_walks_7 17 rfl rfl)
theorem dX4_walks_177 : decode cX4_walks 177 = .ok (.irem, 1) := dk_112 (dk_at dksX4_walks_7 18 rfl rfl)
theorem dX4_walks_178 : decode cX4_walks 178 = .ok (.iconst 1, 1) := dk_4 (dk_at dksX4_walks_7 19 rfl rfl)
theorem dX4_walks_179 : decode cX4_walks 179 = .ok (.if_icmp .ne 7, 3) := dk_160 0 7 (dk_at dksX4_walks_7 20 rfl rfl)
theorem dX4_walks_182 : decode cX4_walks 182 = .ok (.iconst 1, 1) := dk_4 (dk_at dksX4_walks_7 23 rfl rfl)
theorem dX4_walks_183 : decode cX4_walks 183 = .ok (.goto 4, 3) := dk_167 0 4 (dk_at dksX4_walks_8 0 rfl rfl)
theorem dX4_walks_186 : decode cX4_walks 186 = .ok (.iconst 0, 1) := dk_3 (dk_at dksX4_walks_8 3 rfl rfl)
theorem dX4_walks_187 : decode cX4_walks 187 = .ok (.iadd, 1) := dk_96 (dk_at dksX4_walks_8 4 rfl rfl)
theorem dX4_walks_188 : decode cX4_walks 188 = .ok (.istore 4, 2) := dk_54 4 (dk_at dksX4_walks_8 5 rfl rfl)
theorem dX4_walks_190 : decode cX4_walks 190 = .ok (.iinc 7 1, 3) := dk_132 7 1 (dk_at dksX4_walks_8 7 rfl rfl)
theorem dX4_walks_193 : decode cX4_walks 193 = .ok (.goto (-97), 3) := dk_167 255 159 (dk_at dksX4_walks_8 10 rfl rfl)
theorem dX4_walks_196 : decode cX4_walks 196 = .ok (.iconst 0, 1) := dk_3 (dk_at dksX4_walks_8 13 rfl rfl)
theorem dX4_walks_197 : decode cX4_walks 197 = .ok (.istore 7, 2) := dk_54 7 (dk_at dksX4_walks_8 14 rfl rfl)
theorem dX4_walks_199 : decode cX4_walks 199 = .ok (.iload 7, 2) := dk_21 7 (dk_at dksX4_walks_8 16 rfl rfl)
theorem dX4_walks_201 : decode cX4_walks 201 = .ok (.aload_n 0, 1) := dk_42 (dk_at dksX4_walks_8 18 rfl rfl)
theorem dX4_walks_202 : decode cX4_walks 202 = .ok (.getfield 9, 3) := dk_180 0 9 (dk_at dksX4_walks_8 19 rfl rfl)
theorem dX4_walks_205 : decode cX4_walks 205 = .ok (.iconst 0, 1) := dk_3 (dk_at dksX4_walks_8 22 rfl rfl)
theorem dX4_walks_206 : decode cX4_walks 206 = .ok (.iaload, 1) := dk_46 (dk_at dksX4_walks_8 23 rfl rfl)
theorem dX4_walks_207 : decode cX4_walks 207 = .ok (.if_icmp .ge 28, 3) := dk_162 0 28 (dk_at dksX4_walks_9 0 rfl rfl)
theorem dX4_walks_210 : decode cX4_walks 210 = .ok (.iload 5, 2) := dk_21 5 (dk_at dksX4_walks_9 3 rfl rfl)
theorem dX4_walks_212 : decode cX4_walks 212 = .ok (.aload_n 0, 1) := dk_42 (dk_at dksX4_walks_9 5 rfl rfl)
theorem dX4_walks_213 : decode cX4_walks 213 = .ok (.iload 7, 2) := dk_21 7 (dk_at dksX4_walks_9 6 rfl rfl)
theorem dX4_walks_215 : decode cX4_walks 215 = .ok (.invokevirtual 151, 3) := dk_182 0 151 (dk_at dksX4_walks_9 8 rfl rfl)
theorem dX4_walks_218 : decode cX4_walks 218 = .ok (.ifCond .eq 7, 3) := dk_153 0 7 (dk_at dksX4_walks_9 11 rfl rfl)
theorem dX4_walks_221 : decode cX4_walks 221 = .ok (.iconst 1, 1) := dk_4 (dk_at dksX4_walks_9 14 rfl rfl)
theorem dX4_walks_222 : decode cX4_walks 222 = .ok (.goto 4, 3) := dk_167 0 4 (dk_at dksX4_walks_9 15 rfl rfl)
theorem dX4_walks_225 : decode cX4_walks 225 = .ok (.iconst 0, 1) := dk_3 (dk_at dksX4_walks_9 18 rfl rfl)
theorem dX4_walks_226 : decode cX4_walks 226 = .ok (.iadd, 1) := dk_96 (dk_at dksX4_walks_9 19 rfl rfl)
theorem dX4_walks_227 : decode cX4_walks 227 = .ok (.istore 5, 2) := dk_54 5 (dk_at dksX4_walks_9 20 rfl rfl)
theorem dX4_walks_229 : decode cX4_walks 229 = .ok (.iinc 7 1, 3) := dk_132 7 1 (dk_at dksX4_walks_10 0 rfl rfl)
theorem dX4_walks_232 : decode cX4_walks 232 = .ok (.goto (-33), 3) := dk_167 255 223 (dk_at dksX4_walks_10 3 rfl rfl)
theorem dX4_walks_235 : decode cX4_walks 235 = .ok (.iinc 6 1, 3) := dk_132 6 1 (dk_at dksX4_walks_10 6 rfl rfl)
theorem dX4_walks_238 : decode cX4_walks 238 = .ok (.goto (-162), 3) := dk_167 255 94 (dk_at dksX4_walks_10 9 rfl rfl)
theorem dX4_walks_241 : decode cX4_walks 241 = .ok (.aload_n 0, 1) := dk_42 (dk_at dksX4_walks_10 12 rfl rfl)
theorem dX4_walks_242 : decode cX4_walks 242 = .ok (.getfield 16, 3) := dk_180 0 16 (dk_at dksX4_walks_10 13 rfl rfl)
theorem dX4_walks_245 : decode cX4_walks 245 = .ok (.aload_n 0, 1) := dk_42 (dk_at dksX4_walks_10 16 rfl rfl)
theorem dX4_walks_246 : decode cX4_walks 246 = .ok (.getfield 9, 3) := dk_180 0 9 (dk_at dksX4_walks_10 17 rfl rfl)
theorem dX4_walks_249 : decode cX4_walks 249 = .ok (.invokestatic 164, 3) := dk_184 0 164 (dk_at dksX4_walks_10 20 rfl rfl)
theorem dX4_walks_252 : decode cX4_walks 252 = .ok (.iload_n 3, 1) := dk_29 (dk_at dksX4_walks_10 23 rfl rfl)
theorem dX4_walks_253 : decode cX4_walks 253 = .ok (.ifCond .ne 8, 3) := dk_154 0 8 (dk_at dksX4_walks_11 0 rfl rfl)
theorem dX4_walks_256 : decode cX4_walks 256 = .ok (.iload 4, 2) := dk_21 4 (dk_at dksX4_walks_11 3 rfl rfl)
theorem dX4_walks_258 : decode cX4_walks 258 = .ok (.goto 5, 3) := dk_167 0 5 (dk_at dksX4_walks_11 5 rfl rfl)
theorem dX4_walks_261 : decode cX4_walks 261 = .ok (.iload 5, 2) := dk_21 5 (dk_at dksX4_walks_11 8 rfl rfl)
theorem dX4_walks_263 : decode cX4_walks 263 = .ok (.ireturn, 1) := dk_172 (dk_at dksX4_walks_11 10 rfl rfl)
abbrev cX4_drawn : ByteArray := prog_22_method_88_code
def yX4_drawn : MethodName := ⟨RX4, "drawn", "(I)I"⟩
def dkwX4_drawn_1 : List UInt8 := [19, 1, 14, 108, 27, 112, 172]
abbrev dktX4_drawn_1 : List UInt8 := dkwX4_drawn_1 ++ []
def dkwX4_drawn_0 : List UInt8 := [42, 42, 180, 1, 9, 19, 1, 12, 104, 17, 48, 57, 96, 181, 1, 9, 42, 180, 1, 9, 19, 1, 13, 126]
abbrev dktX4_drawn_0 : List UInt8 := dkwX4_drawn_0 ++ dktX4_drawn_1
theorem dksX4_drawn_0 : cX4_drawn.data.toList.drop 0 = dktX4_drawn_0 := by decide +kernel
theorem dksX4_drawn_1 : cX4_drawn.data.toList.drop 24 = dktX4_drawn_1 := dk_seg dksX4_drawn_0 24 rfl rfl
theorem dX4_drawn_0 : decode cX4_drawn 0 = .ok (.aload_n 0, 1) := dk_42 (dk_at dksX4_drawn_0 0 rfl rfl)
theorem dX4_drawn_1 : decode cX4_drawn 1 = .ok (.aload_n 0, 1) := dk_42 (dk_at dksX4_drawn_0 1 rfl rfl)
theorem dX4_drawn_2 : decode cX4_drawn 2 = .ok (.getfield 265, 3) := dk_180 1 9 (dk_at dksX4_drawn_0 2 rfl rfl)
theorem dX4_drawn_5 : decode cX4_drawn 5 = .ok (.ldc_w 268, 3) := dk_19 1 12 (dk_at dksX4_drawn_0 5 rfl rfl)
theorem dX4_drawn_8 : decode cX4_drawn 8 = .ok (.imul, 1) := dk_104 (dk_at dksX4_drawn_0 8 rfl rfl)
theorem dX4_drawn_9 : decode cX4_drawn 9 = .ok (.sipush 12345, 3) := dk_17 48 57 (dk_at dksX4_drawn_0 9 rfl rfl)
theorem dX4_drawn_12 : decode cX4_drawn 12 = .ok (.iadd, 1) := dk_96 (dk_at dksX4_drawn_0 12 rfl rfl)
theorem dX4_drawn_13 : decode cX4_drawn 13 = .ok (.putfield 265, 3) := dk_181 1 9 (dk_at dksX4_drawn_0 13 rfl rfl)
theorem dX4_drawn_16 : decode cX4_drawn 16 = .ok (.aload_n 0, 1) := dk_42 (dk_at dksX4_drawn_0 16 rfl rfl)
theorem dX4_drawn_17 : decode cX4_drawn 17 = .ok (.getfield 265, 3) := dk_180 1 9 (dk_at dksX4_drawn_0 17 rfl rfl)
theorem dX4_drawn_20 : decode cX4_drawn 20 = .ok (.ldc_w 269, 3) := dk_19 1 13 (dk_at dksX4_drawn_0 20 rfl rfl)
theorem dX4_drawn_23 : decode cX4_drawn 23 = .ok (.iand, 1) := dk_126 (dk_at dksX4_drawn_0 23 rfl rfl)
theorem dX4_drawn_24 : decode cX4_drawn 24 = .ok (.ldc_w 270, 3) := dk_19 1 14 (dk_at dksX4_drawn_1 0 rfl rfl)
theorem dX4_drawn_27 : decode cX4_drawn 27 = .ok (.idiv, 1) := dk_108 (dk_at dksX4_drawn_1 3 rfl rfl)
theorem dX4_drawn_28 : decode cX4_drawn 28 = .ok (.iload_n 1, 1) := dk_27 (dk_at dksX4_drawn_1 4 rfl rfl)
theorem dX4_drawn_29 : decode cX4_drawn 29 = .ok (.irem, 1) := dk_112 (dk_at dksX4_drawn_1 5 rfl rfl)
theorem dX4_drawn_30 : decode cX4_drawn 30 = .ok (.ireturn, 1) := dk_172 (dk_at dksX4_drawn_1 6 rfl rfl)
abbrev cX4_image : ByteArray := prog_22_method_90_code
def yX4_image : MethodName := ⟨RX4, "image", "()I"⟩
def dkwX4_image_0 : List UInt8 := [42, 180, 0, 9, 42, 180, 0, 13, 184, 0, 164, 42, 4, 181, 1, 22, 42, 180, 0, 9, 3, 46, 172]
abbrev dktX4_image_0 : List UInt8 := dkwX4_image_0 ++ []
theorem dksX4_image_0 : cX4_image.data.toList.drop 0 = dktX4_image_0 := by decide +kernel
theorem dX4_image_0 : decode cX4_image 0 = .ok (.aload_n 0, 1) := dk_42 (dk_at dksX4_image_0 0 rfl rfl)
theorem dX4_image_1 : decode cX4_image 1 = .ok (.getfield 9, 3) := dk_180 0 9 (dk_at dksX4_image_0 1 rfl rfl)
theorem dX4_image_4 : decode cX4_image 4 = .ok (.aload_n 0, 1) := dk_42 (dk_at dksX4_image_0 4 rfl rfl)
theorem dX4_image_5 : decode cX4_image 5 = .ok (.getfield 13, 3) := dk_180 0 13 (dk_at dksX4_image_0 5 rfl rfl)
theorem dX4_image_8 : decode cX4_image 8 = .ok (.invokestatic 164, 3) := dk_184 0 164 (dk_at dksX4_image_0 8 rfl rfl)
theorem dX4_image_11 : decode cX4_image 11 = .ok (.aload_n 0, 1) := dk_42 (dk_at dksX4_image_0 11 rfl rfl)
theorem dX4_image_12 : decode cX4_image 12 = .ok (.iconst 1, 1) := dk_4 (dk_at dksX4_image_0 12 rfl rfl)
theorem dX4_image_13 : decode cX4_image 13 = .ok (.putfield 278, 3) := dk_181 1 22 (dk_at dksX4_image_0 13 rfl rfl)
theorem dX4_image_16 : decode cX4_image 16 = .ok (.aload_n 0, 1) := dk_42 (dk_at dksX4_image_0 16 rfl rfl)
theorem dX4_image_17 : decode cX4_image 17 = .ok (.getfield 9, 3) := dk_180 0 9 (dk_at dksX4_image_0 17 rfl rfl)
theorem dX4_image_20 : decode cX4_image 20 = .ok (.iconst 0, 1) := dk_3 (dk_at dksX4_image_0 20 rfl rfl)
theorem dX4_image_21 : decode cX4_image 21 = .ok (.iaload, 1) := dk_46 (dk_at dksX4_image_0 21 rfl rfl)
theorem dX4_image_22 : decode cX4_image 22 = .ok (.ireturn, 1) := dk_172 (dk_at dksX4_image_0 22 rfl rfl)
abbrev cX4_restore : ByteArray := prog_22_method_91_code
def yX4_restore : MethodName := ⟨RX4, "restore", "()I"⟩
def dkwX4_restore_1 : List UInt8 := [180, 0, 9, 3, 46, 172]
abbrev dktX4_restore_1 : List UInt8 := dkwX4_restore_1 ++ []
def dkwX4_restore_0 : List UInt8 := [42, 180, 1, 22, 154, 0, 6, 16, 253, 172, 42, 180, 0, 13, 42, 180, 0, 9, 184, 0, 164, 42]
abbrev dktX4_restore_0 : List UInt8 := dkwX4_restore_0 ++ dktX4_restore_1
theorem dksX4_restore_0 : cX4_restore.data.toList.drop 0 = dktX4_restore_0 := by decide +kernel
theorem dksX4_restore_1 : cX4_restore.data.toList.drop 22 = dktX4_restore_1 := dk_seg dksX4_restore_0 22 rfl rfl
theorem dX4_restore_0 : decode cX4_restore 0 = .ok (.aload_n 0, 1) := dk_42 (dk_at dksX4_restore_0 0 rfl rfl)
theorem dX4_restore_1 : decode cX4_restore 1 = .ok (.getfield 278, 3) := dk_180 1 22 (dk_at dksX4_restore_0 1 rfl rfl)
theorem dX4_restore_4 : decode cX4_restore 4 = .ok (.ifCond .ne 6, 3) := dk_154 0 6 (dk_at dksX4_restore_0 4 rfl rfl)
theorem dX4_restore_7 : decode cX4_restore 7 = .ok (.bipush (-3), 2) := dk_16 253 (dk_at dksX4_restore_0 7 rfl rfl)
theorem dX4_restore_9 : decode cX4_restore 9 = .ok (.ireturn, 1) := dk_172 (dk_at dksX4_restore_0 9 rfl rfl)
theorem dX4_restore_10 : decode cX4_restore 10 = .ok (.aload_n 0, 1) := dk_42 (dk_at dksX4_restore_0 10 rfl rfl)
theorem dX4_restore_11 : decode cX4_restore 11 = .ok (.getfield 13, 3) := dk_180 0 13 (dk_at dksX4_restore_0 11 rfl rfl)
theorem dX4_restore_14 : decode cX4_restore 14 = .ok (.aload_n 0, 1) := dk_42 (dk_at dksX4_restore_0 14 rfl rfl)
theorem dX4_restore_15 : decode cX4_restore 15 = .ok (.getfield 9, 3) := dk_180 0 9 (dk_at dksX4_restore_0 15 rfl rfl)
theorem dX4_restore_18 : decode cX4_restore 18 = .ok (.invokestatic 164, 3) := dk_184 0 164 (dk_at dksX4_restore_0 18 rfl rfl)
theorem dX4_restore_21 : decode cX4_restore 21 = .ok (.aload_n 0, 1) := dk_42 (dk_at dksX4_restore_0 21 rfl rfl)
theorem dX4_restore_22 : decode cX4_restore 22 = .ok (.getfield 9, 3) := dk_180 0 9 (dk_at dksX4_restore_1 0 rfl rfl)
theorem dX4_restore_25 : decode cX4_restore 25 = .ok (.iconst 0, 1) := dk_3 (dk_at dksX4_restore_1 3 rfl rfl)
theorem dX4_restore_26 : decode cX4_restore 26 = .ok (.iaload, 1) := dk_46 (dk_at dksX4_restore_1 4 rfl rfl)
theorem dX4_restore_27 : decode cX4_restore 27 = .ok (.ireturn, 1) := dk_172 (dk_at dksX4_restore_1 5 rfl rfl)
abbrev cX4_count : ByteArray := prog_22_method_92_code
def yX4_count : MethodName := ⟨RX4, "count", "(I)I"⟩
def dkwX4_count_6 : List UInt8 := [167, 255, 230, 28, 172, 2, 172]
abbrev dktX4_count_6 : List UInt8 := dkwX4_count_6 ++ []
def dkwX4_count_5 : List UInt8 := [180, 0, 9, 4, 46, 162, 0, 22, 28, 42, 180, 0, 9, 29, 4, 184, 0, 75, 46, 96, 61, 132, 3, 1]
abbrev dktX4_count_5 : List UInt8 := dkwX4_count_5 ++ dktX4_count_6
def dkwX4_count_4 : List UInt8 := [162, 0, 18, 28, 42, 29, 6, 182, 0, 72, 96, 61, 132, 3, 1, 167, 255, 234, 28, 172, 3, 62, 29, 42]
abbrev dktX4_count_4 : List UInt8 := dkwX4_count_4 ++ dktX4_count_5
def dkwX4_count_3 : List UInt8 := [167, 0, 4, 3, 128, 61, 132, 3, 1, 167, 255, 225, 28, 172, 3, 62, 29, 42, 180, 0, 9, 3, 46]
abbrev dktX4_count_3 : List UInt8 := dkwX4_count_3 ++ dktX4_count_4
def dkwX4_count_2 : List UInt8 := [3, 62, 29, 42, 180, 0, 9, 3, 46, 162, 0, 27, 28, 42, 29, 182, 0, 151, 153, 0, 9, 4, 29, 120]
abbrev dktX4_count_2 : List UInt8 := dkwX4_count_2 ++ dktX4_count_3
def dkwX4_count_1 : List UInt8 := [170, 0, 0, 0, 125, 0, 0, 0, 3, 0, 0, 0, 5, 0, 0, 0, 25, 0, 0, 0, 63, 0, 0, 0, 92]
abbrev dktX4_count_1 : List UInt8 := dkwX4_count_1 ++ dktX4_count_2
def dkwX4_count_0 : List UInt8 := [27, 3, 5, 184, 0, 58, 153, 0, 10, 42, 180, 0, 9, 27, 46, 172, 3, 61, 27]
abbrev dktX4_count_0 : List UInt8 := dkwX4_count_0 ++ dktX4_count_1
theorem dksX4_count_0 : cX4_count.data.toList.drop 0 = dktX4_count_0 := by decide +kernel
theorem dksX4_count_1 : cX4_count.data.toList.drop 19 = dktX4_count_1 := dk_seg dksX4_count_0 19 rfl rfl
theorem dksX4_count_2 : cX4_count.data.toList.drop 44 = dktX4_count_2 := dk_seg dksX4_count_1 25 rfl rfl
theorem dksX4_count_3 : cX4_count.data.toList.drop 68 = dktX4_count_3 := dk_seg dksX4_count_2 24 rfl rfl
theorem dksX4_count_4 : cX4_count.data.toList.drop 91 = dktX4_count_4 := dk_seg dksX4_count_3 23 rfl rfl
theorem dksX4_count_5 : cX4_count.data.toList.drop 115 = dktX4_count_5 := dk_seg dksX4_count_4 24 rfl rfl
theorem dksX4_count_6 : cX4_count.data.toList.drop 139 = dktX4_count_6 := dk_seg dksX4_count_5 24 rfl rfl
theorem dX4_count_0 : decode cX4_count 0 = .ok (.iload_n 1, 1) := dk_27 (dk_at dksX4_count_0 0 rfl rfl)
theorem dX4_count_1 : decode cX4_count 1 = .ok (.iconst 0, 1) := dk_3 (dk_at dksX4_count_0 1 rfl rfl)
theorem dX4_count_2 : decode cX4_count 2 = .ok (.iconst 2, 1) := dk_5 (dk_at dksX4_count_0 2 rfl rfl)
theorem dX4_count_3 : decode cX4_count 3 = .ok (.invokestatic 58, 3) := dk_184 0 58 (dk_at dksX4_count_0 3 rfl rfl)
theorem dX4_count_6 : decode cX4_count 6 = .ok (.ifCond .eq 10, 3) := dk_153 0 10 (dk_at dksX4_count_0 6 rfl rfl)
theorem dX4_count_9 : decode cX4_count 9 = .ok (.aload_n 0, 1) := dk_42 (dk_at dksX4_count_0 9 rfl rfl)
theorem dX4_count_10 : decode cX4_count 10 = .ok (.getfield 9, 3) := dk_180 0 9 (dk_at dksX4_count_0 10 rfl rfl)
theorem dX4_count_13 : decode cX4_count 13 = .ok (.iload_n 1, 1) := dk_27 (dk_at dksX4_count_0 13 rfl rfl)
theorem dX4_count_14 : decode cX4_count 14 = .ok (.iaload, 1) := dk_46 (dk_at dksX4_count_0 14 rfl rfl)
theorem dX4_count_15 : decode cX4_count 15 = .ok (.ireturn, 1) := dk_172 (dk_at dksX4_count_0 15 rfl rfl)
theorem dX4_count_16 : decode cX4_count 16 = .ok (.iconst 0, 1) := dk_3 (dk_at dksX4_count_0 16 rfl rfl)
theorem dX4_count_17 : decode cX4_count 17 = .ok (.istore_n 2, 1) := dk_61 (dk_at dksX4_count_0 17 rfl rfl)
theorem dX4_count_18 : decode cX4_count 18 = .ok (.iload_n 1, 1) := dk_27 (dk_at dksX4_count_0 18 rfl rfl)
theorem dX4_count_19 : decode cX4_count 19 = .ok (.tableswitch 125 3 5 #[25, 63, 92], 25) := by decide +kernel
theorem dX4_count_44 : decode cX4_count 44 = .ok (.iconst 0, 1) := dk_3 (dk_at dksX4_count_2 0 rfl rfl)
theorem dX4_count_45 : decode cX4_count 45 = .ok (.istore_n 3, 1) := dk_62 (dk_at dksX4_count_2 1 rfl rfl)
theorem dX4_count_46 : decode cX4_count 46 = .ok (.iload_n 3, 1) := dk_29 (dk_at dksX4_count_2 2 rfl rfl)
theorem dX4_count_47 : decode cX4_count 47 = .ok (.aload_n 0, 1) := dk_42 (dk_at dksX4_count_2 3 rfl rfl)
theorem dX4_count_48 : decode cX4_count 48 = .ok (.getfield 9, 3) := dk_180 0 9 (dk_at dksX4_count_2 4 rfl rfl)
theorem dX4_count_51 : decode cX4_count 51 = .ok (.iconst 0, 1) := dk_3 (dk_at dksX4_count_2 7 rfl rfl)
theorem dX4_count_52 : decode cX4_count 52 = .ok (.iaload, 1) := dk_46 (dk_at dksX4_count_2 8 rfl rfl)
theorem dX4_count_53 : decode cX4_count 53 = .ok (.if_icmp .ge 27, 3) := dk_162 0 27 (dk_at dksX4_count_2 9 rfl rfl)
theorem dX4_count_56 : decode cX4_count 56 = .ok (.iload_n 2, 1) := dk_28 (dk_at dksX4_count_2 12 rfl rfl)
theorem dX4_count_57 : decode cX4_count 57 = .ok (.aload_n 0, 1) := dk_42 (dk_at dksX4_count_2 13 rfl rfl)
theorem dX4_count_58 : decode cX4_count 58 = .ok (.iload_n 3, 1) := dk_29 (dk_at dksX4_count_2 14 rfl rfl)
theorem dX4_count_59 : decode cX4_count 59 = .ok (.invokevirtual 151, 3) := dk_182 0 151 (dk_at dksX4_count_2 15 rfl rfl)
theorem dX4_count_62 : decode cX4_count 62 = .ok (.ifCond .eq 9, 3) := dk_153 0 9 (dk_at dksX4_count_2 18 rfl rfl)
theorem dX4_count_65 : decode cX4_count 65 = .ok (.iconst 1, 1) := dk_4 (dk_at dksX4_count_2 21 rfl rfl)
theorem dX4_count_66 : decode cX4_count 66 = .ok (.iload_n 3, 1) := dk_29 (dk_at dksX4_count_2 22 rfl rfl)
theorem dX4_count_67 : decode cX4_count 67 = .ok (.ishl, 1) := dk_120 (dk_at dksX4_count_2 23 rfl rfl)
theorem dX4_count_68 : decode cX4_count 68 = .ok (.goto 4, 3) := dk_167 0 4 (dk_at dksX4_count_3 0 rfl rfl)
theorem dX4_count_71 : decode cX4_count 71 = .ok (.iconst 0, 1) := dk_3 (dk_at dksX4_count_3 3 rfl rfl)
theorem dX4_count_72 : decode cX4_count 72 = .ok (.ior, 1) := dk_128 (dk_at dksX4_count_3 4 rfl rfl)
theorem dX4_count_73 : decode cX4_count 73 = .ok (.istore_n 2, 1) := dk_61 (dk_at dksX4_count_3 5 rfl rfl)
theorem dX4_count_74 : decode cX4_count 74 = .ok (.iinc 3 1, 3) := dk_132 3 1 (dk_at dksX4_count_3 6 rfl rfl)
theorem dX4_count_77 : decode cX4_count 77 = .ok (.goto (-31), 3) := dk_167 255 225 (dk_at dksX4_count_3 9 rfl rfl)
theorem dX4_count_80 : decode cX4_count 80 = .ok (.iload_n 2, 1) := dk_28 (dk_at dksX4_count_3 12 rfl rfl)
theorem dX4_count_81 : decode cX4_count 81 = .ok (.ireturn, 1) := dk_172 (dk_at dksX4_count_3 13 rfl rfl)
theorem dX4_count_82 : decode cX4_count 82 = .ok (.iconst 0, 1) := dk_3 (dk_at dksX4_count_3 14 rfl rfl)
theorem dX4_count_83 : decode cX4_count 83 = .ok (.istore_n 3, 1) := dk_62 (dk_at dksX4_count_3 15 rfl rfl)
theorem dX4_count_84 : decode cX4_count 84 = .ok (.iload_n 3, 1) := dk_29 (dk_at dksX4_count_3 16 rfl rfl)
theorem dX4_count_85 : decode cX4_count 85 = .ok (.aload_n 0, 1) := dk_42 (dk_at dksX4_count_3 17 rfl rfl)
theorem dX4_count_86 : decode cX4_count 86 = .ok (.getfield 9, 3) := dk_180 0 9 (dk_at dksX4_count_3 18 rfl rfl)
theorem dX4_count_89 : decode cX4_count 89 = .ok (.iconst 0, 1) := dk_3 (dk_at dksX4_count_3 21 rfl rfl)
theorem dX4_count_90 : decode cX4_count 90 = .ok (.iaload, 1) := dk_46 (dk_at dksX4_count_3 22 rfl rfl)
theorem dX4_count_91 : decode cX4_count 91 = .ok (.if_icmp .ge 18, 3) := dk_162 0 18 (dk_at dksX4_count_4 0 rfl rfl)
theorem dX4_count_94 : decode cX4_count 94 = .ok (.iload_n 2, 1) := dk_28 (dk_at dksX4_count_4 3 rfl rfl)
theorem dX4_count_95 : decode cX4_count 95 = .ok (.aload_n 0, 1) := dk_42 (dk_at dksX4_count_4 4 rfl rfl)
theorem dX4_count_96 : decode cX4_count 96 = .ok (.iload_n 3, 1) := dk_29 (dk_at dksX4_count_4 5 rfl rfl)
theorem dX4_count_97 : decode cX4_count 97 = .ok (.iconst 3, 1) := dk_6 (dk_at dksX4_count_4 6 rfl rfl)
theorem dX4_count_98 : decode cX4_count 98 = .ok (.invokevirtual 72, 3) := dk_182 0 72 (dk_at dksX4_count_4 7 rfl rfl)
theorem dX4_count_101 : decode cX4_count 101 = .ok (.iadd, 1) := dk_96 (dk_at dksX4_count_4 10 rfl rfl)
theorem dX4_count_102 : decode cX4_count 102 = .ok (.istore_n 2, 1) := dk_61 (dk_at dksX4_count_4 11 rfl rfl)
theorem dX4_count_103 : decode cX4_count 103 = .ok (.iinc 3 1, 3) := dk_132 3 1 (dk_at dksX4_count_4 12 rfl rfl)
theorem dX4_count_106 : decode cX4_count 106 = .ok (.goto (-22), 3) := dk_167 255 234 (dk_at dksX4_count_4 15 rfl rfl)
theorem dX4_count_109 : decode cX4_count 109 = .ok (.iload_n 2, 1) := dk_28 (dk_at dksX4_count_4 18 rfl rfl)
theorem dX4_count_110 : decode cX4_count 110 = .ok (.ireturn, 1) := dk_172 (dk_at dksX4_count_4 19 rfl rfl)
theorem dX4_count_111 : decode cX4_count 111 = .ok (.iconst 0, 1) := dk_3 (dk_at dksX4_count_4 20 rfl rfl)
theorem dX4_count_112 : decode cX4_count 112 = .ok (.istore_n 3, 1) := dk_62 (dk_at dksX4_count_4 21 rfl rfl)
theorem dX4_count_113 : decode cX4_count 113 = .ok (.iload_n 3, 1) := dk_29 (dk_at dksX4_count_4 22 rfl rfl)
theorem dX4_count_114 : decode cX4_count 114 = .ok (.aload_n 0, 1) := dk_42 (dk_at dksX4_count_4 23 rfl rfl)
theorem dX4_count_115 : decode cX4_count 115 = .ok (.getfield 9, 3) := dk_180 0 9 (dk_at dksX4_count_5 0 rfl rfl)
theorem dX4_count_118 : decode cX4_count 118 = .ok (.iconst 1, 1) := dk_4 (dk_at dksX4_count_5 3 rfl rfl)
theorem dX4_count_119 : decode cX4_count 119 = .ok (.iaload, 1) := dk_46 (dk_at dksX4_count_5 4 rfl rfl)
theorem dX4_count_120 : decode cX4_count 120 = .ok (.if_icmp .ge 22, 3) := dk_162 0 22 (dk_at dksX4_count_5 5 rfl rfl)
theorem dX4_count_123 : decode cX4_count 123 = .ok (.iload_n 2, 1) := dk_28 (dk_at dksX4_count_5 8 rfl rfl)
theorem dX4_count_124 : decode cX4_count 124 = .ok (.aload_n 0, 1) := dk_42 (dk_at dksX4_count_5 9 rfl rfl)
theorem dX4_count_125 : decode cX4_count 125 = .ok (.getfield 9, 3) := dk_180 0 9 (dk_at dksX4_count_5 10 rfl rfl)
theorem dX4_count_128 : decode cX4_count 128 = .ok (.iload_n 3, 1) := dk_29 (dk_at dksX4_count_5 13 rfl rfl)
theorem dX4_count_129 : decode cX4_count 129 = .ok (.iconst 1, 1) := dk_4 (dk_at dksX4_count_5 14 rfl rfl)
theorem dX4_count_130 : decode cX4_count 130 = .ok (.invokestatic 75, 3) := dk_184 0 75 (dk_at dksX4_count_5 15 rfl rfl)
theorem dX4_count_133 : decode cX4_count 133 = .ok (.iaload, 1) := dk_46 (dk_at dksX4_count_5 18 rfl rfl)
theorem dX4_count_134 : decode cX4_count 134 = .ok (.iadd, 1) := dk_96 (dk_at dksX4_count_5 19 rfl rfl)
theorem dX4_count_135 : decode cX4_count 135 = .ok (.istore_n 2, 1) := dk_61 (dk_at dksX4_count_5 20 rfl rfl)
theorem dX4_count_136 : decode cX4_count 136 = .ok (.iinc 3 1, 3) := dk_132 3 1 (dk_at dksX4_count_5 21 rfl rfl)
theorem dX4_count_139 : decode cX4_count 139 = .ok (.goto (-26), 3) := dk_167 255 230 (dk_at dksX4_count_6 0 rfl rfl)
theorem dX4_count_142 : decode cX4_count 142 = .ok (.iload_n 2, 1) := dk_28 (dk_at dksX4_count_6 3 rfl rfl)
theorem dX4_count_143 : decode cX4_count 143 = .ok (.ireturn, 1) := dk_172 (dk_at dksX4_count_6 4 rfl rfl)
theorem dX4_count_144 : decode cX4_count 144 = .ok (.iconst (-1), 1) := dk_2 (dk_at dksX4_count_6 5 rfl rfl)
theorem dX4_count_145 : decode cX4_count 145 = .ok (.ireturn, 1) := dk_172 (dk_at dksX4_count_6 6 rfl rfl)
abbrev cX4_thrown : ByteArray := prog_22_method_93_code
def yX4_thrown : MethodName := ⟨RX4, "thrown", "()I"⟩
theorem dX4_thrown_0 : decode cX4_thrown 0 = .ok (.aload_n 0, 1) := by decide +kernel
theorem dX4_thrown_1 : decode cX4_thrown 1 = .ok (.getfield 282, 3) := by decide +kernel
theorem dX4_thrown_4 : decode cX4_thrown 4 = .ok (.ireturn, 1) := by decide +kernel
abbrev cX4_keep : ByteArray := prog_22_method_97_code
def yX4_keep : MethodName := ⟨RX4, "keep", "(IIII)I"⟩
def dkwX4_keep_2 : List UInt8 := [180, 0, 33, 27, 28, 79, 42, 180, 0, 36, 27, 29, 79, 42, 180, 0, 39, 27, 21, 4, 79, 3, 172]
abbrev dktX4_keep_2 : List UInt8 := dkwX4_keep_2 ++ []
def dkwX4_keep_1 : List UInt8 := [16, 7, 184, 0, 58, 153, 0, 14, 21, 4, 3, 16, 9, 184, 0, 58, 154, 0, 5, 2, 172, 42]
abbrev dktX4_keep_1 : List UInt8 := dkwX4_keep_1 ++ dktX4_keep_2
def dkwX4_keep_0 : List UInt8 := [27, 184, 1, 3, 153, 0, 38, 28, 3, 4, 184, 0, 58, 153, 0, 29, 28, 4, 160, 0, 26, 29, 3]
abbrev dktX4_keep_0 : List UInt8 := dkwX4_keep_0 ++ dktX4_keep_1
theorem dksX4_keep_0 : cX4_keep.data.toList.drop 0 = dktX4_keep_0 := by decide +kernel
theorem dksX4_keep_1 : cX4_keep.data.toList.drop 23 = dktX4_keep_1 := dk_seg dksX4_keep_0 23 rfl rfl
theorem dksX4_keep_2 : cX4_keep.data.toList.drop 45 = dktX4_keep_2 := dk_seg dksX4_keep_1 22 rfl rfl
theorem dX4_keep_0 : decode cX4_keep 0 = .ok (.iload_n 1, 1) := dk_27 (dk_at dksX4_keep_0 0 rfl rfl)
theorem dX4_keep_1 : decode cX4_keep 1 = .ok (.invokestatic 259, 3) := dk_184 1 3 (dk_at dksX4_keep_0 1 rfl rfl)
theorem dX4_keep_4 : decode cX4_keep 4 = .ok (.ifCond .eq 38, 3) := dk_153 0 38 (dk_at dksX4_keep_0 4 rfl rfl)
theorem dX4_keep_7 : decode cX4_keep 7 = .ok (.iload_n 2, 1) := dk_28 (dk_at dksX4_keep_0 7 rfl rfl)
theorem dX4_keep_8 : decode cX4_keep 8 = .ok (.iconst 0, 1) := dk_3 (dk_at dksX4_keep_0 8 rfl rfl)
theorem dX4_keep_9 : decode cX4_keep 9 = .ok (.iconst 1, 1) := dk_4 (dk_at dksX4_keep_0 9 rfl rfl)
theorem dX4_keep_10 : decode cX4_keep 10 = .ok (.invokestatic 58, 3) := dk_184 0 58 (dk_at dksX4_keep_0 10 rfl rfl)
theorem dX4_keep_13 : decode cX4_keep 13 = .ok (.ifCond .eq 29, 3) := dk_153 0 29 (dk_at dksX4_keep_0 13 rfl rfl)
theorem dX4_keep_16 : decode cX4_keep 16 = .ok (.iload_n 2, 1) := dk_28 (dk_at dksX4_keep_0 16 rfl rfl)
theorem dX4_keep_17 : decode cX4_keep 17 = .ok (.iconst 1, 1) := dk_4 (dk_at dksX4_keep_0 17 rfl rfl)
theorem dX4_keep_18 : decode cX4_keep 18 = .ok (.if_icmp .ne 26, 3) := dk_160 0 26 (dk_at dksX4_keep_0 18 rfl rfl)
theorem dX4_keep_21 : decode cX4_keep 21 = .ok (.iload_n 3, 1) := dk_29 (dk_at dksX4_keep_0 21 rfl rfl)
theorem dX4_keep_22 : decode cX4_keep 22 = .ok (.iconst 0, 1) := dk_3 (dk_at dksX4_keep_0 22 rfl rfl)
theorem dX4_keep_23 : decode cX4_keep 23 = .ok (.bipush 7, 2) := dk_16 7 (dk_at dksX4_keep_1 0 rfl rfl)
theorem dX4_keep_25 : decode cX4_keep 25 = .ok (.invokestatic 58, 3) := dk_184 0 58 (dk_at dksX4_keep_1 2 rfl rfl)
theorem dX4_keep_28 : decode cX4_keep 28 = .ok (.ifCond .eq 14, 3) := dk_153 0 14 (dk_at dksX4_keep_1 5 rfl rfl)
theorem dX4_keep_31 : decode cX4_keep 31 = .ok (.iload 4, 2) := dk_21 4 (dk_at dksX4_keep_1 8 rfl rfl)
theorem dX4_keep_33 : decode cX4_keep 33 = .ok (.iconst 0, 1) := dk_3 (dk_at dksX4_keep_1 10 rfl rfl)
theorem dX4_keep_34 : decode cX4_keep 34 = .ok (.bipush 9, 2) := dk_16 9 (dk_at dksX4_keep_1 11 rfl rfl)
theorem dX4_keep_36 : decode cX4_keep 36 = .ok (.invokestatic 58, 3) := dk_184 0 58 (dk_at dksX4_keep_1 13 rfl rfl)
theorem dX4_keep_39 : decode cX4_keep 39 = .ok (.ifCond .ne 5, 3) := dk_154 0 5 (dk_at dksX4_keep_1 16 rfl rfl)
theorem dX4_keep_42 : decode cX4_keep 42 = .ok (.iconst (-1), 1) := dk_2 (dk_at dksX4_keep_1 19 rfl rfl)
theorem dX4_keep_43 : decode cX4_keep 43 = .ok (.ireturn, 1) := dk_172 (dk_at dksX4_keep_1 20 rfl rfl)
theorem dX4_keep_44 : decode cX4_keep 44 = .ok (.aload_n 0, 1) := dk_42 (dk_at dksX4_keep_1 21 rfl rfl)
theorem dX4_keep_45 : decode cX4_keep 45 = .ok (.getfield 33, 3) := dk_180 0 33 (dk_at dksX4_keep_2 0 rfl rfl)
theorem dX4_keep_48 : decode cX4_keep 48 = .ok (.iload_n 1, 1) := dk_27 (dk_at dksX4_keep_2 3 rfl rfl)
theorem dX4_keep_49 : decode cX4_keep 49 = .ok (.iload_n 2, 1) := dk_28 (dk_at dksX4_keep_2 4 rfl rfl)
theorem dX4_keep_50 : decode cX4_keep 50 = .ok (.iastore, 1) := dk_79 (dk_at dksX4_keep_2 5 rfl rfl)
theorem dX4_keep_51 : decode cX4_keep 51 = .ok (.aload_n 0, 1) := dk_42 (dk_at dksX4_keep_2 6 rfl rfl)
theorem dX4_keep_52 : decode cX4_keep 52 = .ok (.getfield 36, 3) := dk_180 0 36 (dk_at dksX4_keep_2 7 rfl rfl)
theorem dX4_keep_55 : decode cX4_keep 55 = .ok (.iload_n 1, 1) := dk_27 (dk_at dksX4_keep_2 10 rfl rfl)
theorem dX4_keep_56 : decode cX4_keep 56 = .ok (.iload_n 3, 1) := dk_29 (dk_at dksX4_keep_2 11 rfl rfl)
theorem dX4_keep_57 : decode cX4_keep 57 = .ok (.iastore, 1) := dk_79 (dk_at dksX4_keep_2 12 rfl rfl)
theorem dX4_keep_58 : decode cX4_keep 58 = .ok (.aload_n 0, 1) := dk_42 (dk_at dksX4_keep_2 13 rfl rfl)
theorem dX4_keep_59 : decode cX4_keep 59 = .ok (.getfield 39, 3) := dk_180 0 39 (dk_at dksX4_keep_2 14 rfl rfl)
theorem dX4_keep_62 : decode cX4_keep 62 = .ok (.iload_n 1, 1) := dk_27 (dk_at dksX4_keep_2 17 rfl rfl)
theorem dX4_keep_63 : decode cX4_keep 63 = .ok (.iload 4, 2) := dk_21 4 (dk_at dksX4_keep_2 18 rfl rfl)
theorem dX4_keep_65 : decode cX4_keep 65 = .ok (.iastore, 1) := dk_79 (dk_at dksX4_keep_2 20 rfl rfl)
theorem dX4_keep_66 : decode cX4_keep 66 = .ok (.iconst 0, 1) := dk_3 (dk_at dksX4_keep_2 21 rfl rfl)
theorem dX4_keep_67 : decode cX4_keep 67 = .ok (.ireturn, 1) := dk_172 (dk_at dksX4_keep_2 22 rfl rfl)
abbrev cX4_row : ByteArray := prog_22_method_98_code
def yX4_row : MethodName := ⟨RX4, "row", "(III)I"⟩
def dkwX4_row_3 : List UInt8 := [21, 4, 96, 3, 79, 132, 4, 1, 167, 255, 233, 3, 172]
abbrev dktX4_row_3 : List UInt8 := dkwX4_row_3 ++ []
def dkwX4_row_2 : List UInt8 := [180, 0, 45, 27, 29, 79, 3, 54, 4, 21, 4, 16, 100, 162, 0, 22, 42, 180, 0, 48, 16, 100, 27, 104]
abbrev dktX4_row_2 : List UInt8 := dkwX4_row_2 ++ dktX4_row_3
def dkwX4_row_1 : List UInt8 := [29, 156, 0, 6, 16, 242, 172, 42, 180, 0, 33, 27, 5, 79, 42, 180, 0, 42, 27, 28, 79, 42]
abbrev dktX4_row_1 : List UInt8 := dkwX4_row_1 ++ dktX4_row_2
def dkwX4_row_0 : List UInt8 := [27, 184, 1, 3, 153, 0, 18, 28, 3, 5, 184, 0, 58, 153, 0, 9, 29, 16, 100, 164, 0, 5, 2, 172]
abbrev dktX4_row_0 : List UInt8 := dkwX4_row_0 ++ dktX4_row_1
theorem dksX4_row_0 : cX4_row.data.toList.drop 0 = dktX4_row_0 := by decide +kernel
theorem dksX4_row_1 : cX4_row.data.toList.drop 24 = dktX4_row_1 := dk_seg dksX4_row_0 24 rfl rfl
theorem dksX4_row_2 : cX4_row.data.toList.drop 46 = dktX4_row_2 := dk_seg dksX4_row_1 22 rfl rfl
theorem dksX4_row_3 : cX4_row.data.toList.drop 70 = dktX4_row_3 := dk_seg dksX4_row_2 24 rfl rfl
theorem dX4_row_0 : decode cX4_row 0 = .ok (.iload_n 1, 1) := dk_27 (dk_at dksX4_row_0 0 rfl rfl)
theorem dX4_row_1 : decode cX4_row 1 = .ok (.invokestatic 259, 3) := dk_184 1 3 (dk_at dksX4_row_0 1 rfl rfl)
theorem dX4_row_4 : decode cX4_row 4 = .ok (.ifCond .eq 18, 3) := dk_153 0 18 (dk_at dksX4_row_0 4 rfl rfl)
theorem dX4_row_7 : decode cX4_row 7 = .ok (.iload_n 2, 1) := dk_28 (dk_at dksX4_row_0 7 rfl rfl)
theorem dX4_row_8 : decode cX4_row 8 = .ok (.iconst 0, 1) := dk_3 (dk_at dksX4_row_0 8 rfl rfl)
theorem dX4_row_9 : decode cX4_row 9 = .ok (.iconst 2, 1) := dk_5 (dk_at dksX4_row_0 9 rfl rfl)
theorem dX4_row_10 : decode cX4_row 10 = .ok (.invokestatic 58, 3) := dk_184 0 58 (dk_at dksX4_row_0 10 rfl rfl)
theorem dX4_row_13 : decode cX4_row 13 = .ok (.ifCond .eq 9, 3) := dk_153 0 9 (dk_at dksX4_row_0 13 rfl rfl)
theorem dX4_row_16 : decode cX4_row 16 = .ok (.iload_n 3, 1) := dk_29 (dk_at dksX4_row_0 16 rfl rfl)
theorem dX4_row_17 : decode cX4_row 17 = .ok (.bipush 100, 2) := dk_16 100 (dk_at dksX4_row_0 17 rfl rfl)
theorem dX4_row_19 : decode cX4_row 19 = .ok (.if_icmp .le 5, 3) := dk_164 0 5 (dk_at dksX4_row_0 19 rfl rfl)
theorem dX4_row_22 : decode cX4_row 22 = .ok (.iconst (-1), 1) := dk_2 (dk_at dksX4_row_0 22 rfl rfl)
theorem dX4_row_23 : decode cX4_row 23 = .ok (.ireturn, 1) := dk_172 (dk_at dksX4_row_0 23 rfl rfl)
theorem dX4_row_24 : decode cX4_row 24 = .ok (.iload_n 3, 1) := dk_29 (dk_at dksX4_row_1 0 rfl rfl)
theorem dX4_row_25 : decode cX4_row 25 = .ok (.ifCond .ge 6, 3) := dk_156 0 6 (dk_at dksX4_row_1 1 rfl rfl)
theorem dX4_row_28 : decode cX4_row 28 = .ok (.bipush (-14), 2) := dk_16 242 (dk_at dksX4_row_1 4 rfl rfl)
theorem dX4_row_30 : decode cX4_row 30 = .ok (.ireturn, 1) := dk_172 (dk_at dksX4_row_1 6 rfl rfl)
theorem dX4_row_31 : decode cX4_row 31 = .ok (.aload_n 0, 1) := dk_42 (dk_at dksX4_row_1 7 rfl rfl)
theorem dX4_row_32 : decode cX4_row 32 = .ok (.getfield 33, 3) := dk_180 0 33 (dk_at dksX4_row_1 8 rfl rfl)
theorem dX4_row_35 : decode cX4_row 35 = .ok (.iload_n 1, 1) := dk_27 (dk_at dksX4_row_1 11 rfl rfl)
theorem dX4_row_36 : decode cX4_row 36 = .ok (.iconst 2, 1) := dk_5 (dk_at dksX4_row_1 12 rfl rfl)
theorem dX4_row_37 : decode cX4_row 37 = .ok (.iastore, 1) := dk_79 (dk_at dksX4_row_1 13 rfl rfl)
theorem dX4_row_38 : decode cX4_row 38 = .ok (.aload_n 0, 1) := dk_42 (dk_at dksX4_row_1 14 rfl rfl)
theorem dX4_row_39 : decode cX4_row 39 = .ok (.getfield 42, 3) := dk_180 0 42 (dk_at dksX4_row_1 15 rfl rfl)
theorem dX4_row_42 : decode cX4_row 42 = .ok (.iload_n 1, 1) := dk_27 (dk_at dksX4_row_1 18 rfl rfl)
theorem dX4_row_43 : decode cX4_row 43 = .ok (.iload_n 2, 1) := dk_28 (dk_at dksX4_row_1 19 rfl rfl)
theorem dX4_row_44 : decode cX4_row 44 = .ok (.iastore, 1) := dk_79 (dk_at dksX4_row_1 20 rfl rfl)
theorem dX4_row_45 : decode cX4_row 45 = .ok (.aload_n 0, 1) := dk_42 (dk_at dksX4_row_1 21 rfl rfl)
theorem dX4_row_46 : decode cX4_row 46 = .ok (.getfield 45, 3) := dk_180 0 45 (dk_at dksX4_row_2 0 rfl rfl)
theorem dX4_row_49 : decode cX4_row 49 = .ok (.iload_n 1, 1) := dk_27 (dk_at dksX4_row_2 3 rfl rfl)
theorem dX4_row_50 : decode cX4_row 50 = .ok (.iload_n 3, 1) := dk_29 (dk_at dksX4_row_2 4 rfl rfl)
theorem dX4_row_51 : decode cX4_row 51 = .ok (.iastore, 1) := dk_79 (dk_at dksX4_row_2 5 rfl rfl)
theorem dX4_row_52 : decode cX4_row 52 = .ok (.iconst 0, 1) := dk_3 (dk_at dksX4_row_2 6 rfl rfl)
theorem dX4_row_53 : decode cX4_row 53 = .ok (.istore 4, 2) := dk_54 4 (dk_at dksX4_row_2 7 rfl rfl)
theorem dX4_row_55 : decode cX4_row 55 = .ok (.iload 4, 2) := dk_21 4 (dk_at dksX4_row_2 9 rfl rfl)
theorem dX4_row_57 : decode cX4_row 57 = .ok (.bipush 100, 2) := dk_16 100 (dk_at dksX4_row_2 11 rfl rfl)
theorem dX4_row_59 : decode cX4_row 59 = .ok (.if_icmp .ge 22, 3) := dk_162 0 22 (dk_at dksX4_row_2 13 rfl rfl)
theorem dX4_row_62 : decode cX4_row 62 = .ok (.aload_n 0, 1) := dk_42 (dk_at dksX4_row_2 16 rfl rfl)
theorem dX4_row_63 : decode cX4_row 63 = .ok (.getfield 48, 3) := dk_180 0 48 (dk_at dksX4_row_2 17 rfl rfl)
theorem dX4_row_66 : decode cX4_row 66 = .ok (.bipush 100, 2) := dk_16 100 (dk_at dksX4_row_2 20 rfl rfl)
theorem dX4_row_68 : decode cX4_row 68 = .ok (.iload_n 1, 1) := dk_27 (dk_at dksX4_row_2 22 rfl rfl)
theorem dX4_row_69 : decode cX4_row 69 = .ok (.imul, 1) := dk_104 (dk_at dksX4_row_2 23 rfl rfl)
theorem dX4_row_70 : decode cX4_row 70 = .ok (.iload 4, 2) := dk_21 4 (dk_at dksX4_row_3 0 rfl rfl)
theorem dX4_row_72 : decode cX4_row 72 = .ok (.iadd, 1) := dk_96 (dk_at dksX4_row_3 2 rfl rfl)
theorem dX4_row_73 : decode cX4_row 73 = .ok (.iconst 0, 1) := dk_3 (dk_at dksX4_row_3 3 rfl rfl)
theorem dX4_row_74 : decode cX4_row 74 = .ok (.iastore, 1) := dk_79 (dk_at dksX4_row_3 4 rfl rfl)
theorem dX4_row_75 : decode cX4_row 75 = .ok (.iinc 4 1, 3) := dk_132 4 1 (dk_at dksX4_row_3 5 rfl rfl)
theorem dX4_row_78 : decode cX4_row 78 = .ok (.goto (-23), 3) := dk_167 255 233 (dk_at dksX4_row_3 8 rfl rfl)
theorem dX4_row_81 : decode cX4_row 81 = .ok (.iconst 0, 1) := dk_3 (dk_at dksX4_row_3 11 rfl rfl)
theorem dX4_row_82 : decode cX4_row 82 = .ok (.ireturn, 1) := dk_172 (dk_at dksX4_row_3 12 rfl rfl)
abbrev cX4_put : ByteArray := prog_22_method_99_code
def yX4_put : MethodName := ⟨RX4, "put", "(III)I"⟩
def dkwX4_put_3 : List UInt8 := [147, 167, 0, 4, 29, 79, 3, 172]
abbrev dktX4_put_3 : List UInt8 := dkwX4_put_3 ++ []
def dkwX4_put_2 : List UInt8 := [180, 0, 42, 27, 46, 154, 0, 8, 29, 145, 167, 0, 19, 42, 180, 0, 42, 27, 46, 4, 160, 0, 8, 29]
abbrev dktX4_put_2 : List UInt8 := dkwX4_put_2 ++ dktX4_put_3
def dkwX4_put_1 : List UInt8 := [4, 100, 184, 0, 58, 154, 0, 6, 16, 243, 172, 42, 180, 0, 48, 16, 100, 27, 104, 28, 96, 42]
abbrev dktX4_put_1 : List UInt8 := dkwX4_put_1 ++ dktX4_put_2
def dkwX4_put_0 : List UInt8 := [42, 27, 2, 182, 0, 157, 54, 4, 21, 4, 153, 0, 6, 21, 4, 172, 28, 3, 42, 180, 0, 45, 27, 46]
abbrev dktX4_put_0 : List UInt8 := dkwX4_put_0 ++ dktX4_put_1
theorem dksX4_put_0 : cX4_put.data.toList.drop 0 = dktX4_put_0 := by decide +kernel
theorem dksX4_put_1 : cX4_put.data.toList.drop 24 = dktX4_put_1 := dk_seg dksX4_put_0 24 rfl rfl
theorem dksX4_put_2 : cX4_put.data.toList.drop 46 = dktX4_put_2 := dk_seg dksX4_put_1 22 rfl rfl
theorem dksX4_put_3 : cX4_put.data.toList.drop 70 = dktX4_put_3 := dk_seg dksX4_put_2 24 rfl rfl
theorem dX4_put_0 : decode cX4_put 0 = .ok (.aload_n 0, 1) := dk_42 (dk_at dksX4_put_0 0 rfl rfl)
theorem dX4_put_1 : decode cX4_put 1 = .ok (.iload_n 1, 1) := dk_27 (dk_at dksX4_put_0 1 rfl rfl)
theorem dX4_put_2 : decode cX4_put 2 = .ok (.iconst (-1), 1) := dk_2 (dk_at dksX4_put_0 2 rfl rfl)
theorem dX4_put_3 : decode cX4_put 3 = .ok (.invokevirtual 157, 3) := dk_182 0 157 (dk_at dksX4_put_0 3 rfl rfl)
theorem dX4_put_6 : decode cX4_put 6 = .ok (.istore 4, 2) := dk_54 4 (dk_at dksX4_put_0 6 rfl rfl)
theorem dX4_put_8 : decode cX4_put 8 = .ok (.iload 4, 2) := dk_21 4 (dk_at dksX4_put_0 8 rfl rfl)
theorem dX4_put_10 : decode cX4_put 10 = .ok (.ifCond .eq 6, 3) := dk_153 0 6 (dk_at dksX4_put_0 10 rfl rfl)
theorem dX4_put_13 : decode cX4_put 13 = .ok (.iload 4, 2) := dk_21 4 (dk_at dksX4_put_0 13 rfl rfl)
theorem dX4_put_15 : decode cX4_put 15 = .ok (.ireturn, 1) := dk_172 (dk_at dksX4_put_0 15 rfl rfl)
theorem dX4_put_16 : decode cX4_put 16 = .ok (.iload_n 2, 1) := dk_28 (dk_at dksX4_put_0 16 rfl rfl)
theorem dX4_put_17 : decode cX4_put 17 = .ok (.iconst 0, 1) := dk_3 (dk_at dksX4_put_0 17 rfl rfl)
theorem dX4_put_18 : decode cX4_put 18 = .ok (.aload_n 0, 1) := dk_42 (dk_at dksX4_put_0 18 rfl rfl)
theorem dX4_put_19 : decode cX4_put 19 = .ok (.getfield 45, 3) := dk_180 0 45 (dk_at dksX4_put_0 19 rfl rfl)
theorem dX4_put_22 : decode cX4_put 22 = .ok (.iload_n 1, 1) := dk_27 (dk_at dksX4_put_0 22 rfl rfl)
theorem dX4_put_23 : decode cX4_put 23 = .ok (.iaload, 1) := dk_46 (dk_at dksX4_put_0 23 rfl rfl)
theorem dX4_put_24 : decode cX4_put 24 = .ok (.iconst 1, 1) := dk_4 (dk_at dksX4_put_1 0 rfl rfl)
theorem dX4_put_25 : decode cX4_put 25 = .ok (.isub, 1) := dk_100 (dk_at dksX4_put_1 1 rfl rfl)
theorem dX4_put_26 : decode cX4_put 26 = .ok (.invokestatic 58, 3) := dk_184 0 58 (dk_at dksX4_put_1 2 rfl rfl)
theorem dX4_put_29 : decode cX4_put 29 = .ok (.ifCond .ne 6, 3) := dk_154 0 6 (dk_at dksX4_put_1 5 rfl rfl)
theorem dX4_put_32 : decode cX4_put 32 = .ok (.bipush (-13), 2) := dk_16 243 (dk_at dksX4_put_1 8 rfl rfl)
theorem dX4_put_34 : decode cX4_put 34 = .ok (.ireturn, 1) := dk_172 (dk_at dksX4_put_1 10 rfl rfl)
theorem dX4_put_35 : decode cX4_put 35 = .ok (.aload_n 0, 1) := dk_42 (dk_at dksX4_put_1 11 rfl rfl)
theorem dX4_put_36 : decode cX4_put 36 = .ok (.getfield 48, 3) := dk_180 0 48 (dk_at dksX4_put_1 12 rfl rfl)
theorem dX4_put_39 : decode cX4_put 39 = .ok (.bipush 100, 2) := dk_16 100 (dk_at dksX4_put_1 15 rfl rfl)
theorem dX4_put_41 : decode cX4_put 41 = .ok (.iload_n 1, 1) := dk_27 (dk_at dksX4_put_1 17 rfl rfl)
theorem dX4_put_42 : decode cX4_put 42 = .ok (.imul, 1) := dk_104 (dk_at dksX4_put_1 18 rfl rfl)
theorem dX4_put_43 : decode cX4_put 43 = .ok (.iload_n 2, 1) := dk_28 (dk_at dksX4_put_1 19 rfl rfl)
theorem dX4_put_44 : decode cX4_put 44 = .ok (.iadd, 1) := dk_96 (dk_at dksX4_put_1 20 rfl rfl)
theorem dX4_put_45 : decode cX4_put 45 = .ok (.aload_n 0, 1) := dk_42 (dk_at dksX4_put_1 21 rfl rfl)
theorem dX4_put_46 : decode cX4_put 46 = .ok (.getfield 42, 3) := dk_180 0 42 (dk_at dksX4_put_2 0 rfl rfl)
theorem dX4_put_49 : decode cX4_put 49 = .ok (.iload_n 1, 1) := dk_27 (dk_at dksX4_put_2 3 rfl rfl)
theorem dX4_put_50 : decode cX4_put 50 = .ok (.iaload, 1) := dk_46 (dk_at dksX4_put_2 4 rfl rfl)
theorem dX4_put_51 : decode cX4_put 51 = .ok (.ifCond .ne 8, 3) := dk_154 0 8 (dk_at dksX4_put_2 5 rfl rfl)
theorem dX4_put_54 : decode cX4_put 54 = .ok (.iload_n 3, 1) := dk_29 (dk_at dksX4_put_2 8 rfl rfl)
theorem dX4_put_55 : decode cX4_put 55 = .ok (.i2b, 1) := dk_145 (dk_at dksX4_put_2 9 rfl rfl)
theorem dX4_put_56 : decode cX4_put 56 = .ok (.goto 19, 3) := dk_167 0 19 (dk_at dksX4_put_2 10 rfl rfl)
theorem dX4_put_59 : decode cX4_put 59 = .ok (.aload_n 0, 1) := dk_42 (dk_at dksX4_put_2 13 rfl rfl)
theorem dX4_put_60 : decode cX4_put 60 = .ok (.getfield 42, 3) := dk_180 0 42 (dk_at dksX4_put_2 14 rfl rfl)
theorem dX4_put_63 : decode cX4_put 63 = .ok (.iload_n 1, 1) := dk_27 (dk_at dksX4_put_2 17 rfl rfl)
theorem dX4_put_64 : decode cX4_put 64 = .ok (.iaload, 1) := dk_46 (dk_at dksX4_put_2 18 rfl rfl)
theorem dX4_put_65 : decode cX4_put 65 = .ok (.iconst 1, 1) := dk_4 (dk_at dksX4_put_2 19 rfl rfl)
theorem dX4_put_66 : decode cX4_put 66 = .ok (.if_icmp .ne 8, 3) := dk_160 0 8 (dk_at dksX4_put_2 20 rfl rfl)
theorem dX4_put_69 : decode cX4_put 69 = .ok (.iload_n 3, 1) := dk_29 (dk_at dksX4_put_2 23 rfl rfl)
theorem dX4_put_70 : decode cX4_put 70 = .ok (.i2s, 1) := dk_147 (dk_at dksX4_put_3 0 rfl rfl)
theorem dX4_put_71 : decode cX4_put 71 = .ok (.goto 4, 3) := dk_167 0 4 (dk_at dksX4_put_3 1 rfl rfl)
theorem dX4_put_74 : decode cX4_put 74 = .ok (.iload_n 3, 1) := dk_29 (dk_at dksX4_put_3 4 rfl rfl)
theorem dX4_put_75 : decode cX4_put 75 = .ok (.iastore, 1) := dk_79 (dk_at dksX4_put_3 5 rfl rfl)
theorem dX4_put_76 : decode cX4_put 76 = .ok (.iconst 0, 1) := dk_3 (dk_at dksX4_put_3 6 rfl rfl)
theorem dX4_put_77 : decode cX4_put 77 = .ok (.ireturn, 1) := dk_172 (dk_at dksX4_put_3 7 rfl rfl)
abbrev cX4_element : ByteArray := prog_22_method_100_code
def yX4_element : MethodName := ⟨RX4, "element", "(II)J"⟩
def dkwX4_element_2 : List UInt8 := [180, 1, 26, 154, 0, 18, 42, 180, 0, 48, 16, 100, 27, 104, 28, 96, 46, 133, 167, 0, 4, 9, 173]
abbrev dktX4_element_2 : List UInt8 := dkwX4_element_2 ++ []
def dkwX4_element_1 : List UInt8 := [42, 180, 0, 45, 27, 46, 4, 100, 184, 0, 58, 154, 0, 7, 5, 167, 0, 4, 3, 181, 1, 26, 42]
abbrev dktX4_element_1 : List UInt8 := dkwX4_element_1 ++ dktX4_element_2
def dkwX4_element_0 : List UInt8 := [42, 27, 184, 1, 3, 154, 0, 7, 4, 167, 0, 34, 42, 180, 0, 33, 27, 46, 5, 160, 0, 19, 28, 3]
abbrev dktX4_element_0 : List UInt8 := dkwX4_element_0 ++ dktX4_element_1
theorem dksX4_element_0 : cX4_element.data.toList.drop 0 = dktX4_element_0 := by decide +kernel
theorem dksX4_element_1 : cX4_element.data.toList.drop 24 = dktX4_element_1 := dk_seg dksX4_element_0 24 rfl rfl
theorem dksX4_element_2 : cX4_element.data.toList.drop 47 = dktX4_element_2 := dk_seg dksX4_element_1 23 rfl rfl
theorem dX4_element_0 : decode cX4_element 0 = .ok (.aload_n 0, 1) := dk_42 (dk_at dksX4_element_0 0 rfl rfl)
theorem dX4_element_1 : decode cX4_element 1 = .ok (.iload_n 1, 1) := dk_27 (dk_at dksX4_element_0 1 rfl rfl)
theorem dX4_element_2 : decode cX4_element 2 = .ok (.invokestatic 259, 3) := dk_184 1 3 (dk_at dksX4_element_0 2 rfl rfl)
theorem dX4_element_5 : decode cX4_element 5 = .ok (.ifCond .ne 7, 3) := dk_154 0 7 (dk_at dksX4_element_0 5 rfl rfl)
theorem dX4_element_8 : decode cX4_element 8 = .ok (.iconst 1, 1) := dk_4 (dk_at dksX4_element_0 8 rfl rfl)
theorem dX4_element_9 : decode cX4_element 9 = .ok (.goto 34, 3) := dk_167 0 34 (dk_at dksX4_element_0 9 rfl rfl)
theorem dX4_element_12 : decode cX4_element 12 = .ok (.aload_n 0, 1) := dk_42 (dk_at dksX4_element_0 12 rfl rfl)
theorem dX4_element_13 : decode cX4_element 13 = .ok (.getfield 33, 3) := dk_180 0 33 (dk_at dksX4_element_0 13 rfl rfl)
theorem dX4_element_16 : decode cX4_element 16 = .ok (.iload_n 1, 1) := dk_27 (dk_at dksX4_element_0 16 rfl rfl)
theorem dX4_element_17 : decode cX4_element 17 = .ok (.iaload, 1) := dk_46 (dk_at dksX4_element_0 17 rfl rfl)
theorem dX4_element_18 : decode cX4_element 18 = .ok (.iconst 2, 1) := dk_5 (dk_at dksX4_element_0 18 rfl rfl)
theorem dX4_element_19 : decode cX4_element 19 = .ok (.if_icmp .ne 19, 3) := dk_160 0 19 (dk_at dksX4_element_0 19 rfl rfl)
theorem dX4_element_22 : decode cX4_element 22 = .ok (.iload_n 2, 1) := dk_28 (dk_at dksX4_element_0 22 rfl rfl)
theorem dX4_element_23 : decode cX4_element 23 = .ok (.iconst 0, 1) := dk_3 (dk_at dksX4_element_0 23 rfl rfl)
theorem dX4_element_24 : decode cX4_element 24 = .ok (.aload_n 0, 1) := dk_42 (dk_at dksX4_element_1 0 rfl rfl)
theorem dX4_element_25 : decode cX4_element 25 = .ok (.getfield 45, 3) := dk_180 0 45 (dk_at dksX4_element_1 1 rfl rfl)
theorem dX4_element_28 : decode cX4_element 28 = .ok (.iload_n 1, 1) := dk_27 (dk_at dksX4_element_1 4 rfl rfl)
theorem dX4_element_29 : decode cX4_element 29 = .ok (.iaload, 1) := dk_46 (dk_at dksX4_element_1 5 rfl rfl)
theorem dX4_element_30 : decode cX4_element 30 = .ok (.iconst 1, 1) := dk_4 (dk_at dksX4_element_1 6 rfl rfl)
theorem dX4_element_31 : decode cX4_element 31 = .ok (.isub, 1) := dk_100 (dk_at dksX4_element_1 7 rfl rfl)
theorem dX4_element_32 : decode cX4_element 32 = .ok (.invokestatic 58, 3) := dk_184 0 58 (dk_at dksX4_element_1 8 rfl rfl)
theorem dX4_element_35 : decode cX4_element 35 = .ok (.ifCond .ne 7, 3) := dk_154 0 7 (dk_at dksX4_element_1 11 rfl rfl)
theorem dX4_element_38 : decode cX4_element 38 = .ok (.iconst 2, 1) := dk_5 (dk_at dksX4_element_1 14 rfl rfl)
theorem dX4_element_39 : decode cX4_element 39 = .ok (.goto 4, 3) := dk_167 0 4 (dk_at dksX4_element_1 15 rfl rfl)
theorem dX4_element_42 : decode cX4_element 42 = .ok (.iconst 0, 1) := dk_3 (dk_at dksX4_element_1 18 rfl rfl)
theorem dX4_element_43 : decode cX4_element 43 = .ok (.putfield 282, 3) := dk_181 1 26 (dk_at dksX4_element_1 19 rfl rfl)
theorem dX4_element_46 : decode cX4_element 46 = .ok (.aload_n 0, 1) := dk_42 (dk_at dksX4_element_1 22 rfl rfl)
theorem dX4_element_47 : decode cX4_element 47 = .ok (.getfield 282, 3) := dk_180 1 26 (dk_at dksX4_element_2 0 rfl rfl)
theorem dX4_element_50 : decode cX4_element 50 = .ok (.ifCond .ne 18, 3) := dk_154 0 18 (dk_at dksX4_element_2 3 rfl rfl)
theorem dX4_element_53 : decode cX4_element 53 = .ok (.aload_n 0, 1) := dk_42 (dk_at dksX4_element_2 6 rfl rfl)
theorem dX4_element_54 : decode cX4_element 54 = .ok (.getfield 48, 3) := dk_180 0 48 (dk_at dksX4_element_2 7 rfl rfl)
theorem dX4_element_57 : decode cX4_element 57 = .ok (.bipush 100, 2) := dk_16 100 (dk_at dksX4_element_2 10 rfl rfl)
theorem dX4_element_59 : decode cX4_element 59 = .ok (.iload_n 1, 1) := dk_27 (dk_at dksX4_element_2 12 rfl rfl)
theorem dX4_element_60 : decode cX4_element 60 = .ok (.imul, 1) := dk_104 (dk_at dksX4_element_2 13 rfl rfl)
theorem dX4_element_61 : decode cX4_element 61 = .ok (.iload_n 2, 1) := dk_28 (dk_at dksX4_element_2 14 rfl rfl)
theorem dX4_element_62 : decode cX4_element 62 = .ok (.iadd, 1) := dk_96 (dk_at dksX4_element_2 15 rfl rfl)
theorem dX4_element_63 : decode cX4_element 63 = .ok (.iaload, 1) := dk_46 (dk_at dksX4_element_2 16 rfl rfl)
theorem dX4_element_64 : decode cX4_element 64 = .ok (.i2l, 1) := dk_133 (dk_at dksX4_element_2 17 rfl rfl)
theorem dX4_element_65 : decode cX4_element 65 = .ok (.goto 4, 3) := dk_167 0 4 (dk_at dksX4_element_2 18 rfl rfl)
theorem dX4_element_68 : decode cX4_element 68 = .ok (.lconst 0, 1) := dk_9 (dk_at dksX4_element_2 21 rfl rfl)
theorem dX4_element_69 : decode cX4_element 69 = .ok (.lreturn, 1) := dk_173 (dk_at dksX4_element_2 22 rfl rfl)
abbrev cX4_copy : ByteArray := prog_22_method_101_code
def yX4_copy : MethodName := ⟨RX4, "copy", "(IIIII)I"⟩
def dkwX4_copy_7 : List UInt8 := [180, 0, 48, 16, 100, 27, 104, 28, 96, 21, 7, 96, 46, 79, 132, 6, 1, 167, 255, 197, 21, 5, 172]
abbrev dktX4_copy_7 : List UInt8 := dkwX4_copy_7 ++ []
def dkwX4_copy_6 : List UInt8 := [21, 5, 4, 100, 21, 6, 100, 54, 7, 42, 180, 0, 48, 16, 100, 29, 104, 21, 4, 96, 21, 7, 96, 42]
abbrev dktX4_copy_6 : List UInt8 := dkwX4_copy_6 ++ dktX4_copy_7
def dkwX4_copy_5 : List UInt8 := [16, 243, 172, 3, 54, 6, 21, 6, 21, 5, 162, 0, 58, 28, 21, 4, 164, 0, 8, 21, 6, 167, 0, 10]
abbrev dktX4_copy_5 : List UInt8 := dkwX4_copy_5 ++ dktX4_copy_6
def dkwX4_copy_4 : List UInt8 := [180, 0, 45, 27, 46, 28, 100, 163, 0, 17, 21, 5, 42, 180, 0, 45, 29, 46, 21, 4, 100, 164, 0, 6]
abbrev dktX4_copy_4 : List UInt8 := dkwX4_copy_4 ++ dktX4_copy_5
def dkwX4_copy_3 : List UInt8 := [46, 159, 0, 6, 16, 244, 172, 21, 5, 155, 0, 39, 28, 155, 0, 35, 21, 4, 155, 0, 30, 21, 5, 42]
abbrev dktX4_copy_3 : List UInt8 := dkwX4_copy_3 ++ dktX4_copy_4
def dkwX4_copy_2 : List UInt8 := [160, 0, 28, 42, 180, 0, 33, 29, 46, 5, 160, 0, 18, 42, 180, 0, 42, 27, 46, 42, 180, 0, 42, 29]
abbrev dktX4_copy_2 : List UInt8 := dkwX4_copy_2 ++ dktX4_copy_3
def dkwX4_copy_1 : List UInt8 := [153, 0, 12, 42, 180, 0, 33, 29, 46, 154, 0, 6, 16, 245, 172, 42, 180, 0, 33, 27, 46, 5]
abbrev dktX4_copy_1 : List UInt8 := dkwX4_copy_1 ++ dktX4_copy_2
def dkwX4_copy_0 : List UInt8 := [27, 184, 1, 3, 153, 0, 10, 29, 184, 1, 3, 154, 0, 5, 2, 172, 42, 180, 0, 33, 27, 46]
abbrev dktX4_copy_0 : List UInt8 := dkwX4_copy_0 ++ dktX4_copy_1
theorem dksX4_copy_0 : cX4_copy.data.toList.drop 0 = dktX4_copy_0 := by decide +kernel
theorem dksX4_copy_1 : cX4_copy.data.toList.drop 22 = dktX4_copy_1 := dk_seg dksX4_copy_0 22 rfl rfl
theorem dksX4_copy_2 : cX4_copy.data.toList.drop 44 = dktX4_copy_2 := dk_seg dksX4_copy_1 22 rfl rfl
theorem dksX4_copy_3 : cX4_copy.data.toList.drop 68 = dktX4_copy_3 := dk_seg dksX4_copy_2 24 rfl rfl
theorem dksX4_copy_4 : cX4_copy.data.toList.drop 92 = dktX4_copy_4 := dk_seg dksX4_copy_3 24 rfl rfl
theorem dksX4_copy_5 : cX4_copy.data.toList.drop 116 = dktX4_copy_5 := dk_seg dksX4_copy_4 24 rfl rfl
theorem dksX4_copy_6 : cX4_copy.data.toList.drop 140 = dktX4_copy_6 := dk_seg dksX4_copy_5 24 rfl rfl
theorem dksX4_copy_7 : cX4_copy.data.toList.drop 164 = dktX4_copy_7 := dk_seg dksX4_copy_6 24 rfl rfl
theorem dX4_copy_0 : decode cX4_copy 0 = .ok (.iload_n 1, 1) := dk_27 (dk_at dksX4_copy_0 0 rfl rfl)
theorem dX4_copy_1 : decode cX4_copy 1 = .ok (.invokestatic 259, 3) := dk_184 1 3 (dk_at dksX4_copy_0 1 rfl rfl)
theorem dX4_copy_4 : decode cX4_copy 4 = .ok (.ifCond .eq 10, 3) := dk_153 0 10 (dk_at dksX4_copy_0 4 rfl rfl)
theorem dX4_copy_7 : decode cX4_copy 7 = .ok (.iload_n 3, 1) := dk_29 (dk_at dksX4_copy_0 7 rfl rfl)
theorem dX4_copy_8 : decode cX4_copy 8 = .ok (.invokestatic 259, 3) := dk_184 1 3 (dk_at dksX4_copy_0 8 rfl rfl)
theorem dX4_copy_11 : decode cX4_copy 11 = .ok (.ifCond .ne 5, 3) := dk_154 0 5 (dk_at dksX4_copy_0 11 rfl rfl)
theorem dX4_copy_14 : decode cX4_copy 14 = .ok (.iconst (-1), 1) := dk_2 (dk_at dksX4_copy_0 14 rfl rfl)
theorem dX4_copy_15 : decode cX4_copy 15 = .ok (.ireturn, 1) := dk_172 (dk_at dksX4_copy_0 15 rfl rfl)
theorem dX4_copy_16 : decode cX4_copy 16 = .ok (.aload_n 0, 1) := dk_42 (dk_at dksX4_copy_0 16 rfl rfl)
theorem dX4_copy_17 : decode cX4_copy 17 = .ok (.getfield 33, 3) := dk_180 0 33 (dk_at dksX4_copy_0 17 rfl rfl)
theorem dX4_copy_20 : decode cX4_copy 20 = .ok (.iload_n 1, 1) := dk_27 (dk_at dksX4_copy_0 20 rfl rfl)
theorem dX4_copy_21 : decode cX4_copy 21 = .ok (.iaload, 1) := dk_46 (dk_at dksX4_copy_0 21 rfl rfl)
theorem dX4_copy_22 : decode cX4_copy 22 = .ok (.ifCond .eq 12, 3) := dk_153 0 12 (dk_at dksX4_copy_1 0 rfl rfl)
theorem dX4_copy_25 : decode cX4_copy 25 = .ok (.aload_n 0, 1) := dk_42 (dk_at dksX4_copy_1 3 rfl rfl)
theorem dX4_copy_26 : decode cX4_copy 26 = .ok (.getfield 33, 3) := dk_180 0 33 (dk_at dksX4_copy_1 4 rfl rfl)
theorem dX4_copy_29 : decode cX4_copy 29 = .ok (.iload_n 3, 1) := dk_29 (dk_at dksX4_copy_1 7 rfl rfl)
theorem dX4_copy_30 : decode cX4_copy 30 = .ok (.iaload, 1) := dk_46 (dk_at dksX4_copy_1 8 rfl rfl)
theorem dX4_copy_31 : decode cX4_copy 31 = .ok (.ifCond .ne 6, 3) := dk_154 0 6 (dk_at dksX4_copy_1 9 rfl rfl)
theorem dX4_copy_34 : decode cX4_copy 34 = .ok (.bipush (-11), 2) := dk_16 245 (dk_at dksX4_copy_1 12 rfl rfl)
theorem dX4_copy_36 : decode cX4_copy 36 = .ok (.ireturn, 1) := dk_172 (dk_at dksX4_copy_1 14 rfl rfl)
theorem dX4_copy_37 : decode cX4_copy 37 = .ok (.aload_n 0, 1) := dk_42 (dk_at dksX4_copy_1 15 rfl rfl)
theorem dX4_copy_38 : decode cX4_copy 38 = .ok (.getfield 33, 3) := dk_180 0 33 (dk_at dksX4_copy_1 16 rfl rfl)
theorem dX4_copy_41 : decode cX4_copy 41 = .ok (.iload_n 1, 1) := dk_27 (dk_at dksX4_copy_1 19 rfl rfl)
theorem dX4_copy_42 : decode cX4_copy 42 = .ok (.iaload, 1) := dk_46 (dk_at dksX4_copy_1 20 rfl rfl)
theorem dX4_copy_43 : decode cX4_copy 43 = .ok (.iconst 2, 1) := dk_5 (dk_at dksX4_copy_1 21 rfl rfl)
theorem dX4_copy_44 : decode cX4_copy 44 = .ok (.if_icmp .ne 28, 3) := dk_160 0 28 (dk_at dksX4_copy_2 0 rfl rfl)
theorem dX4_copy_47 : decode cX4_copy 47 = .ok (.aload_n 0, 1) := dk_42 (dk_at dksX4_copy_2 3 rfl rfl)
theorem dX4_copy_48 : decode cX4_copy 48 = .ok (.getfield 33, 3) := dk_180 0 33 (dk_at dksX4_copy_2 4 rfl rfl)
theorem dX4_copy_51 : decode cX4_copy 51 = .ok (.iload_n 3, 1) := dk_29 (dk_at dksX4_copy_2 7 rfl rfl)
theorem dX4_copy_52 : decode cX4_copy 52 = .ok (.iaload, 1) := dk_46 (dk_at dksX4_copy_2 8 rfl rfl)
theorem dX4_copy_53 : decode cX4_copy 53 = .ok (.iconst 2, 1) := dk_5 (dk_at dksX4_copy_2 9 rfl rfl)
theorem dX4_copy_54 : decode cX4_copy 54 = .ok (.if_icmp .ne 18, 3) := dk_160 0 18 (dk_at dksX4_copy_2 10 rfl rfl)
theorem dX4_copy_57 : decode cX4_copy 57 = .ok (.aload_n 0, 1) := dk_42 (dk_at dksX4_copy_2 13 rfl rfl)
theorem dX4_copy_58 : decode cX4_copy 58 = .ok (.getfield 42, 3) := dk_180 0 42 (dk_at dksX4_copy_2 14 rfl rfl)
theorem dX4_copy_61 : decode cX4_copy 61 = .ok (.iload_n 1, 1) := dk_27 (dk_at dksX4_copy_2 17 rfl rfl)
theorem dX4_copy_62 : decode cX4_copy 62 = .ok (.iaload, 1) := dk_46 (dk_at dksX4_copy_2 18 rfl rfl)
theorem dX4_copy_63 : decode cX4_copy 63 = .ok (.aload_n 0, 1) := dk_42 (dk_at dksX4_copy_2 19 rfl rfl)
theorem dX4_copy_64 : decode cX4_copy 64 = .ok (.getfield 42, 3) := dk_180 0 42 (dk_at dksX4_copy_2 20 rfl rfl)
theorem dX4_copy_67 : decode cX4_copy 67 = .ok (.iload_n 3, 1) := dk_29 (dk_at dksX4_copy_2 23 rfl rfl)
theorem dX4_copy_68 : decode cX4_copy 68 = .ok (.iaload, 1) := dk_46 (dk_at dksX4_copy_3 0 rfl rfl)
theorem dX4_copy_69 : decode cX4_copy 69 = .ok (.if_icmp .eq 6, 3) := dk_159 0 6 (dk_at dksX4_copy_3 1 rfl rfl)
theorem dX4_copy_72 : decode cX4_copy 72 = .ok (.bipush (-12), 2) := dk_16 244 (dk_at dksX4_copy_3 4 rfl rfl)
theorem dX4_copy_74 : decode cX4_copy 74 = .ok (.ireturn, 1) := dk_172 (dk_at dksX4_copy_3 6 rfl rfl)
theorem dX4_copy_75 : decode cX4_copy 75 = .ok (.iload 5, 2) := dk_21 5 (dk_at dksX4_copy_3 7 rfl rfl)
theorem dX4_copy_77 : decode cX4_copy 77 = .ok (.ifCond .lt 39, 3) := dk_155 0 39 (dk_at dksX4_copy_3 9 rfl rfl)
theorem dX4_copy_80 : decode cX4_copy 80 = .ok (.iload_n 2, 1) := dk_28 (dk_at dksX4_copy_3 12 rfl rfl)
theorem dX4_copy_81 : decode cX4_copy 81 = .ok (.ifCond .lt 35, 3) := dk_155 0 35 (dk_at dksX4_copy_3 13 rfl rfl)
theorem dX4_copy_84 : decode cX4_copy 84 = .ok (.iload 4, 2) := dk_21 4 (dk_at dksX4_copy_3 16 rfl rfl)
theorem dX4_copy_86 : decode cX4_copy 86 = .ok (.ifCond .lt 30, 3) := dk_155 0 30 (dk_at dksX4_copy_3 18 rfl rfl)
theorem dX4_copy_89 : decode cX4_copy 89 = .ok (.iload 5, 2) := dk_21 5 (dk_at dksX4_copy_3 21 rfl rfl)
theorem dX4_copy_91 : decode cX4_copy 91 = .ok (.aload_n 0, 1) := dk_42 (dk_at dksX4_copy_3 23 rfl rfl)
theorem dX4_copy_92 : decode cX4_copy 92 = .ok (.getfield 45, 3) := dk_180 0 45 (dk_at dksX4_copy_4 0 rfl rfl)
theorem dX4_copy_95 : decode cX4_copy 95 = .ok (.iload_n 1, 1) := dk_27 (dk_at dksX4_copy_4 3 rfl rfl)
theorem dX4_copy_96 : decode cX4_copy 96 = .ok (.iaload, 1) := dk_46 (dk_at dksX4_copy_4 4 rfl rfl)
theorem dX4_copy_97 : decode cX4_copy 97 = .ok (.iload_n 2, 1) := dk_28 (dk_at dksX4_copy_4 5 rfl rfl)
theorem dX4_copy_98 : decode cX4_copy 98 = .ok (.isub, 1) := dk_100 (dk_at dksX4_copy_4 6 rfl rfl)
theorem dX4_copy_99 : decode cX4_copy 99 = .ok (.if_icmp .gt 17, 3) := dk_163 0 17 (dk_at dksX4_copy_4 7 rfl rfl)
theorem dX4_copy_102 : decode cX4_copy 102 = .ok (.iload 5, 2) := dk_21 5 (dk_at dksX4_copy_4 10 rfl rfl)
theorem dX4_copy_104 : decode cX4_copy 104 = .ok (.aload_n 0, 1) := dk_42 (dk_at dksX4_copy_4 12 rfl rfl)
theorem dX4_copy_105 : decode cX4_copy 105 = .ok (.getfield 45, 3) := dk_180 0 45 (dk_at dksX4_copy_4 13 rfl rfl)
theorem dX4_copy_108 : decode cX4_copy 108 = .ok (.iload_n 3, 1) := dk_29 (dk_at dksX4_copy_4 16 rfl rfl)
theorem dX4_copy_109 : decode cX4_copy 109 = .ok (.iaload, 1) := dk_46 (dk_at dksX4_copy_4 17 rfl rfl)
theorem dX4_copy_110 : decode cX4_copy 110 = .ok (.iload 4, 2) := dk_21 4 (dk_at dksX4_copy_4 18 rfl rfl)
theorem dX4_copy_112 : decode cX4_copy 112 = .ok (.isub, 1) := dk_100 (dk_at dksX4_copy_4 20 rfl rfl)
theorem dX4_copy_113 : decode cX4_copy 113 = .ok (.if_icmp .le 6, 3) := dk_164 0 6 (dk_at dksX4_copy_4 21 rfl rfl)
theorem dX4_copy_116 : decode cX4_copy 116 = .ok (.bipush (-13), 2) := dk_16 243 (dk_at dksX4_copy_5 0 rfl rfl)
theorem dX4_copy_118 : decode cX4_copy 118 = .ok (.ireturn, 1) := dk_172 (dk_at dksX4_copy_5 2 rfl rfl)
theorem dX4_copy_119 : decode cX4_copy 119 = .ok (.iconst 0, 1) := dk_3 (dk_at dksX4_copy_5 3 rfl rfl)
theorem dX4_copy_120 : decode cX4_copy 120 = .ok (.istore 6, 2) := dk_54 6 (dk_at dksX4_copy_5 4 rfl rfl)
theorem dX4_copy_122 : decode cX4_copy 122 = .ok (.iload 6, 2) := dk_21 6 (dk_at dksX4_copy_5 6 rfl rfl)
theorem dX4_copy_124 : decode cX4_copy 124 = .ok (.iload 5, 2) := dk_21 5 (dk_at dksX4_copy_5 8 rfl rfl)
theorem dX4_copy_126 : decode cX4_copy 126 = .ok (.if_icmp .ge 58, 3) := dk_162 0 58 (dk_at dksX4_copy_5 10 rfl rfl)
theorem dX4_copy_129 : decode cX4_copy 129 = .ok (.iload_n 2, 1) := dk_28 (dk_at dksX4_copy_5 13 rfl rfl)
theorem dX4_copy_130 : decode cX4_copy 130 = .ok (.iload 4, 2) := dk_21 4 (dk_at dksX4_copy_5 14 rfl rfl)
theorem dX4_copy_132 : decode cX4_copy 132 = .ok (.if_icmp .le 8, 3) := dk_164 0 8 (dk_at dksX4_copy_5 16 rfl rfl)
theorem dX4_copy_135 : decode cX4_copy 135 = .ok (.iload 6, 2) := dk_21 6 (dk_at dksX4_copy_5 19 rfl rfl)
theorem dX4_copy_137 : decode cX4_copy 137 = .ok (.goto 10, 3) := dk_167 0 10 (dk_at dksX4_copy_5 21 rfl rfl)
theorem dX4_copy_140 : decode cX4_copy 140 = .ok (.iload 5, 2) := dk_21 5 (dk_at dksX4_copy_6 0 rfl rfl)
theorem dX4_copy_142 : decode cX4_copy 142 = .ok (.iconst 1, 1) := dk_4 (dk_at dksX4_copy_6 2 rfl rfl)
theorem dX4_copy_143 : decode cX4_copy 143 = .ok (.isub, 1) := dk_100 (dk_at dksX4_copy_6 3 rfl rfl)
theorem dX4_copy_144 : decode cX4_copy 144 = .ok (.iload 6, 2) := dk_21 6 (dk_at dksX4_copy_6 4 rfl rfl)
theorem dX4_copy_146 : decode cX4_copy 146 = .ok (.isub, 1) := dk_100 (dk_at dksX4_copy_6 6 rfl rfl)
theorem dX4_copy_147 : decode cX4_copy 147 = .ok (.istore 7, 2) := dk_54 7 (dk_at dksX4_copy_6 7 rfl rfl)
theorem dX4_copy_149 : decode cX4_copy 149 = .ok (.aload_n 0, 1) := dk_42 (dk_at dksX4_copy_6 9 rfl rfl)
theorem dX4_copy_150 : decode cX4_copy 150 = .ok (.getfield 48, 3) := dk_180 0 48 (dk_at dksX4_copy_6 10 rfl rfl)
theorem dX4_copy_153 : decode cX4_copy 153 = .ok (.bipush 100, 2) := dk_16 100 (dk_at dksX4_copy_6 13 rfl rfl)
theorem dX4_copy_155 : decode cX4_copy 155 = .ok (.iload_n 3, 1) := dk_29 (dk_at dksX4_copy_6 15 rfl rfl)
theorem dX4_copy_156 : decode cX4_copy 156 = .ok (.imul, 1) := dk_104 (dk_at dksX4_copy_6 16 rfl rfl)
theorem dX4_copy_157 : decode cX4_copy 157 = .ok (.iload 4, 2) := dk_21 4 (dk_at dksX4_copy_6 17 rfl rfl)
theorem dX4_copy_159 : decode cX4_copy 159 = .ok (.iadd, 1) := dk_96 (dk_at dksX4_copy_6 19 rfl rfl)
theorem dX4_copy_160 : decode cX4_copy 160 = .ok (.iload 7, 2) := dk_21 7 (dk_at dksX4_copy_6 20 rfl rfl)
theorem dX4_copy_162 : decode cX4_copy 162 = .ok (.iadd, 1) := dk_96 (dk_at dksX4_copy_6 22 rfl rfl)
theorem dX4_copy_163 : decode cX4_copy 163 = .ok (.aload_n 0, 1) := dk_42 (dk_at dksX4_copy_6 23 rfl rfl)
theorem dX4_copy_164 : decode cX4_copy 164 = .ok (.getfield 48, 3) := dk_180 0 48 (dk_at dksX4_copy_7 0 rfl rfl)
theorem dX4_copy_167 : decode cX4_copy 167 = .ok (.bipush 100, 2) := dk_16 100 (dk_at dksX4_copy_7 3 rfl rfl)
theorem dX4_copy_169 : decode cX4_copy 169 = .ok (.iload_n 1, 1) := dk_27 (dk_at dksX4_copy_7 5 rfl rfl)
theorem dX4_copy_170 : decode cX4_copy 170 = .ok (.imul, 1) := dk_104 (dk_at dksX4_copy_7 6 rfl rfl)
theorem dX4_copy_171 : decode cX4_copy 171 = .ok (.iload_n 2, 1) := dk_28 (dk_at dksX4_copy_7 7 rfl rfl)
theorem dX4_copy_172 : decode cX4_copy 172 = .ok (.iadd, 1) := dk_96 (dk_at dksX4_copy_7 8 rfl rfl)
theorem dX4_copy_173 : decode cX4_copy 173 = .ok (.iload 7, 2) := dk_21 7 (dk_at dksX4_copy_7 9 rfl rfl)
theorem dX4_copy_175 : decode cX4_copy 175 = .ok (.iadd, 1) := dk_96 (dk_at dksX4_copy_7 11 rfl rfl)
theorem dX4_copy_176 : decode cX4_copy 176 = .ok (.iaload, 1) := dk_46 (dk_at dksX4_copy_7 12 rfl rfl)
theorem dX4_copy_177 : decode cX4_copy 177 = .ok (.iastore, 1) := dk_79 (dk_at dksX4_copy_7 13 rfl rfl)
theorem dX4_copy_178 : decode cX4_copy 178 = .ok (.iinc 6 1, 3) := dk_132 6 1 (dk_at dksX4_copy_7 14 rfl rfl)
theorem dX4_copy_181 : decode cX4_copy 181 = .ok (.goto (-59), 3) := dk_167 255 197 (dk_at dksX4_copy_7 17 rfl rfl)
theorem dX4_copy_184 : decode cX4_copy 184 = .ok (.iload 5, 2) := dk_21 5 (dk_at dksX4_copy_7 20 rfl rfl)
theorem dX4_copy_186 : decode cX4_copy 186 = .ok (.ireturn, 1) := dk_172 (dk_at dksX4_copy_7 22 rfl rfl)
abbrev cX4_cost : ByteArray := prog_22_method_103_code
def yX4_cost : MethodName := ⟨RX4, "cost", "(I)I"⟩
def dkwX4_cost_1 : List UInt8 := [27, 46, 184, 1, 29, 172]
abbrev dktX4_cost_1 : List UInt8 := dkwX4_cost_1 ++ []
def dkwX4_cost_0 : List UInt8 := [42, 27, 182, 0, 171, 61, 28, 153, 0, 7, 28, 167, 0, 18, 42, 180, 0, 36, 27, 46, 42, 180, 0, 39]
abbrev dktX4_cost_0 : List UInt8 := dkwX4_cost_0 ++ dktX4_cost_1
theorem dksX4_cost_0 : cX4_cost.data.toList.drop 0 = dktX4_cost_0 := by decide +kernel
theorem dksX4_cost_1 : cX4_cost.data.toList.drop 24 = dktX4_cost_1 := dk_seg dksX4_cost_0 24 rfl rfl
theorem dX4_cost_0 : decode cX4_cost 0 = .ok (.aload_n 0, 1) := dk_42 (dk_at dksX4_cost_0 0 rfl rfl)
theorem dX4_cost_1 : decode cX4_cost 1 = .ok (.iload_n 1, 1) := dk_27 (dk_at dksX4_cost_0 1 rfl rfl)
theorem dX4_cost_2 : decode cX4_cost 2 = .ok (.invokevirtual 171, 3) := dk_182 0 171 (dk_at dksX4_cost_0 2 rfl rfl)
theorem dX4_cost_5 : decode cX4_cost 5 = .ok (.istore_n 2, 1) := dk_61 (dk_at dksX4_cost_0 5 rfl rfl)
theorem dX4_cost_6 : decode cX4_cost 6 = .ok (.iload_n 2, 1) := dk_28 (dk_at dksX4_cost_0 6 rfl rfl)
theorem dX4_cost_7 : decode cX4_cost 7 = .ok (.ifCond .eq 7, 3) := dk_153 0 7 (dk_at dksX4_cost_0 7 rfl rfl)
theorem dX4_cost_10 : decode cX4_cost 10 = .ok (.iload_n 2, 1) := dk_28 (dk_at dksX4_cost_0 10 rfl rfl)
theorem dX4_cost_11 : decode cX4_cost 11 = .ok (.goto 18, 3) := dk_167 0 18 (dk_at dksX4_cost_0 11 rfl rfl)
theorem dX4_cost_14 : decode cX4_cost 14 = .ok (.aload_n 0, 1) := dk_42 (dk_at dksX4_cost_0 14 rfl rfl)
theorem dX4_cost_15 : decode cX4_cost 15 = .ok (.getfield 36, 3) := dk_180 0 36 (dk_at dksX4_cost_0 15 rfl rfl)
theorem dX4_cost_18 : decode cX4_cost 18 = .ok (.iload_n 1, 1) := dk_27 (dk_at dksX4_cost_0 18 rfl rfl)
theorem dX4_cost_19 : decode cX4_cost 19 = .ok (.iaload, 1) := dk_46 (dk_at dksX4_cost_0 19 rfl rfl)
theorem dX4_cost_20 : decode cX4_cost 20 = .ok (.aload_n 0, 1) := dk_42 (dk_at dksX4_cost_0 20 rfl rfl)
theorem dX4_cost_21 : decode cX4_cost 21 = .ok (.getfield 39, 3) := dk_180 0 39 (dk_at dksX4_cost_0 21 rfl rfl)
theorem dX4_cost_24 : decode cX4_cost 24 = .ok (.iload_n 1, 1) := dk_27 (dk_at dksX4_cost_1 0 rfl rfl)
theorem dX4_cost_25 : decode cX4_cost 25 = .ok (.iaload, 1) := dk_46 (dk_at dksX4_cost_1 1 rfl rfl)
theorem dX4_cost_26 : decode cX4_cost 26 = .ok (.invokestatic 285, 3) := dk_184 1 29 (dk_at dksX4_cost_1 2 rfl rfl)
theorem dX4_cost_29 : decode cX4_cost 29 = .ok (.ireturn, 1) := dk_172 (dk_at dksX4_cost_1 5 rfl rfl)
abbrev cX4_costBy : ByteArray := prog_22_method_102_code
def yX4_costBy : MethodName := ⟨RX4, "costBy", "(II)I"⟩
def dkwX4_costBy_3 : List UInt8 := [172, 5, 27, 96, 172, 6, 172]
abbrev dktX4_costBy_3 : List UInt8 := dkwX4_costBy_3 ++ []
def dkwX4_costBy_2 : List UInt8 := [5, 172, 6, 27, 96, 172, 5, 6, 27, 96, 104, 172, 16, 7, 172, 8, 27, 96, 172, 8, 27, 96, 5, 108]
abbrev dktX4_costBy_2 : List UInt8 := dkwX4_costBy_2 ++ dktX4_costBy_3
def dkwX4_costBy_1 : List UInt8 := [170, 0, 0, 0, 0, 0, 72, 0, 0, 0, 1, 0, 0, 0, 7, 0, 0, 0, 43, 0, 0, 0, 45, 0, 0, 0, 49, 0, 0, 0, 55, 0, 0, 0, 58, 0, 0, 0, 62, 0, 0, 0, 68]
abbrev dktX4_costBy_1 : List UInt8 := dkwX4_costBy_1 ++ dktX4_costBy_2
def dkwX4_costBy_0 : List UInt8 := [26]
abbrev dktX4_costBy_0 : List UInt8 := dkwX4_costBy_0 ++ dktX4_costBy_1
theorem dksX4_costBy_0 : cX4_costBy.data.toList.drop 0 = dktX4_costBy_0 := by decide +kernel
theorem dksX4_costBy_1 : cX4_costBy.data.toList.drop 1 = dktX4_costBy_1 := dk_seg dksX4_costBy_0 1 rfl rfl
theorem dksX4_costBy_2 : cX4_costBy.data.toList.drop 44 = dktX4_costBy_2 := dk_seg dksX4_costBy_1 43 rfl rfl
theorem dksX4_costBy_3 : cX4_costBy.data.toList.drop 68 = dktX4_costBy_3 := dk_seg dksX4_costBy_2 24 rfl rfl
theorem dX4_costBy_0 : decode cX4_costBy 0 = .ok (.iload_n 0, 1) := dk_26 (dk_at dksX4_costBy_0 0 rfl rfl)
theorem dX4_costBy_1 : decode cX4_costBy 1 = .ok (.tableswitch 72 1 7 #[43, 45, 49, 55, 58, 62, 68], 43) := by decide +kernel
theorem dX4_costBy_44 : decode cX4_costBy 44 = .ok (.iconst 2, 1) := dk_5 (dk_at dksX4_costBy_2 0 rfl rfl)
theorem dX4_costBy_45 : decode cX4_costBy 45 = .ok (.ireturn, 1) := dk_172 (dk_at dksX4_costBy_2 1 rfl rfl)
theorem dX4_costBy_46 : decode cX4_costBy 46 = .ok (.iconst 3, 1) := dk_6 (dk_at dksX4_costBy_2 2 rfl rfl)
theorem dX4_costBy_47 : decode cX4_costBy 47 = .ok (.iload_n 1, 1) := dk_27 (dk_at dksX4_costBy_2 3 rfl rfl)
theorem dX4_costBy_48 : decode cX4_costBy 48 = .ok (.iadd, 1) := dk_96 (dk_at dksX4_costBy_2 4 rfl rfl)
theorem dX4_costBy_49 : decode cX4_costBy 49 = .ok (.ireturn, 1) := dk_172 (dk_at dksX4_costBy_2 5 rfl rfl)
theorem dX4_costBy_50 : decode cX4_costBy 50 = .ok (.iconst 2, 1) := dk_5 (dk_at dksX4_costBy_2 6 rfl rfl)
theorem dX4_costBy_51 : decode cX4_costBy 51 = .ok (.iconst 3, 1) := dk_6 (dk_at dksX4_costBy_2 7 rfl rfl)
theorem dX4_costBy_52 : decode cX4_costBy 52 = .ok (.iload_n 1, 1) := dk_27 (dk_at dksX4_costBy_2 8 rfl rfl)
theorem dX4_costBy_53 : decode cX4_costBy 53 = .ok (.iadd, 1) := dk_96 (dk_at dksX4_costBy_2 9 rfl rfl)
theorem dX4_costBy_54 : decode cX4_costBy 54 = .ok (.imul, 1) := dk_104 (dk_at dksX4_costBy_2 10 rfl rfl)
theorem dX4_costBy_55 : decode cX4_costBy 55 = .ok (.ireturn, 1) := dk_172 (dk_at dksX4_costBy_2 11 rfl rfl)
theorem dX4_costBy_56 : decode cX4_costBy 56 = .ok (.bipush 7, 2) := dk_16 7 (dk_at dksX4_costBy_2 12 rfl rfl)
theorem dX4_costBy_58 : decode cX4_costBy 58 = .ok (.ireturn, 1) := dk_172 (dk_at dksX4_costBy_2 14 rfl rfl)
theorem dX4_costBy_59 : decode cX4_costBy 59 = .ok (.iconst 5, 1) := dk_8 (dk_at dksX4_costBy_2 15 rfl rfl)
theorem dX4_costBy_60 : decode cX4_costBy 60 = .ok (.iload_n 1, 1) := dk_27 (dk_at dksX4_costBy_2 16 rfl rfl)
theorem dX4_costBy_61 : decode cX4_costBy 61 = .ok (.iadd, 1) := dk_96 (dk_at dksX4_costBy_2 17 rfl rfl)
theorem dX4_costBy_62 : decode cX4_costBy 62 = .ok (.ireturn, 1) := dk_172 (dk_at dksX4_costBy_2 18 rfl rfl)
theorem dX4_costBy_63 : decode cX4_costBy 63 = .ok (.iconst 5, 1) := dk_8 (dk_at dksX4_costBy_2 19 rfl rfl)
theorem dX4_costBy_64 : decode cX4_costBy 64 = .ok (.iload_n 1, 1) := dk_27 (dk_at dksX4_costBy_2 20 rfl rfl)
theorem dX4_costBy_65 : decode cX4_costBy 65 = .ok (.iadd, 1) := dk_96 (dk_at dksX4_costBy_2 21 rfl rfl)
theorem dX4_costBy_66 : decode cX4_costBy 66 = .ok (.iconst 2, 1) := dk_5 (dk_at dksX4_costBy_2 22 rfl rfl)
theorem dX4_costBy_67 : decode cX4_costBy 67 = .ok (.idiv, 1) := dk_108 (dk_at dksX4_costBy_2 23 rfl rfl)
theorem dX4_costBy_68 : decode cX4_costBy 68 = .ok (.ireturn, 1) := dk_172 (dk_at dksX4_costBy_3 0 rfl rfl)
theorem dX4_costBy_69 : decode cX4_costBy 69 = .ok (.iconst 2, 1) := dk_5 (dk_at dksX4_costBy_3 1 rfl rfl)
theorem dX4_costBy_70 : decode cX4_costBy 70 = .ok (.iload_n 1, 1) := dk_27 (dk_at dksX4_costBy_3 2 rfl rfl)
theorem dX4_costBy_71 : decode cX4_costBy 71 = .ok (.iadd, 1) := dk_96 (dk_at dksX4_costBy_3 3 rfl rfl)
theorem dX4_costBy_72 : decode cX4_costBy 72 = .ok (.ireturn, 1) := dk_172 (dk_at dksX4_costBy_3 4 rfl rfl)
theorem dX4_costBy_73 : decode cX4_costBy 73 = .ok (.iconst 3, 1) := dk_6 (dk_at dksX4_costBy_3 5 rfl rfl)
theorem dX4_costBy_74 : decode cX4_costBy 74 = .ok (.ireturn, 1) := dk_172 (dk_at dksX4_costBy_3 6 rfl rfl)
abbrev cX4_toss : ByteArray := prog_22_method_104_code
def yX4_toss : MethodName := ⟨RX4, "toss", "(I)I"⟩
def dkwX4_toss_3 : List UInt8 := [16, 100, 21, 4, 96, 167, 0, 5, 21, 4, 172]
abbrev dktX4_toss_3 : List UInt8 := dkwX4_toss_3 ++ []
def dkwX4_toss_2 : List UInt8 := [160, 0, 16, 17, 0, 200, 29, 21, 4, 184, 1, 29, 96, 167, 0, 20, 29, 184, 0, 85, 153, 0, 11]
abbrev dktX4_toss_2 : List UInt8 := dkwX4_toss_2 ++ dktX4_toss_3
def dkwX4_toss_1 : List UInt8 := [46, 54, 4, 29, 4, 159, 0, 14, 29, 16, 7, 159, 0, 8, 21, 4, 154, 0, 6, 16, 241, 172, 29, 6]
abbrev dktX4_toss_1 : List UInt8 := dkwX4_toss_1 ++ dktX4_toss_2
def dkwX4_toss_0 : List UInt8 := [42, 27, 182, 0, 171, 61, 28, 153, 0, 5, 28, 172, 42, 180, 0, 36, 27, 46, 62, 42, 180, 0, 39, 27]
abbrev dktX4_toss_0 : List UInt8 := dkwX4_toss_0 ++ dktX4_toss_1
theorem dksX4_toss_0 : cX4_toss.data.toList.drop 0 = dktX4_toss_0 := by decide +kernel
theorem dksX4_toss_1 : cX4_toss.data.toList.drop 24 = dktX4_toss_1 := dk_seg dksX4_toss_0 24 rfl rfl
theorem dksX4_toss_2 : cX4_toss.data.toList.drop 48 = dktX4_toss_2 := dk_seg dksX4_toss_1 24 rfl rfl
theorem dksX4_toss_3 : cX4_toss.data.toList.drop 71 = dktX4_toss_3 := dk_seg dksX4_toss_2 23 rfl rfl
theorem dX4_toss_0 : decode cX4_toss 0 = .ok (.aload_n 0, 1) := dk_42 (dk_at dksX4_toss_0 0 rfl rfl)
theorem dX4_toss_1 : decode cX4_toss 1 = .ok (.iload_n 1, 1) := dk_27 (dk_at dksX4_toss_0 1 rfl rfl)
theorem dX4_toss_2 : decode cX4_toss 2 = .ok (.invokevirtual 171, 3) := dk_182 0 171 (dk_at dksX4_toss_0 2 rfl rfl)
theorem dX4_toss_5 : decode cX4_toss 5 = .ok (.istore_n 2, 1) := dk_61 (dk_at dksX4_toss_0 5 rfl rfl)
theorem dX4_toss_6 : decode cX4_toss 6 = .ok (.iload_n 2, 1) := dk_28 (dk_at dksX4_toss_0 6 rfl rfl)
theorem dX4_toss_7 : decode cX4_toss 7 = .ok (.ifCond .eq 5, 3) := dk_153 0 5 (dk_at dksX4_toss_0 7 rfl rfl)
theorem dX4_toss_10 : decode cX4_toss 10 = .ok (.iload_n 2, 1) := dk_28 (dk_at dksX4_toss_0 10 rfl rfl)
theorem dX4_toss_11 : decode cX4_toss 11 = .ok (.ireturn, 1) := dk_172 (dk_at dksX4_toss_0 11 rfl rfl)
theorem dX4_toss_12 : decode cX4_toss 12 = .ok (.aload_n 0, 1) := dk_42 (dk_at dksX4_toss_0 12 rfl rfl)
theorem dX4_toss_13 : decode cX4_toss 13 = .ok (.getfield 36, 3) := dk_180 0 36 (dk_at dksX4_toss_0 13 rfl rfl)
theorem dX4_toss_16 : decode cX4_toss 16 = .ok (.iload_n 1, 1) := dk_27 (dk_at dksX4_toss_0 16 rfl rfl)
theorem dX4_toss_17 : decode cX4_toss 17 = .ok (.iaload, 1) := dk_46 (dk_at dksX4_toss_0 17 rfl rfl)
theorem dX4_toss_18 : decode cX4_toss 18 = .ok (.istore_n 3, 1) := dk_62 (dk_at dksX4_toss_0 18 rfl rfl)
theorem dX4_toss_19 : decode cX4_toss 19 = .ok (.aload_n 0, 1) := dk_42 (dk_at dksX4_toss_0 19 rfl rfl)
theorem dX4_toss_20 : decode cX4_toss 20 = .ok (.getfield 39, 3) := dk_180 0 39 (dk_at dksX4_toss_0 20 rfl rfl)
theorem dX4_toss_23 : decode cX4_toss 23 = .ok (.iload_n 1, 1) := dk_27 (dk_at dksX4_toss_0 23 rfl rfl)
theorem dX4_toss_24 : decode cX4_toss 24 = .ok (.iaload, 1) := dk_46 (dk_at dksX4_toss_1 0 rfl rfl)
theorem dX4_toss_25 : decode cX4_toss 25 = .ok (.istore 4, 2) := dk_54 4 (dk_at dksX4_toss_1 1 rfl rfl)
theorem dX4_toss_27 : decode cX4_toss 27 = .ok (.iload_n 3, 1) := dk_29 (dk_at dksX4_toss_1 3 rfl rfl)
theorem dX4_toss_28 : decode cX4_toss 28 = .ok (.iconst 1, 1) := dk_4 (dk_at dksX4_toss_1 4 rfl rfl)
theorem dX4_toss_29 : decode cX4_toss 29 = .ok (.if_icmp .eq 14, 3) := dk_159 0 14 (dk_at dksX4_toss_1 5 rfl rfl)
theorem dX4_toss_32 : decode cX4_toss 32 = .ok (.iload_n 3, 1) := dk_29 (dk_at dksX4_toss_1 8 rfl rfl)
theorem dX4_toss_33 : decode cX4_toss 33 = .ok (.bipush 7, 2) := dk_16 7 (dk_at dksX4_toss_1 9 rfl rfl)
theorem dX4_toss_35 : decode cX4_toss 35 = .ok (.if_icmp .eq 8, 3) := dk_159 0 8 (dk_at dksX4_toss_1 11 rfl rfl)
theorem dX4_toss_38 : decode cX4_toss 38 = .ok (.iload 4, 2) := dk_21 4 (dk_at dksX4_toss_1 14 rfl rfl)
theorem dX4_toss_40 : decode cX4_toss 40 = .ok (.ifCond .ne 6, 3) := dk_154 0 6 (dk_at dksX4_toss_1 16 rfl rfl)
theorem dX4_toss_43 : decode cX4_toss 43 = .ok (.bipush (-15), 2) := dk_16 241 (dk_at dksX4_toss_1 19 rfl rfl)
theorem dX4_toss_45 : decode cX4_toss 45 = .ok (.ireturn, 1) := dk_172 (dk_at dksX4_toss_1 21 rfl rfl)
theorem dX4_toss_46 : decode cX4_toss 46 = .ok (.iload_n 3, 1) := dk_29 (dk_at dksX4_toss_1 22 rfl rfl)
theorem dX4_toss_47 : decode cX4_toss 47 = .ok (.iconst 3, 1) := dk_6 (dk_at dksX4_toss_1 23 rfl rfl)
theorem dX4_toss_48 : decode cX4_toss 48 = .ok (.if_icmp .ne 16, 3) := dk_160 0 16 (dk_at dksX4_toss_2 0 rfl rfl)
theorem dX4_toss_51 : decode cX4_toss 51 = .ok (.sipush 200, 3) := dk_17 0 200 (dk_at dksX4_toss_2 3 rfl rfl)
theorem dX4_toss_54 : decode cX4_toss 54 = .ok (.iload_n 3, 1) := dk_29 (dk_at dksX4_toss_2 6 rfl rfl)
theorem dX4_toss_55 : decode cX4_toss 55 = .ok (.iload 4, 2) := dk_21 4 (dk_at dksX4_toss_2 7 rfl rfl)
theorem dX4_toss_57 : decode cX4_toss 57 = .ok (.invokestatic 285, 3) := dk_184 1 29 (dk_at dksX4_toss_2 9 rfl rfl)
theorem dX4_toss_60 : decode cX4_toss 60 = .ok (.iadd, 1) := dk_96 (dk_at dksX4_toss_2 12 rfl rfl)
theorem dX4_toss_61 : decode cX4_toss 61 = .ok (.goto 20, 3) := dk_167 0 20 (dk_at dksX4_toss_2 13 rfl rfl)
theorem dX4_toss_64 : decode cX4_toss 64 = .ok (.iload_n 3, 1) := dk_29 (dk_at dksX4_toss_2 16 rfl rfl)
theorem dX4_toss_65 : decode cX4_toss 65 = .ok (.invokestatic 85, 3) := dk_184 0 85 (dk_at dksX4_toss_2 17 rfl rfl)
theorem dX4_toss_68 : decode cX4_toss 68 = .ok (.ifCond .eq 11, 3) := dk_153 0 11 (dk_at dksX4_toss_2 20 rfl rfl)
theorem dX4_toss_71 : decode cX4_toss 71 = .ok (.bipush 100, 2) := dk_16 100 (dk_at dksX4_toss_3 0 rfl rfl)
theorem dX4_toss_73 : decode cX4_toss 73 = .ok (.iload 4, 2) := dk_21 4 (dk_at dksX4_toss_3 2 rfl rfl)
theorem dX4_toss_75 : decode cX4_toss 75 = .ok (.iadd, 1) := dk_96 (dk_at dksX4_toss_3 4 rfl rfl)
theorem dX4_toss_76 : decode cX4_toss 76 = .ok (.goto 5, 3) := dk_167 0 5 (dk_at dksX4_toss_3 5 rfl rfl)
theorem dX4_toss_79 : decode cX4_toss 79 = .ok (.iload 4, 2) := dk_21 4 (dk_at dksX4_toss_3 8 rfl rfl)
theorem dX4_toss_81 : decode cX4_toss 81 = .ok (.ireturn, 1) := dk_172 (dk_at dksX4_toss_3 10 rfl rfl)
theorem q73 : (Jvm.Cond.initialized "BladeBetweenThumbsModel") ∈ lw_all := lw_g (lw_at lw_m1 4 rfl) rfl
theorem q1236 : (Jvm.Cond.instantiable "BladeBetweenThumbsModel" (22 : Nat)) ∈ lw_all := lw_g (lw_at lw_m5 207 rfl) rfl
theorem q1238 : (Jvm.Cond.instanceMethod ({ cls := "BladeBetweenThumbsModel", name := "<init>", desc := "()V" } : Jvm.MethodName)) ∈ lw_all := lw_g (lw_at lw_m5 209 rfl) rfl
theorem q1239 : (Jvm.Cond.code ({ cls := "BladeBetweenThumbsModel", name := "<init>", desc := "()V" } : Jvm.MethodName) prog_22_method_1_code (1 : Nat) (Option.none : Option Jvm.ClassFile.FieldType)) ∈ lw_all := lw_g (lw_at lw_m5 210 rfl) rfl
theorem q1240 : (Jvm.Cond.methodLink "BladeBetweenThumbsModel" (1 : Nat) ({ cls := "java/lang/Object", name := "<init>", desc := "()V" } : Jvm.MethodName)) ∈ lw_all := lw_g (lw_at lw_m5 211 rfl) rfl
theorem q1241 : (Jvm.Cond.fieldLink "BladeBetweenThumbsModel" (9 : Nat) "BladeBetweenThumbsModel" "s" "[I") ∈ lw_all := lw_g (lw_at lw_m5 212 rfl) rfl
theorem q1242 : (Jvm.Cond.fieldLink "BladeBetweenThumbsModel" (13 : Nat) "BladeBetweenThumbsModel" "image" "[I") ∈ lw_all := lw_g (lw_at lw_m5 213 rfl) rfl
theorem q1243 : (Jvm.Cond.fieldLink "BladeBetweenThumbsModel" (16 : Nat) "BladeBetweenThumbsModel" "was" "[I") ∈ lw_all := lw_g (lw_at lw_m5 214 rfl) rfl
theorem q1244 : (Jvm.Cond.fieldLink "BladeBetweenThumbsModel" (278 : Nat) "BladeBetweenThumbsModel" "hasImage" "Z") ∈ lw_all := lw_g (lw_at lw_m5 215 rfl) rfl
theorem q1245 : (Jvm.Cond.fieldLink "BladeBetweenThumbsModel" (19 : Nat) "BladeBetweenThumbsModel" "help" "I") ∈ lw_all := lw_g (lw_at lw_m5 216 rfl) rfl
theorem q1246 : (Jvm.Cond.fieldLink "BladeBetweenThumbsModel" (117 : Nat) "BladeBetweenThumbsModel" "at" "I") ∈ lw_all := lw_g (lw_at lw_m5 217 rfl) rfl
theorem q1247 : (Jvm.Cond.fieldLink "BladeBetweenThumbsModel" (123 : Nat) "BladeBetweenThumbsModel" "rowAt" "I") ∈ lw_all := lw_g (lw_at lw_m5 218 rfl) rfl
theorem q1248 : (Jvm.Cond.fieldLink "BladeBetweenThumbsModel" (120 : Nat) "BladeBetweenThumbsModel" "rowEnd" "I") ∈ lw_all := lw_g (lw_at lw_m5 219 rfl) rfl
theorem q1249 : (Jvm.Cond.fieldLink "BladeBetweenThumbsModel" (23 : Nat) "BladeBetweenThumbsModel" "numbers" "[I") ∈ lw_all := lw_g (lw_at lw_m5 220 rfl) rfl
theorem q1250 : (Jvm.Cond.fieldLink "BladeBetweenThumbsModel" (195 : Nat) "BladeBetweenThumbsModel" "pairsMany" "I") ∈ lw_all := lw_g (lw_at lw_m5 221 rfl) rfl
theorem q1251 : (Jvm.Cond.fieldLink "BladeBetweenThumbsModel" (189 : Nat) "BladeBetweenThumbsModel" "leastTight" "I") ∈ lw_all := lw_g (lw_at lw_m5 222 rfl) rfl
theorem q1252 : (Jvm.Cond.fieldLink "BladeBetweenThumbsModel" (192 : Nat) "BladeBetweenThumbsModel" "leastForce" "I") ∈ lw_all := lw_g (lw_at lw_m5 223 rfl) rfl
theorem q1253 : (Jvm.Cond.fieldLink "BladeBetweenThumbsModel" (26 : Nat) "BladeBetweenThumbsModel" "off" "[J") ∈ lw_all := lw_g (lw_at lw_m5 224 rfl) rfl
theorem q1254 : (Jvm.Cond.fieldLink "BladeBetweenThumbsModel" (30 : Nat) "BladeBetweenThumbsModel" "then" "[J") ∈ lw_all := lw_g (lw_at lw_m5 225 rfl) rfl
theorem q1255 : (Jvm.Cond.fieldLink "BladeBetweenThumbsModel" (265 : Nat) "BladeBetweenThumbsModel" "seed" "I") ∈ lw_all := lw_g (lw_at lw_m5 226 rfl) rfl
theorem q1256 : (Jvm.Cond.fieldLink "BladeBetweenThumbsModel" (33 : Nat) "BladeBetweenThumbsModel" "kept" "[I") ∈ lw_all := lw_g (lw_at lw_m5 227 rfl) rfl
theorem q1257 : (Jvm.Cond.fieldLink "BladeBetweenThumbsModel" (36 : Nat) "BladeBetweenThumbsModel" "keptKind" "[I") ∈ lw_all := lw_g (lw_at lw_m5 228 rfl) rfl
theorem q1258 : (Jvm.Cond.fieldLink "BladeBetweenThumbsModel" (39 : Nat) "BladeBetweenThumbsModel" "keptFigure" "[I") ∈ lw_all := lw_g (lw_at lw_m5 229 rfl) rfl
theorem q1259 : (Jvm.Cond.fieldLink "BladeBetweenThumbsModel" (42 : Nat) "BladeBetweenThumbsModel" "sort" "[I") ∈ lw_all := lw_g (lw_at lw_m5 230 rfl) rfl
theorem q1260 : (Jvm.Cond.fieldLink "BladeBetweenThumbsModel" (45 : Nat) "BladeBetweenThumbsModel" "size" "[I") ∈ lw_all := lw_g (lw_at lw_m5 231 rfl) rfl
theorem q1261 : (Jvm.Cond.fieldLink "BladeBetweenThumbsModel" (48 : Nat) "BladeBetweenThumbsModel" "element" "[I") ∈ lw_all := lw_g (lw_at lw_m5 232 rfl) rfl
theorem q1262 : (Jvm.Cond.fieldLink "BladeBetweenThumbsModel" (282 : Nat) "BladeBetweenThumbsModel" "thrown" "I") ∈ lw_all := lw_g (lw_at lw_m5 233 rfl) rfl
theorem q1263 : (Jvm.Cond.laysFinal "BladeBetweenThumbsModel" "BladeBetweenThumbsModel" "s" "[I") ∈ lw_all := lw_g (lw_at lw_m5 234 rfl) rfl
theorem q1264 : (Jvm.Cond.soleField "BladeBetweenThumbsModel" "s") ∈ lw_all := lw_g (lw_at lw_m5 235 rfl) rfl
theorem q1265 : (Jvm.Cond.laysFinal "BladeBetweenThumbsModel" "BladeBetweenThumbsModel" "image" "[I") ∈ lw_all := lw_g (lw_at lw_m5 236 rfl) rfl
theorem q1266 : (Jvm.Cond.soleField "BladeBetweenThumbsModel" "image") ∈ lw_all := lw_g (lw_at lw_m5 237 rfl) rfl
theorem q1267 : (Jvm.Cond.laysFinal "BladeBetweenThumbsModel" "BladeBetweenThumbsModel" "was" "[I") ∈ lw_all := lw_g (lw_at lw_m5 238 rfl) rfl
theorem q1268 : (Jvm.Cond.soleField "BladeBetweenThumbsModel" "was") ∈ lw_all := lw_g (lw_at lw_m5 239 rfl) rfl
theorem q1269 : (Jvm.Cond.lays "BladeBetweenThumbsModel" "BladeBetweenThumbsModel" "hasImage" "Z") ∈ lw_all := lw_g (lw_at lw_m6 0 rfl) rfl
theorem q1270 : (Jvm.Cond.soleField "BladeBetweenThumbsModel" "hasImage") ∈ lw_all := lw_g (lw_at lw_m6 1 rfl) rfl
theorem q1271 : (Jvm.Cond.lays "BladeBetweenThumbsModel" "BladeBetweenThumbsModel" "help" "I") ∈ lw_all := lw_g (lw_at lw_m6 2 rfl) rfl
theorem q1272 : (Jvm.Cond.soleField "BladeBetweenThumbsModel" "help") ∈ lw_all := lw_g (lw_at lw_m6 3 rfl) rfl
theorem q1273 : (Jvm.Cond.lays "BladeBetweenThumbsModel" "BladeBetweenThumbsModel" "at" "I") ∈ lw_all := lw_g (lw_at lw_m6 4 rfl) rfl
theorem q1274 : (Jvm.Cond.soleField "BladeBetweenThumbsModel" "at") ∈ lw_all := lw_g (lw_at lw_m6 5 rfl) rfl
theorem q1275 : (Jvm.Cond.lays "BladeBetweenThumbsModel" "BladeBetweenThumbsModel" "rowAt" "I") ∈ lw_all := lw_g (lw_at lw_m6 6 rfl) rfl
theorem q1276 : (Jvm.Cond.soleField "BladeBetweenThumbsModel" "rowAt") ∈ lw_all := lw_g (lw_at lw_m6 7 rfl) rfl
theorem q1277 : (Jvm.Cond.lays "BladeBetweenThumbsModel" "BladeBetweenThumbsModel" "rowEnd" "I") ∈ lw_all := lw_g (lw_at lw_m6 8 rfl) rfl
theorem q1278 : (Jvm.Cond.soleField "BladeBetweenThumbsModel" "rowEnd") ∈ lw_all := lw_g (lw_at lw_m6 9 rfl) rfl
theorem q1279 : (Jvm.Cond.laysFinal "BladeBetweenThumbsModel" "BladeBetweenThumbsModel" "numbers" "[I") ∈ lw_all := lw_g (lw_at lw_m6 10 rfl) rfl
theorem q1280 : (Jvm.Cond.soleField "BladeBetweenThumbsModel" "numbers") ∈ lw_all := lw_g (lw_at lw_m6 11 rfl) rfl
theorem q1281 : (Jvm.Cond.lays "BladeBetweenThumbsModel" "BladeBetweenThumbsModel" "pairsMany" "I") ∈ lw_all := lw_g (lw_at lw_m6 12 rfl) rfl
theorem q1282 : (Jvm.Cond.soleField "BladeBetweenThumbsModel" "pairsMany") ∈ lw_all := lw_g (lw_at lw_m6 13 rfl) rfl
theorem q1283 : (Jvm.Cond.lays "BladeBetweenThumbsModel" "BladeBetweenThumbsModel" "leastTight" "I") ∈ lw_all := lw_g (lw_at lw_m6 14 rfl) rfl
theorem q1284 : (Jvm.Cond.soleField "BladeBetweenThumbsModel" "leastTight") ∈ lw_all := lw_g (lw_at lw_m6 15 rfl) rfl
theorem q1285 : (Jvm.Cond.lays "BladeBetweenThumbsModel" "BladeBetweenThumbsModel" "leastForce" "I") ∈ lw_all := lw_g (lw_at lw_m6 16 rfl) rfl
theorem q1286 : (Jvm.Cond.soleField "BladeBetweenThumbsModel" "leastForce") ∈ lw_all := lw_g (lw_at lw_m6 17 rfl) rfl
theorem q1287 : (Jvm.Cond.laysFinal "BladeBetweenThumbsModel" "BladeBetweenThumbsModel" "off" "[J") ∈ lw_all := lw_g (lw_at lw_m6 18 rfl) rfl
theorem q1288 : (Jvm.Cond.soleField "BladeBetweenThumbsModel" "off") ∈ lw_all := lw_g (lw_at lw_m6 19 rfl) rfl
theorem q1289 : (Jvm.Cond.laysFinal "BladeBetweenThumbsModel" "BladeBetweenThumbsModel" "then" "[J") ∈ lw_all := lw_g (lw_at lw_m6 20 rfl) rfl
theorem q1290 : (Jvm.Cond.soleField "BladeBetweenThumbsModel" "then") ∈ lw_all := lw_g (lw_at lw_m6 21 rfl) rfl
theorem q1291 : (Jvm.Cond.lays "BladeBetweenThumbsModel" "BladeBetweenThumbsModel" "seed" "I") ∈ lw_all := lw_g (lw_at lw_m6 22 rfl) rfl
theorem q1292 : (Jvm.Cond.soleField "BladeBetweenThumbsModel" "seed") ∈ lw_all := lw_g (lw_at lw_m6 23 rfl) rfl
theorem q1293 : (Jvm.Cond.laysFinal "BladeBetweenThumbsModel" "BladeBetweenThumbsModel" "kept" "[I") ∈ lw_all := lw_g (lw_at lw_m6 24 rfl) rfl
theorem q1294 : (Jvm.Cond.soleField "BladeBetweenThumbsModel" "kept") ∈ lw_all := lw_g (lw_at lw_m6 25 rfl) rfl
theorem q1295 : (Jvm.Cond.laysFinal "BladeBetweenThumbsModel" "BladeBetweenThumbsModel" "keptKind" "[I") ∈ lw_all := lw_g (lw_at lw_m6 26 rfl) rfl
theorem q1296 : (Jvm.Cond.soleField "BladeBetweenThumbsModel" "keptKind") ∈ lw_all := lw_g (lw_at lw_m6 27 rfl) rfl
theorem q1297 : (Jvm.Cond.laysFinal "BladeBetweenThumbsModel" "BladeBetweenThumbsModel" "keptFigure" "[I") ∈ lw_all := lw_g (lw_at lw_m6 28 rfl) rfl
theorem q1298 : (Jvm.Cond.soleField "BladeBetweenThumbsModel" "keptFigure") ∈ lw_all := lw_g (lw_at lw_m6 29 rfl) rfl
theorem q1299 : (Jvm.Cond.laysFinal "BladeBetweenThumbsModel" "BladeBetweenThumbsModel" "sort" "[I") ∈ lw_all := lw_g (lw_at lw_m6 30 rfl) rfl
theorem q1300 : (Jvm.Cond.soleField "BladeBetweenThumbsModel" "sort") ∈ lw_all := lw_g (lw_at lw_m6 31 rfl) rfl
theorem q1301 : (Jvm.Cond.laysFinal "BladeBetweenThumbsModel" "BladeBetweenThumbsModel" "size" "[I") ∈ lw_all := lw_g (lw_at lw_m6 32 rfl) rfl
theorem q1302 : (Jvm.Cond.soleField "BladeBetweenThumbsModel" "size") ∈ lw_all := lw_g (lw_at lw_m6 33 rfl) rfl
theorem q1303 : (Jvm.Cond.laysFinal "BladeBetweenThumbsModel" "BladeBetweenThumbsModel" "element" "[I") ∈ lw_all := lw_g (lw_at lw_m6 34 rfl) rfl
theorem q1304 : (Jvm.Cond.soleField "BladeBetweenThumbsModel" "element") ∈ lw_all := lw_g (lw_at lw_m6 35 rfl) rfl
theorem q1305 : (Jvm.Cond.lays "BladeBetweenThumbsModel" "BladeBetweenThumbsModel" "thrown" "I") ∈ lw_all := lw_g (lw_at lw_m6 36 rfl) rfl
theorem q1306 : (Jvm.Cond.soleField "BladeBetweenThumbsModel" "thrown") ∈ lw_all := lw_g (lw_at lw_m6 37 rfl) rfl
theorem q1307 : (Jvm.Cond.superclass "BladeBetweenThumbsModel" "java/lang/Object") ∈ lw_all := lw_g (lw_at lw_m6 38 rfl) rfl
theorem q1309 : (Jvm.Cond.instanceMethod ({ cls := "BladeBetweenThumbsModel", name := "hedge", desc := "(I)I" } : Jvm.MethodName)) ∈ lw_all := lw_g (lw_at lw_m6 40 rfl) rfl
theorem q1310 : (Jvm.Cond.selects "BladeBetweenThumbsModel" ({ cls := "BladeBetweenThumbsModel", name := "hedge", desc := "(I)I" } : Jvm.MethodName) ({ cls := "BladeBetweenThumbsModel", name := "hedge", desc := "(I)I" } : Jvm.MethodName)) ∈ lw_all := lw_g (lw_at lw_m6 41 rfl) rfl
theorem q1311 : (Jvm.Cond.code ({ cls := "BladeBetweenThumbsModel", name := "hedge", desc := "(I)I" } : Jvm.MethodName) prog_22_method_38_code (8 : Nat) (Option.some Jvm.ClassFile.FieldType.int)) ∈ lw_all := lw_g (lw_at lw_m6 42 rfl) rfl
theorem q1312 : (Jvm.Cond.methodLink "BladeBetweenThumbsModel" (157 : Nat) ({ cls := "BladeBetweenThumbsModel", name := "wrongRow", desc := "(II)I" } : Jvm.MethodName)) ∈ lw_all := lw_g (lw_at lw_m6 43 rfl) rfl
theorem q1313 : (Jvm.Cond.privateMethod ({ cls := "BladeBetweenThumbsModel", name := "wrongRow", desc := "(II)I" } : Jvm.MethodName)) ∈ lw_tbl := lw_at lw_m6 44 rfl
theorem q1314 : (Jvm.Cond.instanceMethod ({ cls := "BladeBetweenThumbsModel", name := "wrongRow", desc := "(II)I" } : Jvm.MethodName)) ∈ lw_all := lw_g (lw_at lw_m6 45 rfl) rfl
theorem q1315 : (Jvm.Cond.code ({ cls := "BladeBetweenThumbsModel", name := "wrongRow", desc := "(II)I" } : Jvm.MethodName) prog_22_method_95_code (3 : Nat) (Option.some Jvm.ClassFile.FieldType.int)) ∈ lw_all := lw_g (lw_at lw_m6 46 rfl) rfl
theorem q1316 : (Jvm.Cond.methodLink "BladeBetweenThumbsModel" (259 : Nat) ({ cls := "BladeBetweenThumbsModel", name := "isShelf", desc := "(I)Z" } : Jvm.MethodName)) ∈ lw_all := lw_g (lw_at lw_m6 47 rfl) rfl
theorem q1317 : (Jvm.Cond.static ({ cls := "BladeBetweenThumbsModel", name := "isShelf", desc := "(I)Z" } : Jvm.MethodName)) ∈ lw_all := lw_g (lw_at lw_m6 48 rfl) rfl
theorem q1318 : (Jvm.Cond.code ({ cls := "BladeBetweenThumbsModel", name := "isShelf", desc := "(I)Z" } : Jvm.MethodName) prog_22_method_94_code (1 : Nat) (Option.some Jvm.ClassFile.FieldType.boolean)) ∈ lw_all := lw_g (lw_at lw_m6 49 rfl) rfl
theorem q1319 : (Jvm.Cond.methodLink "BladeBetweenThumbsModel" (58 : Nat) ({ cls := "BladeBetweenThumbsModel", name := "isIn", desc := "(III)Z" } : Jvm.MethodName)) ∈ lw_all := lw_g (lw_at lw_m6 50 rfl) rfl
theorem q1320 : (Jvm.Cond.static ({ cls := "BladeBetweenThumbsModel", name := "isIn", desc := "(III)Z" } : Jvm.MethodName)) ∈ lw_all := lw_g (lw_at lw_m6 51 rfl) rfl
theorem q1321 : (Jvm.Cond.code ({ cls := "BladeBetweenThumbsModel", name := "isIn", desc := "(III)Z" } : Jvm.MethodName) prog_22_method_2_code (3 : Nat) (Option.some Jvm.ClassFile.FieldType.boolean)) ∈ lw_all := lw_g (lw_at lw_m6 52 rfl) rfl
theorem q1322 : (Jvm.Cond.methodLink "BladeBetweenThumbsModel" (160 : Nat) ({ cls := "BladeBetweenThumbsModel", name := "readsStatement", desc := "()Z" } : Jvm.MethodName)) ∈ lw_all := lw_g (lw_at lw_m6 53 rfl) rfl
theorem q1323 : (Jvm.Cond.privateMethod ({ cls := "BladeBetweenThumbsModel", name := "readsStatement", desc := "()Z" } : Jvm.MethodName)) ∈ lw_tbl := lw_at lw_m6 54 rfl
theorem q1324 : (Jvm.Cond.instanceMethod ({ cls := "BladeBetweenThumbsModel", name := "readsStatement", desc := "()Z" } : Jvm.MethodName)) ∈ lw_all := lw_g (lw_at lw_m6 55 rfl) rfl
theorem q1325 : (Jvm.Cond.code ({ cls := "BladeBetweenThumbsModel", name := "readsStatement", desc := "()Z" } : Jvm.MethodName) prog_22_method_32_code (3 : Nat) (Option.some Jvm.ClassFile.FieldType.boolean)) ∈ lw_all := lw_g (lw_at lw_m6 56 rfl) rfl
theorem q1326 : (Jvm.Cond.methodLink "BladeBetweenThumbsModel" (126 : Nat) ({ cls := "BladeBetweenThumbsModel", name := "here", desc := "()I" } : Jvm.MethodName)) ∈ lw_all := lw_g (lw_at lw_m6 57 rfl) rfl
theorem q1327 : (Jvm.Cond.privateMethod ({ cls := "BladeBetweenThumbsModel", name := "here", desc := "()I" } : Jvm.MethodName)) ∈ lw_tbl := lw_at lw_m6 58 rfl
theorem q1328 : (Jvm.Cond.instanceMethod ({ cls := "BladeBetweenThumbsModel", name := "here", desc := "()I" } : Jvm.MethodName)) ∈ lw_all := lw_g (lw_at lw_m6 59 rfl) rfl
theorem q1329 : (Jvm.Cond.code ({ cls := "BladeBetweenThumbsModel", name := "here", desc := "()I" } : Jvm.MethodName) prog_22_method_30_code (1 : Nat) (Option.some Jvm.ClassFile.FieldType.int)) ∈ lw_all := lw_g (lw_at lw_m6 60 rfl) rfl
theorem q1330 : (Jvm.Cond.methodLink "BladeBetweenThumbsModel" (130 : Nat) ({ cls := "BladeBetweenThumbsModel", name := "readsNumber", desc := "(II)Z" } : Jvm.MethodName)) ∈ lw_all := lw_g (lw_at lw_m6 61 rfl) rfl
theorem q1331 : (Jvm.Cond.privateMethod ({ cls := "BladeBetweenThumbsModel", name := "readsNumber", desc := "(II)Z" } : Jvm.MethodName)) ∈ lw_tbl := lw_at lw_m6 62 rfl
theorem q1332 : (Jvm.Cond.instanceMethod ({ cls := "BladeBetweenThumbsModel", name := "readsNumber", desc := "(II)Z" } : Jvm.MethodName)) ∈ lw_all := lw_g (lw_at lw_m6 63 rfl) rfl
theorem q1333 : (Jvm.Cond.code ({ cls := "BladeBetweenThumbsModel", name := "readsNumber", desc := "(II)Z" } : Jvm.MethodName) prog_22_method_31_code (4 : Nat) (Option.some Jvm.ClassFile.FieldType.boolean)) ∈ lw_all := lw_g (lw_at lw_m6 64 rfl) rfl
theorem q1334 : (Jvm.Cond.methodLink "BladeBetweenThumbsModel" (164 : Nat) ({ cls := "BladeBetweenThumbsModel", name := "copies", desc := "([I[I)V" } : Jvm.MethodName)) ∈ lw_all := lw_g (lw_at lw_m6 65 rfl) rfl
theorem q1335 : (Jvm.Cond.static ({ cls := "BladeBetweenThumbsModel", name := "copies", desc := "([I[I)V" } : Jvm.MethodName)) ∈ lw_all := lw_g (lw_at lw_m6 66 rfl) rfl
theorem q1336 : (Jvm.Cond.code ({ cls := "BladeBetweenThumbsModel", name := "copies", desc := "([I[I)V" } : Jvm.MethodName) prog_22_method_4_code (3 : Nat) (Option.none : Option Jvm.ClassFile.FieldType)) ∈ lw_all := lw_g (lw_at lw_m6 67 rfl) rfl
theorem q1337 : (Jvm.Cond.methodLink "BladeBetweenThumbsModel" (168 : Nat) ({ cls := "BladeBetweenThumbsModel", name := "isDone", desc := "(I)Z" } : Jvm.MethodName)) ∈ lw_all := lw_g (lw_at lw_m6 68 rfl) rfl
theorem q1338 : (Jvm.Cond.privateMethod ({ cls := "BladeBetweenThumbsModel", name := "isDone", desc := "(I)Z" } : Jvm.MethodName)) ∈ lw_tbl := lw_at lw_m6 69 rfl
theorem q1339 : (Jvm.Cond.instanceMethod ({ cls := "BladeBetweenThumbsModel", name := "isDone", desc := "(I)Z" } : Jvm.MethodName)) ∈ lw_all := lw_g (lw_at lw_m6 70 rfl) rfl
theorem q1340 : (Jvm.Cond.code ({ cls := "BladeBetweenThumbsModel", name := "isDone", desc := "(I)Z" } : Jvm.MethodName) prog_22_method_37_code (4 : Nat) (Option.some Jvm.ClassFile.FieldType.boolean)) ∈ lw_all := lw_g (lw_at lw_m6 71 rfl) rfl
theorem q1341 : (Jvm.Cond.methodLink "BladeBetweenThumbsModel" (134 : Nat) ({ cls := "BladeBetweenThumbsModel", name := "isBladeLike", desc := "(III)Z" } : Jvm.MethodName)) ∈ lw_all := lw_g (lw_at lw_m6 72 rfl) rfl
theorem q1342 : (Jvm.Cond.static ({ cls := "BladeBetweenThumbsModel", name := "isBladeLike", desc := "(III)Z" } : Jvm.MethodName)) ∈ lw_all := lw_g (lw_at lw_m6 73 rfl) rfl
theorem q1343 : (Jvm.Cond.code ({ cls := "BladeBetweenThumbsModel", name := "isBladeLike", desc := "(III)Z" } : Jvm.MethodName) prog_22_method_34_code (3 : Nat) (Option.some Jvm.ClassFile.FieldType.boolean)) ∈ lw_all := lw_g (lw_at lw_m6 74 rfl) rfl
theorem q1344 : (Jvm.Cond.methodLink "BladeBetweenThumbsModel" (137 : Nat) ({ cls := "BladeBetweenThumbsModel", name := "addsBlade", desc := "(III)V" } : Jvm.MethodName)) ∈ lw_all := lw_g (lw_at lw_m6 75 rfl) rfl
theorem q1345 : (Jvm.Cond.privateMethod ({ cls := "BladeBetweenThumbsModel", name := "addsBlade", desc := "(III)V" } : Jvm.MethodName)) ∈ lw_tbl := lw_at lw_m6 76 rfl
theorem q1346 : (Jvm.Cond.instanceMethod ({ cls := "BladeBetweenThumbsModel", name := "addsBlade", desc := "(III)V" } : Jvm.MethodName)) ∈ lw_all := lw_g (lw_at lw_m6 77 rfl) rfl
theorem q1347 : (Jvm.Cond.code ({ cls := "BladeBetweenThumbsModel", name := "addsBlade", desc := "(III)V" } : Jvm.MethodName) prog_22_method_33_code (4 : Nat) (Option.none : Option Jvm.ClassFile.FieldType)) ∈ lw_all := lw_g (lw_at lw_m6 78 rfl) rfl
theorem q1348 : (Jvm.Cond.methodLink "BladeBetweenThumbsModel" (51 : Nat) ({ cls := "BladeBetweenThumbsModel", name := "atBlade", desc := "(II)I" } : Jvm.MethodName)) ∈ lw_all := lw_g (lw_at lw_m6 79 rfl) rfl
theorem q1349 : (Jvm.Cond.static ({ cls := "BladeBetweenThumbsModel", name := "atBlade", desc := "(II)I" } : Jvm.MethodName)) ∈ lw_all := lw_g (lw_at lw_m6 80 rfl) rfl
theorem q1350 : (Jvm.Cond.code ({ cls := "BladeBetweenThumbsModel", name := "atBlade", desc := "(II)I" } : Jvm.MethodName) prog_22_method_5_code (2 : Nat) (Option.some Jvm.ClassFile.FieldType.int)) ∈ lw_all := lw_g (lw_at lw_m6 81 rfl) rfl
theorem q1351 : (Jvm.Cond.methodLink "BladeBetweenThumbsModel" (141 : Nat) ({ cls := "BladeBetweenThumbsModel", name := "addsThumbs", desc := "(II)V" } : Jvm.MethodName)) ∈ lw_all := lw_g (lw_at lw_m6 82 rfl) rfl
theorem q1352 : (Jvm.Cond.privateMethod ({ cls := "BladeBetweenThumbsModel", name := "addsThumbs", desc := "(II)V" } : Jvm.MethodName)) ∈ lw_tbl := lw_at lw_m6 83 rfl
theorem q1353 : (Jvm.Cond.instanceMethod ({ cls := "BladeBetweenThumbsModel", name := "addsThumbs", desc := "(II)V" } : Jvm.MethodName)) ∈ lw_all := lw_g (lw_at lw_m6 84 rfl) rfl
theorem q1354 : (Jvm.Cond.code ({ cls := "BladeBetweenThumbsModel", name := "addsThumbs", desc := "(II)V" } : Jvm.MethodName) prog_22_method_35_code (3 : Nat) (Option.none : Option Jvm.ClassFile.FieldType)) ∈ lw_all := lw_g (lw_at lw_m6 85 rfl) rfl
theorem q1355 : (Jvm.Cond.methodLink "BladeBetweenThumbsModel" (75 : Nat) ({ cls := "BladeBetweenThumbsModel", name := "atThumbs", desc := "(II)I" } : Jvm.MethodName)) ∈ lw_all := lw_g (lw_at lw_m6 86 rfl) rfl
theorem q1356 : (Jvm.Cond.static ({ cls := "BladeBetweenThumbsModel", name := "atThumbs", desc := "(II)I" } : Jvm.MethodName)) ∈ lw_all := lw_g (lw_at lw_m6 87 rfl) rfl
theorem q1357 : (Jvm.Cond.code ({ cls := "BladeBetweenThumbsModel", name := "atThumbs", desc := "(II)I" } : Jvm.MethodName) prog_22_method_6_code (2 : Nat) (Option.some Jvm.ClassFile.FieldType.int)) ∈ lw_all := lw_g (lw_at lw_m6 88 rfl) rfl
theorem q1358 : (Jvm.Cond.methodLink "BladeBetweenThumbsModel" (145 : Nat) ({ cls := "BladeBetweenThumbsModel", name := "addsBlow", desc := "(II)V" } : Jvm.MethodName)) ∈ lw_all := lw_g (lw_at lw_m6 89 rfl) rfl
theorem q1359 : (Jvm.Cond.privateMethod ({ cls := "BladeBetweenThumbsModel", name := "addsBlow", desc := "(II)V" } : Jvm.MethodName)) ∈ lw_tbl := lw_at lw_m6 90 rfl
theorem q1360 : (Jvm.Cond.instanceMethod ({ cls := "BladeBetweenThumbsModel", name := "addsBlow", desc := "(II)V" } : Jvm.MethodName)) ∈ lw_all := lw_g (lw_at lw_m6 91 rfl) rfl
theorem q1361 : (Jvm.Cond.code ({ cls := "BladeBetweenThumbsModel", name := "addsBlow", desc := "(II)V" } : Jvm.MethodName) prog_22_method_36_code (3 : Nat) (Option.none : Option Jvm.ClassFile.FieldType)) ∈ lw_all := lw_g (lw_at lw_m6 92 rfl) rfl
theorem q1362 : (Jvm.Cond.methodLink "BladeBetweenThumbsModel" (55 : Nat) ({ cls := "BladeBetweenThumbsModel", name := "atBlow", desc := "(II)I" } : Jvm.MethodName)) ∈ lw_all := lw_g (lw_at lw_m6 93 rfl) rfl
theorem q1363 : (Jvm.Cond.static ({ cls := "BladeBetweenThumbsModel", name := "atBlow", desc := "(II)I" } : Jvm.MethodName)) ∈ lw_all := lw_g (lw_at lw_m6 94 rfl) rfl
theorem q1364 : (Jvm.Cond.code ({ cls := "BladeBetweenThumbsModel", name := "atBlow", desc := "(II)I" } : Jvm.MethodName) prog_22_method_7_code (2 : Nat) (Option.some Jvm.ClassFile.FieldType.int)) ∈ lw_all := lw_g (lw_at lw_m6 95 rfl) rfl
theorem q1365 : (Jvm.Cond.methodLink "BladeBetweenThumbsModel" (148 : Nat) ({ cls := "BladeBetweenThumbsModel", name := "areAll", desc := "(III)Z" } : Jvm.MethodName)) ∈ lw_all := lw_g (lw_at lw_m6 96 rfl) rfl
theorem q1366 : (Jvm.Cond.privateMethod ({ cls := "BladeBetweenThumbsModel", name := "areAll", desc := "(III)Z" } : Jvm.MethodName)) ∈ lw_tbl := lw_at lw_m6 97 rfl
theorem q1367 : (Jvm.Cond.instanceMethod ({ cls := "BladeBetweenThumbsModel", name := "areAll", desc := "(III)Z" } : Jvm.MethodName)) ∈ lw_all := lw_g (lw_at lw_m6 98 rfl) rfl
theorem q1368 : (Jvm.Cond.code ({ cls := "BladeBetweenThumbsModel", name := "areAll", desc := "(III)Z" } : Jvm.MethodName) prog_22_method_14_code (4 : Nat) (Option.some Jvm.ClassFile.FieldType.boolean)) ∈ lw_all := lw_g (lw_at lw_m6 99 rfl) rfl
theorem q1369 : (Jvm.Cond.methodLink "BladeBetweenThumbsModel" (62 : Nat) ({ cls := "BladeBetweenThumbsModel", name := "isBlade", desc := "(I)Z" } : Jvm.MethodName)) ∈ lw_all := lw_g (lw_at lw_m6 100 rfl) rfl
theorem q1370 : (Jvm.Cond.privateMethod ({ cls := "BladeBetweenThumbsModel", name := "isBlade", desc := "(I)Z" } : Jvm.MethodName)) ∈ lw_tbl := lw_at lw_m6 101 rfl
theorem q1371 : (Jvm.Cond.instanceMethod ({ cls := "BladeBetweenThumbsModel", name := "isBlade", desc := "(I)Z" } : Jvm.MethodName)) ∈ lw_all := lw_g (lw_at lw_m6 102 rfl) rfl
theorem q1372 : (Jvm.Cond.code ({ cls := "BladeBetweenThumbsModel", name := "isBlade", desc := "(I)Z" } : Jvm.MethodName) prog_22_method_11_code (2 : Nat) (Option.some Jvm.ClassFile.FieldType.boolean)) ∈ lw_all := lw_g (lw_at lw_m6 103 rfl) rfl
theorem q1373 : (Jvm.Cond.methodLink "BladeBetweenThumbsModel" (66 : Nat) ({ cls := "BladeBetweenThumbsModel", name := "isThumbs", desc := "(I)Z" } : Jvm.MethodName)) ∈ lw_all := lw_g (lw_at lw_m6 104 rfl) rfl
theorem q1374 : (Jvm.Cond.privateMethod ({ cls := "BladeBetweenThumbsModel", name := "isThumbs", desc := "(I)Z" } : Jvm.MethodName)) ∈ lw_tbl := lw_at lw_m6 105 rfl
theorem q1375 : (Jvm.Cond.instanceMethod ({ cls := "BladeBetweenThumbsModel", name := "isThumbs", desc := "(I)Z" } : Jvm.MethodName)) ∈ lw_all := lw_g (lw_at lw_m6 106 rfl) rfl
theorem q1376 : (Jvm.Cond.code ({ cls := "BladeBetweenThumbsModel", name := "isThumbs", desc := "(I)Z" } : Jvm.MethodName) prog_22_method_12_code (2 : Nat) (Option.some Jvm.ClassFile.FieldType.boolean)) ∈ lw_all := lw_g (lw_at lw_m6 107 rfl) rfl
theorem q1377 : (Jvm.Cond.methodLink "BladeBetweenThumbsModel" (69 : Nat) ({ cls := "BladeBetweenThumbsModel", name := "isBlow", desc := "(I)Z" } : Jvm.MethodName)) ∈ lw_all := lw_g (lw_at lw_m6 108 rfl) rfl
theorem q1378 : (Jvm.Cond.privateMethod ({ cls := "BladeBetweenThumbsModel", name := "isBlow", desc := "(I)Z" } : Jvm.MethodName)) ∈ lw_tbl := lw_at lw_m6 109 rfl
theorem q1379 : (Jvm.Cond.instanceMethod ({ cls := "BladeBetweenThumbsModel", name := "isBlow", desc := "(I)Z" } : Jvm.MethodName)) ∈ lw_all := lw_g (lw_at lw_m6 110 rfl) rfl
theorem q1380 : (Jvm.Cond.code ({ cls := "BladeBetweenThumbsModel", name := "isBlow", desc := "(I)Z" } : Jvm.MethodName) prog_22_method_13_code (2 : Nat) (Option.some Jvm.ClassFile.FieldType.boolean)) ∈ lw_all := lw_g (lw_at lw_m6 111 rfl) rfl
theorem q1381 : (Jvm.Cond.methodLink "BladeBetweenThumbsModel" (151 : Nat) ({ cls := "BladeBetweenThumbsModel", name := "isSplit", desc := "(I)Z" } : Jvm.MethodName)) ∈ lw_all := lw_g (lw_at lw_m6 112 rfl) rfl
theorem q1382 : (Jvm.Cond.privateMethod ({ cls := "BladeBetweenThumbsModel", name := "isSplit", desc := "(I)Z" } : Jvm.MethodName)) ∈ lw_tbl := lw_at lw_m6 113 rfl
theorem q1383 : (Jvm.Cond.instanceMethod ({ cls := "BladeBetweenThumbsModel", name := "isSplit", desc := "(I)Z" } : Jvm.MethodName)) ∈ lw_all := lw_g (lw_at lw_m6 114 rfl) rfl
theorem q1384 : (Jvm.Cond.code ({ cls := "BladeBetweenThumbsModel", name := "isSplit", desc := "(I)Z" } : Jvm.MethodName) prog_22_method_16_code (2 : Nat) (Option.some Jvm.ClassFile.FieldType.boolean)) ∈ lw_all := lw_g (lw_at lw_m6 115 rfl) rfl
theorem q1385 : (Jvm.Cond.methodLink "BladeBetweenThumbsModel" (72 : Nat) ({ cls := "BladeBetweenThumbsModel", name := "bladeOf", desc := "(II)I" } : Jvm.MethodName)) ∈ lw_all := lw_g (lw_at lw_m6 116 rfl) rfl
theorem q1386 : (Jvm.Cond.privateMethod ({ cls := "BladeBetweenThumbsModel", name := "bladeOf", desc := "(II)I" } : Jvm.MethodName)) ∈ lw_tbl := lw_at lw_m6 117 rfl
theorem q1387 : (Jvm.Cond.instanceMethod ({ cls := "BladeBetweenThumbsModel", name := "bladeOf", desc := "(II)I" } : Jvm.MethodName)) ∈ lw_all := lw_g (lw_at lw_m6 118 rfl) rfl
theorem q1388 : (Jvm.Cond.code ({ cls := "BladeBetweenThumbsModel", name := "bladeOf", desc := "(II)I" } : Jvm.MethodName) prog_22_method_8_code (3 : Nat) (Option.some Jvm.ClassFile.FieldType.int)) ∈ lw_all := lw_g (lw_at lw_m6 119 rfl) rfl
theorem q1389 : (Jvm.Cond.methodLink "BladeBetweenThumbsModel" (154 : Nat) ({ cls := "BladeBetweenThumbsModel", name := "wears", desc := "(II)I" } : Jvm.MethodName)) ∈ lw_all := lw_g (lw_at lw_m6 120 rfl) rfl
theorem q1390 : (Jvm.Cond.privateMethod ({ cls := "BladeBetweenThumbsModel", name := "wears", desc := "(II)I" } : Jvm.MethodName)) ∈ lw_tbl := lw_at lw_m6 121 rfl
theorem q1391 : (Jvm.Cond.instanceMethod ({ cls := "BladeBetweenThumbsModel", name := "wears", desc := "(II)I" } : Jvm.MethodName)) ∈ lw_all := lw_g (lw_at lw_m6 122 rfl) rfl
theorem q1392 : (Jvm.Cond.code ({ cls := "BladeBetweenThumbsModel", name := "wears", desc := "(II)I" } : Jvm.MethodName) prog_22_method_29_code (4 : Nat) (Option.some Jvm.ClassFile.FieldType.int)) ∈ lw_all := lw_g (lw_at lw_m6 123 rfl) rfl
theorem q1393 : (Jvm.Cond.methodLink "BladeBetweenThumbsModel" (82 : Nat) ({ cls := "BladeBetweenThumbsModel", name := "kind", desc := "(I)I" } : Jvm.MethodName)) ∈ lw_all := lw_g (lw_at lw_m6 124 rfl) rfl
theorem q1394 : (Jvm.Cond.privateMethod ({ cls := "BladeBetweenThumbsModel", name := "kind", desc := "(I)I" } : Jvm.MethodName)) ∈ lw_tbl := lw_at lw_m6 125 rfl
theorem q1395 : (Jvm.Cond.instanceMethod ({ cls := "BladeBetweenThumbsModel", name := "kind", desc := "(I)I" } : Jvm.MethodName)) ∈ lw_all := lw_g (lw_at lw_m6 126 rfl) rfl
theorem q1396 : (Jvm.Cond.code ({ cls := "BladeBetweenThumbsModel", name := "kind", desc := "(I)I" } : Jvm.MethodName) prog_22_method_9_code (2 : Nat) (Option.some Jvm.ClassFile.FieldType.int)) ∈ lw_all := lw_g (lw_at lw_m6 127 rfl) rfl
theorem q1397 : (Jvm.Cond.methodLink "BladeBetweenThumbsModel" (95 : Nat) ({ cls := "BladeBetweenThumbsModel", name := "figure", desc := "(I)I" } : Jvm.MethodName)) ∈ lw_all := lw_g (lw_at lw_m6 128 rfl) rfl
theorem q1398 : (Jvm.Cond.privateMethod ({ cls := "BladeBetweenThumbsModel", name := "figure", desc := "(I)I" } : Jvm.MethodName)) ∈ lw_tbl := lw_at lw_m6 129 rfl
theorem q1399 : (Jvm.Cond.instanceMethod ({ cls := "BladeBetweenThumbsModel", name := "figure", desc := "(I)I" } : Jvm.MethodName)) ∈ lw_all := lw_g (lw_at lw_m6 130 rfl) rfl
theorem q1400 : (Jvm.Cond.code ({ cls := "BladeBetweenThumbsModel", name := "figure", desc := "(I)I" } : Jvm.MethodName) prog_22_method_10_code (2 : Nat) (Option.some Jvm.ClassFile.FieldType.int)) ∈ lw_all := lw_g (lw_at lw_m6 131 rfl) rfl
theorem q1402 : (Jvm.Cond.instanceMethod ({ cls := "BladeBetweenThumbsModel", name := "blade", desc := "(II)I" } : Jvm.MethodName)) ∈ lw_all := lw_g (lw_at lw_m6 133 rfl) rfl
theorem q1403 : (Jvm.Cond.selects "BladeBetweenThumbsModel" ({ cls := "BladeBetweenThumbsModel", name := "blade", desc := "(II)I" } : Jvm.MethodName) ({ cls := "BladeBetweenThumbsModel", name := "blade", desc := "(II)I" } : Jvm.MethodName)) ∈ lw_all := lw_g (lw_at lw_m6 134 rfl) rfl
theorem q1404 : (Jvm.Cond.code ({ cls := "BladeBetweenThumbsModel", name := "blade", desc := "(II)I" } : Jvm.MethodName) prog_22_method_39_code (3 : Nat) (Option.some Jvm.ClassFile.FieldType.int)) ∈ lw_all := lw_g (lw_at lw_m6 135 rfl) rfl
theorem q1406 : (Jvm.Cond.instanceMethod ({ cls := "BladeBetweenThumbsModel", name := "thumbs", desc := "(II)I" } : Jvm.MethodName)) ∈ lw_all := lw_g (lw_at lw_m6 137 rfl) rfl
theorem q1407 : (Jvm.Cond.selects "BladeBetweenThumbsModel" ({ cls := "BladeBetweenThumbsModel", name := "thumbs", desc := "(II)I" } : Jvm.MethodName) ({ cls := "BladeBetweenThumbsModel", name := "thumbs", desc := "(II)I" } : Jvm.MethodName)) ∈ lw_all := lw_g (lw_at lw_m6 138 rfl) rfl
theorem q1408 : (Jvm.Cond.code ({ cls := "BladeBetweenThumbsModel", name := "thumbs", desc := "(II)I" } : Jvm.MethodName) prog_22_method_40_code (3 : Nat) (Option.some Jvm.ClassFile.FieldType.int)) ∈ lw_all := lw_g (lw_at lw_m6 139 rfl) rfl
theorem q1410 : (Jvm.Cond.instanceMethod ({ cls := "BladeBetweenThumbsModel", name := "blow", desc := "(II)I" } : Jvm.MethodName)) ∈ lw_all := lw_g (lw_at lw_m6 141 rfl) rfl
theorem q1411 : (Jvm.Cond.selects "BladeBetweenThumbsModel" ({ cls := "BladeBetweenThumbsModel", name := "blow", desc := "(II)I" } : Jvm.MethodName) ({ cls := "BladeBetweenThumbsModel", name := "blow", desc := "(II)I" } : Jvm.MethodName)) ∈ lw_all := lw_g (lw_at lw_m6 142 rfl) rfl
theorem q1412 : (Jvm.Cond.code ({ cls := "BladeBetweenThumbsModel", name := "blow", desc := "(II)I" } : Jvm.MethodName) prog_22_method_41_code (3 : Nat) (Option.some Jvm.ClassFile.FieldType.int)) ∈ lw_all := lw_g (lw_at lw_m6 143 rfl) rfl
theorem q1414 : (Jvm.Cond.instanceMethod ({ cls := "BladeBetweenThumbsModel", name := "grows", desc := "(III)I" } : Jvm.MethodName)) ∈ lw_all := lw_g (lw_at lw_m6 145 rfl) rfl
theorem q1415 : (Jvm.Cond.selects "BladeBetweenThumbsModel" ({ cls := "BladeBetweenThumbsModel", name := "grows", desc := "(III)I" } : Jvm.MethodName) ({ cls := "BladeBetweenThumbsModel", name := "grows", desc := "(III)I" } : Jvm.MethodName)) ∈ lw_all := lw_g (lw_at lw_m6 146 rfl) rfl
theorem q1416 : (Jvm.Cond.code ({ cls := "BladeBetweenThumbsModel", name := "grows", desc := "(III)I" } : Jvm.MethodName) prog_22_method_42_code (4 : Nat) (Option.some Jvm.ClassFile.FieldType.int)) ∈ lw_all := lw_g (lw_at lw_m6 147 rfl) rfl
theorem q1418 : (Jvm.Cond.instanceMethod ({ cls := "BladeBetweenThumbsModel", name := "learns", desc := "(I)I" } : Jvm.MethodName)) ∈ lw_all := lw_g (lw_at lw_m6 149 rfl) rfl
theorem q1419 : (Jvm.Cond.selects "BladeBetweenThumbsModel" ({ cls := "BladeBetweenThumbsModel", name := "learns", desc := "(I)I" } : Jvm.MethodName) ({ cls := "BladeBetweenThumbsModel", name := "learns", desc := "(I)I" } : Jvm.MethodName)) ∈ lw_all := lw_g (lw_at lw_m6 150 rfl) rfl
theorem q1420 : (Jvm.Cond.code ({ cls := "BladeBetweenThumbsModel", name := "learns", desc := "(I)I" } : Jvm.MethodName) prog_22_method_43_code (3 : Nat) (Option.some Jvm.ClassFile.FieldType.int)) ∈ lw_all := lw_g (lw_at lw_m6 151 rfl) rfl
theorem q1421 : (Jvm.Cond.methodLink "BladeBetweenThumbsModel" (171 : Nat) ({ cls := "BladeBetweenThumbsModel", name := "wrongKept", desc := "(I)I" } : Jvm.MethodName)) ∈ lw_all := lw_g (lw_at lw_m6 152 rfl) rfl
theorem q1422 : (Jvm.Cond.privateMethod ({ cls := "BladeBetweenThumbsModel", name := "wrongKept", desc := "(I)I" } : Jvm.MethodName)) ∈ lw_tbl := lw_at lw_m6 153 rfl
theorem q1423 : (Jvm.Cond.instanceMethod ({ cls := "BladeBetweenThumbsModel", name := "wrongKept", desc := "(I)I" } : Jvm.MethodName)) ∈ lw_all := lw_g (lw_at lw_m6 154 rfl) rfl
theorem q1424 : (Jvm.Cond.code ({ cls := "BladeBetweenThumbsModel", name := "wrongKept", desc := "(I)I" } : Jvm.MethodName) prog_22_method_96_code (2 : Nat) (Option.some Jvm.ClassFile.FieldType.int)) ∈ lw_all := lw_g (lw_at lw_m6 155 rfl) rfl
theorem q1426 : (Jvm.Cond.instanceMethod ({ cls := "BladeBetweenThumbsModel", name := "comes", desc := "(II)I" } : Jvm.MethodName)) ∈ lw_all := lw_g (lw_at lw_m6 157 rfl) rfl
theorem q1427 : (Jvm.Cond.selects "BladeBetweenThumbsModel" ({ cls := "BladeBetweenThumbsModel", name := "comes", desc := "(II)I" } : Jvm.MethodName) ({ cls := "BladeBetweenThumbsModel", name := "comes", desc := "(II)I" } : Jvm.MethodName)) ∈ lw_all := lw_g (lw_at lw_m6 158 rfl) rfl
theorem q1428 : (Jvm.Cond.code ({ cls := "BladeBetweenThumbsModel", name := "comes", desc := "(II)I" } : Jvm.MethodName) prog_22_method_44_code (3 : Nat) (Option.some Jvm.ClassFile.FieldType.int)) ∈ lw_all := lw_g (lw_at lw_m6 159 rfl) rfl
theorem q1429 : (Jvm.Cond.methodLink "BladeBetweenThumbsModel" (174 : Nat) ({ cls := "BladeBetweenThumbsModel", name := "isForce", desc := "(I)Z" } : Jvm.MethodName)) ∈ lw_all := lw_g (lw_at lw_m6 160 rfl) rfl
theorem q1430 : (Jvm.Cond.static ({ cls := "BladeBetweenThumbsModel", name := "isForce", desc := "(I)Z" } : Jvm.MethodName)) ∈ lw_all := lw_g (lw_at lw_m6 161 rfl) rfl
theorem q1431 : (Jvm.Cond.code ({ cls := "BladeBetweenThumbsModel", name := "isForce", desc := "(I)Z" } : Jvm.MethodName) prog_22_method_15_code (1 : Nat) (Option.some Jvm.ClassFile.FieldType.boolean)) ∈ lw_all := lw_g (lw_at lw_m6 162 rfl) rfl
theorem q1433 : (Jvm.Cond.instanceMethod ({ cls := "BladeBetweenThumbsModel", name := "wets", desc := "(II)I" } : Jvm.MethodName)) ∈ lw_all := lw_g (lw_at lw_m6 164 rfl) rfl
theorem q1434 : (Jvm.Cond.selects "BladeBetweenThumbsModel" ({ cls := "BladeBetweenThumbsModel", name := "wets", desc := "(II)I" } : Jvm.MethodName) ({ cls := "BladeBetweenThumbsModel", name := "wets", desc := "(II)I" } : Jvm.MethodName)) ∈ lw_all := lw_g (lw_at lw_m6 165 rfl) rfl
theorem q1435 : (Jvm.Cond.code ({ cls := "BladeBetweenThumbsModel", name := "wets", desc := "(II)I" } : Jvm.MethodName) prog_22_method_45_code (4 : Nat) (Option.some Jvm.ClassFile.FieldType.int)) ∈ lw_all := lw_g (lw_at lw_m6 166 rfl) rfl
theorem q1437 : (Jvm.Cond.instanceMethod ({ cls := "BladeBetweenThumbsModel", name := "span", desc := "(IIII)I" } : Jvm.MethodName)) ∈ lw_all := lw_g (lw_at lw_m6 168 rfl) rfl
theorem q1438 : (Jvm.Cond.selects "BladeBetweenThumbsModel" ({ cls := "BladeBetweenThumbsModel", name := "span", desc := "(IIII)I" } : Jvm.MethodName) ({ cls := "BladeBetweenThumbsModel", name := "span", desc := "(IIII)I" } : Jvm.MethodName)) ∈ lw_all := lw_g (lw_at lw_m6 169 rfl) rfl
theorem q1439 : (Jvm.Cond.code ({ cls := "BladeBetweenThumbsModel", name := "span", desc := "(IIII)I" } : Jvm.MethodName) prog_22_method_46_code (5 : Nat) (Option.some Jvm.ClassFile.FieldType.int)) ∈ lw_all := lw_g (lw_at lw_m6 170 rfl) rfl
theorem q1440 : (Jvm.Cond.methodLink "BladeBetweenThumbsModel" (98 : Nat) ({ cls := "BladeBetweenThumbsModel", name := "low", desc := "(III)I" } : Jvm.MethodName)) ∈ lw_all := lw_g (lw_at lw_m6 171 rfl) rfl
theorem q1441 : (Jvm.Cond.privateMethod ({ cls := "BladeBetweenThumbsModel", name := "low", desc := "(III)I" } : Jvm.MethodName)) ∈ lw_tbl := lw_at lw_m6 172 rfl
theorem q1442 : (Jvm.Cond.instanceMethod ({ cls := "BladeBetweenThumbsModel", name := "low", desc := "(III)I" } : Jvm.MethodName)) ∈ lw_all := lw_g (lw_at lw_m6 173 rfl) rfl
theorem q1443 : (Jvm.Cond.code ({ cls := "BladeBetweenThumbsModel", name := "low", desc := "(III)I" } : Jvm.MethodName) prog_22_method_21_code (5 : Nat) (Option.some Jvm.ClassFile.FieldType.int)) ∈ lw_all := lw_g (lw_at lw_m6 174 rfl) rfl
theorem q1444 : (Jvm.Cond.methodLink "BladeBetweenThumbsModel" (88 : Nat) ({ cls := "BladeBetweenThumbsModel", name := "lowPlain", desc := "(III)I" } : Jvm.MethodName)) ∈ lw_all := lw_g (lw_at lw_m6 175 rfl) rfl
theorem q1445 : (Jvm.Cond.privateMethod ({ cls := "BladeBetweenThumbsModel", name := "lowPlain", desc := "(III)I" } : Jvm.MethodName)) ∈ lw_tbl := lw_at lw_m6 176 rfl
theorem q1446 : (Jvm.Cond.instanceMethod ({ cls := "BladeBetweenThumbsModel", name := "lowPlain", desc := "(III)I" } : Jvm.MethodName)) ∈ lw_all := lw_g (lw_at lw_m6 177 rfl) rfl
theorem q1447 : (Jvm.Cond.code ({ cls := "BladeBetweenThumbsModel", name := "lowPlain", desc := "(III)I" } : Jvm.MethodName) prog_22_method_20_code (5 : Nat) (Option.some Jvm.ClassFile.FieldType.int)) ∈ lw_all := lw_g (lw_at lw_m6 178 rfl) rfl
theorem q1448 : (Jvm.Cond.methodLink "BladeBetweenThumbsModel" (78 : Nat) ({ cls := "BladeBetweenThumbsModel", name := "slitOf", desc := "(I)I" } : Jvm.MethodName)) ∈ lw_all := lw_g (lw_at lw_m6 179 rfl) rfl
theorem q1449 : (Jvm.Cond.privateMethod ({ cls := "BladeBetweenThumbsModel", name := "slitOf", desc := "(I)I" } : Jvm.MethodName)) ∈ lw_tbl := lw_at lw_m6 180 rfl
theorem q1450 : (Jvm.Cond.instanceMethod ({ cls := "BladeBetweenThumbsModel", name := "slitOf", desc := "(I)I" } : Jvm.MethodName)) ∈ lw_all := lw_g (lw_at lw_m6 181 rfl) rfl
theorem q1451 : (Jvm.Cond.code ({ cls := "BladeBetweenThumbsModel", name := "slitOf", desc := "(I)I" } : Jvm.MethodName) prog_22_method_18_code (3 : Nat) (Option.some Jvm.ClassFile.FieldType.int)) ∈ lw_all := lw_g (lw_at lw_m6 182 rfl) rfl
theorem q1452 : (Jvm.Cond.methodLink "BladeBetweenThumbsModel" (85 : Nat) ({ cls := "BladeBetweenThumbsModel", name := "isSounding", desc := "(I)Z" } : Jvm.MethodName)) ∈ lw_all := lw_g (lw_at lw_m6 183 rfl) rfl
theorem q1453 : (Jvm.Cond.static ({ cls := "BladeBetweenThumbsModel", name := "isSounding", desc := "(I)Z" } : Jvm.MethodName)) ∈ lw_all := lw_g (lw_at lw_m6 184 rfl) rfl
theorem q1454 : (Jvm.Cond.code ({ cls := "BladeBetweenThumbsModel", name := "isSounding", desc := "(I)Z" } : Jvm.MethodName) prog_22_method_17_code (1 : Nat) (Option.some Jvm.ClassFile.FieldType.boolean)) ∈ lw_all := lw_g (lw_at lw_m6 185 rfl) rfl
theorem q1455 : (Jvm.Cond.methodLink "BladeBetweenThumbsModel" (101 : Nat) ({ cls := "BladeBetweenThumbsModel", name := "high", desc := "(III)I" } : Jvm.MethodName)) ∈ lw_all := lw_g (lw_at lw_m6 186 rfl) rfl
theorem q1456 : (Jvm.Cond.privateMethod ({ cls := "BladeBetweenThumbsModel", name := "high", desc := "(III)I" } : Jvm.MethodName)) ∈ lw_tbl := lw_at lw_m6 187 rfl
theorem q1457 : (Jvm.Cond.instanceMethod ({ cls := "BladeBetweenThumbsModel", name := "high", desc := "(III)I" } : Jvm.MethodName)) ∈ lw_all := lw_g (lw_at lw_m6 188 rfl) rfl
theorem q1458 : (Jvm.Cond.code ({ cls := "BladeBetweenThumbsModel", name := "high", desc := "(III)I" } : Jvm.MethodName) prog_22_method_22_code (5 : Nat) (Option.some Jvm.ClassFile.FieldType.int)) ∈ lw_all := lw_g (lw_at lw_m6 189 rfl) rfl
theorem q1459 : (Jvm.Cond.methodLink "BladeBetweenThumbsModel" (92 : Nat) ({ cls := "BladeBetweenThumbsModel", name := "softest", desc := "(II)I" } : Jvm.MethodName)) ∈ lw_all := lw_g (lw_at lw_m6 190 rfl) rfl
theorem q1460 : (Jvm.Cond.privateMethod ({ cls := "BladeBetweenThumbsModel", name := "softest", desc := "(II)I" } : Jvm.MethodName)) ∈ lw_tbl := lw_at lw_m6 191 rfl
theorem q1461 : (Jvm.Cond.instanceMethod ({ cls := "BladeBetweenThumbsModel", name := "softest", desc := "(II)I" } : Jvm.MethodName)) ∈ lw_all := lw_g (lw_at lw_m6 192 rfl) rfl
theorem q1462 : (Jvm.Cond.code ({ cls := "BladeBetweenThumbsModel", name := "softest", desc := "(II)I" } : Jvm.MethodName) prog_22_method_23_code (4 : Nat) (Option.some Jvm.ClassFile.FieldType.int)) ∈ lw_all := lw_g (lw_at lw_m6 193 rfl) rfl
theorem q1463 : (Jvm.Cond.methodLink "BladeBetweenThumbsModel" (107 : Nat) ({ cls := "BladeBetweenThumbsModel", name := "hardest", desc := "(II)I" } : Jvm.MethodName)) ∈ lw_all := lw_g (lw_at lw_m6 194 rfl) rfl
theorem q1464 : (Jvm.Cond.privateMethod ({ cls := "BladeBetweenThumbsModel", name := "hardest", desc := "(II)I" } : Jvm.MethodName)) ∈ lw_tbl := lw_at lw_m6 195 rfl
theorem q1465 : (Jvm.Cond.instanceMethod ({ cls := "BladeBetweenThumbsModel", name := "hardest", desc := "(II)I" } : Jvm.MethodName)) ∈ lw_all := lw_g (lw_at lw_m6 196 rfl) rfl
theorem q1466 : (Jvm.Cond.code ({ cls := "BladeBetweenThumbsModel", name := "hardest", desc := "(II)I" } : Jvm.MethodName) prog_22_method_24_code (3 : Nat) (Option.some Jvm.ClassFile.FieldType.int)) ∈ lw_all := lw_g (lw_at lw_m6 197 rfl) rfl
theorem q1468 : (Jvm.Cond.instanceMethod ({ cls := "BladeBetweenThumbsModel", name := "sounds", desc := "(IIIII)I" } : Jvm.MethodName)) ∈ lw_all := lw_g (lw_at lw_m6 199 rfl) rfl
theorem q1469 : (Jvm.Cond.selects "BladeBetweenThumbsModel" ({ cls := "BladeBetweenThumbsModel", name := "sounds", desc := "(IIIII)I" } : Jvm.MethodName) ({ cls := "BladeBetweenThumbsModel", name := "sounds", desc := "(IIIII)I" } : Jvm.MethodName)) ∈ lw_all := lw_g (lw_at lw_m6 200 rfl) rfl
theorem q1470 : (Jvm.Cond.code ({ cls := "BladeBetweenThumbsModel", name := "sounds", desc := "(IIIII)I" } : Jvm.MethodName) prog_22_method_48_code (6 : Nat) (Option.some Jvm.ClassFile.FieldType.int)) ∈ lw_all := lw_g (lw_at lw_m6 201 rfl) rfl
theorem q1471 : (Jvm.Cond.methodLink "BladeBetweenThumbsModel" (177 : Nat) ({ cls := "BladeBetweenThumbsModel", name := "isTold", desc := "(IIIII)Z" } : Jvm.MethodName)) ∈ lw_all := lw_g (lw_at lw_m6 202 rfl) rfl
theorem q1472 : (Jvm.Cond.privateMethod ({ cls := "BladeBetweenThumbsModel", name := "isTold", desc := "(IIIII)Z" } : Jvm.MethodName)) ∈ lw_tbl := lw_at lw_m6 203 rfl
theorem q1473 : (Jvm.Cond.instanceMethod ({ cls := "BladeBetweenThumbsModel", name := "isTold", desc := "(IIIII)Z" } : Jvm.MethodName)) ∈ lw_all := lw_g (lw_at lw_m6 204 rfl) rfl
theorem q1474 : (Jvm.Cond.code ({ cls := "BladeBetweenThumbsModel", name := "isTold", desc := "(IIIII)Z" } : Jvm.MethodName) prog_22_method_47_code (6 : Nat) (Option.some Jvm.ClassFile.FieldType.boolean)) ∈ lw_all := lw_g (lw_at lw_m6 205 rfl) rfl
theorem q1475 : (Jvm.Cond.methodLink "BladeBetweenThumbsModel" (181 : Nat) ({ cls := "BladeBetweenThumbsModel", name := "isSound", desc := "(IIIII)Z" } : Jvm.MethodName)) ∈ lw_all := lw_g (lw_at lw_m6 206 rfl) rfl
theorem q1476 : (Jvm.Cond.privateMethod ({ cls := "BladeBetweenThumbsModel", name := "isSound", desc := "(IIIII)Z" } : Jvm.MethodName)) ∈ lw_tbl := lw_at lw_m6 207 rfl
theorem q1477 : (Jvm.Cond.instanceMethod ({ cls := "BladeBetweenThumbsModel", name := "isSound", desc := "(IIIII)Z" } : Jvm.MethodName)) ∈ lw_all := lw_g (lw_at lw_m6 208 rfl) rfl
theorem q1478 : (Jvm.Cond.code ({ cls := "BladeBetweenThumbsModel", name := "isSound", desc := "(IIIII)Z" } : Jvm.MethodName) prog_22_method_27_code (6 : Nat) (Option.some Jvm.ClassFile.FieldType.boolean)) ∈ lw_all := lw_g (lw_at lw_m6 209 rfl) rfl
theorem q1479 : (Jvm.Cond.methodLink "BladeBetweenThumbsModel" (110 : Nat) ({ cls := "BladeBetweenThumbsModel", name := "isTight", desc := "(IIII)Z" } : Jvm.MethodName)) ∈ lw_all := lw_g (lw_at lw_m6 210 rfl) rfl
theorem q1480 : (Jvm.Cond.privateMethod ({ cls := "BladeBetweenThumbsModel", name := "isTight", desc := "(IIII)Z" } : Jvm.MethodName)) ∈ lw_tbl := lw_at lw_m6 211 rfl
theorem q1481 : (Jvm.Cond.instanceMethod ({ cls := "BladeBetweenThumbsModel", name := "isTight", desc := "(IIII)Z" } : Jvm.MethodName)) ∈ lw_all := lw_g (lw_at lw_m6 212 rfl) rfl
theorem q1482 : (Jvm.Cond.code ({ cls := "BladeBetweenThumbsModel", name := "isTight", desc := "(IIII)Z" } : Jvm.MethodName) prog_22_method_25_code (5 : Nat) (Option.some Jvm.ClassFile.FieldType.boolean)) ∈ lw_all := lw_g (lw_at lw_m6 213 rfl) rfl
theorem q1483 : (Jvm.Cond.methodLink "BladeBetweenThumbsModel" (104 : Nat) ({ cls := "BladeBetweenThumbsModel", name := "gripOf", desc := "(I)I" } : Jvm.MethodName)) ∈ lw_all := lw_g (lw_at lw_m6 214 rfl) rfl
theorem q1484 : (Jvm.Cond.privateMethod ({ cls := "BladeBetweenThumbsModel", name := "gripOf", desc := "(I)I" } : Jvm.MethodName)) ∈ lw_tbl := lw_at lw_m6 215 rfl
theorem q1485 : (Jvm.Cond.instanceMethod ({ cls := "BladeBetweenThumbsModel", name := "gripOf", desc := "(I)I" } : Jvm.MethodName)) ∈ lw_all := lw_g (lw_at lw_m6 216 rfl) rfl
theorem q1486 : (Jvm.Cond.code ({ cls := "BladeBetweenThumbsModel", name := "gripOf", desc := "(I)I" } : Jvm.MethodName) prog_22_method_19_code (3 : Nat) (Option.some Jvm.ClassFile.FieldType.int)) ∈ lw_all := lw_g (lw_at lw_m6 217 rfl) rfl
theorem q1487 : (Jvm.Cond.methodLink "BladeBetweenThumbsModel" (114 : Nat) ({ cls := "BladeBetweenThumbsModel", name := "isHard", desc := "(III)Z" } : Jvm.MethodName)) ∈ lw_all := lw_g (lw_at lw_m6 218 rfl) rfl
theorem q1488 : (Jvm.Cond.privateMethod ({ cls := "BladeBetweenThumbsModel", name := "isHard", desc := "(III)Z" } : Jvm.MethodName)) ∈ lw_tbl := lw_at lw_m6 219 rfl
theorem q1489 : (Jvm.Cond.instanceMethod ({ cls := "BladeBetweenThumbsModel", name := "isHard", desc := "(III)Z" } : Jvm.MethodName)) ∈ lw_all := lw_g (lw_at lw_m6 220 rfl) rfl
theorem q1490 : (Jvm.Cond.code ({ cls := "BladeBetweenThumbsModel", name := "isHard", desc := "(III)Z" } : Jvm.MethodName) prog_22_method_26_code (4 : Nat) (Option.some Jvm.ClassFile.FieldType.boolean)) ∈ lw_all := lw_g (lw_at lw_m6 221 rfl) rfl
theorem q1492 : (Jvm.Cond.instanceMethod ({ cls := "BladeBetweenThumbsModel", name := "pitch", desc := "(IIII)I" } : Jvm.MethodName)) ∈ lw_all := lw_g (lw_at lw_m6 223 rfl) rfl
theorem q1493 : (Jvm.Cond.selects "BladeBetweenThumbsModel" ({ cls := "BladeBetweenThumbsModel", name := "pitch", desc := "(IIII)I" } : Jvm.MethodName) ({ cls := "BladeBetweenThumbsModel", name := "pitch", desc := "(IIII)I" } : Jvm.MethodName)) ∈ lw_all := lw_g (lw_at lw_m6 224 rfl) rfl
theorem q1494 : (Jvm.Cond.code ({ cls := "BladeBetweenThumbsModel", name := "pitch", desc := "(IIII)I" } : Jvm.MethodName) prog_22_method_49_code (5 : Nat) (Option.some Jvm.ClassFile.FieldType.int)) ∈ lw_all := lw_g (lw_at lw_m6 225 rfl) rfl
theorem q1495 : (Jvm.Cond.methodLink "BladeBetweenThumbsModel" (184 : Nat) ({ cls := "BladeBetweenThumbsModel", name := "pitchOf", desc := "(IIII)I" } : Jvm.MethodName)) ∈ lw_all := lw_g (lw_at lw_m6 226 rfl) rfl
theorem q1496 : (Jvm.Cond.privateMethod ({ cls := "BladeBetweenThumbsModel", name := "pitchOf", desc := "(IIII)I" } : Jvm.MethodName)) ∈ lw_tbl := lw_at lw_m6 227 rfl
theorem q1497 : (Jvm.Cond.instanceMethod ({ cls := "BladeBetweenThumbsModel", name := "pitchOf", desc := "(IIII)I" } : Jvm.MethodName)) ∈ lw_all := lw_g (lw_at lw_m6 228 rfl) rfl
theorem q1498 : (Jvm.Cond.code ({ cls := "BladeBetweenThumbsModel", name := "pitchOf", desc := "(IIII)I" } : Jvm.MethodName) prog_22_method_28_code (6 : Nat) (Option.some Jvm.ClassFile.FieldType.int)) ∈ lw_all := lw_g (lw_at lw_m6 229 rfl) rfl
theorem q1499 : (Jvm.Cond.constant "BladeBetweenThumbsModel" (188 : Nat) (1000000001 : Int32)) ∈ lw_all := lw_g (lw_at lw_m6 230 rfl) rfl
theorem q1501 : (Jvm.Cond.instanceMethod ({ cls := "BladeBetweenThumbsModel", name := "tries", desc := "(IIIII)I" } : Jvm.MethodName)) ∈ lw_all := lw_g (lw_at lw_m6 232 rfl) rfl
theorem q1502 : (Jvm.Cond.selects "BladeBetweenThumbsModel" ({ cls := "BladeBetweenThumbsModel", name := "tries", desc := "(IIIII)I" } : Jvm.MethodName) ({ cls := "BladeBetweenThumbsModel", name := "tries", desc := "(IIIII)I" } : Jvm.MethodName)) ∈ lw_all := lw_g (lw_at lw_m6 233 rfl) rfl
theorem q1503 : (Jvm.Cond.code ({ cls := "BladeBetweenThumbsModel", name := "tries", desc := "(IIIII)I" } : Jvm.MethodName) prog_22_method_50_code (6 : Nat) (Option.some Jvm.ClassFile.FieldType.int)) ∈ lw_all := lw_g (lw_at lw_m6 234 rfl) rfl
theorem q1505 : (Jvm.Cond.instanceMethod ({ cls := "BladeBetweenThumbsModel", name := "where", desc := "(IIII)I" } : Jvm.MethodName)) ∈ lw_all := lw_g (lw_at lw_m6 236 rfl) rfl
theorem q1506 : (Jvm.Cond.selects "BladeBetweenThumbsModel" ({ cls := "BladeBetweenThumbsModel", name := "where", desc := "(IIII)I" } : Jvm.MethodName) ({ cls := "BladeBetweenThumbsModel", name := "where", desc := "(IIII)I" } : Jvm.MethodName)) ∈ lw_all := lw_g (lw_at lw_m6 237 rfl) rfl
theorem q1507 : (Jvm.Cond.code ({ cls := "BladeBetweenThumbsModel", name := "where", desc := "(IIII)I" } : Jvm.MethodName) prog_22_method_52_code (5 : Nat) (Option.some Jvm.ClassFile.FieldType.int)) ∈ lw_all := lw_g (lw_at lw_m6 238 rfl) rfl
theorem q1508 : (Jvm.Cond.methodLink "BladeBetweenThumbsModel" (198 : Nat) ({ cls := "BladeBetweenThumbsModel", name := "looks", desc := "(III)V" } : Jvm.MethodName)) ∈ lw_all := lw_g (lw_at lw_m6 239 rfl) rfl
theorem q1509 : (Jvm.Cond.privateMethod ({ cls := "BladeBetweenThumbsModel", name := "looks", desc := "(III)V" } : Jvm.MethodName)) ∈ lw_tbl := lw_at lw_m7 0 rfl
theorem q1510 : (Jvm.Cond.instanceMethod ({ cls := "BladeBetweenThumbsModel", name := "looks", desc := "(III)V" } : Jvm.MethodName)) ∈ lw_all := lw_g (lw_at lw_m7 1 rfl) rfl
theorem q1511 : (Jvm.Cond.code ({ cls := "BladeBetweenThumbsModel", name := "looks", desc := "(III)V" } : Jvm.MethodName) prog_22_method_51_code (7 : Nat) (Option.none : Option Jvm.ClassFile.FieldType)) ∈ lw_all := lw_g (lw_at lw_m7 2 rfl) rfl
theorem q1513 : (Jvm.Cond.instanceMethod ({ cls := "BladeBetweenThumbsModel", name := "whoCan", desc := "()I" } : Jvm.MethodName)) ∈ lw_all := lw_g (lw_at lw_m7 4 rfl) rfl
theorem q1514 : (Jvm.Cond.selects "BladeBetweenThumbsModel" ({ cls := "BladeBetweenThumbsModel", name := "whoCan", desc := "()I" } : Jvm.MethodName) ({ cls := "BladeBetweenThumbsModel", name := "whoCan", desc := "()I" } : Jvm.MethodName)) ∈ lw_all := lw_g (lw_at lw_m7 5 rfl) rfl
theorem q1515 : (Jvm.Cond.code ({ cls := "BladeBetweenThumbsModel", name := "whoCan", desc := "()I" } : Jvm.MethodName) prog_22_method_53_code (4 : Nat) (Option.some Jvm.ClassFile.FieldType.int)) ∈ lw_all := lw_g (lw_at lw_m7 6 rfl) rfl
theorem q1516 : (Jvm.Cond.methodLink "BladeBetweenThumbsModel" (201 : Nat) ({ cls := "BladeBetweenThumbsModel", name := "bestBlade", desc := "(II)I" } : Jvm.MethodName)) ∈ lw_all := lw_g (lw_at lw_m7 7 rfl) rfl
theorem q1517 : (Jvm.Cond.privateMethod ({ cls := "BladeBetweenThumbsModel", name := "bestBlade", desc := "(II)I" } : Jvm.MethodName)) ∈ lw_tbl := lw_at lw_m7 8 rfl
theorem q1518 : (Jvm.Cond.instanceMethod ({ cls := "BladeBetweenThumbsModel", name := "bestBlade", desc := "(II)I" } : Jvm.MethodName)) ∈ lw_all := lw_g (lw_at lw_m7 9 rfl) rfl
theorem q1519 : (Jvm.Cond.code ({ cls := "BladeBetweenThumbsModel", name := "bestBlade", desc := "(II)I" } : Jvm.MethodName) prog_22_method_54_code (6 : Nat) (Option.some Jvm.ClassFile.FieldType.int)) ∈ lw_all := lw_g (lw_at lw_m7 10 rfl) rfl
theorem q1521 : (Jvm.Cond.instanceMethod ({ cls := "BladeBetweenThumbsModel", name := "which", desc := "(II)I" } : Jvm.MethodName)) ∈ lw_all := lw_g (lw_at lw_m7 12 rfl) rfl
theorem q1522 : (Jvm.Cond.selects "BladeBetweenThumbsModel" ({ cls := "BladeBetweenThumbsModel", name := "which", desc := "(II)I" } : Jvm.MethodName) ({ cls := "BladeBetweenThumbsModel", name := "which", desc := "(II)I" } : Jvm.MethodName)) ∈ lw_all := lw_g (lw_at lw_m7 13 rfl) rfl
theorem q1523 : (Jvm.Cond.code ({ cls := "BladeBetweenThumbsModel", name := "which", desc := "(II)I" } : Jvm.MethodName) prog_22_method_55_code (3 : Nat) (Option.some Jvm.ClassFile.FieldType.int)) ∈ lw_all := lw_g (lw_at lw_m7 14 rfl) rfl
theorem q1525 : (Jvm.Cond.instanceMethod ({ cls := "BladeBetweenThumbsModel", name := "wrong", desc := "(IIIII)I" } : Jvm.MethodName)) ∈ lw_all := lw_g (lw_at lw_m7 16 rfl) rfl
theorem q1526 : (Jvm.Cond.selects "BladeBetweenThumbsModel" ({ cls := "BladeBetweenThumbsModel", name := "wrong", desc := "(IIIII)I" } : Jvm.MethodName) ({ cls := "BladeBetweenThumbsModel", name := "wrong", desc := "(IIIII)I" } : Jvm.MethodName)) ∈ lw_all := lw_g (lw_at lw_m7 17 rfl) rfl
theorem q1527 : (Jvm.Cond.code ({ cls := "BladeBetweenThumbsModel", name := "wrong", desc := "(IIIII)I" } : Jvm.MethodName) prog_22_method_56_code (7 : Nat) (Option.some Jvm.ClassFile.FieldType.int)) ∈ lw_all := lw_g (lw_at lw_m7 18 rfl) rfl
theorem q1529 : (Jvm.Cond.instanceMethod ({ cls := "BladeBetweenThumbsModel", name := "next", desc := "(IIIII)I" } : Jvm.MethodName)) ∈ lw_all := lw_g (lw_at lw_m7 20 rfl) rfl
theorem q1530 : (Jvm.Cond.selects "BladeBetweenThumbsModel" ({ cls := "BladeBetweenThumbsModel", name := "next", desc := "(IIIII)I" } : Jvm.MethodName) ({ cls := "BladeBetweenThumbsModel", name := "next", desc := "(IIIII)I" } : Jvm.MethodName)) ∈ lw_all := lw_g (lw_at lw_m7 21 rfl) rfl
theorem q1531 : (Jvm.Cond.code ({ cls := "BladeBetweenThumbsModel", name := "next", desc := "(IIIII)I" } : Jvm.MethodName) prog_22_method_57_code (11 : Nat) (Option.some Jvm.ClassFile.FieldType.int)) ∈ lw_all := lw_g (lw_at lw_m7 22 rfl) rfl
theorem q1532 : (Jvm.Cond.constant "BladeBetweenThumbsModel" (204 : Nat) (1000000000 : Int32)) ∈ lw_all := lw_g (lw_at lw_m7 23 rfl) rfl
theorem q1533 : (Jvm.Cond.methodLink "BladeBetweenThumbsModel" (205 : Nat) ({ cls := "BladeBetweenThumbsModel", name := "size", desc := "(I)I" } : Jvm.MethodName)) ∈ lw_all := lw_g (lw_at lw_m7 24 rfl) rfl
theorem q1534 : (Jvm.Cond.static ({ cls := "BladeBetweenThumbsModel", name := "size", desc := "(I)I" } : Jvm.MethodName)) ∈ lw_all := lw_g (lw_at lw_m7 25 rfl) rfl
theorem q1535 : (Jvm.Cond.code ({ cls := "BladeBetweenThumbsModel", name := "size", desc := "(I)I" } : Jvm.MethodName) prog_22_method_3_code (1 : Nat) (Option.some Jvm.ClassFile.FieldType.int)) ∈ lw_all := lw_g (lw_at lw_m7 26 rfl) rfl
theorem q1537 : (Jvm.Cond.instanceMethod ({ cls := "BladeBetweenThumbsModel", name := "halves", desc := "(III)I" } : Jvm.MethodName)) ∈ lw_all := lw_g (lw_at lw_m7 28 rfl) rfl
theorem q1538 : (Jvm.Cond.selects "BladeBetweenThumbsModel" ({ cls := "BladeBetweenThumbsModel", name := "halves", desc := "(III)I" } : Jvm.MethodName) ({ cls := "BladeBetweenThumbsModel", name := "halves", desc := "(III)I" } : Jvm.MethodName)) ∈ lw_all := lw_g (lw_at lw_m7 29 rfl) rfl
theorem q1539 : (Jvm.Cond.code ({ cls := "BladeBetweenThumbsModel", name := "halves", desc := "(III)I" } : Jvm.MethodName) prog_22_method_58_code (8 : Nat) (Option.some Jvm.ClassFile.FieldType.int)) ∈ lw_all := lw_g (lw_at lw_m7 30 rfl) rfl
theorem q1541 : (Jvm.Cond.instanceMethod ({ cls := "BladeBetweenThumbsModel", name := "ways", desc := "(II)I" } : Jvm.MethodName)) ∈ lw_all := lw_g (lw_at lw_m7 32 rfl) rfl
theorem q1542 : (Jvm.Cond.selects "BladeBetweenThumbsModel" ({ cls := "BladeBetweenThumbsModel", name := "ways", desc := "(II)I" } : Jvm.MethodName) ({ cls := "BladeBetweenThumbsModel", name := "ways", desc := "(II)I" } : Jvm.MethodName)) ∈ lw_all := lw_g (lw_at lw_m7 33 rfl) rfl
theorem q1543 : (Jvm.Cond.code ({ cls := "BladeBetweenThumbsModel", name := "ways", desc := "(II)I" } : Jvm.MethodName) prog_22_method_62_code (5 : Nat) (Option.some Jvm.ClassFile.FieldType.int)) ∈ lw_all := lw_g (lw_at lw_m7 34 rfl) rfl
theorem q1544 : (Jvm.Cond.methodLink "BladeBetweenThumbsModel" (210 : Nat) ({ cls := "BladeBetweenThumbsModel", name := "waysBy", desc := "(III)I" } : Jvm.MethodName)) ∈ lw_all := lw_g (lw_at lw_m7 35 rfl) rfl
theorem q1545 : (Jvm.Cond.privateMethod ({ cls := "BladeBetweenThumbsModel", name := "waysBy", desc := "(III)I" } : Jvm.MethodName)) ∈ lw_tbl := lw_at lw_m7 36 rfl
theorem q1546 : (Jvm.Cond.instanceMethod ({ cls := "BladeBetweenThumbsModel", name := "waysBy", desc := "(III)I" } : Jvm.MethodName)) ∈ lw_all := lw_g (lw_at lw_m7 37 rfl) rfl
theorem q1547 : (Jvm.Cond.code ({ cls := "BladeBetweenThumbsModel", name := "waysBy", desc := "(III)I" } : Jvm.MethodName) prog_22_method_60_code (8 : Nat) (Option.some Jvm.ClassFile.FieldType.int)) ∈ lw_all := lw_g (lw_at lw_m7 38 rfl) rfl
theorem q1548 : (Jvm.Cond.methodLink "BladeBetweenThumbsModel" (207 : Nat) ({ cls := "BladeBetweenThumbsModel", name := "canAnyForce", desc := "(II)Z" } : Jvm.MethodName)) ∈ lw_all := lw_g (lw_at lw_m7 39 rfl) rfl
theorem q1549 : (Jvm.Cond.privateMethod ({ cls := "BladeBetweenThumbsModel", name := "canAnyForce", desc := "(II)Z" } : Jvm.MethodName)) ∈ lw_tbl := lw_at lw_m7 40 rfl
theorem q1550 : (Jvm.Cond.instanceMethod ({ cls := "BladeBetweenThumbsModel", name := "canAnyForce", desc := "(II)Z" } : Jvm.MethodName)) ∈ lw_all := lw_g (lw_at lw_m7 41 rfl) rfl
theorem q1551 : (Jvm.Cond.code ({ cls := "BladeBetweenThumbsModel", name := "canAnyForce", desc := "(II)Z" } : Jvm.MethodName) prog_22_method_59_code (4 : Nat) (Option.some Jvm.ClassFile.FieldType.boolean)) ∈ lw_all := lw_g (lw_at lw_m7 42 rfl) rfl
theorem q1553 : (Jvm.Cond.instanceMethod ({ cls := "BladeBetweenThumbsModel", name := "tune", desc := "(III)I" } : Jvm.MethodName)) ∈ lw_all := lw_g (lw_at lw_m7 44 rfl) rfl
theorem q1554 : (Jvm.Cond.selects "BladeBetweenThumbsModel" ({ cls := "BladeBetweenThumbsModel", name := "tune", desc := "(III)I" } : Jvm.MethodName) ({ cls := "BladeBetweenThumbsModel", name := "tune", desc := "(III)I" } : Jvm.MethodName)) ∈ lw_all := lw_g (lw_at lw_m7 45 rfl) rfl
theorem q1555 : (Jvm.Cond.code ({ cls := "BladeBetweenThumbsModel", name := "tune", desc := "(III)I" } : Jvm.MethodName) prog_22_method_63_code (10 : Nat) (Option.some Jvm.ClassFile.FieldType.int)) ∈ lw_all := lw_g (lw_at lw_m7 46 rfl) rfl
theorem q1556 : (Jvm.Cond.constant "BladeBetweenThumbsModel" (213 : Nat) (999999 : Int32)) ∈ lw_all := lw_g (lw_at lw_m7 47 rfl) rfl
theorem q1557 : (Jvm.Cond.methodLink "BladeBetweenThumbsModel" (214 : Nat) ({ cls := "BladeBetweenThumbsModel", name := "bladesFor", desc := "(II)I" } : Jvm.MethodName)) ∈ lw_all := lw_g (lw_at lw_m7 48 rfl) rfl
theorem q1558 : (Jvm.Cond.privateMethod ({ cls := "BladeBetweenThumbsModel", name := "bladesFor", desc := "(II)I" } : Jvm.MethodName)) ∈ lw_tbl := lw_at lw_m7 49 rfl
theorem q1559 : (Jvm.Cond.instanceMethod ({ cls := "BladeBetweenThumbsModel", name := "bladesFor", desc := "(II)I" } : Jvm.MethodName)) ∈ lw_all := lw_g (lw_at lw_m7 50 rfl) rfl
theorem q1560 : (Jvm.Cond.code ({ cls := "BladeBetweenThumbsModel", name := "bladesFor", desc := "(II)I" } : Jvm.MethodName) prog_22_method_61_code (5 : Nat) (Option.some Jvm.ClassFile.FieldType.int)) ∈ lw_all := lw_g (lw_at lw_m7 51 rfl) rfl
theorem q1562 : (Jvm.Cond.instanceMethod ({ cls := "BladeBetweenThumbsModel", name := "lasts", desc := "(III)I" } : Jvm.MethodName)) ∈ lw_all := lw_g (lw_at lw_m7 53 rfl) rfl
theorem q1563 : (Jvm.Cond.selects "BladeBetweenThumbsModel" ({ cls := "BladeBetweenThumbsModel", name := "lasts", desc := "(III)I" } : Jvm.MethodName) ({ cls := "BladeBetweenThumbsModel", name := "lasts", desc := "(III)I" } : Jvm.MethodName)) ∈ lw_all := lw_g (lw_at lw_m7 54 rfl) rfl
theorem q1564 : (Jvm.Cond.code ({ cls := "BladeBetweenThumbsModel", name := "lasts", desc := "(III)I" } : Jvm.MethodName) prog_22_method_65_code (4 : Nat) (Option.some Jvm.ClassFile.FieldType.int)) ∈ lw_all := lw_g (lw_at lw_m7 55 rfl) rfl
theorem q1565 : (Jvm.Cond.methodLink "BladeBetweenThumbsModel" (217 : Nat) ({ cls := "BladeBetweenThumbsModel", name := "lastsOf", desc := "(III)I" } : Jvm.MethodName)) ∈ lw_all := lw_g (lw_at lw_m7 56 rfl) rfl
theorem q1566 : (Jvm.Cond.privateMethod ({ cls := "BladeBetweenThumbsModel", name := "lastsOf", desc := "(III)I" } : Jvm.MethodName)) ∈ lw_tbl := lw_at lw_m7 57 rfl
theorem q1567 : (Jvm.Cond.instanceMethod ({ cls := "BladeBetweenThumbsModel", name := "lastsOf", desc := "(III)I" } : Jvm.MethodName)) ∈ lw_all := lw_g (lw_at lw_m7 58 rfl) rfl
theorem q1568 : (Jvm.Cond.code ({ cls := "BladeBetweenThumbsModel", name := "lastsOf", desc := "(III)I" } : Jvm.MethodName) prog_22_method_64_code (6 : Nat) (Option.some Jvm.ClassFile.FieldType.int)) ∈ lw_all := lw_g (lw_at lw_m7 59 rfl) rfl
theorem q1570 : (Jvm.Cond.instanceMethod ({ cls := "BladeBetweenThumbsModel", name := "bestForce", desc := "(III)I" } : Jvm.MethodName)) ∈ lw_all := lw_g (lw_at lw_m7 61 rfl) rfl
theorem q1571 : (Jvm.Cond.selects "BladeBetweenThumbsModel" ({ cls := "BladeBetweenThumbsModel", name := "bestForce", desc := "(III)I" } : Jvm.MethodName) ({ cls := "BladeBetweenThumbsModel", name := "bestForce", desc := "(III)I" } : Jvm.MethodName)) ∈ lw_all := lw_g (lw_at lw_m7 62 rfl) rfl
theorem q1572 : (Jvm.Cond.code ({ cls := "BladeBetweenThumbsModel", name := "bestForce", desc := "(III)I" } : Jvm.MethodName) prog_22_method_66_code (6 : Nat) (Option.some Jvm.ClassFile.FieldType.int)) ∈ lw_all := lw_g (lw_at lw_m7 63 rfl) rfl
theorem q1574 : (Jvm.Cond.instanceMethod ({ cls := "BladeBetweenThumbsModel", name := "clash", desc := "(III)I" } : Jvm.MethodName)) ∈ lw_all := lw_g (lw_at lw_m7 65 rfl) rfl
theorem q1575 : (Jvm.Cond.selects "BladeBetweenThumbsModel" ({ cls := "BladeBetweenThumbsModel", name := "clash", desc := "(III)I" } : Jvm.MethodName) ({ cls := "BladeBetweenThumbsModel", name := "clash", desc := "(III)I" } : Jvm.MethodName)) ∈ lw_all := lw_g (lw_at lw_m7 66 rfl) rfl
theorem q1576 : (Jvm.Cond.code ({ cls := "BladeBetweenThumbsModel", name := "clash", desc := "(III)I" } : Jvm.MethodName) prog_22_method_67_code (8 : Nat) (Option.some Jvm.ClassFile.FieldType.int)) ∈ lw_all := lw_g (lw_at lw_m7 67 rfl) rfl
theorem q1578 : (Jvm.Cond.instanceMethod ({ cls := "BladeBetweenThumbsModel", name := "heard", desc := "(II)I" } : Jvm.MethodName)) ∈ lw_all := lw_g (lw_at lw_m7 69 rfl) rfl
theorem q1579 : (Jvm.Cond.selects "BladeBetweenThumbsModel" ({ cls := "BladeBetweenThumbsModel", name := "heard", desc := "(II)I" } : Jvm.MethodName) ({ cls := "BladeBetweenThumbsModel", name := "heard", desc := "(II)I" } : Jvm.MethodName)) ∈ lw_all := lw_g (lw_at lw_m7 70 rfl) rfl
theorem q1580 : (Jvm.Cond.code ({ cls := "BladeBetweenThumbsModel", name := "heard", desc := "(II)I" } : Jvm.MethodName) prog_22_method_68_code (4 : Nat) (Option.some Jvm.ClassFile.FieldType.int)) ∈ lw_all := lw_g (lw_at lw_m7 71 rfl) rfl
theorem q1582 : (Jvm.Cond.instanceMethod ({ cls := "BladeBetweenThumbsModel", name := "nearer", desc := "(IIII)J" } : Jvm.MethodName)) ∈ lw_all := lw_g (lw_at lw_m7 73 rfl) rfl
theorem q1583 : (Jvm.Cond.selects "BladeBetweenThumbsModel" ({ cls := "BladeBetweenThumbsModel", name := "nearer", desc := "(IIII)J" } : Jvm.MethodName) ({ cls := "BladeBetweenThumbsModel", name := "nearer", desc := "(IIII)J" } : Jvm.MethodName)) ∈ lw_all := lw_g (lw_at lw_m7 74 rfl) rfl
theorem q1584 : (Jvm.Cond.code ({ cls := "BladeBetweenThumbsModel", name := "nearer", desc := "(IIII)J" } : Jvm.MethodName) prog_22_method_74_code (5 : Nat) (Option.some Jvm.ClassFile.FieldType.long)) ∈ lw_all := lw_g (lw_at lw_m7 75 rfl) rfl
theorem q1585 : (Jvm.Cond.methodLink "BladeBetweenThumbsModel" (226 : Nat) ({ cls := "BladeBetweenThumbsModel", name := "areOdds", desc := "(II)Z" } : Jvm.MethodName)) ∈ lw_all := lw_g (lw_at lw_m7 76 rfl) rfl
theorem q1586 : (Jvm.Cond.static ({ cls := "BladeBetweenThumbsModel", name := "areOdds", desc := "(II)Z" } : Jvm.MethodName)) ∈ lw_all := lw_g (lw_at lw_m7 77 rfl) rfl
theorem q1587 : (Jvm.Cond.code ({ cls := "BladeBetweenThumbsModel", name := "areOdds", desc := "(II)Z" } : Jvm.MethodName) prog_22_method_73_code (2 : Nat) (Option.some Jvm.ClassFile.FieldType.boolean)) ∈ lw_all := lw_g (lw_at lw_m7 78 rfl) rfl
theorem q1588 : (Jvm.Cond.constantLong "BladeBetweenThumbsModel" (229 : Nat) (1000000001 : Int64)) ∈ lw_all := lw_g (lw_at lw_m7 79 rfl) rfl
theorem q1589 : (Jvm.Cond.methodLink "BladeBetweenThumbsModel" (231 : Nat) ({ cls := "BladeBetweenThumbsModel", name := "nearParts", desc := "(III)J" } : Jvm.MethodName)) ∈ lw_all := lw_g (lw_at lw_m7 80 rfl) rfl
theorem q1590 : (Jvm.Cond.privateMethod ({ cls := "BladeBetweenThumbsModel", name := "nearParts", desc := "(III)J" } : Jvm.MethodName)) ∈ lw_tbl := lw_at lw_m7 81 rfl
theorem q1591 : (Jvm.Cond.instanceMethod ({ cls := "BladeBetweenThumbsModel", name := "nearParts", desc := "(III)J" } : Jvm.MethodName)) ∈ lw_all := lw_g (lw_at lw_m7 82 rfl) rfl
theorem q1592 : (Jvm.Cond.code ({ cls := "BladeBetweenThumbsModel", name := "nearParts", desc := "(III)J" } : Jvm.MethodName) prog_22_method_71_code (9 : Nat) (Option.some Jvm.ClassFile.FieldType.long)) ∈ lw_all := lw_g (lw_at lw_m7 83 rfl) rfl
theorem q1593 : (Jvm.Cond.constantLong "BladeBetweenThumbsModel" (224 : Nat) (10 : Int64)) ∈ lw_all := lw_g (lw_at lw_m7 84 rfl) rfl
theorem q1594 : (Jvm.Cond.methodLink "BladeBetweenThumbsModel" (235 : Nat) ({ cls := "BladeBetweenThumbsModel", name := "tens", desc := "(I)J" } : Jvm.MethodName)) ∈ lw_all := lw_g (lw_at lw_m7 85 rfl) rfl
theorem q1595 : (Jvm.Cond.static ({ cls := "BladeBetweenThumbsModel", name := "tens", desc := "(I)J" } : Jvm.MethodName)) ∈ lw_all := lw_g (lw_at lw_m7 86 rfl) rfl
theorem q1596 : (Jvm.Cond.code ({ cls := "BladeBetweenThumbsModel", name := "tens", desc := "(I)J" } : Jvm.MethodName) prog_22_method_72_code (4 : Nat) (Option.some Jvm.ClassFile.FieldType.long)) ∈ lw_all := lw_g (lw_at lw_m7 87 rfl) rfl
theorem q1597 : (Jvm.Cond.methodLink "BladeBetweenThumbsModel" (239 : Nat) ({ cls := "BladeBetweenThumbsModel", name := "partOf", desc := "(JJI)J" } : Jvm.MethodName)) ∈ lw_all := lw_g (lw_at lw_m7 88 rfl) rfl
theorem q1598 : (Jvm.Cond.static ({ cls := "BladeBetweenThumbsModel", name := "partOf", desc := "(JJI)J" } : Jvm.MethodName)) ∈ lw_all := lw_g (lw_at lw_m7 89 rfl) rfl
theorem q1599 : (Jvm.Cond.code ({ cls := "BladeBetweenThumbsModel", name := "partOf", desc := "(JJI)J" } : Jvm.MethodName) prog_22_method_70_code (5 : Nat) (Option.some Jvm.ClassFile.FieldType.long)) ∈ lw_all := lw_g (lw_at lw_m7 90 rfl) rfl
theorem q1600 : (Jvm.Cond.methodLink "BladeBetweenThumbsModel" (220 : Nat) ({ cls := "BladeBetweenThumbsModel", name := "gcd", desc := "(JJ)J" } : Jvm.MethodName)) ∈ lw_all := lw_g (lw_at lw_m7 91 rfl) rfl
theorem q1601 : (Jvm.Cond.static ({ cls := "BladeBetweenThumbsModel", name := "gcd", desc := "(JJ)J" } : Jvm.MethodName)) ∈ lw_all := lw_g (lw_at lw_m7 92 rfl) rfl
theorem q1602 : (Jvm.Cond.code ({ cls := "BladeBetweenThumbsModel", name := "gcd", desc := "(JJ)J" } : Jvm.MethodName) prog_22_method_69_code (10 : Nat) (Option.some Jvm.ClassFile.FieldType.long)) ∈ lw_all := lw_g (lw_at lw_m7 93 rfl) rfl
theorem q1604 : (Jvm.Cond.instanceMethod ({ cls := "BladeBetweenThumbsModel", name := "often", desc := "(II)I" } : Jvm.MethodName)) ∈ lw_all := lw_g (lw_at lw_m7 95 rfl) rfl
theorem q1605 : (Jvm.Cond.selects "BladeBetweenThumbsModel" ({ cls := "BladeBetweenThumbsModel", name := "often", desc := "(II)I" } : Jvm.MethodName) ({ cls := "BladeBetweenThumbsModel", name := "often", desc := "(II)I" } : Jvm.MethodName)) ∈ lw_all := lw_g (lw_at lw_m7 96 rfl) rfl
theorem q1606 : (Jvm.Cond.code ({ cls := "BladeBetweenThumbsModel", name := "often", desc := "(II)I" } : Jvm.MethodName) prog_22_method_75_code (4 : Nat) (Option.some Jvm.ClassFile.FieldType.int)) ∈ lw_all := lw_g (lw_at lw_m7 97 rfl) rfl
theorem q1607 : (Jvm.Cond.constantLong "BladeBetweenThumbsModel" (243 : Nat) (2 : Int64)) ∈ lw_all := lw_g (lw_at lw_m7 98 rfl) rfl
theorem q1609 : (Jvm.Cond.instanceMethod ({ cls := "BladeBetweenThumbsModel", name := "answer", desc := "(III)J" } : Jvm.MethodName)) ∈ lw_all := lw_g (lw_at lw_m7 100 rfl) rfl
theorem q1610 : (Jvm.Cond.selects "BladeBetweenThumbsModel" ({ cls := "BladeBetweenThumbsModel", name := "answer", desc := "(III)J" } : Jvm.MethodName) ({ cls := "BladeBetweenThumbsModel", name := "answer", desc := "(III)J" } : Jvm.MethodName)) ∈ lw_all := lw_g (lw_at lw_m7 101 rfl) rfl
theorem q1611 : (Jvm.Cond.code ({ cls := "BladeBetweenThumbsModel", name := "answer", desc := "(III)J" } : Jvm.MethodName) prog_22_method_76_code (8 : Nat) (Option.some Jvm.ClassFile.FieldType.long)) ∈ lw_all := lw_g (lw_at lw_m7 102 rfl) rfl
theorem q1612 : (Jvm.Cond.constantLong "BladeBetweenThumbsModel" (245 : Nat) (5 : Int64)) ∈ lw_all := lw_g (lw_at lw_m7 103 rfl) rfl
theorem q1613 : (Jvm.Cond.constantLong "BladeBetweenThumbsModel" (247 : Nat) (3 : Int64)) ∈ lw_all := lw_g (lw_at lw_m7 104 rfl) rfl
theorem q1615 : (Jvm.Cond.instanceMethod ({ cls := "BladeBetweenThumbsModel", name := "telling", desc := "(IIII)I" } : Jvm.MethodName)) ∈ lw_all := lw_g (lw_at lw_m7 106 rfl) rfl
theorem q1616 : (Jvm.Cond.selects "BladeBetweenThumbsModel" ({ cls := "BladeBetweenThumbsModel", name := "telling", desc := "(IIII)I" } : Jvm.MethodName) ({ cls := "BladeBetweenThumbsModel", name := "telling", desc := "(IIII)I" } : Jvm.MethodName)) ∈ lw_all := lw_g (lw_at lw_m7 107 rfl) rfl
theorem q1617 : (Jvm.Cond.code ({ cls := "BladeBetweenThumbsModel", name := "telling", desc := "(IIII)I" } : Jvm.MethodName) prog_22_method_78_code (8 : Nat) (Option.some Jvm.ClassFile.FieldType.int)) ∈ lw_all := lw_g (lw_at lw_m7 108 rfl) rfl
theorem q1618 : (Jvm.Cond.methodLink "BladeBetweenThumbsModel" (249 : Nat) ({ cls := "BladeBetweenThumbsModel", name := "whereBy", desc := "(IIII)I" } : Jvm.MethodName)) ∈ lw_all := lw_g (lw_at lw_m7 109 rfl) rfl
theorem q1619 : (Jvm.Cond.privateMethod ({ cls := "BladeBetweenThumbsModel", name := "whereBy", desc := "(IIII)I" } : Jvm.MethodName)) ∈ lw_tbl := lw_at lw_m7 110 rfl
theorem q1620 : (Jvm.Cond.instanceMethod ({ cls := "BladeBetweenThumbsModel", name := "whereBy", desc := "(IIII)I" } : Jvm.MethodName)) ∈ lw_all := lw_g (lw_at lw_m7 111 rfl) rfl
theorem q1621 : (Jvm.Cond.code ({ cls := "BladeBetweenThumbsModel", name := "whereBy", desc := "(IIII)I" } : Jvm.MethodName) prog_22_method_77_code (5 : Nat) (Option.some Jvm.ClassFile.FieldType.int)) ∈ lw_all := lw_g (lw_at lw_m7 112 rfl) rfl
theorem q1623 : (Jvm.Cond.instanceMethod ({ cls := "BladeBetweenThumbsModel", name := "odds", desc := "(IIII)J" } : Jvm.MethodName)) ∈ lw_all := lw_g (lw_at lw_m7 114 rfl) rfl
theorem q1624 : (Jvm.Cond.selects "BladeBetweenThumbsModel" ({ cls := "BladeBetweenThumbsModel", name := "odds", desc := "(IIII)J" } : Jvm.MethodName) ({ cls := "BladeBetweenThumbsModel", name := "odds", desc := "(IIII)J" } : Jvm.MethodName)) ∈ lw_all := lw_g (lw_at lw_m7 115 rfl) rfl
theorem q1625 : (Jvm.Cond.code ({ cls := "BladeBetweenThumbsModel", name := "odds", desc := "(IIII)J" } : Jvm.MethodName) prog_22_method_80_code (5 : Nat) (Option.some Jvm.ClassFile.FieldType.long)) ∈ lw_all := lw_g (lw_at lw_m7 116 rfl) rfl
theorem q1626 : (Jvm.Cond.methodLink "BladeBetweenThumbsModel" (252 : Nat) ({ cls := "BladeBetweenThumbsModel", name := "allPairs", desc := "(I)I" } : Jvm.MethodName)) ∈ lw_all := lw_g (lw_at lw_m7 117 rfl) rfl
theorem q1627 : (Jvm.Cond.privateMethod ({ cls := "BladeBetweenThumbsModel", name := "allPairs", desc := "(I)I" } : Jvm.MethodName)) ∈ lw_tbl := lw_at lw_m7 118 rfl
theorem q1628 : (Jvm.Cond.instanceMethod ({ cls := "BladeBetweenThumbsModel", name := "allPairs", desc := "(I)I" } : Jvm.MethodName)) ∈ lw_all := lw_g (lw_at lw_m7 119 rfl) rfl
theorem q1629 : (Jvm.Cond.code ({ cls := "BladeBetweenThumbsModel", name := "allPairs", desc := "(I)I" } : Jvm.MethodName) prog_22_method_79_code (2 : Nat) (Option.some Jvm.ClassFile.FieldType.int)) ∈ lw_all := lw_g (lw_at lw_m7 120 rfl) rfl
theorem q1631 : (Jvm.Cond.instanceMethod ({ cls := "BladeBetweenThumbsModel", name := "enough", desc := "(III)I" } : Jvm.MethodName)) ∈ lw_all := lw_g (lw_at lw_m7 122 rfl) rfl
theorem q1632 : (Jvm.Cond.selects "BladeBetweenThumbsModel" ({ cls := "BladeBetweenThumbsModel", name := "enough", desc := "(III)I" } : Jvm.MethodName) ({ cls := "BladeBetweenThumbsModel", name := "enough", desc := "(III)I" } : Jvm.MethodName)) ∈ lw_all := lw_g (lw_at lw_m7 123 rfl) rfl
theorem q1633 : (Jvm.Cond.code ({ cls := "BladeBetweenThumbsModel", name := "enough", desc := "(III)I" } : Jvm.MethodName) prog_22_method_81_code (5 : Nat) (Option.some Jvm.ClassFile.FieldType.int)) ∈ lw_all := lw_g (lw_at lw_m7 124 rfl) rfl
theorem q1635 : (Jvm.Cond.instanceMethod ({ cls := "BladeBetweenThumbsModel", name := "heap", desc := "(III)I" } : Jvm.MethodName)) ∈ lw_all := lw_g (lw_at lw_m7 126 rfl) rfl
theorem q1636 : (Jvm.Cond.selects "BladeBetweenThumbsModel" ({ cls := "BladeBetweenThumbsModel", name := "heap", desc := "(III)I" } : Jvm.MethodName) ({ cls := "BladeBetweenThumbsModel", name := "heap", desc := "(III)I" } : Jvm.MethodName)) ∈ lw_all := lw_g (lw_at lw_m7 127 rfl) rfl
theorem q1637 : (Jvm.Cond.code ({ cls := "BladeBetweenThumbsModel", name := "heap", desc := "(III)I" } : Jvm.MethodName) prog_22_method_83_code (9 : Nat) (Option.some Jvm.ClassFile.FieldType.int)) ∈ lw_all := lw_g (lw_at lw_m7 128 rfl) rfl
theorem q1638 : (Jvm.Cond.methodLink "BladeBetweenThumbsModel" (255 : Nat) ({ cls := "BladeBetweenThumbsModel", name := "forcesFor", desc := "(II)I" } : Jvm.MethodName)) ∈ lw_all := lw_g (lw_at lw_m7 129 rfl) rfl
theorem q1639 : (Jvm.Cond.privateMethod ({ cls := "BladeBetweenThumbsModel", name := "forcesFor", desc := "(II)I" } : Jvm.MethodName)) ∈ lw_tbl := lw_at lw_m7 130 rfl
theorem q1640 : (Jvm.Cond.instanceMethod ({ cls := "BladeBetweenThumbsModel", name := "forcesFor", desc := "(II)I" } : Jvm.MethodName)) ∈ lw_all := lw_g (lw_at lw_m7 131 rfl) rfl
theorem q1641 : (Jvm.Cond.code ({ cls := "BladeBetweenThumbsModel", name := "forcesFor", desc := "(II)I" } : Jvm.MethodName) prog_22_method_82_code (5 : Nat) (Option.some Jvm.ClassFile.FieldType.int)) ∈ lw_all := lw_g (lw_at lw_m7 132 rfl) rfl
theorem q1643 : (Jvm.Cond.instanceMethod ({ cls := "BladeBetweenThumbsModel", name := "forged", desc := "(II)I" } : Jvm.MethodName)) ∈ lw_all := lw_g (lw_at lw_m7 134 rfl) rfl
theorem q1644 : (Jvm.Cond.selects "BladeBetweenThumbsModel" ({ cls := "BladeBetweenThumbsModel", name := "forged", desc := "(II)I" } : Jvm.MethodName) ({ cls := "BladeBetweenThumbsModel", name := "forged", desc := "(II)I" } : Jvm.MethodName)) ∈ lw_all := lw_g (lw_at lw_m7 135 rfl) rfl
theorem q1645 : (Jvm.Cond.code ({ cls := "BladeBetweenThumbsModel", name := "forged", desc := "(II)I" } : Jvm.MethodName) prog_22_method_84_code (5 : Nat) (Option.some Jvm.ClassFile.FieldType.int)) ∈ lw_all := lw_g (lw_at lw_m7 136 rfl) rfl
theorem q1647 : (Jvm.Cond.instanceMethod ({ cls := "BladeBetweenThumbsModel", name := "remainder", desc := "(III)I" } : Jvm.MethodName)) ∈ lw_all := lw_g (lw_at lw_m7 138 rfl) rfl
theorem q1648 : (Jvm.Cond.selects "BladeBetweenThumbsModel" ({ cls := "BladeBetweenThumbsModel", name := "remainder", desc := "(III)I" } : Jvm.MethodName) ({ cls := "BladeBetweenThumbsModel", name := "remainder", desc := "(III)I" } : Jvm.MethodName)) ∈ lw_all := lw_g (lw_at lw_m7 139 rfl) rfl
theorem q1649 : (Jvm.Cond.code ({ cls := "BladeBetweenThumbsModel", name := "remainder", desc := "(III)I" } : Jvm.MethodName) prog_22_method_85_code (5 : Nat) (Option.some Jvm.ClassFile.FieldType.int)) ∈ lw_all := lw_g (lw_at lw_m7 140 rfl) rfl
theorem q1651 : (Jvm.Cond.instanceMethod ({ cls := "BladeBetweenThumbsModel", name := "judge", desc := "(IIII)I" } : Jvm.MethodName)) ∈ lw_all := lw_g (lw_at lw_m7 142 rfl) rfl
theorem q1652 : (Jvm.Cond.selects "BladeBetweenThumbsModel" ({ cls := "BladeBetweenThumbsModel", name := "judge", desc := "(IIII)I" } : Jvm.MethodName) ({ cls := "BladeBetweenThumbsModel", name := "judge", desc := "(IIII)I" } : Jvm.MethodName)) ∈ lw_all := lw_g (lw_at lw_m7 143 rfl) rfl
theorem q1653 : (Jvm.Cond.code ({ cls := "BladeBetweenThumbsModel", name := "judge", desc := "(IIII)I" } : Jvm.MethodName) prog_22_method_87_code (13 : Nat) (Option.some Jvm.ClassFile.FieldType.int)) ∈ lw_all := lw_g (lw_at lw_m7 144 rfl) rfl
theorem q1654 : (Jvm.Cond.methodLink "BladeBetweenThumbsModel" (262 : Nat) ({ cls := "BladeBetweenThumbsModel", name := "leastOf", desc := "(I)I" } : Jvm.MethodName)) ∈ lw_all := lw_g (lw_at lw_m7 145 rfl) rfl
theorem q1655 : (Jvm.Cond.static ({ cls := "BladeBetweenThumbsModel", name := "leastOf", desc := "(I)I" } : Jvm.MethodName)) ∈ lw_all := lw_g (lw_at lw_m7 146 rfl) rfl
theorem q1656 : (Jvm.Cond.code ({ cls := "BladeBetweenThumbsModel", name := "leastOf", desc := "(I)I" } : Jvm.MethodName) prog_22_method_86_code (1 : Nat) (Option.some Jvm.ClassFile.FieldType.int)) ∈ lw_all := lw_g (lw_at lw_m7 147 rfl) rfl
theorem q1657 : (Jvm.Cond.constant "BladeBetweenThumbsModel" (258 : Nat) (-2147483648 : Int32)) ∈ lw_all := lw_g (lw_at lw_m7 148 rfl) rfl
theorem q1659 : (Jvm.Cond.instanceMethod ({ cls := "BladeBetweenThumbsModel", name := "walks", desc := "(III)I" } : Jvm.MethodName)) ∈ lw_all := lw_g (lw_at lw_m7 150 rfl) rfl
theorem q1660 : (Jvm.Cond.selects "BladeBetweenThumbsModel" ({ cls := "BladeBetweenThumbsModel", name := "walks", desc := "(III)I" } : Jvm.MethodName) ({ cls := "BladeBetweenThumbsModel", name := "walks", desc := "(III)I" } : Jvm.MethodName)) ∈ lw_all := lw_g (lw_at lw_m7 151 rfl) rfl
theorem q1661 : (Jvm.Cond.code ({ cls := "BladeBetweenThumbsModel", name := "walks", desc := "(III)I" } : Jvm.MethodName) prog_22_method_89_code (13 : Nat) (Option.some Jvm.ClassFile.FieldType.int)) ∈ lw_all := lw_g (lw_at lw_m7 152 rfl) rfl
theorem q1662 : (Jvm.Cond.methodLink "BladeBetweenThumbsModel" (271 : Nat) ({ cls := "BladeBetweenThumbsModel", name := "drawn", desc := "(I)I" } : Jvm.MethodName)) ∈ lw_all := lw_g (lw_at lw_m7 153 rfl) rfl
theorem q1663 : (Jvm.Cond.privateMethod ({ cls := "BladeBetweenThumbsModel", name := "drawn", desc := "(I)I" } : Jvm.MethodName)) ∈ lw_tbl := lw_at lw_m7 154 rfl
theorem q1664 : (Jvm.Cond.instanceMethod ({ cls := "BladeBetweenThumbsModel", name := "drawn", desc := "(I)I" } : Jvm.MethodName)) ∈ lw_all := lw_g (lw_at lw_m7 155 rfl) rfl
theorem q1665 : (Jvm.Cond.code ({ cls := "BladeBetweenThumbsModel", name := "drawn", desc := "(I)I" } : Jvm.MethodName) prog_22_method_88_code (2 : Nat) (Option.some Jvm.ClassFile.FieldType.int)) ∈ lw_all := lw_g (lw_at lw_m7 156 rfl) rfl
theorem q1666 : (Jvm.Cond.constant "BladeBetweenThumbsModel" (268 : Nat) (1103515245 : Int32)) ∈ lw_all := lw_g (lw_at lw_m7 157 rfl) rfl
theorem q1667 : (Jvm.Cond.constant "BladeBetweenThumbsModel" (269 : Nat) (2147483647 : Int32)) ∈ lw_all := lw_g (lw_at lw_m7 158 rfl) rfl
theorem q1668 : (Jvm.Cond.constant "BladeBetweenThumbsModel" (270 : Nat) (65536 : Int32)) ∈ lw_all := lw_g (lw_at lw_m7 159 rfl) rfl
theorem q1669 : (Jvm.Cond.methodLink "BladeBetweenThumbsModel" (274 : Nat) ({ cls := "BladeBetweenThumbsModel", name := "tries", desc := "(IIIII)I" } : Jvm.MethodName)) ∈ lw_all := lw_g (lw_at lw_m7 160 rfl) rfl
theorem q1671 : (Jvm.Cond.instanceMethod ({ cls := "BladeBetweenThumbsModel", name := "image", desc := "()I" } : Jvm.MethodName)) ∈ lw_all := lw_g (lw_at lw_m7 162 rfl) rfl
theorem q1672 : (Jvm.Cond.selects "BladeBetweenThumbsModel" ({ cls := "BladeBetweenThumbsModel", name := "image", desc := "()I" } : Jvm.MethodName) ({ cls := "BladeBetweenThumbsModel", name := "image", desc := "()I" } : Jvm.MethodName)) ∈ lw_all := lw_g (lw_at lw_m7 163 rfl) rfl
theorem q1673 : (Jvm.Cond.code ({ cls := "BladeBetweenThumbsModel", name := "image", desc := "()I" } : Jvm.MethodName) prog_22_method_90_code (1 : Nat) (Option.some Jvm.ClassFile.FieldType.int)) ∈ lw_all := lw_g (lw_at lw_m7 164 rfl) rfl
theorem q1675 : (Jvm.Cond.instanceMethod ({ cls := "BladeBetweenThumbsModel", name := "restore", desc := "()I" } : Jvm.MethodName)) ∈ lw_all := lw_g (lw_at lw_m7 166 rfl) rfl
theorem q1676 : (Jvm.Cond.selects "BladeBetweenThumbsModel" ({ cls := "BladeBetweenThumbsModel", name := "restore", desc := "()I" } : Jvm.MethodName) ({ cls := "BladeBetweenThumbsModel", name := "restore", desc := "()I" } : Jvm.MethodName)) ∈ lw_all := lw_g (lw_at lw_m7 167 rfl) rfl
theorem q1677 : (Jvm.Cond.code ({ cls := "BladeBetweenThumbsModel", name := "restore", desc := "()I" } : Jvm.MethodName) prog_22_method_91_code (1 : Nat) (Option.some Jvm.ClassFile.FieldType.int)) ∈ lw_all := lw_g (lw_at lw_m7 168 rfl) rfl
theorem q1679 : (Jvm.Cond.instanceMethod ({ cls := "BladeBetweenThumbsModel", name := "count", desc := "(I)I" } : Jvm.MethodName)) ∈ lw_all := lw_g (lw_at lw_m7 170 rfl) rfl
theorem q1680 : (Jvm.Cond.selects "BladeBetweenThumbsModel" ({ cls := "BladeBetweenThumbsModel", name := "count", desc := "(I)I" } : Jvm.MethodName) ({ cls := "BladeBetweenThumbsModel", name := "count", desc := "(I)I" } : Jvm.MethodName)) ∈ lw_all := lw_g (lw_at lw_m7 171 rfl) rfl
theorem q1681 : (Jvm.Cond.code ({ cls := "BladeBetweenThumbsModel", name := "count", desc := "(I)I" } : Jvm.MethodName) prog_22_method_92_code (4 : Nat) (Option.some Jvm.ClassFile.FieldType.int)) ∈ lw_all := lw_g (lw_at lw_m7 172 rfl) rfl
theorem q1683 : (Jvm.Cond.instanceMethod ({ cls := "BladeBetweenThumbsModel", name := "thrown", desc := "()I" } : Jvm.MethodName)) ∈ lw_all := lw_g (lw_at lw_m7 174 rfl) rfl
theorem q1684 : (Jvm.Cond.selects "BladeBetweenThumbsModel" ({ cls := "BladeBetweenThumbsModel", name := "thrown", desc := "()I" } : Jvm.MethodName) ({ cls := "BladeBetweenThumbsModel", name := "thrown", desc := "()I" } : Jvm.MethodName)) ∈ lw_all := lw_g (lw_at lw_m7 175 rfl) rfl
theorem q1685 : (Jvm.Cond.code ({ cls := "BladeBetweenThumbsModel", name := "thrown", desc := "()I" } : Jvm.MethodName) prog_22_method_93_code (1 : Nat) (Option.some Jvm.ClassFile.FieldType.int)) ∈ lw_all := lw_g (lw_at lw_m7 176 rfl) rfl
theorem q1687 : (Jvm.Cond.instanceMethod ({ cls := "BladeBetweenThumbsModel", name := "keep", desc := "(IIII)I" } : Jvm.MethodName)) ∈ lw_all := lw_g (lw_at lw_m7 178 rfl) rfl
theorem q1688 : (Jvm.Cond.selects "BladeBetweenThumbsModel" ({ cls := "BladeBetweenThumbsModel", name := "keep", desc := "(IIII)I" } : Jvm.MethodName) ({ cls := "BladeBetweenThumbsModel", name := "keep", desc := "(IIII)I" } : Jvm.MethodName)) ∈ lw_all := lw_g (lw_at lw_m7 179 rfl) rfl
theorem q1689 : (Jvm.Cond.code ({ cls := "BladeBetweenThumbsModel", name := "keep", desc := "(IIII)I" } : Jvm.MethodName) prog_22_method_97_code (5 : Nat) (Option.some Jvm.ClassFile.FieldType.int)) ∈ lw_all := lw_g (lw_at lw_m7 180 rfl) rfl
theorem q1691 : (Jvm.Cond.instanceMethod ({ cls := "BladeBetweenThumbsModel", name := "row", desc := "(III)I" } : Jvm.MethodName)) ∈ lw_all := lw_g (lw_at lw_m7 182 rfl) rfl
theorem q1692 : (Jvm.Cond.selects "BladeBetweenThumbsModel" ({ cls := "BladeBetweenThumbsModel", name := "row", desc := "(III)I" } : Jvm.MethodName) ({ cls := "BladeBetweenThumbsModel", name := "row", desc := "(III)I" } : Jvm.MethodName)) ∈ lw_all := lw_g (lw_at lw_m7 183 rfl) rfl
theorem q1693 : (Jvm.Cond.code ({ cls := "BladeBetweenThumbsModel", name := "row", desc := "(III)I" } : Jvm.MethodName) prog_22_method_98_code (5 : Nat) (Option.some Jvm.ClassFile.FieldType.int)) ∈ lw_all := lw_g (lw_at lw_m7 184 rfl) rfl
theorem q1695 : (Jvm.Cond.instanceMethod ({ cls := "BladeBetweenThumbsModel", name := "put", desc := "(III)I" } : Jvm.MethodName)) ∈ lw_all := lw_g (lw_at lw_m7 186 rfl) rfl
theorem q1696 : (Jvm.Cond.selects "BladeBetweenThumbsModel" ({ cls := "BladeBetweenThumbsModel", name := "put", desc := "(III)I" } : Jvm.MethodName) ({ cls := "BladeBetweenThumbsModel", name := "put", desc := "(III)I" } : Jvm.MethodName)) ∈ lw_all := lw_g (lw_at lw_m7 187 rfl) rfl
theorem q1697 : (Jvm.Cond.code ({ cls := "BladeBetweenThumbsModel", name := "put", desc := "(III)I" } : Jvm.MethodName) prog_22_method_99_code (5 : Nat) (Option.some Jvm.ClassFile.FieldType.int)) ∈ lw_all := lw_g (lw_at lw_m7 188 rfl) rfl
theorem q1699 : (Jvm.Cond.instanceMethod ({ cls := "BladeBetweenThumbsModel", name := "element", desc := "(II)J" } : Jvm.MethodName)) ∈ lw_all := lw_g (lw_at lw_m7 190 rfl) rfl
theorem q1700 : (Jvm.Cond.selects "BladeBetweenThumbsModel" ({ cls := "BladeBetweenThumbsModel", name := "element", desc := "(II)J" } : Jvm.MethodName) ({ cls := "BladeBetweenThumbsModel", name := "element", desc := "(II)J" } : Jvm.MethodName)) ∈ lw_all := lw_g (lw_at lw_m7 191 rfl) rfl
theorem q1701 : (Jvm.Cond.code ({ cls := "BladeBetweenThumbsModel", name := "element", desc := "(II)J" } : Jvm.MethodName) prog_22_method_100_code (3 : Nat) (Option.some Jvm.ClassFile.FieldType.long)) ∈ lw_all := lw_g (lw_at lw_m7 192 rfl) rfl
theorem q1703 : (Jvm.Cond.instanceMethod ({ cls := "BladeBetweenThumbsModel", name := "copy", desc := "(IIIII)I" } : Jvm.MethodName)) ∈ lw_all := lw_g (lw_at lw_m7 194 rfl) rfl
theorem q1704 : (Jvm.Cond.selects "BladeBetweenThumbsModel" ({ cls := "BladeBetweenThumbsModel", name := "copy", desc := "(IIIII)I" } : Jvm.MethodName) ({ cls := "BladeBetweenThumbsModel", name := "copy", desc := "(IIIII)I" } : Jvm.MethodName)) ∈ lw_all := lw_g (lw_at lw_m7 195 rfl) rfl
theorem q1705 : (Jvm.Cond.code ({ cls := "BladeBetweenThumbsModel", name := "copy", desc := "(IIIII)I" } : Jvm.MethodName) prog_22_method_101_code (8 : Nat) (Option.some Jvm.ClassFile.FieldType.int)) ∈ lw_all := lw_g (lw_at lw_m7 196 rfl) rfl
theorem q1707 : (Jvm.Cond.instanceMethod ({ cls := "BladeBetweenThumbsModel", name := "cost", desc := "(I)I" } : Jvm.MethodName)) ∈ lw_all := lw_g (lw_at lw_m7 198 rfl) rfl
theorem q1708 : (Jvm.Cond.selects "BladeBetweenThumbsModel" ({ cls := "BladeBetweenThumbsModel", name := "cost", desc := "(I)I" } : Jvm.MethodName) ({ cls := "BladeBetweenThumbsModel", name := "cost", desc := "(I)I" } : Jvm.MethodName)) ∈ lw_all := lw_g (lw_at lw_m7 199 rfl) rfl
theorem q1709 : (Jvm.Cond.code ({ cls := "BladeBetweenThumbsModel", name := "cost", desc := "(I)I" } : Jvm.MethodName) prog_22_method_103_code (3 : Nat) (Option.some Jvm.ClassFile.FieldType.int)) ∈ lw_all := lw_g (lw_at lw_m7 200 rfl) rfl
theorem q1710 : (Jvm.Cond.methodLink "BladeBetweenThumbsModel" (285 : Nat) ({ cls := "BladeBetweenThumbsModel", name := "costBy", desc := "(II)I" } : Jvm.MethodName)) ∈ lw_all := lw_g (lw_at lw_m7 201 rfl) rfl
theorem q1711 : (Jvm.Cond.static ({ cls := "BladeBetweenThumbsModel", name := "costBy", desc := "(II)I" } : Jvm.MethodName)) ∈ lw_all := lw_g (lw_at lw_m7 202 rfl) rfl
theorem q1712 : (Jvm.Cond.code ({ cls := "BladeBetweenThumbsModel", name := "costBy", desc := "(II)I" } : Jvm.MethodName) prog_22_method_102_code (2 : Nat) (Option.some Jvm.ClassFile.FieldType.int)) ∈ lw_all := lw_g (lw_at lw_m7 203 rfl) rfl
theorem q1714 : (Jvm.Cond.instanceMethod ({ cls := "BladeBetweenThumbsModel", name := "toss", desc := "(I)I" } : Jvm.MethodName)) ∈ lw_all := lw_g (lw_at lw_m7 205 rfl) rfl
theorem q1715 : (Jvm.Cond.selects "BladeBetweenThumbsModel" ({ cls := "BladeBetweenThumbsModel", name := "toss", desc := "(I)I" } : Jvm.MethodName) ({ cls := "BladeBetweenThumbsModel", name := "toss", desc := "(I)I" } : Jvm.MethodName)) ∈ lw_all := lw_g (lw_at lw_m7 206 rfl) rfl
theorem q1716 : (Jvm.Cond.code ({ cls := "BladeBetweenThumbsModel", name := "toss", desc := "(I)I" } : Jvm.MethodName) prog_22_method_104_code (5 : Nat) (Option.some Jvm.ClassFile.FieldType.int)) ∈ lw_all := lw_g (lw_at lw_m7 207 rfl) rfl
theorem in_X4 : ∀ w ∈ wsX40, w ∈ lw_all := lw_in wsX40 [1263, 1265, 1267, 1269, 1271, 1273, 1275, 1277, 1279, 1281, 1283, 1285, 1287, 1289, 1291, 1293, 1295, 1297, 1299, 1301, 1303, 1305] (by decide +kernel) (by decide +kernel)
